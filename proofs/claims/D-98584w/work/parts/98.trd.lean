/-! the reference: reading -/
section
variable {d sd t b c n lv : Nat} {p q : jv_H} {s s' s2 : tw_S} {K V F N L : Nat → Nat} {R : Nat → Nat → Nat} {z : Zs} {S : Sx} {T : Tx} {w : Wt} {A : Ab} {by_ : Nat → Nat}
theorem TE_b (h : ∀ i, i ≤ 400 → (∀ k < i, tkd by_ n k ≠ 0) → TK1 s by_ n i) : TE s (rK by_ n) (rV by_ n) (tfr by_ n) (rN by_ n) := by
  intro i hr
  obtain ⟨h1, h2, h3⟩ := h i hr.1 hr.2
  refine ⟨h1, h2, ?_, fun h0 => h3 ?_⟩
  · show tkd by_ n i ≤ 40
    unfold tkd
    split
    · omega
    · exact tkk_0.2
  · rcases Nat.lt_or_ge (tfr by_ n i) n with h | h
    · exact h
    · exact absurd (tkd_0.mpr h) h0
/-- a side is plain -/
def ua (s : tw_S) (k i : Nat) (v : Int32) : tw_S := tw_a s k (upd (s.2.1 k) i v)
def plS (s : tw_S) (sd : Nat) : tw_S := ua (ua (ua (ua (ua (ua (ua (ua (ua (ua (ua (ua (ua s 22 sd (nI 0)) 23 sd (nI 0)) 25 sd (nI 0)) 28 sd (nI 0)) 31 sd (nI 100)) 32 sd (nI 0)) 33 sd (nI 0)) 34 (3 * sd) (nI 0)) 35 (3 * sd) (nI 0)) 34 (3 * sd + 1) (nI 0)) 35 (3 * sd + 1) (nI 0)) 34 (3 * sd + 2) (nI 0)) 35 (3 * sd + 2) (nI 0)
theorem m_plain (hp : p.length = 589) (hsd : sd < 2) : jv_cd (d + 1) 2 [.ref 589, .int (nI sd)] (tw_h p s q) = some (.inl none, tw_h p (plS s sd) q) := by
  simp (disch := omega) only [il_0, il_1, il_2, il_3, il_4, il_5, il_6, il_7, il_8, il_9, il_10, il_11, il_12, il_13, il_14, il_15, il_16, il_17, il_18, il_19, il_20, il_21, il_22, il_23, il_24, il_25, il_26, il_27, il_28, il_29, il_30, il_31, il_32, il_40, il_41, il_42, il_43, il_44, il_45, il_46, il_47, il_48, il_52, il_56, il_57, il_59, il_60, il_61, il_63, il_64, il_68, il_72, il_75, il_76, il_82, il_88, il_89, il_90, il_92, il_96, il_97, il_99, il_100, il_101, il_102, il_103, il_104, il_105, il_107, il_108, il_109, il_110, il_111, il_112, il_114, il_115, il_116, il_117, il_118, il_119, il_121, il_122, il_130, il_200, il_255, il_256, il_260, il_276, il_400, il_403, il_420, il_840, il_999, il_1000, il_2000, il_2001, il_2668, il_2760, il_9999, il_12345, il_1000000, il_1103515245, ↓im_1, ↓im_2, ↓im_8, ↓im_1000, nI_add, pk_mul, pk_sub, ↓pk_rem, pk_div, nm_add, nI_clamp, nI_ltI, nI_leI, nI_eq, nm_eq, mn_eq, mm_eq, nm_lt, mn_lt, nm_le, mn_le, nl_T, nl_F, nle_T, nle_F, ne_T, ne_F, b2i_0, b2i_1, b2i_n, nb_0, nb_1, or_false, false_or, or_true, true_or, and_true, true_and, and_false, false_and, or_self, and_self, not_true_eq_false, not_false_eq_true, ↓reduceIte, if_true, if_false, ↓jv_bs, ↓jv_ol, ↓jv_or, jv_tl, jv_tn, jo_T, ck_2_166_17, ck_6_43_16, ck_6_43_17, ck_6_73_16, ck_7_65_17, ck_30_10_19, su_F, e2_0, e2_1, e2_4, e2_5, e2_6, e2_7, e2_8, e2_11, e2_12, e2_13, e2_14, e2_15, e2_18, e2_19, e2_20, e2_21, e2_22, e2_25, e2_26, e2_27, e2_28, e2_29, e2_32, e2_33, e2_35, e2_36, e2_37, e2_40, e2_41, e2_42, e2_43, e2_44, e2_47, e2_48, e2_49, e2_50, e2_51, e2_52, e2_53, e2_54, e2_57, e2_58, e2_61, e2_62, e2_63, e2_64, e2_65, e2_66, e2_67, e2_68, e2_69, e2_72, e2_73, e2_74, e2_75, e2_76, e2_77, e2_78, e2_79, e2_82, e2_85, ↓tgb_22 hp, ↓trb_22 hp, ↓tub_22 hp, wa_22, ↓tgb_23 hp, ↓trb_23 hp, ↓tub_23 hp, wa_23, ↓tgb_25 hp, ↓trb_25 hp, ↓tub_25 hp, wa_25, ↓tgb_28 hp, ↓trb_28 hp, ↓tub_28 hp, wa_28, ↓tgb_31 hp, ↓trb_31 hp, ↓tub_31 hp, wa_31, ↓tgb_32 hp, ↓trb_32 hp, ↓tub_32 hp, wa_32, ↓tgb_33 hp, ↓trb_33 hp, ↓tub_33 hp, wa_33, ↓tgb_34 hp, ↓trb_34 hp, ↓tub_34 hp, wa_34, ↓tgb_35 hp, ↓trb_35 hp, ↓tub_35 hp, wa_35, ↓tw_rcb hp, n2, plS, ua, tw_a1, tw_a2, tw_a3, Nat.reduceEqDiff, Nat.add_zero, Nat.reduceAdd]
theorem m_plain_b (hp : p.length = 589) (hsd : sd < 2) {F : jv_R → Option jv_R} : (jv_cd (d + 1) 2 [.ref 589, .int (nI sd)] (tw_h p s q)).bind F = F (.inl none, tw_h p (plS s sd) q) := jb (m_plain hp hsd)
theorem FX_ua {k i : Nat} {v : Int32} (h1 : 22 ≤ k) (h2 : k ≤ 44) (hi : blk k * sd ≤ i ∧ i < blk k * sd + blk k) : FX sd s (ua s k i v) := FX_a h1 h2 hi
theorem FX_pl : FX sd s (plS s sd) := by
  unfold plS
  refine FX_tr (FX_tr (FX_tr (FX_tr (FX_tr (FX_tr (FX_tr (FX_tr (FX_tr (FX_tr (FX_tr (FX_tr (FX_ua ?_ ?_ ?_) (FX_ua ?_ ?_ ?_)) (FX_ua ?_ ?_ ?_)) (FX_ua ?_ ?_ ?_)) (FX_ua ?_ ?_ ?_)) (FX_ua ?_ ?_ ?_)) (FX_ua ?_ ?_ ?_)) (FX_ua ?_ ?_ ?_)) (FX_ua ?_ ?_ ?_)) (FX_ua ?_ ?_ ?_)) (FX_ua ?_ ?_ ?_)) (FX_ua ?_ ?_ ?_)) (FX_ua ?_ ?_ ?_)
  all_goals first
    | decide
    | (show 1 * sd ≤ _ ∧ _ < 1 * sd + 1; omega)
    | (show 3 * sd ≤ _ ∧ _ < 3 * sd + 3; omega)
theorem TP_pl (h19 : s.1 19 = nI sd) : TP (plS s sd) sd T0 (0, 0) b c := by
  refine ⟨h19, pk_us, pk_us, pk_us, pk_us, fun _ c _ hon => ?_, fun f hf => absurd hf (Nat.not_lt_zero _), fun f hf => absurd hf (Nat.not_lt_zero _), pk_us, pk_us, pk_us, fun k hk => ⟨0, by decide, ?_, ?_⟩⟩
  · change (decide (c % 8 < 0) && decide (c / 8 < 0)) = true at hon
    simp at hon
  · show upd (upd (upd (s.2.1 34) (3 * sd) (nI 0)) (3 * sd + 1) (nI 0)) (3 * sd + 2) (nI 0) (3 * sd + k) = nI 0
    unfold upd
    rcases (show k = 0 ∨ k = 1 ∨ k = 2 by omega) with rfl | rfl | rfl <;> simp
  · show upd (upd (upd (s.2.1 35) (3 * sd) (nI 0)) (3 * sd + 1) (nI 0)) (3 * sd + 2) (nI 0) (3 * sd + k) = nI 0
    unfold upd
    rcases (show k = 0 ∨ k = 1 ∨ k = 2 by omega) with rfl | rfl | rfl <;> simp
/-- all is told -/
theorem t_all (hp : p.length = 589) (hE : EN K V F N L R) {x1 : Option Value} : ∀ f t S s, PI s K V F N sd t S → WX S t → 401 < f + t → ∃ s', FX sd s s' ∧ PO s' K V F N sd (pAll K V N L R f t S) ∧ jv_ev (d + 8) 10 112 [some (.ref 589), x1] [] (tw_h p s q) = jv_ev (d + 8) 10 134 [some (.ref 589), x1] [] (tw_h p s' q) := by
  intro f
  induction f with
  | zero =>
    intro t S s hS _ hf
    have := hS.1.2.2.2.1.1
    dsimp only at this
    omega
  | succ f ih =>
    intro t S s hS hX hf
    obtain ⟨q1, q2, q3, q4, q5, q6, q7⟩ := hS.1
    have hte := hS.2.1
    have ht4 : t ≤ 400 := q4.1
    have gi := m_isT (d := d + 7) (q := q) (k := 0) hp q1 q2 ht4 (hte t q4).1 (hte t q4).2.2.1 (by decide)
    unfold pAll
    by_cases h0 : K t = 0
    · rw [if_pos h0]
      rw [decide_eq_true h0, b2i_t] at gi
      refine ⟨s, FX_id, hS, ?_⟩
      simp (disch := omega) only [il_0, il_1, il_2, il_3, il_4, il_5, il_6, il_7, il_8, il_9, il_10, il_11, il_12, il_13, il_14, il_15, il_16, il_17, il_18, il_19, il_20, il_21, il_22, il_23, il_24, il_25, il_26, il_27, il_28, il_29, il_30, il_31, il_32, il_40, il_41, il_42, il_43, il_44, il_45, il_46, il_47, il_48, il_52, il_56, il_57, il_59, il_60, il_61, il_63, il_64, il_68, il_72, il_75, il_76, il_82, il_88, il_89, il_90, il_92, il_96, il_97, il_99, il_100, il_101, il_102, il_103, il_104, il_105, il_107, il_108, il_109, il_110, il_111, il_112, il_114, il_115, il_116, il_117, il_118, il_119, il_121, il_122, il_130, il_200, il_255, il_256, il_260, il_276, il_400, il_403, il_420, il_840, il_999, il_1000, il_2000, il_2001, il_2668, il_2760, il_9999, il_12345, il_1000000, il_1103515245, ↓im_1, ↓im_2, ↓im_8, ↓im_1000, nI_add, pk_mul, pk_sub, ↓pk_rem, pk_div, nm_add, nI_clamp, nI_ltI, nI_leI, nI_eq, nm_eq, mn_eq, mm_eq, nm_lt, mn_lt, nm_le, mn_le, nl_T, nl_F, nle_T, nle_F, ne_T, ne_F, b2i_0, b2i_1, b2i_n, nb_0, nb_1, or_false, false_or, or_true, true_or, and_true, true_and, and_false, false_and, or_self, and_self, not_true_eq_false, not_false_eq_true, ↓reduceIte, if_true, if_false, ↓jv_bs, ↓jv_ol, ↓jv_or, jv_tl, jv_tn, jo_T, ck_2_166_17, ck_6_43_16, ck_6_43_17, ck_6_73_16, ck_7_65_17, ck_30_10_19, su_F, e10_112, e10_113, e10_116, e10_119, e10_120, e10_121, e10_124, ↓tgb_1 hp, ↓trb_1 hp, ↓tub_1 hp, wa_1, ↓tgb_2 hp, wi_2, ↓tpb_2 hp, ↓tgb_3 hp, ↓trb_3 hp, ↓tub_3 hp, wa_3, ↓tgb_4 hp, wi_4, ↓tpb_4 hp, ↓tgb_11 hp, wi_11, ↓tpb_11 hp, ↓tpb_12 hp, ↓tgb_13 hp, wi_13, ↓tpb_13 hp, ↓tgb_14 hp, wi_14, ↓tgb_15 hp, wi_15, ↓tpb_15 hp, ↓tgb_16 hp, wi_16, ↓tpb_17 hp, ↓tgb_18 hp, wi_18, ↓tpb_18 hp, ↓tgb_19 hp, wi_19, ↓tpb_19 hp, ↓tpb_20 hp, ↓tpb_36 hp, ↓tpb_42 hp, ↓tpb_53 hp, ↓tpb_65 hp, ↓tgb_70 hp, ↓trb_70 hp, ↓tub_70 hp, wa_70, ↓tw_rcb hp, q1, ↓jbR gi]
    · rw [if_neg h0]
      rw [decide_eq_false h0, b2i_f] at gi
      obtain ⟨s1, f1, o1, r1⟩ := t_one (d := d) (q := q) (L := L) (R := R) hp hE hS hX
      have g := qk_One hE q4 hX h0
      have st : jv_ev (d + 8) 10 112 [some (.ref 589), x1] [] (tw_h p s q) = jv_ev (d + 8) 10 112 [some (.ref 589), x1] [] (tw_h p s1 q) := by
        rw [e10_112]
        simp (disch := omega) only [il_0, il_1, il_2, il_3, il_4, il_5, il_6, il_7, il_8, il_9, il_10, il_11, il_12, il_13, il_14, il_15, il_16, il_17, il_18, il_19, il_20, il_21, il_22, il_23, il_24, il_25, il_26, il_27, il_28, il_29, il_30, il_31, il_32, il_40, il_41, il_42, il_43, il_44, il_45, il_46, il_47, il_48, il_52, il_56, il_57, il_59, il_60, il_61, il_63, il_64, il_68, il_72, il_75, il_76, il_82, il_88, il_89, il_90, il_92, il_96, il_97, il_99, il_100, il_101, il_102, il_103, il_104, il_105, il_107, il_108, il_109, il_110, il_111, il_112, il_114, il_115, il_116, il_117, il_118, il_119, il_121, il_122, il_130, il_200, il_255, il_256, il_260, il_276, il_400, il_403, il_420, il_840, il_999, il_1000, il_2000, il_2001, il_2668, il_2760, il_9999, il_12345, il_1000000, il_1103515245, ↓im_1, ↓im_2, ↓im_8, ↓im_1000, nI_add, pk_mul, pk_sub, ↓pk_rem, pk_div, nm_add, nI_clamp, nI_ltI, nI_leI, nI_eq, nm_eq, mn_eq, mm_eq, nm_lt, mn_lt, nm_le, mn_le, nl_T, nl_F, nle_T, nle_F, ne_T, ne_F, b2i_0, b2i_1, b2i_n, nb_0, nb_1, or_false, false_or, or_true, true_or, and_true, true_and, and_false, false_and, or_self, and_self, not_true_eq_false, not_false_eq_true, ↓reduceIte, if_true, if_false, ↓jv_bs, ↓jv_ol, ↓jv_or, jv_tl, jv_tn, jo_T, ck_2_166_17, ck_6_43_16, ck_6_43_17, ck_6_73_16, ck_7_65_17, ck_30_10_19, su_F, e10_113, e10_116, e10_119, e10_120, e10_121, e10_124, e10_127, e10_128, e10_131, ↓tgb_1 hp, ↓trb_1 hp, ↓tub_1 hp, wa_1, ↓tgb_2 hp, wi_2, ↓tpb_2 hp, ↓tgb_3 hp, ↓trb_3 hp, ↓tub_3 hp, wa_3, ↓tgb_4 hp, wi_4, ↓tpb_4 hp, ↓tgb_11 hp, wi_11, ↓tpb_11 hp, ↓tpb_12 hp, ↓tgb_13 hp, wi_13, ↓tpb_13 hp, ↓tgb_14 hp, wi_14, ↓tgb_15 hp, wi_15, ↓tpb_15 hp, ↓tgb_16 hp, wi_16, ↓tpb_17 hp, ↓tgb_18 hp, wi_18, ↓tpb_18 hp, ↓tgb_19 hp, wi_19, ↓tpb_19 hp, ↓tpb_20 hp, ↓tpb_36 hp, ↓tpb_42 hp, ↓tpb_53 hp, ↓tpb_65 hp, ↓tgb_70 hp, ↓trb_70 hp, ↓tub_70 hp, wa_70, ↓tw_rcb hp, q1, ↓jbR gi, ↓jbR r1]
      rw [st]
      generalize pOne K V N L R t S = rr at o1 g ⊢
      cases rr with
      | inl e =>
        have k0 := fe_0 o1.1 o1.2.1
        refine ⟨s1, f1, o1, ?_⟩
        simp (disch := omega) only [il_0, il_1, il_2, il_3, il_4, il_5, il_6, il_7, il_8, il_9, il_10, il_11, il_12, il_13, il_14, il_15, il_16, il_17, il_18, il_19, il_20, il_21, il_22, il_23, il_24, il_25, il_26, il_27, il_28, il_29, il_30, il_31, il_32, il_40, il_41, il_42, il_43, il_44, il_45, il_46, il_47, il_48, il_52, il_56, il_57, il_59, il_60, il_61, il_63, il_64, il_68, il_72, il_75, il_76, il_82, il_88, il_89, il_90, il_92, il_96, il_97, il_99, il_100, il_101, il_102, il_103, il_104, il_105, il_107, il_108, il_109, il_110, il_111, il_112, il_114, il_115, il_116, il_117, il_118, il_119, il_121, il_122, il_130, il_200, il_255, il_256, il_260, il_276, il_400, il_403, il_420, il_840, il_999, il_1000, il_2000, il_2001, il_2668, il_2760, il_9999, il_12345, il_1000000, il_1103515245, ↓im_1, ↓im_2, ↓im_8, ↓im_1000, nI_add, pk_mul, pk_sub, ↓pk_rem, pk_div, nm_add, nI_clamp, nI_ltI, nI_leI, nI_eq, nm_eq, mn_eq, mm_eq, nm_lt, mn_lt, nm_le, mn_le, nl_T, nl_F, nle_T, nle_F, ne_T, ne_F, b2i_0, b2i_1, b2i_n, nb_0, nb_1, or_false, false_or, or_true, true_or, and_true, true_and, and_false, false_and, or_self, and_self, not_true_eq_false, not_false_eq_true, ↓reduceIte, if_true, if_false, ↓jv_bs, ↓jv_ol, ↓jv_or, jv_tl, jv_tn, jo_T, ck_2_166_17, ck_6_43_16, ck_6_43_17, ck_6_73_16, ck_7_65_17, ck_30_10_19, su_F, e10_112, e10_113, e10_116, ↓tgb_1 hp, ↓trb_1 hp, ↓tub_1 hp, wa_1, ↓tgb_2 hp, wi_2, ↓tpb_2 hp, ↓tgb_3 hp, ↓trb_3 hp, ↓tub_3 hp, wa_3, ↓tgb_4 hp, wi_4, ↓tpb_4 hp, ↓tgb_11 hp, wi_11, ↓tpb_11 hp, ↓tpb_12 hp, ↓tgb_13 hp, wi_13, ↓tpb_13 hp, ↓tgb_14 hp, wi_14, ↓tgb_15 hp, wi_15, ↓tpb_15 hp, ↓tgb_16 hp, wi_16, ↓tpb_17 hp, ↓tgb_18 hp, wi_18, ↓tpb_18 hp, ↓tgb_19 hp, wi_19, ↓tpb_19 hp, ↓tpb_20 hp, ↓tpb_36 hp, ↓tpb_42 hp, ↓tpb_53 hp, ↓tpb_65 hp, ↓tgb_70 hp, ↓trb_70 hp, ↓tub_70 hp, wa_70, ↓tw_rcb hp, k0]
      | inr x =>
        obtain ⟨s2, f2, o2, r2⟩ := ih x.1 x.2 s1 o1 g.1 (by have := g.2.1; omega)
        exact ⟨s2, FX_tr f1 f2, o2, r2⟩
/-- whether all fields are told -/
theorem m_are (hp : p.length = 589) (hS : PI s K V F N sd t S) (hX : WX S t) : ∃ β : Bool, (S.2.2.1 = 0 → β = !unT S.1) ∧ jv_cd (d + 1) 36 [.ref 589] (tw_h p s q) = some (.inl (some (.int (b2i β))), tw_h p s q) := by
  obtain ⟨hz, hte, hn, hsd, b, c, h36, h42, hb, hc, hT⟩ := hS
  obtain ⟨T, nm, w⟩ := S
  obtain ⟨⟨x1, x2, x3, x4⟩, _⟩ := hX
  dsimp only at x1 x2 x3 x4 hT ⊢
  obtain ⟨h19, h22, h23, h25, h28, h24, _⟩ := hT
  have inner : ∀ y, y < t_r T → ∃ x2', jv_ev d 36 17 [some (.ref 589), some (.int (nI y)), some (.int (nI 0))] [] (tw_h p s q) = match ff (fun x => decide (nI (t_nf T) ≤ s.2.1 24 (48 * sd + 8 * y + x))) 0 (t_w T) with
      | some i => some (.inl (some (.int (nI 0))), tw_h p s q)
      | none => jv_ev d 36 2 [some (.ref 589), some (.int (nI (y + 1))), x2'] [] (tw_h p s q) := by
    intro y hy
    obtain ⟨_, g⟩ := jl_ff (N := t_w T) (P := fun x => decide (nI (t_nf T) ≤ s.2.1 24 (48 * sd + 8 * y + x))) (F := fun x (_ : Unit) => jv_ev d 36 17 [some (.ref 589), some (.int (nI y)), some (.int (nI x))] [] (tw_h p s q)) (R := fun _ _ => some (.inl (some (.int (nI 0))), tw_h p s q)) (fun x hx hP _ => ⟨(), by
      have hP : ¬ nI (t_nf T) ≤ s.2.1 24 (48 * sd + 8 * y + x) := by simpa using hP
      have hP' : s.2.1 24 (48 * sd + 8 * y + x) < nI (t_nf T) := Int32.not_le.mp hP
      rw [e36_17]
      simp (disch := omega) only [il_0, il_1, il_2, il_3, il_4, il_5, il_6, il_7, il_8, il_9, il_10, il_11, il_12, il_13, il_14, il_15, il_16, il_17, il_18, il_19, il_20, il_21, il_22, il_23, il_24, il_25, il_26, il_27, il_28, il_29, il_30, il_31, il_32, il_40, il_41, il_42, il_43, il_44, il_45, il_46, il_47, il_48, il_52, il_56, il_57, il_59, il_60, il_61, il_63, il_64, il_68, il_72, il_75, il_76, il_82, il_88, il_89, il_90, il_92, il_96, il_97, il_99, il_100, il_101, il_102, il_103, il_104, il_105, il_107, il_108, il_109, il_110, il_111, il_112, il_114, il_115, il_116, il_117, il_118, il_119, il_121, il_122, il_130, il_200, il_255, il_256, il_260, il_276, il_400, il_403, il_420, il_840, il_999, il_1000, il_2000, il_2001, il_2668, il_2760, il_9999, il_12345, il_1000000, il_1103515245, ↓im_1, ↓im_2, ↓im_8, ↓im_1000, nI_add, pk_mul, pk_sub, ↓pk_rem, pk_div, nm_add, nI_clamp, nI_ltI, nI_leI, nI_eq, nm_eq, mn_eq, mm_eq, nm_lt, mn_lt, nm_le, mn_le, nl_T, nl_F, nle_T, nle_F, ne_T, ne_F, b2i_0, b2i_1, b2i_n, nb_0, nb_1, or_false, false_or, or_true, true_or, and_true, true_and, and_false, false_and, or_self, and_self, not_true_eq_false, not_false_eq_true, ↓reduceIte, if_true, if_false, ↓jv_bs, ↓jv_ol, ↓jv_or, jv_tl, jv_tn, jo_T, ck_2_166_17, ck_6_43_16, ck_6_43_17, ck_6_73_16, ck_7_65_17, ck_30_10_19, su_F, e36_18, e36_19, e36_22, e36_23, e36_26, e36_27, e36_30, e36_31, e36_34, e36_36, e36_37, e36_40, e36_41, e36_43, e36_44, e36_45, e36_46, e36_47, e36_48, e36_49, e36_50, e36_53, e36_54, e36_57, e36_58, e36_61, e36_62, e36_63, e36_66, ↓tgb_19 hp, wi_19, ↓tgb_22 hp, ↓trb_22 hp, ↓tub_22 hp, wa_22, ↓tgb_23 hp, ↓trb_23 hp, ↓tub_23 hp, wa_23, ↓tgb_24 hp, ↓trb_24 hp, ↓tub_24 hp, wa_24, ↓tgb_25 hp, ↓trb_25 hp, ↓tub_25 hp, wa_25, ↓tw_rcb hp, h19, h23, h25, hP', ↓reduceIte]⟩) (fun x hx hP _ => ⟨(), by
      have hP : nI (t_nf T) ≤ s.2.1 24 (48 * sd + 8 * y + x) := by simpa using hP
      have hP' : ¬ s.2.1 24 (48 * sd + 8 * y + x) < nI (t_nf T) := Int32.not_lt.mpr hP
      simp (disch := omega) only [il_0, il_1, il_2, il_3, il_4, il_5, il_6, il_7, il_8, il_9, il_10, il_11, il_12, il_13, il_14, il_15, il_16, il_17, il_18, il_19, il_20, il_21, il_22, il_23, il_24, il_25, il_26, il_27, il_28, il_29, il_30, il_31, il_32, il_40, il_41, il_42, il_43, il_44, il_45, il_46, il_47, il_48, il_52, il_56, il_57, il_59, il_60, il_61, il_63, il_64, il_68, il_72, il_75, il_76, il_82, il_88, il_89, il_90, il_92, il_96, il_97, il_99, il_100, il_101, il_102, il_103, il_104, il_105, il_107, il_108, il_109, il_110, il_111, il_112, il_114, il_115, il_116, il_117, il_118, il_119, il_121, il_122, il_130, il_200, il_255, il_256, il_260, il_276, il_400, il_403, il_420, il_840, il_999, il_1000, il_2000, il_2001, il_2668, il_2760, il_9999, il_12345, il_1000000, il_1103515245, ↓im_1, ↓im_2, ↓im_8, ↓im_1000, nI_add, pk_mul, pk_sub, ↓pk_rem, pk_div, nm_add, nI_clamp, nI_ltI, nI_leI, nI_eq, nm_eq, mn_eq, mm_eq, nm_lt, mn_lt, nm_le, mn_le, nl_T, nl_F, nle_T, nle_F, ne_T, ne_F, b2i_0, b2i_1, b2i_n, nb_0, nb_1, or_false, false_or, or_true, true_or, and_true, true_and, and_false, false_and, or_self, and_self, not_true_eq_false, not_false_eq_true, ↓reduceIte, if_true, if_false, ↓jv_bs, ↓jv_ol, ↓jv_or, jv_tl, jv_tn, jo_T, ck_2_166_17, ck_6_43_16, ck_6_43_17, ck_6_73_16, ck_7_65_17, ck_30_10_19, su_F, e36_17, e36_18, e36_19, e36_22, e36_23, e36_26, e36_27, e36_30, e36_31, e36_34, e36_36, e36_37, e36_40, e36_41, e36_43, e36_44, e36_45, e36_46, e36_47, e36_48, e36_49, e36_50, e36_53, e36_54, e36_57, e36_58, e36_61, e36_62, ↓tgb_19 hp, wi_19, ↓tgb_22 hp, ↓trb_22 hp, ↓tub_22 hp, wa_22, ↓tgb_23 hp, ↓trb_23 hp, ↓tub_23 hp, wa_23, ↓tgb_24 hp, ↓trb_24 hp, ↓tub_24 hp, wa_24, ↓tgb_25 hp, ↓trb_25 hp, ↓tub_25 hp, wa_25, ↓tw_rcb hp, h19, h23, h25, hP', ↓reduceIte]⟩) (t_w T) 0 (by omega) ()
    refine ⟨some (.int (nI (t_w T))), g.trans ?_⟩
    generalize ff (fun x => decide (nI (t_nf T) ≤ s.2.1 24 (48 * sd + 8 * y + x))) 0 (t_w T) = o
    cases o with
    | some i => rfl
    | none =>
      dsimp only
      simp (disch := omega) only [il_0, il_1, il_2, il_3, il_4, il_5, il_6, il_7, il_8, il_9, il_10, il_11, il_12, il_13, il_14, il_15, il_16, il_17, il_18, il_19, il_20, il_21, il_22, il_23, il_24, il_25, il_26, il_27, il_28, il_29, il_30, il_31, il_32, il_40, il_41, il_42, il_43, il_44, il_45, il_46, il_47, il_48, il_52, il_56, il_57, il_59, il_60, il_61, il_63, il_64, il_68, il_72, il_75, il_76, il_82, il_88, il_89, il_90, il_92, il_96, il_97, il_99, il_100, il_101, il_102, il_103, il_104, il_105, il_107, il_108, il_109, il_110, il_111, il_112, il_114, il_115, il_116, il_117, il_118, il_119, il_121, il_122, il_130, il_200, il_255, il_256, il_260, il_276, il_400, il_403, il_420, il_840, il_999, il_1000, il_2000, il_2001, il_2668, il_2760, il_9999, il_12345, il_1000000, il_1103515245, ↓im_1, ↓im_2, ↓im_8, ↓im_1000, nI_add, pk_mul, pk_sub, ↓pk_rem, pk_div, nm_add, nI_clamp, nI_ltI, nI_leI, nI_eq, nm_eq, mn_eq, mm_eq, nm_lt, mn_lt, nm_le, mn_le, nl_T, nl_F, nle_T, nle_F, ne_T, ne_F, b2i_0, b2i_1, b2i_n, nb_0, nb_1, or_false, false_or, or_true, true_or, and_true, true_and, and_false, false_and, or_self, and_self, not_true_eq_false, not_false_eq_true, ↓reduceIte, if_true, if_false, ↓jv_bs, ↓jv_ol, ↓jv_or, jv_tl, jv_tn, jo_T, ck_2_166_17, ck_6_43_16, ck_6_43_17, ck_6_73_16, ck_7_65_17, ck_30_10_19, su_F, e36_17, e36_18, e36_19, e36_22, e36_23, e36_26, e36_27, e36_69, e36_72, ↓tgb_19 hp, wi_19, ↓tgb_22 hp, ↓trb_22 hp, ↓tub_22 hp, wa_22, ↓tgb_23 hp, ↓trb_23 hp, ↓tub_23 hp, wa_23, ↓tgb_24 hp, ↓trb_24 hp, ↓tub_24 hp, wa_24, ↓tgb_25 hp, ↓trb_25 hp, ↓tub_25 hp, wa_25, ↓tw_rcb hp, h19, h23]
  obtain ⟨x2', g⟩ := jl_ff (N := t_r T) (P := fun y => (ff (fun x => decide (nI (t_nf T) ≤ s.2.1 24 (48 * sd + 8 * y + x))) 0 (t_w T)).isSome) (F := fun y (x2 : Option Value) => jv_ev d 36 2 [some (.ref 589), some (.int (nI y)), x2] [] (tw_h p s q)) (R := fun _ _ => some (.inl (some (.int (nI 0))), tw_h p s q)) (fun y hy hP x2 => by
    obtain ⟨x2', g⟩ := inner y hy
    have hn : ff (fun x => decide (nI (t_nf T) ≤ s.2.1 24 (48 * sd + 8 * y + x))) 0 (t_w T) = none := by simpa using hP
    rw [hn] at g
    refine ⟨x2', Eq.trans ?_ g⟩
    simp (disch := omega) only [il_0, il_1, il_2, il_3, il_4, il_5, il_6, il_7, il_8, il_9, il_10, il_11, il_12, il_13, il_14, il_15, il_16, il_17, il_18, il_19, il_20, il_21, il_22, il_23, il_24, il_25, il_26, il_27, il_28, il_29, il_30, il_31, il_32, il_40, il_41, il_42, il_43, il_44, il_45, il_46, il_47, il_48, il_52, il_56, il_57, il_59, il_60, il_61, il_63, il_64, il_68, il_72, il_75, il_76, il_82, il_88, il_89, il_90, il_92, il_96, il_97, il_99, il_100, il_101, il_102, il_103, il_104, il_105, il_107, il_108, il_109, il_110, il_111, il_112, il_114, il_115, il_116, il_117, il_118, il_119, il_121, il_122, il_130, il_200, il_255, il_256, il_260, il_276, il_400, il_403, il_420, il_840, il_999, il_1000, il_2000, il_2001, il_2668, il_2760, il_9999, il_12345, il_1000000, il_1103515245, ↓im_1, ↓im_2, ↓im_8, ↓im_1000, nI_add, pk_mul, pk_sub, ↓pk_rem, pk_div, nm_add, nI_clamp, nI_ltI, nI_leI, nI_eq, nm_eq, mn_eq, mm_eq, nm_lt, mn_lt, nm_le, mn_le, nl_T, nl_F, nle_T, nle_F, ne_T, ne_F, b2i_0, b2i_1, b2i_n, nb_0, nb_1, or_false, false_or, or_true, true_or, and_true, true_and, and_false, false_and, or_self, and_self, not_true_eq_false, not_false_eq_true, ↓reduceIte, if_true, if_false, ↓jv_bs, ↓jv_ol, ↓jv_or, jv_tl, jv_tn, jo_T, ck_2_166_17, ck_6_43_16, ck_6_43_17, ck_6_73_16, ck_7_65_17, ck_30_10_19, su_F, e36_2, e36_3, e36_4, e36_7, e36_8, e36_11, e36_12, e36_15, e36_16, ↓tgb_19 hp, wi_19, ↓tgb_22 hp, ↓trb_22 hp, ↓tub_22 hp, wa_22, ↓tgb_23 hp, ↓trb_23 hp, ↓tub_23 hp, wa_23, ↓tgb_24 hp, ↓trb_24 hp, ↓tub_24 hp, wa_24, ↓tgb_25 hp, ↓trb_25 hp, ↓tub_25 hp, wa_25, ↓tw_rcb hp, h19, h22]) (fun y hy hP x2 => by
    obtain ⟨x2', g⟩ := inner y hy
    obtain ⟨i, hi⟩ := Option.isSome_iff_exists.mp hP
    rw [hi] at g
    refine ⟨x2, Eq.trans ?_ g⟩
    simp (disch := omega) only [il_0, il_1, il_2, il_3, il_4, il_5, il_6, il_7, il_8, il_9, il_10, il_11, il_12, il_13, il_14, il_15, il_16, il_17, il_18, il_19, il_20, il_21, il_22, il_23, il_24, il_25, il_26, il_27, il_28, il_29, il_30, il_31, il_32, il_40, il_41, il_42, il_43, il_44, il_45, il_46, il_47, il_48, il_52, il_56, il_57, il_59, il_60, il_61, il_63, il_64, il_68, il_72, il_75, il_76, il_82, il_88, il_89, il_90, il_92, il_96, il_97, il_99, il_100, il_101, il_102, il_103, il_104, il_105, il_107, il_108, il_109, il_110, il_111, il_112, il_114, il_115, il_116, il_117, il_118, il_119, il_121, il_122, il_130, il_200, il_255, il_256, il_260, il_276, il_400, il_403, il_420, il_840, il_999, il_1000, il_2000, il_2001, il_2668, il_2760, il_9999, il_12345, il_1000000, il_1103515245, ↓im_1, ↓im_2, ↓im_8, ↓im_1000, nI_add, pk_mul, pk_sub, ↓pk_rem, pk_div, nm_add, nI_clamp, nI_ltI, nI_leI, nI_eq, nm_eq, mn_eq, mm_eq, nm_lt, mn_lt, nm_le, mn_le, nl_T, nl_F, nle_T, nle_F, ne_T, ne_F, b2i_0, b2i_1, b2i_n, nb_0, nb_1, or_false, false_or, or_true, true_or, and_true, true_and, and_false, false_and, or_self, and_self, not_true_eq_false, not_false_eq_true, ↓reduceIte, if_true, if_false, ↓jv_bs, ↓jv_ol, ↓jv_or, jv_tl, jv_tn, jo_T, ck_2_166_17, ck_6_43_16, ck_6_43_17, ck_6_73_16, ck_7_65_17, ck_30_10_19, su_F, e36_2, e36_3, e36_4, e36_7, e36_8, e36_11, e36_12, e36_15, e36_16, ↓tgb_19 hp, wi_19, ↓tgb_22 hp, ↓trb_22 hp, ↓tub_22 hp, wa_22, ↓tgb_23 hp, ↓trb_23 hp, ↓tub_23 hp, wa_23, ↓tgb_24 hp, ↓trb_24 hp, ↓tub_24 hp, wa_24, ↓tgb_25 hp, ↓trb_25 hp, ↓tub_25 hp, wa_25, ↓tw_rcb hp, h19, h22]) (t_r T) 0 (by omega) none
  refine ⟨(ff (fun y => (ff (fun x => decide (nI (t_nf T) ≤ s.2.1 24 (48 * sd + 8 * y + x))) 0 (t_w T)).isSome) 0 (t_r T)).isNone, fun hw => ?_, ?_⟩
  · have h24 := h24 hw
    generalize ho : ff (fun y => (ff (fun x => decide (nI (t_nf T) ≤ s.2.1 24 (48 * sd + 8 * y + x))) 0 (t_w T)).isSome) 0 (t_r T) = o
    cases o with
    | some y =>
      obtain ⟨h1, _, h2⟩ := ff_some ho
      obtain ⟨x, hx⟩ := Option.isSome_iff_exists.mp h1
      obtain ⟨h3, _, h4⟩ := ff_some hx
      have hon : t_on T (8 * y + x) = true := by
        unfold t_on
        rw [Bool.and_eq_true, decide_eq_true_eq, decide_eq_true_eq]
        omega
      have : unT T = true := it_or.mpr ⟨8 * y + x, by omega, by
        rw [hon, Bool.true_and, ← h24 (8 * y + x) (by omega) hon, ← Nat.add_assoc]
        exact h3⟩
      rw [this]
      rfl
    | none =>
      have : unT T = false := by
        cases hu : unT T with
        | false => rfl
        | true =>
          obtain ⟨c, hc, h1⟩ := it_or.mp hu
          rw [Bool.and_eq_true] at h1
          have hon := h1.1
          unfold t_on at hon
          rw [Bool.and_eq_true, decide_eq_true_eq, decide_eq_true_eq] at hon
          have h2 := ff_none ho (c / 8) (by omega) (by omega)
          have h2 : ff (fun x => decide (nI (t_nf T) ≤ s.2.1 24 (48 * sd + 8 * (c / 8) + x))) 0 (t_w T) = none := by simpa using h2
          have h3 := ff_none h2 (c % 8) (by omega) (by omega)
          rw [show 48 * sd + 8 * (c / 8) + c % 8 = 48 * sd + c by omega, h24 c hc h1.1] at h3
          rw [h1.2] at h3
          cases h3
      rw [this]
      rfl
  · have st : jv_cd (d + 1) 36 [.ref 589] (tw_h p s q) = jv_ev d 36 2 [some (.ref 589), some (.int (nI 0)), none] [] (tw_h p s q) := by
      simp (disch := omega) only [il_0, il_1, il_2, il_3, il_4, il_5, il_6, il_7, il_8, il_9, il_10, il_11, il_12, il_13, il_14, il_15, il_16, il_17, il_18, il_19, il_20, il_21, il_22, il_23, il_24, il_25, il_26, il_27, il_28, il_29, il_30, il_31, il_32, il_40, il_41, il_42, il_43, il_44, il_45, il_46, il_47, il_48, il_52, il_56, il_57, il_59, il_60, il_61, il_63, il_64, il_68, il_72, il_75, il_76, il_82, il_88, il_89, il_90, il_92, il_96, il_97, il_99, il_100, il_101, il_102, il_103, il_104, il_105, il_107, il_108, il_109, il_110, il_111, il_112, il_114, il_115, il_116, il_117, il_118, il_119, il_121, il_122, il_130, il_200, il_255, il_256, il_260, il_276, il_400, il_403, il_420, il_840, il_999, il_1000, il_2000, il_2001, il_2668, il_2760, il_9999, il_12345, il_1000000, il_1103515245, ↓im_1, ↓im_2, ↓im_8, ↓im_1000, nI_add, pk_mul, pk_sub, ↓pk_rem, pk_div, nm_add, nI_clamp, nI_ltI, nI_leI, nI_eq, nm_eq, mn_eq, mm_eq, nm_lt, mn_lt, nm_le, mn_le, nl_T, nl_F, nle_T, nle_F, ne_T, ne_F, b2i_0, b2i_1, b2i_n, nb_0, nb_1, or_false, false_or, or_true, true_or, and_true, true_and, and_false, false_and, or_self, and_self, not_true_eq_false, not_false_eq_true, ↓reduceIte, if_true, if_false, ↓jv_bs, ↓jv_ol, ↓jv_or, jv_tl, jv_tn, jo_T, ck_2_166_17, ck_6_43_16, ck_6_43_17, ck_6_73_16, ck_7_65_17, ck_30_10_19, su_F, e36_0, e36_1, ↓tgb_19 hp, wi_19, ↓tgb_22 hp, ↓trb_22 hp, ↓tub_22 hp, wa_22, ↓tgb_23 hp, ↓trb_23 hp, ↓tub_23 hp, wa_23, ↓tgb_24 hp, ↓trb_24 hp, ↓tub_24 hp, wa_24, ↓tgb_25 hp, ↓trb_25 hp, ↓tub_25 hp, wa_25, ↓tw_rcb hp, n36]
    rw [st]
    refine g.trans ?_
    generalize ff (fun y => (ff (fun x => decide (nI (t_nf T) ≤ s.2.1 24 (48 * sd + 8 * y + x))) 0 (t_w T)).isSome) 0 (t_r T) = o
    cases o with
    | some y => rfl
    | none =>
      dsimp only
      rw [show b2i (Option.isNone (none : Option Nat)) = nI 1 from rfl]
      simp (disch := omega) only [il_0, il_1, il_2, il_3, il_4, il_5, il_6, il_7, il_8, il_9, il_10, il_11, il_12, il_13, il_14, il_15, il_16, il_17, il_18, il_19, il_20, il_21, il_22, il_23, il_24, il_25, il_26, il_27, il_28, il_29, il_30, il_31, il_32, il_40, il_41, il_42, il_43, il_44, il_45, il_46, il_47, il_48, il_52, il_56, il_57, il_59, il_60, il_61, il_63, il_64, il_68, il_72, il_75, il_76, il_82, il_88, il_89, il_90, il_92, il_96, il_97, il_99, il_100, il_101, il_102, il_103, il_104, il_105, il_107, il_108, il_109, il_110, il_111, il_112, il_114, il_115, il_116, il_117, il_118, il_119, il_121, il_122, il_130, il_200, il_255, il_256, il_260, il_276, il_400, il_403, il_420, il_840, il_999, il_1000, il_2000, il_2001, il_2668, il_2760, il_9999, il_12345, il_1000000, il_1103515245, ↓im_1, ↓im_2, ↓im_8, ↓im_1000, nI_add, pk_mul, pk_sub, ↓pk_rem, pk_div, nm_add, nI_clamp, nI_ltI, nI_leI, nI_eq, nm_eq, mn_eq, mm_eq, nm_lt, mn_lt, nm_le, mn_le, nl_T, nl_F, nle_T, nle_F, ne_T, ne_F, b2i_0, b2i_1, b2i_n, nb_0, nb_1, or_false, false_or, or_true, true_or, and_true, true_and, and_false, false_and, or_self, and_self, not_true_eq_false, not_false_eq_true, ↓reduceIte, if_true, if_false, ↓jv_bs, ↓jv_ol, ↓jv_or, jv_tl, jv_tn, jo_T, ck_2_166_17, ck_6_43_16, ck_6_43_17, ck_6_73_16, ck_7_65_17, ck_30_10_19, su_F, e36_2, e36_3, e36_4, e36_7, e36_8, e36_11, e36_12, e36_75, e36_76, ↓tgb_19 hp, wi_19, ↓tgb_22 hp, ↓trb_22 hp, ↓tub_22 hp, wa_22, ↓tgb_23 hp, ↓trb_23 hp, ↓tub_23 hp, wa_23, ↓tgb_24 hp, ↓trb_24 hp, ↓tub_24 hp, wa_24, ↓tgb_25 hp, ↓trb_25 hp, ↓tub_25 hp, wa_25, ↓tw_rcb hp, h19, h22]
/-- this side is live -/
theorem TV_TP (hsd : sd < 2) (h18 : s.1 18 = nI sd) (h : TP s sd T w b c) (hw : w.1 = 0) (hb : 130 * sd + 130 ≥ b) (hc : 420 * sd + 420 ≥ c) : TV s sd T := by
  obtain ⟨a1, a2, a3, a4, a5, a6, a7, a8, a9, a10, a11, a12⟩ := h
  refine ⟨hsd, h18, a2, a3, a4, a5, a6 hw, a7, a8, a9, a10, a11, fun k hk => ?_⟩
  have := a12 k hk
  generalize t_law T k = o at this ⊢
  cases o with
  | none => exact this
  | some L =>
    obtain ⟨x, h1, h2, h3⟩ := this
    exact ⟨x, h1, h2, fun s2 h4 => h3 s2 ⟨fun k e1 e2 i e3 e4 => h4.1 k e1 e2 i e3 (by omega), fun k e1 i e3 e4 => h4.2 k e1 i e3 (by omega)⟩⟩
end
