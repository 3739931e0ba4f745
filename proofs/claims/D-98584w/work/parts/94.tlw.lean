/-! the reference: a law is told -/
def zex (K V : Nat → Nat) (z : Zs) : Zs := match z with
  | .inl e => .inl e
  | .inr x => match pT K V x.1 with
    | .inl e => .inl e
    | .inr y => .inr (y.1, x.2)
def zcd (K V : Nat → Nat) (z : Zs) : Cd := match z with
  | .inl _ => []
  | .inr x => match pT K V x.1 with
    | .inl _ => []
    | .inr y => y.2
/-- branches and code from here on change -/
def FL (sd b c : Nat) (s s' : tw_S) : Prop := FX sd s s' ∧ (∀ j, 22 ≤ j → j ≤ 35 → s'.2.1 j = s.2.1 j) ∧ AB sd b c s s' ∧ s'.1 20 = s.1 20 ∧ s'.2.2 = s.2.2
section
variable {d sd t b c b' c' : Nat} {p q : jv_H} {s s' s2 : tw_S} {K V F N L : Nat → Nat} {R : Nat → Nat → Nat} {z : Zs} {S : Sx} {T : Tx}
theorem FL_id : FL sd b c s s := ⟨FX_id, fun _ _ _ => rfl, AB_id, rfl, rfl⟩
theorem FL_tr (h1 : FL sd b c s s') (h2 : FL sd b' c' s' s2) (hb : b ≤ b') (hc : c ≤ c') : FL sd b c s s2 := ⟨FX_tr h1.1 h2.1, fun j a e => (h2.2.1 j a e).trans (h1.2.1 j a e), AB_tr h1.2.2.1 (AB_le h2.2.2.1 hb hc), h2.2.2.2.1.trans h1.2.2.2.1, h2.2.2.2.2.trans h1.2.2.2.2⟩
theorem FL_FZ (h : FZ s s') : FL sd b c s s' := ⟨FX_FZ h, fun j _ _ => by rw [h.2], AB_e fun k _ _ => by rw [h.2], h.1 20 (by decide), by rw [h.2]⟩
theorem FL_EF (h : EF c s s') (hc : 420 * sd ≤ c ∧ c < 420 * sd + 420) : FL sd b c s s' := ⟨FX_EF h hc, fun j _ _ => h.2.1 j (by omega), AB_EF h, h.1 20 (by decide), h.2.2.2⟩
theorem FL_a {k i : Nat} {v : Int32} (h1 : 37 ≤ k) (h2 : k ≤ 41) (hi : b ≤ i) (hr : 130 * sd ≤ i ∧ i < 130 * sd + 130) : FL sd b c s (tw_a s k (upd (s.2.1 k) i v)) := by
  have hbk : blk k = 130 := by unfold blk; rw [if_neg (by omega), if_neg (by omega), if_neg (by omega), if_neg (by omega), if_pos (by omega)]
  refine ⟨FX_a (by omega) (by omega) (by rw [hbk]; exact hr), fun j _ _ => by rw [tw_a2, if_neg (by omega)], ⟨fun j _ _ n _ hn => ?_, fun j _ n _ _ => by rw [tw_a2, if_neg (by omega)]⟩, rfl, rfl⟩
  rw [tw_a2]
  by_cases e : j = k
  · subst e
    rw [if_pos rfl]
    exact pk_un (by omega)
  · rw [if_neg e]
theorem FL_i {j : Nat} {v : Int32} (hj : ch j) (h20 : j ≠ 20) : FL sd b c s (tw_i s j v) := ⟨FX_i hj, fun _ _ _ => rfl, AB_e fun _ _ _ => rfl, by rw [tw_i1, if_neg (fun e => h20 e.symm)], rfl⟩
theorem TE_FL (h : TE s K V F N) (hf : FL sd b c s s') : TE s' K V F N := TE_FX h hf.1
theorem ZQ_i {j : Nat} {v : Int32} (h : ZQ s K F z) (hj : j ≠ 11 ∧ j ≠ 12 ∧ j ≠ 13 ∧ j ≠ 14 ∧ j ≠ 15 ∧ j ≠ 16) : ZQ (tw_i s j v) K F z := by
  obtain ⟨j1, j2, j3, j4, j5, j6⟩ := hj
  have e : ∀ i, i ≠ j → (tw_i s j v).1 i = s.1 i := fun i hi => by rw [tw_i1, if_neg hi]
  cases z with
  | inl x =>
    unfold ZQ at h ⊢
    rw [e 13 (Ne.symm j3), e 14 (Ne.symm j4), e 11 (Ne.symm j1)]
    exact h
  | inr x =>
    unfold ZQ at h ⊢
    rw [e 13 (Ne.symm j3), e 11 (Ne.symm j1), e 12 (Ne.symm j2), e 15 (Ne.symm j5), e 16 (Ne.symm j6)]
    exact h
theorem SG_c {i : Nat} {cd : Cd} (h : SG s i cd) (he : ∀ k, k = 43 ∨ k = 44 → ∀ n, i ≤ n → n < i + cd.length → s'.2.1 k n = s.2.1 k n) : SG s' i cd := by
  intro j e hj
  have hl : j < cd.length := (List.getElem?_eq_some_iff.mp hj).1
  rw [he 43 (Or.inl rfl) (i + j) (by omega) (by omega), he 44 (Or.inr rfl) (i + j) (by omega) (by omega)]
  exact h j e hj
theorem SG_FL {i : Nat} {cd : Cd} (h : SG s i cd) (hf : FL sd b c s s') (hi : 420 * sd ≤ i) (hl : i + cd.length ≤ c) : SG s' i cd := SG_c h fun k hk n h1 h2 => hf.2.2.1.2 k hk n (by omega) (by omega)
theorem SG_AB {i : Nat} {cd : Cd} (h : SG s i cd) (hf : AB sd b c s s') (hi : 420 * sd ≤ i) (hl : i + cd.length ≤ c) : SG s' i cd := SG_c h fun k hk n h1 h2 => hf.2 k hk n (by omega) (by omega)
theorem m_exprF (hp : p.length = 589) {e : Nat} (hf : s.1 13 = nI e) (he : 1 ≤ e ∧ e ≤ 9) {o : Int32} (ho : s.1 12 = o) : jv_cd (d + 4) 31 [.ref 589] (tw_h p s q) = some (.inl none, tw_h p (tw_i s 46 (nI 0)) q) := by
  have h0 := fe_0 hf he
  simp (disch := omega) only [il_0, il_1, il_2, il_3, il_4, il_5, il_6, il_7, il_8, il_9, il_10, il_11, il_12, il_13, il_14, il_15, il_16, il_17, il_18, il_19, il_20, il_21, il_22, il_23, il_24, il_25, il_26, il_27, il_28, il_29, il_30, il_31, il_32, il_40, il_41, il_42, il_43, il_44, il_45, il_46, il_47, il_48, il_52, il_56, il_57, il_59, il_60, il_61, il_63, il_64, il_68, il_72, il_75, il_76, il_82, il_88, il_89, il_90, il_92, il_96, il_97, il_99, il_100, il_101, il_102, il_103, il_104, il_105, il_107, il_108, il_109, il_110, il_111, il_112, il_114, il_115, il_116, il_117, il_118, il_119, il_121, il_122, il_130, il_200, il_255, il_256, il_260, il_276, il_400, il_403, il_420, il_840, il_999, il_1000, il_2000, il_2001, il_2668, il_2760, il_9999, il_12345, il_1000000, il_1103515245, ↓im_1, ↓im_2, ↓im_8, ↓im_1000, nI_add, pk_mul, pk_sub, ↓pk_rem, pk_div, nm_add, nI_clamp, nI_ltI, nI_leI, nI_eq, nm_eq, mn_eq, mm_eq, nm_lt, mn_lt, nm_le, mn_le, nl_T, nl_F, nle_T, nle_F, ne_T, ne_F, b2i_0, b2i_1, b2i_n, nb_0, nb_1, or_false, false_or, or_true, true_or, and_true, true_and, and_false, false_and, or_self, and_self, not_true_eq_false, not_false_eq_true, ↓reduceIte, if_true, if_false, ↓jv_bs, ↓jv_ol, ↓jv_or, jv_tl, jv_tn, jo_T, ck_2_166_17, ck_6_43_16, ck_6_43_17, ck_6_73_16, ck_7_65_17, ck_30_10_19, su_F, e31_0, e31_1, e31_2, e31_5, e31_6, e31_9, e31_10, e31_11, e31_12, e31_13, e31_16, e31_17, e31_20, e31_272, ↓tgb_5 hp, ↓trb_5 hp, ↓tub_5 hp, wa_5, ↓tgb_11 hp, wi_11, ↓tgb_12 hp, wi_12, ↓tpb_12 hp, ↓tgb_13 hp, wi_13, ↓tgb_45 hp, ↓trb_45 hp, ↓tub_45 hp, wa_45, ↓tgb_46 hp, wi_46, ↓tpb_46 hp, ↓tw_rcb hp, n31, h0, tw_i1, tw_i2, Nat.reduceEqDiff]
theorem m_exprF_b (hp : p.length = 589) {e : Nat} (hf : s.1 13 = nI e) (he : 1 ≤ e ∧ e ≤ 9) {o : Int32} (ho : s.1 12 = o) {F : jv_R → Option jv_R} : (jv_cd (d + 4) 31 [.ref 589] (tw_h p s q)).bind F = F (.inl none, tw_h p (tw_i s 46 (nI 0)) q) := jb (m_exprF hp hf he ho)
/-- a term, if there's no fault -/
theorem z_exR (hp : p.length = 589) {x : Nat × Wt} (hz : ZQ s K F (.inr x)) (hte : TE s K V F N) (hcr : 420 * sd ≤ c ∧ c < 420 * sd + 420) (hsd : sd < 2) (h42 : s.1 42 = nI c) (hc : c ≤ 420 * sd + x.1) : ∃ s', FL sd b c s s' ∧ (∀ k, 37 ≤ k → k ≤ 41 → s'.2.1 k = s.2.1 k) ∧ s'.1 36 = s.1 36 ∧ ZQ s' K F (zex K V (.inr x)) ∧ (∀ y, zex K V (.inr x) = .inr y → s'.1 42 = nI (c + (zcd K V (.inr x)).length) ∧ SG s' c (zcd K V (.inr x)) ∧ c + (zcd K V (.inr x)).length ≤ 420 * sd + y.1 ∧ x.1 + 1 ≤ y.1 ∧ y.2 = x.2) ∧ jv_cd (d + 4) 31 [.ref 589] (tw_h p s q) = some (.inl none, tw_h p s' q) := by
  obtain ⟨q1, q2, q3, q4, q5, q6, q7⟩ := id hz
  have hcd : c / 420 = sd := by omega
  have g := m_expr (d := d) (q := q) (t := x.1) (c := c) hp hte q4 q1 q2 q3 h42 (by rw [hcd]; exact hc) (by omega)
  have hk := pT_k (K := K) (V := V) q4.1
  unfold zex zcd
  dsimp only
  generalize pT K V x.1 = r at g hk ⊢
  cases r with
  | inl e =>
    obtain ⟨s', g1, g2, g3, ⟨t', g4, g5⟩, g6⟩ := g
    exact ⟨s', FL_EF g1 hcr, fun k h1 h2 => g1.2.1 k (by omega), g1.1 36 (by decide), ⟨g2, by have := hk.1; omega, g3, t', g4, g5⟩, fun y hy => (by cases hy), g6⟩
  | inr y =>
    obtain ⟨s', g1, g2, g3, g4, g5, g6, g7, g8, g9⟩ := g
    rw [hcd] at g8
    have hy1 : x.1 + 1 ≤ y.1 := hk.1
    refine ⟨s', FL_EF g1 hcr, fun k h1 h2 => g1.2.1 k (by omega), g1.1 36 (by decide), ⟨g2, g3, g4, g7, (g1.1 15 (by decide)).trans q5, q6, fun h0 => ⟨(g1.1 16 (by decide)).trans (q7 h0).1, by have := (q7 h0).2; dsimp only; omega⟩⟩, fun y' hy => ?_, g9⟩
    obtain rfl := Sum.inr.inj hy
    exact ⟨g5, g6, g8, hy1, rfl⟩
/-- what a term is, and where it goes on -/
theorem z_tm (hp : p.length = 589) (hz : ZQ s K F z) (hte : TE s K V F N) (hsd : sd < 2) (h36 : s.1 36 = nI b) (hb : 130 * sd ≤ b ∧ b < 130 * sd + 130) (hcr : 420 * sd ≤ c ∧ c < 420 * sd + 420) (hc : ∀ x, z = .inr x → s.1 42 = nI c ∧ c ≤ 420 * sd + x.1) : ∃ s', FL sd b c s s' ∧ (∀ k, 37 ≤ k → k ≤ 39 → s'.2.1 k = s.2.1 k) ∧ s'.1 36 = nI (b + 1) ∧ ZQ s' K F (zex K V z) ∧ (∀ x y, z = .inr x → zex K V z = .inr y → s'.1 42 = nI (c + (zcd K V z).length) ∧ SG s' c (zcd K V z) ∧ c + (zcd K V z).length ≤ 420 * sd + y.1 ∧ x.1 + 1 ≤ y.1 ∧ y.2 = x.2 ∧ s'.2.1 40 b = nI c ∧ s'.2.1 41 b = nI (c + (zcd K V z).length)) ∧ jv_cd (d + 5) 35 [.ref 589] (tw_h p s q) = some (.inl none, tw_h p s' q) := by
  have f1 : FL sd b c s (tw_a s 40 (upd (s.2.1 40) b (s.1 42))) := FL_a (by decide) (by decide) (Nat.le_refl _) hb
  cases z with
  | inl e =>
    have g0 := fe_0 hz.1 hz.2.1
    refine ⟨tw_i (tw_a (tw_a s 40 (upd (s.2.1 40) b (s.1 42))) 41 (upd (s.2.1 41) b (s.1 42))) 36 (nI (b + 1)), FL_tr (FL_tr f1 (FL_a (s := tw_a s 40 (upd (s.2.1 40) b (s.1 42))) (by decide) (by decide) (Nat.le_refl _) hb) (Nat.le_refl _) (Nat.le_refl _)) (FL_i (by unfold ch; omega) (by decide)) (Nat.le_refl _) (Nat.le_refl _), fun k h1 h2 => ?_, rfl, ZQ_i (ZQ_a (ZQ_a hz)) (by decide), (fun x y h => by cases h), ?_⟩
    · show (if k = 41 then _ else if k = 40 then _ else s.2.1 k) = _
      rw [if_neg (by omega), if_neg (by omega)]
    · simp (disch := omega) only [il_0, il_1, il_2, il_3, il_4, il_5, il_6, il_7, il_8, il_9, il_10, il_11, il_12, il_13, il_14, il_15, il_16, il_17, il_18, il_19, il_20, il_21, il_22, il_23, il_24, il_25, il_26, il_27, il_28, il_29, il_30, il_31, il_32, il_40, il_41, il_42, il_43, il_44, il_45, il_46, il_47, il_48, il_52, il_56, il_57, il_59, il_60, il_61, il_63, il_64, il_68, il_72, il_75, il_76, il_82, il_88, il_89, il_90, il_92, il_96, il_97, il_99, il_100, il_101, il_102, il_103, il_104, il_105, il_107, il_108, il_109, il_110, il_111, il_112, il_114, il_115, il_116, il_117, il_118, il_119, il_121, il_122, il_130, il_200, il_255, il_256, il_260, il_276, il_400, il_403, il_420, il_840, il_999, il_1000, il_2000, il_2001, il_2668, il_2760, il_9999, il_12345, il_1000000, il_1103515245, ↓im_1, ↓im_2, ↓im_8, ↓im_1000, nI_add, pk_mul, pk_sub, ↓pk_rem, pk_div, nm_add, nI_clamp, nI_ltI, nI_leI, nI_eq, nm_eq, mn_eq, mm_eq, nm_lt, mn_lt, nm_le, mn_le, nl_T, nl_F, nle_T, nle_F, ne_T, ne_F, b2i_0, b2i_1, b2i_n, nb_0, nb_1, or_false, false_or, or_true, true_or, and_true, true_and, and_false, false_and, or_self, and_self, not_true_eq_false, not_false_eq_true, ↓reduceIte, if_true, if_false, ↓jv_bs, ↓jv_ol, ↓jv_or, jv_tl, jv_tn, jo_T, ck_2_166_17, ck_6_43_16, ck_6_43_17, ck_6_73_16, ck_7_65_17, ck_30_10_19, su_F, e35_0, e35_1, e35_4, e35_5, e35_8, e35_9, e35_12, e35_13, e35_14, e35_17, e35_20, e35_21, e35_24, e35_25, e35_28, e35_29, e35_32, e35_33, e35_36, e35_37, e35_38, e35_39, e35_42, e35_43, e35_44, e35_47, ↓tgb_13 hp, wi_13, ↓tgb_36 hp, wi_36, ↓tpb_36 hp, ↓tgb_40 hp, ↓trb_40 hp, ↓tub_40 hp, wa_40, ↓tgb_41 hp, ↓trb_41 hp, ↓tub_41 hp, wa_41, ↓tgb_42 hp, wi_42, ↓tw_rcb hp, n35, h36, g0, tw_i1, tw_i2, tw_a1, tw_a2, tw_a3, Nat.reduceEqDiff]
  | inr x =>
    obtain ⟨h42, hc⟩ := hc x rfl
    rw [h42] at f1
    have hz1 : ZQ (tw_a s 40 (upd (s.2.1 40) b (nI c))) K F (.inr x) := ZQ_a hz
    obtain ⟨s2, f2, g2, g3, z2, e2, r2⟩ := z_exR (d := d) (q := q) (b := b) hp hz1 (TE_FL hte f1) hcr hsd h42 hc
    have h36_2 : s2.1 36 = nI b := g3.trans h36
    have g0 : s.1 13 = nI 0 := hz.1
    refine ⟨tw_i (tw_a s2 41 (upd (s2.2.1 41) b (s2.1 42))) 36 (nI (b + 1)), FL_tr (FL_tr (FL_tr f1 f2 (Nat.le_refl _) (Nat.le_refl _)) (FL_a (by decide) (by decide) (Nat.le_refl _) hb) (Nat.le_refl _) (Nat.le_refl _)) (FL_i (by unfold ch; omega) (by decide)) (Nat.le_refl _) (Nat.le_refl _), fun k h1 h2 => ?_, rfl, ZQ_i (ZQ_a z2) (by decide), (fun x' y hx hy => ?_), ?_⟩
    · show (if k = 41 then _ else s2.2.1 k) = _
      rw [if_neg (by omega), g2 k h1 (by omega)]
      show (if k = 40 then _ else s.2.1 k) = _
      rw [if_neg (by omega)]
    · obtain rfl := Sum.inr.inj hx
      obtain ⟨k1, k2, k3, k4, k5⟩ := e2 y hy
      refine ⟨k1, k2, k3, k4, k5, ?_, ?_⟩
      · show s2.2.1 40 b = _
        rw [g2 40 (by decide) (by decide)]
        exact pk_us
      · show upd (s2.2.1 41) b (s2.1 42) b = _
        rw [pk_us, k1]
    · simp (disch := omega) only [il_0, il_1, il_2, il_3, il_4, il_5, il_6, il_7, il_8, il_9, il_10, il_11, il_12, il_13, il_14, il_15, il_16, il_17, il_18, il_19, il_20, il_21, il_22, il_23, il_24, il_25, il_26, il_27, il_28, il_29, il_30, il_31, il_32, il_40, il_41, il_42, il_43, il_44, il_45, il_46, il_47, il_48, il_52, il_56, il_57, il_59, il_60, il_61, il_63, il_64, il_68, il_72, il_75, il_76, il_82, il_88, il_89, il_90, il_92, il_96, il_97, il_99, il_100, il_101, il_102, il_103, il_104, il_105, il_107, il_108, il_109, il_110, il_111, il_112, il_114, il_115, il_116, il_117, il_118, il_119, il_121, il_122, il_130, il_200, il_255, il_256, il_260, il_276, il_400, il_403, il_420, il_840, il_999, il_1000, il_2000, il_2001, il_2668, il_2760, il_9999, il_12345, il_1000000, il_1103515245, ↓im_1, ↓im_2, ↓im_8, ↓im_1000, nI_add, pk_mul, pk_sub, ↓pk_rem, pk_div, nm_add, nI_clamp, nI_ltI, nI_leI, nI_eq, nm_eq, mn_eq, mm_eq, nm_lt, mn_lt, nm_le, mn_le, nl_T, nl_F, nle_T, nle_F, ne_T, ne_F, b2i_0, b2i_1, b2i_n, nb_0, nb_1, or_false, false_or, or_true, true_or, and_true, true_and, and_false, false_and, or_self, and_self, not_true_eq_false, not_false_eq_true, ↓reduceIte, if_true, if_false, ↓jv_bs, ↓jv_ol, ↓jv_or, jv_tl, jv_tn, jo_T, ck_2_166_17, ck_6_43_16, ck_6_43_17, ck_6_73_16, ck_7_65_17, ck_30_10_19, su_F, e35_0, e35_1, e35_4, e35_5, e35_8, e35_9, e35_12, e35_13, e35_14, e35_17, e35_20, e35_21, e35_24, e35_25, e35_28, e35_29, e35_32, e35_33, e35_36, e35_37, e35_38, e35_39, e35_42, e35_43, e35_44, e35_47, ↓tgb_13 hp, wi_13, ↓tgb_36 hp, wi_36, ↓tpb_36 hp, ↓tgb_40 hp, ↓trb_40 hp, ↓tub_40 hp, wa_40, ↓tgb_41 hp, ↓trb_41 hp, ↓tub_41 hp, wa_41, ↓tgb_42 hp, wi_42, ↓tw_rcb hp, n35, h36, h36_2, h42, g0, ↓jbR r2, tw_i1, tw_i2, tw_a1, tw_a2, tw_a3, Nat.reduceEqDiff]
/-- the rest of a law with a fault -/
theorem m_lawF (hp : p.length = 589) {e : Nat × Nat} (hz : ZQ s K F (.inl e)) (hte : TE s K V F N) (hsd : sd < 2) (h36 : s.1 36 = nI b) (hb : 130 * sd ≤ b ∧ b < 130 * sd + 130) (hcr : 420 * sd ≤ c ∧ c < 420 * sd + 420) {x1 x2 x3 : Option Value} : ∃ s', FL sd b c s s' ∧ ZQ s' K F (.inl e) ∧ jv_ev (d + 5) 30 12 [some (.ref 589), x1, x2, x3] [] (tw_h p s q) = some (.inl none, tw_h p s' q) := by
  have g1 := hz.1
  have g2 := hz.2.1
  have g0 := fe_0 g1 g2
  have f1 : FL sd b c s (tw_a s 37 (upd (s.2.1 37) b (nI 0))) := FL_a (by decide) (by decide) (Nat.le_refl _) hb
  obtain ⟨s2, f2, _, _, z2, _, r2⟩ := z_tm (d := d) (q := q) (c := c) (s := tw_a s 37 (upd (s.2.1 37) b (nI 0))) (z := .inl e) hp (ZQ_a hz) (TE_FL hte f1) hsd h36 hb hcr (fun x hx => by cases hx)
  have k1 := z2.1
  have k2 := z2.2.1
  have r3 := m_mustF (d := d + 2) (q := q) (x := nI 4) hp k1 k2
  refine ⟨s2, FL_tr f1 f2 (Nat.le_refl _) (Nat.le_refl _), z2, ?_⟩
  simp (disch := omega) only [il_0, il_1, il_2, il_3, il_4, il_5, il_6, il_7, il_8, il_9, il_10, il_11, il_12, il_13, il_14, il_15, il_16, il_17, il_18, il_19, il_20, il_21, il_22, il_23, il_24, il_25, il_26, il_27, il_28, il_29, il_30, il_31, il_32, il_40, il_41, il_42, il_43, il_44, il_45, il_46, il_47, il_48, il_52, il_56, il_57, il_59, il_60, il_61, il_63, il_64, il_68, il_72, il_75, il_76, il_82, il_88, il_89, il_90, il_92, il_96, il_97, il_99, il_100, il_101, il_102, il_103, il_104, il_105, il_107, il_108, il_109, il_110, il_111, il_112, il_114, il_115, il_116, il_117, il_118, il_119, il_121, il_122, il_130, il_200, il_255, il_256, il_260, il_276, il_400, il_403, il_420, il_840, il_999, il_1000, il_2000, il_2001, il_2668, il_2760, il_9999, il_12345, il_1000000, il_1103515245, ↓im_1, ↓im_2, ↓im_8, ↓im_1000, nI_add, pk_mul, pk_sub, ↓pk_rem, pk_div, nm_add, nI_clamp, nI_ltI, nI_leI, nI_eq, nm_eq, mn_eq, mm_eq, nm_lt, mn_lt, nm_le, mn_le, nl_T, nl_F, nle_T, nle_F, ne_T, ne_F, b2i_0, b2i_1, b2i_n, nb_0, nb_1, or_false, false_or, or_true, true_or, and_true, true_and, and_false, false_and, or_self, and_self, not_true_eq_false, not_false_eq_true, ↓reduceIte, if_true, if_false, ↓jv_bs, ↓jv_ol, ↓jv_or, jv_tl, jv_tn, jo_T, ck_2_166_17, ck_6_43_16, ck_6_43_17, ck_6_73_16, ck_7_65_17, ck_30_10_19, su_F, e30_12, e30_13, e30_16, e30_129, e30_130, e30_133, e30_134, e30_137, e30_138, e30_139, e30_140, e30_143, e30_144, e30_145, e30_148, e30_149, e30_152, e30_155, ↓tgb_13 hp, wi_13, ↓tgb_19 hp, wi_19, ↓tgb_34 hp, ↓trb_34 hp, ↓tub_34 hp, wa_34, ↓tgb_35 hp, ↓trb_35 hp, ↓tub_35 hp, wa_35, ↓tgb_36 hp, wi_36, ↓tgb_37 hp, ↓trb_37 hp, ↓tub_37 hp, wa_37, ↓tgb_38 hp, ↓trb_38 hp, ↓tub_38 hp, wa_38, ↓tgb_39 hp, ↓trb_39 hp, ↓tub_39 hp, wa_39, ↓tgb_42 hp, wi_42, ↓tw_rcb hp, h36, g0, k1, vb_0, ↓jbR r2, ↓jbR r3]
end
