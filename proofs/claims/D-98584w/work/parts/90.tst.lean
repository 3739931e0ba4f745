/-! the reference: what is told, helpers. A fault; or the token, the worst -/
abbrev Zs : Type := (Nat × Nat) ⊕ (Nat × Wt)
def zgo (z : Zs) : Zs := match z with
  | .inl e => .inl e
  | .inr x => if x.1 = 400 then .inl (2, x.1) else .inr (x.1 + 1, x.2)
def zmu (K : Nat → Nat) (k : Nat) (z : Zs) : Zs := match z with
  | .inl e => .inl e
  | .inr x => if K x.1 = k then zgo z else .inl (1, x.1)
def zwr (n t : Nat) (z : Zs) : Zs := match z with
  | .inl e => .inl e
  | .inr x => .inr (x.1, wt x.2 n t)
def zbd (K V : Nat → Nat) (lo hi : Nat) (z : Zs) : Zs := match z with
  | .inl e => .inl e
  | .inr x => if K x.1 = 2 then zgo (.inr (x.1, if V x.1 < lo ∨ hi < V x.1 then wt x.2 5 x.1 else x.2)) else .inl (1, x.1)
def zbv (K V : Nat → Nat) (lo : Nat) (z : Zs) : Nat := match z with
  | .inl _ => lo
  | .inr x => if K x.1 = 2 then V x.1 else lo
/-- what a state says of it -/
def ZQ (s : tw_S) (K F : Nat → Nat) (z : Zs) : Prop := match z with
  | .inl e => s.1 13 = nI e.1 ∧ (1 ≤ e.1 ∧ e.1 ≤ 9) ∧ s.1 14 = nI (F e.2) ∧ ∃ t, t ≤ 400 ∧ s.1 11 = nI t
  | .inr x => s.1 13 = nI 0 ∧ s.1 11 = nI x.1 ∧ s.1 12 = nI 0 ∧ RC K x.1 ∧ s.1 15 = nI x.2.1 ∧ x.2.1 ≤ 9 ∧ (x.2.1 ≠ 0 → s.1 16 = nI (F x.2.2) ∧ x.2.2 ≤ x.1)
/-- only these numbers change -/
def FZ (s s' : tw_S) : Prop := (∀ j, ¬ (j = 11 ∨ j = 13 ∨ j = 14 ∨ j = 15 ∨ j = 16) → s'.1 j = s.1 j) ∧ s'.2 = s.2
section
variable {d : Nat} {p q : jv_H} {s s' s2 : tw_S} {K V F N L : Nat → Nat} {R : Nat → Nat → Nat} {z : Zs}
theorem FZ_id : FZ s s := ⟨fun _ _ => rfl, rfl⟩
theorem FZ_tr (h1 : FZ s s') (h2 : FZ s' s2) : FZ s s2 := ⟨fun j hj => (h2.1 j hj).trans (h1.1 j hj), h2.2.trans h1.2⟩
theorem FZ_i {j : Nat} {v : Int32} (hj : j = 11 ∨ j = 13 ∨ j = 14 ∨ j = 15 ∨ j = 16) : FZ s (tw_i s j v) := ⟨fun i hi => by rw [tw_i1, if_neg (fun e => hi (by rw [e]; exact hj))], rfl⟩
theorem FZ_f {k : Nat} {w : Int32} : FZ s (flS s k w) := FZ_tr (FZ_i (j := 13) (by omega)) (FZ_i (j := 14) (by omega))
theorem TE_FZ (h : TE s K V F N) (hf : FZ s s') : TE s' K V F N := by
  unfold TE
  rw [hf.2]
  exact h
theorem ZQ_fl {x : Nat × Wt} {k : Nat} (h : ZQ s K F (.inr x)) (hte : TE s K V F N) (hk : 1 ≤ k ∧ k ≤ 9) : ZQ (flS s k (s.2.1 6 x.1)) K F (.inl (k, x.1)) := by
  obtain ⟨h1, h2, h3, h4, h5, h6, h7⟩ := h
  exact ⟨rfl, hk, (hte x.1 h4).2.1, x.1, h4.1, h2⟩
theorem ZQ_go {x : Nat × Wt} (h : ZQ s K F (.inr x)) (h4 : x.1 ≠ 400) (h0 : K x.1 ≠ 0) : ZQ (tw_i s 11 (nI (x.1 + 1))) K F (.inr (x.1 + 1, x.2)) := by
  obtain ⟨h1, h2, h3, h4', h5, h6, h7⟩ := h
  exact ⟨h1, rfl, h3, RC_s h4' h4 h0, h5, h6, fun hw => ⟨(h7 hw).1, by have := (h7 hw).2; dsimp only; omega⟩⟩
theorem z_go (hp : p.length = 589) (hz : ZQ s K F z) (hte : TE s K V F N) (h0 : ∀ x, z = .inr x → K x.1 ≠ 0) : ∃ s', FZ s s' ∧ ZQ s' K F (zgo z) ∧ jv_cd (d + 2) 21 [.ref 589] (tw_h p s q) = some (.inl none, tw_h p s' q) := by
  cases z with
  | inl e =>
    obtain ⟨h1, h2, h3, t, ht, h4⟩ := id hz
    refine ⟨_, ?_, ?_, m_goesF hp h1 h2 h4 ht⟩
    · split
      · exact FZ_id
      · exact FZ_i (by omega)
    · split
      · exact hz
      · exact ⟨h1, h2, h3, t + 1, by omega, rfl⟩
  | inr x =>
    obtain ⟨h1, h2, h3, h4, h5, h6, h7⟩ := id hz
    refine ⟨_, ?_, ?_, m_goesT hp h1 h2 h4.1⟩
    · split
      · exact FZ_f
      · exact FZ_i (by omega)
    · unfold zgo
      dsimp only
      split
      · exact ZQ_fl hz hte (by decide)
      · rename_i h4'; exact ZQ_go hz h4' (h0 x rfl)
theorem z_mu (hp : p.length = 589) (hz : ZQ s K F z) (hte : TE s K V F N) {k : Nat} (hk : 1 ≤ k ∧ k ≤ 40) : ∃ s', FZ s s' ∧ ZQ s' K F (zmu K k z) ∧ jv_cd (d + 3) 23 [.ref 589, .int (nI k)] (tw_h p s q) = some (.inl none, tw_h p s' q) := by
  cases z with
  | inl e =>
    obtain ⟨h1, h2, h3, t, ht, h4⟩ := id hz
    exact ⟨s, FZ_id, hz, m_mustF hp h1 h2⟩
  | inr x =>
    obtain ⟨h1, h2, h3, h4, h5, h6, h7⟩ := id hz
    obtain ⟨k1, k2, k3, k4⟩ := hte x.1 h4
    refine ⟨_, ?_, ?_, m_mustT (K := K) hp h1 h2 h4.1 k1 k3 hk.2⟩
    · split
      · split
        · exact FZ_f
        · exact FZ_i (by omega)
      · exact FZ_f
    · unfold zmu zgo
      dsimp only
      split
      · split
        · exact ZQ_fl hz hte (by decide)
        · rename_i h4'; exact ZQ_go hz h4' (by omega)
      · exact ZQ_fl hz hte (by decide)
theorem z_fail (hp : p.length = 589) (hz : ZQ s K F z) (hte : TE s K V F N) {k : Nat} (hk : 1 ≤ k ∧ k ≤ 9) : ∃ s', FZ s s' ∧ ZQ s' K F (match z with | .inl e => .inl e | .inr x => .inl (k, x.1)) ∧ jv_cd (d + 1) 20 [.ref 589, .int (nI k)] (tw_h p s q) = some (.inl none, tw_h p s' q) := by
  cases z with
  | inl e =>
    obtain ⟨h1, h2, h3, t, ht, h4⟩ := id hz
    exact ⟨s, FZ_id, hz, m_failF hp h1 h2⟩
  | inr x =>
    obtain ⟨h1, h2, h3, h4, h5, h6, h7⟩ := id hz
    exact ⟨_, FZ_f, ZQ_fl hz hte hk, m_failT hp h1 h2 h4.1⟩
theorem w_wrongT (hp : p.length = 589) {w : Wt} {tok n : Nat} (hf : s.1 13 = nI 0) (h15 : s.1 15 = nI w.1) (hw9 : w.1 ≤ 9) (h16 : w.1 ≠ 0 → s.1 16 = nI (F w.2)) (h6 : s.2.1 6 tok = nI (F tok)) (htk : tok ≤ 400) (hF : ∀ i, F i ≤ 2000) (hlt : F w.2 < F tok ↔ w.2 < tok) (heq : F w.2 = F tok ↔ w.2 = tok) (hn : n ≤ 9) : jv_cd (d + 1) 24 [.ref 589, .int (nI n), .int (nI tok)] (tw_h p s q) = some (.inl none, tw_h p (if w.1 ≠ 0 ∧ (w.2 < tok ∨ (w.2 = tok ∧ w.1 ≤ n)) then s else tw_i (tw_i s 15 (nI n)) 16 (nI (F tok))) q) := by
  have hF1 := hF tok
  have hF2 := hF w.2
  by_cases h0 : w.1 = 0
  · rw [if_neg (fun h => h.1 h0)]
    rw [h0] at h15
    simp (disch := omega) only [il_0, il_1, il_2, il_3, il_4, il_5, il_6, il_7, il_8, il_9, il_10, il_11, il_12, il_13, il_14, il_15, il_16, il_17, il_18, il_19, il_20, il_21, il_22, il_23, il_24, il_25, il_26, il_27, il_28, il_29, il_30, il_31, il_32, il_40, il_41, il_42, il_43, il_44, il_45, il_46, il_47, il_48, il_52, il_56, il_57, il_59, il_60, il_61, il_63, il_64, il_68, il_72, il_75, il_76, il_82, il_88, il_89, il_90, il_92, il_96, il_97, il_99, il_100, il_101, il_102, il_103, il_104, il_105, il_107, il_108, il_109, il_110, il_111, il_112, il_114, il_115, il_116, il_117, il_118, il_119, il_121, il_122, il_130, il_200, il_255, il_256, il_260, il_276, il_400, il_403, il_420, il_840, il_999, il_1000, il_2000, il_2001, il_2668, il_2760, il_9999, il_12345, il_1000000, il_1103515245, ↓im_1, ↓im_2, ↓im_8, ↓im_1000, nI_add, pk_mul, pk_sub, ↓pk_rem, pk_div, nm_add, nI_clamp, nI_ltI, nI_leI, nI_eq, nm_eq, mn_eq, mm_eq, nm_lt, mn_lt, nm_le, mn_le, nl_T, nl_F, nle_T, nle_F, ne_T, ne_F, b2i_0, b2i_1, b2i_n, nb_0, nb_1, or_false, false_or, or_true, true_or, and_true, true_and, and_false, false_and, or_self, and_self, not_true_eq_false, not_false_eq_true, ↓reduceIte, if_true, if_false, ↓jv_bs, ↓jv_ol, ↓jv_or, jv_tl, jv_tn, jo_T, ck_2_166_17, ck_6_43_16, ck_6_43_17, ck_6_73_16, ck_7_65_17, ck_30_10_19, su_F, e24_0, e24_1, e24_4, e24_5, e24_6, e24_7, e24_8, e24_11, e24_14, e24_15, e24_18, e24_21, e24_22, e24_23, e24_26, e24_29, e24_30, e24_31, e24_34, e24_37, e24_38, e24_39, e24_42, e24_45, e24_46, e24_47, e24_48, e24_51, e24_52, e24_53, e24_56, ↓tgb_6 hp, ↓trb_6 hp, ↓tub_6 hp, wa_6, ↓tgb_13 hp, wi_13, ↓tgb_15 hp, wi_15, ↓tpb_15 hp, ↓tgb_16 hp, wi_16, ↓tpb_16 hp, ↓tw_rcb hp, n24, hf, h15, h6, tw_i1, tw_i2, Nat.reduceEqDiff]
  · have h16 := h16 h0
    by_cases h1 : w.2 < tok
    · rw [if_pos ⟨h0, Or.inl h1⟩]
      have h2 := hlt.mpr h1
      simp (disch := omega) only [il_0, il_1, il_2, il_3, il_4, il_5, il_6, il_7, il_8, il_9, il_10, il_11, il_12, il_13, il_14, il_15, il_16, il_17, il_18, il_19, il_20, il_21, il_22, il_23, il_24, il_25, il_26, il_27, il_28, il_29, il_30, il_31, il_32, il_40, il_41, il_42, il_43, il_44, il_45, il_46, il_47, il_48, il_52, il_56, il_57, il_59, il_60, il_61, il_63, il_64, il_68, il_72, il_75, il_76, il_82, il_88, il_89, il_90, il_92, il_96, il_97, il_99, il_100, il_101, il_102, il_103, il_104, il_105, il_107, il_108, il_109, il_110, il_111, il_112, il_114, il_115, il_116, il_117, il_118, il_119, il_121, il_122, il_130, il_200, il_255, il_256, il_260, il_276, il_400, il_403, il_420, il_840, il_999, il_1000, il_2000, il_2001, il_2668, il_2760, il_9999, il_12345, il_1000000, il_1103515245, ↓im_1, ↓im_2, ↓im_8, ↓im_1000, nI_add, pk_mul, pk_sub, ↓pk_rem, pk_div, nm_add, nI_clamp, nI_ltI, nI_leI, nI_eq, nm_eq, mn_eq, mm_eq, nm_lt, mn_lt, nm_le, mn_le, nl_T, nl_F, nle_T, nle_F, ne_T, ne_F, b2i_0, b2i_1, b2i_n, nb_0, nb_1, or_false, false_or, or_true, true_or, and_true, true_and, and_false, false_and, or_self, and_self, not_true_eq_false, not_false_eq_true, ↓reduceIte, if_true, if_false, ↓jv_bs, ↓jv_ol, ↓jv_or, jv_tl, jv_tn, jo_T, ck_2_166_17, ck_6_43_16, ck_6_43_17, ck_6_73_16, ck_7_65_17, ck_30_10_19, su_F, e24_0, e24_1, e24_4, e24_5, e24_6, e24_7, e24_8, e24_11, e24_14, e24_15, e24_18, e24_21, e24_22, e24_23, e24_26, e24_29, e24_30, e24_31, e24_34, e24_37, e24_38, e24_39, e24_42, e24_45, e24_46, e24_47, e24_48, e24_51, e24_52, e24_53, e24_56, ↓tgb_6 hp, ↓trb_6 hp, ↓tub_6 hp, wa_6, ↓tgb_13 hp, wi_13, ↓tgb_15 hp, wi_15, ↓tpb_15 hp, ↓tgb_16 hp, wi_16, ↓tpb_16 hp, ↓tw_rcb hp, n24, hf, h15, h16, h6]
    · have h2 : ¬ F w.2 < F tok := fun h => h1 (hlt.mp h)
      by_cases h3 : w.2 = tok
      · have h4 := heq.mpr h3
        by_cases h5 : w.1 ≤ n
        · rw [if_pos ⟨h0, Or.inr ⟨h3, h5⟩⟩]
          rw [h4] at h16
          simp (disch := omega) only [il_0, il_1, il_2, il_3, il_4, il_5, il_6, il_7, il_8, il_9, il_10, il_11, il_12, il_13, il_14, il_15, il_16, il_17, il_18, il_19, il_20, il_21, il_22, il_23, il_24, il_25, il_26, il_27, il_28, il_29, il_30, il_31, il_32, il_40, il_41, il_42, il_43, il_44, il_45, il_46, il_47, il_48, il_52, il_56, il_57, il_59, il_60, il_61, il_63, il_64, il_68, il_72, il_75, il_76, il_82, il_88, il_89, il_90, il_92, il_96, il_97, il_99, il_100, il_101, il_102, il_103, il_104, il_105, il_107, il_108, il_109, il_110, il_111, il_112, il_114, il_115, il_116, il_117, il_118, il_119, il_121, il_122, il_130, il_200, il_255, il_256, il_260, il_276, il_400, il_403, il_420, il_840, il_999, il_1000, il_2000, il_2001, il_2668, il_2760, il_9999, il_12345, il_1000000, il_1103515245, ↓im_1, ↓im_2, ↓im_8, ↓im_1000, nI_add, pk_mul, pk_sub, ↓pk_rem, pk_div, nm_add, nI_clamp, nI_ltI, nI_leI, nI_eq, nm_eq, mn_eq, mm_eq, nm_lt, mn_lt, nm_le, mn_le, nl_T, nl_F, nle_T, nle_F, ne_T, ne_F, b2i_0, b2i_1, b2i_n, nb_0, nb_1, or_false, false_or, or_true, true_or, and_true, true_and, and_false, false_and, or_self, and_self, not_true_eq_false, not_false_eq_true, ↓reduceIte, if_true, if_false, ↓jv_bs, ↓jv_ol, ↓jv_or, jv_tl, jv_tn, jo_T, ck_2_166_17, ck_6_43_16, ck_6_43_17, ck_6_73_16, ck_7_65_17, ck_30_10_19, su_F, e24_0, e24_1, e24_4, e24_5, e24_6, e24_7, e24_8, e24_11, e24_14, e24_15, e24_18, e24_21, e24_22, e24_23, e24_26, e24_29, e24_30, e24_31, e24_34, e24_37, e24_38, e24_39, e24_42, e24_45, e24_46, e24_47, e24_48, e24_51, e24_52, e24_53, e24_56, ↓tgb_6 hp, ↓trb_6 hp, ↓tub_6 hp, wa_6, ↓tgb_13 hp, wi_13, ↓tgb_15 hp, wi_15, ↓tpb_15 hp, ↓tgb_16 hp, wi_16, ↓tpb_16 hp, ↓tw_rcb hp, n24, hf, h15, h16, h6]
        · rw [if_neg (fun h => by omega)]
          rw [h4] at h16
          simp (disch := omega) only [il_0, il_1, il_2, il_3, il_4, il_5, il_6, il_7, il_8, il_9, il_10, il_11, il_12, il_13, il_14, il_15, il_16, il_17, il_18, il_19, il_20, il_21, il_22, il_23, il_24, il_25, il_26, il_27, il_28, il_29, il_30, il_31, il_32, il_40, il_41, il_42, il_43, il_44, il_45, il_46, il_47, il_48, il_52, il_56, il_57, il_59, il_60, il_61, il_63, il_64, il_68, il_72, il_75, il_76, il_82, il_88, il_89, il_90, il_92, il_96, il_97, il_99, il_100, il_101, il_102, il_103, il_104, il_105, il_107, il_108, il_109, il_110, il_111, il_112, il_114, il_115, il_116, il_117, il_118, il_119, il_121, il_122, il_130, il_200, il_255, il_256, il_260, il_276, il_400, il_403, il_420, il_840, il_999, il_1000, il_2000, il_2001, il_2668, il_2760, il_9999, il_12345, il_1000000, il_1103515245, ↓im_1, ↓im_2, ↓im_8, ↓im_1000, nI_add, pk_mul, pk_sub, ↓pk_rem, pk_div, nm_add, nI_clamp, nI_ltI, nI_leI, nI_eq, nm_eq, mn_eq, mm_eq, nm_lt, mn_lt, nm_le, mn_le, nl_T, nl_F, nle_T, nle_F, ne_T, ne_F, b2i_0, b2i_1, b2i_n, nb_0, nb_1, or_false, false_or, or_true, true_or, and_true, true_and, and_false, false_and, or_self, and_self, not_true_eq_false, not_false_eq_true, ↓reduceIte, if_true, if_false, ↓jv_bs, ↓jv_ol, ↓jv_or, jv_tl, jv_tn, jo_T, ck_2_166_17, ck_6_43_16, ck_6_43_17, ck_6_73_16, ck_7_65_17, ck_30_10_19, su_F, e24_0, e24_1, e24_4, e24_5, e24_6, e24_7, e24_8, e24_11, e24_14, e24_15, e24_18, e24_21, e24_22, e24_23, e24_26, e24_29, e24_30, e24_31, e24_34, e24_37, e24_38, e24_39, e24_42, e24_45, e24_46, e24_47, e24_48, e24_51, e24_52, e24_53, e24_56, ↓tgb_6 hp, ↓trb_6 hp, ↓tub_6 hp, wa_6, ↓tgb_13 hp, wi_13, ↓tgb_15 hp, wi_15, ↓tpb_15 hp, ↓tgb_16 hp, wi_16, ↓tpb_16 hp, ↓tw_rcb hp, n24, hf, h15, h16, h6, tw_i1, tw_i2, Nat.reduceEqDiff]
      · have h4 : ¬ F w.2 = F tok := fun h => h3 (heq.mp h)
        rw [if_neg (fun h => by omega)]
        simp (disch := omega) only [il_0, il_1, il_2, il_3, il_4, il_5, il_6, il_7, il_8, il_9, il_10, il_11, il_12, il_13, il_14, il_15, il_16, il_17, il_18, il_19, il_20, il_21, il_22, il_23, il_24, il_25, il_26, il_27, il_28, il_29, il_30, il_31, il_32, il_40, il_41, il_42, il_43, il_44, il_45, il_46, il_47, il_48, il_52, il_56, il_57, il_59, il_60, il_61, il_63, il_64, il_68, il_72, il_75, il_76, il_82, il_88, il_89, il_90, il_92, il_96, il_97, il_99, il_100, il_101, il_102, il_103, il_104, il_105, il_107, il_108, il_109, il_110, il_111, il_112, il_114, il_115, il_116, il_117, il_118, il_119, il_121, il_122, il_130, il_200, il_255, il_256, il_260, il_276, il_400, il_403, il_420, il_840, il_999, il_1000, il_2000, il_2001, il_2668, il_2760, il_9999, il_12345, il_1000000, il_1103515245, ↓im_1, ↓im_2, ↓im_8, ↓im_1000, nI_add, pk_mul, pk_sub, ↓pk_rem, pk_div, nm_add, nI_clamp, nI_ltI, nI_leI, nI_eq, nm_eq, mn_eq, mm_eq, nm_lt, mn_lt, nm_le, mn_le, nl_T, nl_F, nle_T, nle_F, ne_T, ne_F, b2i_0, b2i_1, b2i_n, nb_0, nb_1, or_false, false_or, or_true, true_or, and_true, true_and, and_false, false_and, or_self, and_self, not_true_eq_false, not_false_eq_true, ↓reduceIte, if_true, if_false, ↓jv_bs, ↓jv_ol, ↓jv_or, jv_tl, jv_tn, jo_T, ck_2_166_17, ck_6_43_16, ck_6_43_17, ck_6_73_16, ck_7_65_17, ck_30_10_19, su_F, e24_0, e24_1, e24_4, e24_5, e24_6, e24_7, e24_8, e24_11, e24_14, e24_15, e24_18, e24_21, e24_22, e24_23, e24_26, e24_29, e24_30, e24_31, e24_34, e24_37, e24_38, e24_39, e24_42, e24_45, e24_46, e24_47, e24_48, e24_51, e24_52, e24_53, e24_56, ↓tgb_6 hp, ↓trb_6 hp, ↓tub_6 hp, wa_6, ↓tgb_13 hp, wi_13, ↓tgb_15 hp, wi_15, ↓tpb_15 hp, ↓tgb_16 hp, wi_16, ↓tpb_16 hp, ↓tw_rcb hp, n24, hf, h15, h16, h6, tw_i1, tw_i2, Nat.reduceEqDiff]
theorem m_wrongF (hp : p.length = 589) {tok e : Nat} {x : Int32} (hf : s.1 13 = nI e) (he : 1 ≤ e ∧ e ≤ 9) (htk : tok ≤ 400) : jv_cd (d + 1) 24 [.ref 589, .int x, .int (nI tok)] (tw_h p s q) = some (.inl none, tw_h p s q) := by
  simp (disch := omega) only [il_0, il_1, il_2, il_3, il_4, il_5, il_6, il_7, il_8, il_9, il_10, il_11, il_12, il_13, il_14, il_15, il_16, il_17, il_18, il_19, il_20, il_21, il_22, il_23, il_24, il_25, il_26, il_27, il_28, il_29, il_30, il_31, il_32, il_40, il_41, il_42, il_43, il_44, il_45, il_46, il_47, il_48, il_52, il_56, il_57, il_59, il_60, il_61, il_63, il_64, il_68, il_72, il_75, il_76, il_82, il_88, il_89, il_90, il_92, il_96, il_97, il_99, il_100, il_101, il_102, il_103, il_104, il_105, il_107, il_108, il_109, il_110, il_111, il_112, il_114, il_115, il_116, il_117, il_118, il_119, il_121, il_122, il_130, il_200, il_255, il_256, il_260, il_276, il_400, il_403, il_420, il_840, il_999, il_1000, il_2000, il_2001, il_2668, il_2760, il_9999, il_12345, il_1000000, il_1103515245, ↓im_1, ↓im_2, ↓im_8, ↓im_1000, nI_add, pk_mul, pk_sub, ↓pk_rem, pk_div, nm_add, nI_clamp, nI_ltI, nI_leI, nI_eq, nm_eq, mn_eq, mm_eq, nm_lt, mn_lt, nm_le, mn_le, nl_T, nl_F, nle_T, nle_F, ne_T, ne_F, b2i_0, b2i_1, b2i_n, nb_0, nb_1, or_false, false_or, or_true, true_or, and_true, true_and, and_false, false_and, or_self, and_self, not_true_eq_false, not_false_eq_true, ↓reduceIte, if_true, if_false, ↓jv_bs, ↓jv_ol, ↓jv_or, jv_tl, jv_tn, jo_T, ck_2_166_17, ck_6_43_16, ck_6_43_17, ck_6_73_16, ck_7_65_17, ck_30_10_19, su_F, e24_0, e24_1, e24_4, e24_5, e24_6, e24_7, e24_8, e24_11, e24_14, e24_15, e24_18, e24_21, e24_22, e24_23, e24_26, e24_29, e24_30, e24_31, e24_34, e24_37, e24_38, e24_39, e24_42, e24_45, e24_46, e24_47, e24_48, e24_51, e24_52, e24_53, e24_56, ↓tgb_6 hp, ↓trb_6 hp, ↓tub_6 hp, wa_6, ↓tgb_13 hp, wi_13, ↓tgb_15 hp, wi_15, ↓tpb_15 hp, ↓tgb_16 hp, wi_16, ↓tpb_16 hp, ↓tw_rcb hp, n24, hf]
theorem m_wrongF_b (hp : p.length = 589) {tok e : Nat} {x : Int32} (hf : s.1 13 = nI e) (he : 1 ≤ e ∧ e ≤ 9) (htk : tok ≤ 400) {F : jv_R → Option jv_R} : (jv_cd (d + 1) 24 [.ref 589, .int x, .int (nI tok)] (tw_h p s q)).bind F = F (.inl none, tw_h p s q) := jb (m_wrongF hp hf he htk)
theorem RC_le {t u : Nat} (h : RC K t) (hu : u ≤ t) : RC K u := ⟨by have := h.1; omega, fun k hk => h.2 k (by omega)⟩
theorem EN_lt (hE : EN K V F N L R) {t a b : Nat} (ht : RC K t) (ha : a ≤ t) (hb : b ≤ t) : (F a < F b ↔ a < b) ∧ (F a = F b ↔ a = b) := by
  have key := hE.2.1
  rcases Nat.lt_trichotomy a b with h | h | h
  · have := key a b h (RC_le ht hb)
    omega
  · subst h; omega
  · have := key b a h (RC_le ht ha)
    omega
theorem z_wr (hp : p.length = 589) (hE : EN K V F N L R) (hz : ZQ s K F z) (hte : TE s K V F N) {n tok : Nat} (hn : 1 ≤ n ∧ n ≤ 9) (h4 : tok ≤ 400) (htk : ∀ x, z = .inr x → tok ≤ x.1) : ∃ s', FZ s s' ∧ ZQ s' K F (zwr n tok z) ∧ jv_cd (d + 1) 24 [.ref 589, .int (nI n), .int (nI tok)] (tw_h p s q) = some (.inl none, tw_h p s' q) := by
  cases z with
  | inl e =>
    obtain ⟨h1, h2, h3, t, ht, h4'⟩ := id hz
    exact ⟨s, FZ_id, hz, m_wrongF hp h1 h2 h4⟩
  | inr x =>
    obtain ⟨h1, h2, h3, h4', h5, h6, h7⟩ := id hz
    have htk := htk x rfl
    have hr := RC_le h4' htk
    by_cases h0 : x.2.1 = 0
    · have g := w_wrongT (d := d) (q := q) (w := (0, tok)) (n := n) hp h1 (by rw [h5, h0]) (by omega) (fun h => absurd rfl h) (hte tok hr).2.1 h4 hE.2.2.1 (by simp) (by simp) hn.2
      refine ⟨_, FZ_tr (FZ_i (j := 15) (by omega)) (FZ_i (j := 16) (by omega)), ?_, g⟩
      unfold zwr wt
      dsimp only
      rw [if_neg (fun h => h.1 h0)]
      exact ⟨h1, h2, h3, h4', rfl, hn.2, fun _ => ⟨rfl, htk⟩⟩
    · obtain ⟨h8, h9⟩ := h7 h0
      obtain ⟨k1, k2⟩ := EN_lt hE h4' h9 htk
      have g := w_wrongT (d := d) (q := q) (w := x.2) (n := n) hp h1 h5 h6 (fun _ => h8) (hte tok hr).2.1 h4 hE.2.2.1 k1 k2 hn.2
      refine ⟨_, ?_, ?_, g⟩
      · split
        · exact FZ_id
        · exact FZ_tr (FZ_i (j := 15) (by omega)) (FZ_i (j := 16) (by omega))
      · unfold zwr wt
        dsimp only
        split
        · exact hz
        · exact ⟨h1, h2, h3, h4', rfl, hn.2, fun _ => ⟨rfl, htk⟩⟩
theorem z_bd (hp : p.length = 589) (hE : EN K V F N L R) (hz : ZQ s K F z) (hte : TE s K V F N) {lo hi : Nat} (hlo : lo ≤ 9999) (hhi : hi ≤ 9999) : ∃ s', FZ s s' ∧ ZQ s' K F (zbd K V lo hi z) ∧ jv_cd (d + 3) 27 [.ref 589, .int (nI lo), .int (nI hi)] (tw_h p s q) = some (.inl (some (.int (nI (zbv K V lo z)))), tw_h p s' q) := by
  cases z with
  | inl e =>
    obtain ⟨h1, h2, h3, t, ht, h4⟩ := id hz
    have g := m_failF (d := d + 1) (q := q) (x := nI 1) hp h1 h2
    refine ⟨s, FZ_id, hz, ?_⟩
    simp (disch := omega) only [il_0, il_1, il_2, il_3, il_4, il_5, il_6, il_7, il_8, il_9, il_10, il_11, il_12, il_13, il_14, il_15, il_16, il_17, il_18, il_19, il_20, il_21, il_22, il_23, il_24, il_25, il_26, il_27, il_28, il_29, il_30, il_31, il_32, il_40, il_41, il_42, il_43, il_44, il_45, il_46, il_47, il_48, il_52, il_56, il_57, il_59, il_60, il_61, il_63, il_64, il_68, il_72, il_75, il_76, il_82, il_88, il_89, il_90, il_92, il_96, il_97, il_99, il_100, il_101, il_102, il_103, il_104, il_105, il_107, il_108, il_109, il_110, il_111, il_112, il_114, il_115, il_116, il_117, il_118, il_119, il_121, il_122, il_130, il_200, il_255, il_256, il_260, il_276, il_400, il_403, il_420, il_840, il_999, il_1000, il_2000, il_2001, il_2668, il_2760, il_9999, il_12345, il_1000000, il_1103515245, ↓im_1, ↓im_2, ↓im_8, ↓im_1000, nI_add, pk_mul, pk_sub, ↓pk_rem, pk_div, nm_add, nI_clamp, nI_ltI, nI_leI, nI_eq, nm_eq, mn_eq, mm_eq, nm_lt, mn_lt, nm_le, mn_le, nl_T, nl_F, nle_T, nle_F, ne_T, ne_F, b2i_0, b2i_1, b2i_n, nb_0, nb_1, or_false, false_or, or_true, true_or, and_true, true_and, and_false, false_and, or_self, and_self, not_true_eq_false, not_false_eq_true, ↓reduceIte, if_true, if_false, ↓jv_bs, ↓jv_ol, ↓jv_or, jv_tl, jv_tn, jo_T, ck_2_166_17, ck_6_43_16, ck_6_43_17, ck_6_73_16, ck_7_65_17, ck_30_10_19, su_F, e27_0, e27_1, e27_4, e27_7, e27_8, e27_9, e27_12, e27_15, e27_16, e27_17, e27_20, e27_21, e27_22, e27_23, e27_26, e27_27, e27_30, e27_31, e27_32, e27_33, e27_34, e27_37, e27_38, e27_39, e27_42, e27_43, e27_44, e27_45, e27_48, e27_51, e27_52, e27_55, e27_56, ↓tgb_7 hp, ↓trb_7 hp, ↓tub_7 hp, wa_7, ↓tgb_11 hp, wi_11, ↓tgb_13 hp, wi_13, ↓tw_rcb hp, n27, h1, ↓jbR g, zbv]
  | inr x =>
    obtain ⟨h1, h2, h3, h4, h5, h6, h7⟩ := id hz
    obtain ⟨k1, k2, k3, k4⟩ := hte x.1 h4
    have hx4 := h4.1
    have g1 := m_isT (d := d + 1) (q := q) (k := 2) hp h1 h2 h4.1 k1 k3 (by decide)
    by_cases h : K x.1 = 2
    · rw [decide_eq_true h, b2i_t] at g1
      have k4 := (k4 (by omega)).1
      have hV := hE.2.2.2.1 _ h
      have e1 : zbv K V lo (.inr x) = V x.1 := if_pos h
      have e2 : zbd K V lo hi (.inr x) = zgo (.inr (x.1, if V x.1 < lo ∨ hi < V x.1 then wt x.2 5 x.1 else x.2)) := if_pos h
      rw [e1, e2]
      by_cases hb : V x.1 < lo ∨ hi < V x.1
      · rw [if_pos hb]
        obtain ⟨s1, f1, z1, r1⟩ := z_wr (d := d + 1) (q := q) (n := 5) (tok := x.1) hp hE hz hte (by decide) hx4 (fun y hy => by obtain rfl := Sum.inr.inj hy; exact Nat.le_refl _)
        obtain ⟨s2, f2, z2, r2⟩ := z_go (d := d) (q := q) hp z1 (TE_FZ hte f1) (fun y hy => by obtain rfl := Sum.inr.inj hy; dsimp only; omega)
        refine ⟨s2, FZ_tr f1 f2, z2, ?_⟩
        rcases hb with hb | hb
        · simp (disch := omega) only [il_0, il_1, il_2, il_3, il_4, il_5, il_6, il_7, il_8, il_9, il_10, il_11, il_12, il_13, il_14, il_15, il_16, il_17, il_18, il_19, il_20, il_21, il_22, il_23, il_24, il_25, il_26, il_27, il_28, il_29, il_30, il_31, il_32, il_40, il_41, il_42, il_43, il_44, il_45, il_46, il_47, il_48, il_52, il_56, il_57, il_59, il_60, il_61, il_63, il_64, il_68, il_72, il_75, il_76, il_82, il_88, il_89, il_90, il_92, il_96, il_97, il_99, il_100, il_101, il_102, il_103, il_104, il_105, il_107, il_108, il_109, il_110, il_111, il_112, il_114, il_115, il_116, il_117, il_118, il_119, il_121, il_122, il_130, il_200, il_255, il_256, il_260, il_276, il_400, il_403, il_420, il_840, il_999, il_1000, il_2000, il_2001, il_2668, il_2760, il_9999, il_12345, il_1000000, il_1103515245, ↓im_1, ↓im_2, ↓im_8, ↓im_1000, nI_add, pk_mul, pk_sub, ↓pk_rem, pk_div, nm_add, nI_clamp, nI_ltI, nI_leI, nI_eq, nm_eq, mn_eq, mm_eq, nm_lt, mn_lt, nm_le, mn_le, nl_T, nl_F, nle_T, nle_F, ne_T, ne_F, b2i_0, b2i_1, b2i_n, nb_0, nb_1, or_false, false_or, or_true, true_or, and_true, true_and, and_false, false_and, or_self, and_self, not_true_eq_false, not_false_eq_true, ↓reduceIte, if_true, if_false, ↓jv_bs, ↓jv_ol, ↓jv_or, jv_tl, jv_tn, jo_T, ck_2_166_17, ck_6_43_16, ck_6_43_17, ck_6_73_16, ck_7_65_17, ck_30_10_19, su_F, e27_0, e27_1, e27_4, e27_7, e27_8, e27_9, e27_12, e27_15, e27_16, e27_17, e27_20, e27_21, e27_22, e27_23, e27_26, e27_27, e27_30, e27_31, e27_32, e27_33, e27_34, e27_37, e27_38, e27_39, e27_42, e27_43, e27_44, e27_45, e27_48, e27_51, e27_52, e27_55, e27_56, ↓tgb_7 hp, ↓trb_7 hp, ↓tub_7 hp, wa_7, ↓tgb_11 hp, wi_11, ↓tgb_13 hp, wi_13, ↓tw_rcb hp, n27, h1, h2, k4, ↓jbR g1, ↓jbR r1, ↓jbR r2]
        · by_cases hb' : V x.1 < lo
          · simp (disch := omega) only [il_0, il_1, il_2, il_3, il_4, il_5, il_6, il_7, il_8, il_9, il_10, il_11, il_12, il_13, il_14, il_15, il_16, il_17, il_18, il_19, il_20, il_21, il_22, il_23, il_24, il_25, il_26, il_27, il_28, il_29, il_30, il_31, il_32, il_40, il_41, il_42, il_43, il_44, il_45, il_46, il_47, il_48, il_52, il_56, il_57, il_59, il_60, il_61, il_63, il_64, il_68, il_72, il_75, il_76, il_82, il_88, il_89, il_90, il_92, il_96, il_97, il_99, il_100, il_101, il_102, il_103, il_104, il_105, il_107, il_108, il_109, il_110, il_111, il_112, il_114, il_115, il_116, il_117, il_118, il_119, il_121, il_122, il_130, il_200, il_255, il_256, il_260, il_276, il_400, il_403, il_420, il_840, il_999, il_1000, il_2000, il_2001, il_2668, il_2760, il_9999, il_12345, il_1000000, il_1103515245, ↓im_1, ↓im_2, ↓im_8, ↓im_1000, nI_add, pk_mul, pk_sub, ↓pk_rem, pk_div, nm_add, nI_clamp, nI_ltI, nI_leI, nI_eq, nm_eq, mn_eq, mm_eq, nm_lt, mn_lt, nm_le, mn_le, nl_T, nl_F, nle_T, nle_F, ne_T, ne_F, b2i_0, b2i_1, b2i_n, nb_0, nb_1, or_false, false_or, or_true, true_or, and_true, true_and, and_false, false_and, or_self, and_self, not_true_eq_false, not_false_eq_true, ↓reduceIte, if_true, if_false, ↓jv_bs, ↓jv_ol, ↓jv_or, jv_tl, jv_tn, jo_T, ck_2_166_17, ck_6_43_16, ck_6_43_17, ck_6_73_16, ck_7_65_17, ck_30_10_19, su_F, e27_0, e27_1, e27_4, e27_7, e27_8, e27_9, e27_12, e27_15, e27_16, e27_17, e27_20, e27_21, e27_22, e27_23, e27_26, e27_27, e27_30, e27_31, e27_32, e27_33, e27_34, e27_37, e27_38, e27_39, e27_42, e27_43, e27_44, e27_45, e27_48, e27_51, e27_52, e27_55, e27_56, ↓tgb_7 hp, ↓trb_7 hp, ↓tub_7 hp, wa_7, ↓tgb_11 hp, wi_11, ↓tgb_13 hp, wi_13, ↓tw_rcb hp, n27, h1, h2, k4, ↓jbR g1, ↓jbR r1, ↓jbR r2]
          · simp (disch := omega) only [il_0, il_1, il_2, il_3, il_4, il_5, il_6, il_7, il_8, il_9, il_10, il_11, il_12, il_13, il_14, il_15, il_16, il_17, il_18, il_19, il_20, il_21, il_22, il_23, il_24, il_25, il_26, il_27, il_28, il_29, il_30, il_31, il_32, il_40, il_41, il_42, il_43, il_44, il_45, il_46, il_47, il_48, il_52, il_56, il_57, il_59, il_60, il_61, il_63, il_64, il_68, il_72, il_75, il_76, il_82, il_88, il_89, il_90, il_92, il_96, il_97, il_99, il_100, il_101, il_102, il_103, il_104, il_105, il_107, il_108, il_109, il_110, il_111, il_112, il_114, il_115, il_116, il_117, il_118, il_119, il_121, il_122, il_130, il_200, il_255, il_256, il_260, il_276, il_400, il_403, il_420, il_840, il_999, il_1000, il_2000, il_2001, il_2668, il_2760, il_9999, il_12345, il_1000000, il_1103515245, ↓im_1, ↓im_2, ↓im_8, ↓im_1000, nI_add, pk_mul, pk_sub, ↓pk_rem, pk_div, nm_add, nI_clamp, nI_ltI, nI_leI, nI_eq, nm_eq, mn_eq, mm_eq, nm_lt, mn_lt, nm_le, mn_le, nl_T, nl_F, nle_T, nle_F, ne_T, ne_F, b2i_0, b2i_1, b2i_n, nb_0, nb_1, or_false, false_or, or_true, true_or, and_true, true_and, and_false, false_and, or_self, and_self, not_true_eq_false, not_false_eq_true, ↓reduceIte, if_true, if_false, ↓jv_bs, ↓jv_ol, ↓jv_or, jv_tl, jv_tn, jo_T, ck_2_166_17, ck_6_43_16, ck_6_43_17, ck_6_73_16, ck_7_65_17, ck_30_10_19, su_F, e27_0, e27_1, e27_4, e27_7, e27_8, e27_9, e27_12, e27_15, e27_16, e27_17, e27_20, e27_21, e27_22, e27_23, e27_26, e27_27, e27_30, e27_31, e27_32, e27_33, e27_34, e27_37, e27_38, e27_39, e27_42, e27_43, e27_44, e27_45, e27_48, e27_51, e27_52, e27_55, e27_56, ↓tgb_7 hp, ↓trb_7 hp, ↓tub_7 hp, wa_7, ↓tgb_11 hp, wi_11, ↓tgb_13 hp, wi_13, ↓tw_rcb hp, n27, h1, h2, k4, ↓jbR g1, ↓jbR r1, ↓jbR r2]
      · rw [if_neg hb]
        obtain ⟨s2, f2, z2, r2⟩ := z_go (d := d) (q := q) hp hz hte (fun y hy => by obtain rfl := Sum.inr.inj hy; omega)
        refine ⟨s2, f2, z2, ?_⟩
        have hb1 : ¬ V x.1 < lo := fun h => hb (Or.inl h)
        have hb2 : ¬ hi < V x.1 := fun h => hb (Or.inr h)
        simp (disch := omega) only [il_0, il_1, il_2, il_3, il_4, il_5, il_6, il_7, il_8, il_9, il_10, il_11, il_12, il_13, il_14, il_15, il_16, il_17, il_18, il_19, il_20, il_21, il_22, il_23, il_24, il_25, il_26, il_27, il_28, il_29, il_30, il_31, il_32, il_40, il_41, il_42, il_43, il_44, il_45, il_46, il_47, il_48, il_52, il_56, il_57, il_59, il_60, il_61, il_63, il_64, il_68, il_72, il_75, il_76, il_82, il_88, il_89, il_90, il_92, il_96, il_97, il_99, il_100, il_101, il_102, il_103, il_104, il_105, il_107, il_108, il_109, il_110, il_111, il_112, il_114, il_115, il_116, il_117, il_118, il_119, il_121, il_122, il_130, il_200, il_255, il_256, il_260, il_276, il_400, il_403, il_420, il_840, il_999, il_1000, il_2000, il_2001, il_2668, il_2760, il_9999, il_12345, il_1000000, il_1103515245, ↓im_1, ↓im_2, ↓im_8, ↓im_1000, nI_add, pk_mul, pk_sub, ↓pk_rem, pk_div, nm_add, nI_clamp, nI_ltI, nI_leI, nI_eq, nm_eq, mn_eq, mm_eq, nm_lt, mn_lt, nm_le, mn_le, nl_T, nl_F, nle_T, nle_F, ne_T, ne_F, b2i_0, b2i_1, b2i_n, nb_0, nb_1, or_false, false_or, or_true, true_or, and_true, true_and, and_false, false_and, or_self, and_self, not_true_eq_false, not_false_eq_true, ↓reduceIte, if_true, if_false, ↓jv_bs, ↓jv_ol, ↓jv_or, jv_tl, jv_tn, jo_T, ck_2_166_17, ck_6_43_16, ck_6_43_17, ck_6_73_16, ck_7_65_17, ck_30_10_19, su_F, e27_0, e27_1, e27_4, e27_7, e27_8, e27_9, e27_12, e27_15, e27_16, e27_17, e27_20, e27_21, e27_22, e27_23, e27_26, e27_27, e27_30, e27_31, e27_32, e27_33, e27_34, e27_37, e27_38, e27_39, e27_42, e27_43, e27_44, e27_45, e27_48, e27_51, e27_52, e27_55, e27_56, ↓tgb_7 hp, ↓trb_7 hp, ↓tub_7 hp, wa_7, ↓tgb_11 hp, wi_11, ↓tgb_13 hp, wi_13, ↓tw_rcb hp, n27, h1, h2, k4, ↓jbR g1, ↓jbR r2]
    · rw [decide_eq_false h, b2i_f] at g1
      have g := m_failT (d := d + 1) (q := q) (k := 1) hp h1 h2 h4.1
      have e1 : zbv K V lo (.inr x) = lo := if_neg h
      have e2 : zbd K V lo hi (.inr x) = .inl (1, x.1) := if_neg h
      rw [e1, e2]
      refine ⟨_, FZ_f, ZQ_fl hz hte (by decide), ?_⟩
      simp (disch := omega) only [il_0, il_1, il_2, il_3, il_4, il_5, il_6, il_7, il_8, il_9, il_10, il_11, il_12, il_13, il_14, il_15, il_16, il_17, il_18, il_19, il_20, il_21, il_22, il_23, il_24, il_25, il_26, il_27, il_28, il_29, il_30, il_31, il_32, il_40, il_41, il_42, il_43, il_44, il_45, il_46, il_47, il_48, il_52, il_56, il_57, il_59, il_60, il_61, il_63, il_64, il_68, il_72, il_75, il_76, il_82, il_88, il_89, il_90, il_92, il_96, il_97, il_99, il_100, il_101, il_102, il_103, il_104, il_105, il_107, il_108, il_109, il_110, il_111, il_112, il_114, il_115, il_116, il_117, il_118, il_119, il_121, il_122, il_130, il_200, il_255, il_256, il_260, il_276, il_400, il_403, il_420, il_840, il_999, il_1000, il_2000, il_2001, il_2668, il_2760, il_9999, il_12345, il_1000000, il_1103515245, ↓im_1, ↓im_2, ↓im_8, ↓im_1000, nI_add, pk_mul, pk_sub, ↓pk_rem, pk_div, nm_add, nI_clamp, nI_ltI, nI_leI, nI_eq, nm_eq, mn_eq, mm_eq, nm_lt, mn_lt, nm_le, mn_le, nl_T, nl_F, nle_T, nle_F, ne_T, ne_F, b2i_0, b2i_1, b2i_n, nb_0, nb_1, or_false, false_or, or_true, true_or, and_true, true_and, and_false, false_and, or_self, and_self, not_true_eq_false, not_false_eq_true, ↓reduceIte, if_true, if_false, ↓jv_bs, ↓jv_ol, ↓jv_or, jv_tl, jv_tn, jo_T, ck_2_166_17, ck_6_43_16, ck_6_43_17, ck_6_73_16, ck_7_65_17, ck_30_10_19, su_F, e27_0, e27_1, e27_4, e27_7, e27_8, e27_9, e27_12, e27_15, e27_16, e27_17, e27_20, e27_21, e27_22, e27_23, e27_26, e27_27, e27_30, e27_31, e27_32, e27_33, e27_34, e27_37, e27_38, e27_39, e27_42, e27_43, e27_44, e27_45, e27_48, e27_51, e27_52, e27_55, e27_56, ↓tgb_7 hp, ↓trb_7 hp, ↓tub_7 hp, wa_7, ↓tgb_11 hp, wi_11, ↓tgb_13 hp, wi_13, ↓tw_rcb hp, n27, h1, ↓jbR g1, ↓jbR g]
/-- names that stand -/
def NQ (s : tw_S) (nm : List Nat) : Prop := s.1 20 = nI nm.length ∧ nm.length ≤ 10 ∧ (∀ i, i < nm.length → s.2.2 21 i = nL (nm.getD i 0)) ∧ ∀ x ∈ nm, x < 2 ^ 60
theorem NQ_FZ {nm : List Nat} (h : NQ s nm) (hf : FZ s s') : NQ s' nm := by
  obtain ⟨h1, h2, h3, h4⟩ := h
  exact ⟨(hf.1 20 (by decide)).trans h1, h2, fun i hi => by rw [hf.2]; exact h3 i hi, h4⟩
def znm (K N : Nat → Nat) (nm : List Nat) (t : Nat) (w : Wt) : Zs := match zmu K 1 (.inr (t, w)) with
  | .inl e => .inl e
  | .inr x => .inr (x.1, if N t ∈ nm then wt w 3 t else w)
theorem zmu_r {k : Nat} {x y : Nat × Wt} (h : zmu K k (.inr x) = .inr y) : y = (x.1 + 1, x.2) ∧ K x.1 = k ∧ x.1 ≠ 400 := by
  unfold zmu zgo at h
  dsimp only at h
  split at h
  · split at h
    · cases h
    · exact ⟨(Sum.inr.inj h).symm, by assumption, by assumption⟩
  · cases h
theorem z_nm (hp : p.length = 589) (hE : EN K V F N L R) {t : Nat} {w : Wt} (hz : ZQ s K F (.inr (t, w))) (hte : TE s K V F N) {nm : List Nat} (hn : NQ s nm) : ∃ s', FZ s s' ∧ ZQ s' K F (znm K N nm t w) ∧ jv_cd (d + 4) 26 [.ref 589] (tw_h p s q) = some (.inl (some (.int (nI t))), tw_h p s' q) := by
  obtain ⟨s1, f1, z1, r1⟩ := z_mu (d := d) (q := q) (k := 1) hp hz hte (by decide)
  obtain ⟨h1, h2, h3, h4, h5, h6, h7⟩ := id hz
  have ht4 := h4.1
  obtain ⟨m1, m2, m3, m4⟩ := NQ_FZ hn f1
  have st : jv_cd (d + 4) 26 [.ref 589] (tw_h p s q) = jv_ev (d + 3) 26 12 [some (.ref 589), some (.int (nI t)), some (.int (nI 0))] [] (tw_h p s1 q) := by
    simp (disch := omega) only [il_0, il_1, il_2, il_3, il_4, il_5, il_6, il_7, il_8, il_9, il_10, il_11, il_12, il_13, il_14, il_15, il_16, il_17, il_18, il_19, il_20, il_21, il_22, il_23, il_24, il_25, il_26, il_27, il_28, il_29, il_30, il_31, il_32, il_40, il_41, il_42, il_43, il_44, il_45, il_46, il_47, il_48, il_52, il_56, il_57, il_59, il_60, il_61, il_63, il_64, il_68, il_72, il_75, il_76, il_82, il_88, il_89, il_90, il_92, il_96, il_97, il_99, il_100, il_101, il_102, il_103, il_104, il_105, il_107, il_108, il_109, il_110, il_111, il_112, il_114, il_115, il_116, il_117, il_118, il_119, il_121, il_122, il_130, il_200, il_255, il_256, il_260, il_276, il_400, il_403, il_420, il_840, il_999, il_1000, il_2000, il_2001, il_2668, il_2760, il_9999, il_12345, il_1000000, il_1103515245, ↓im_1, ↓im_2, ↓im_8, ↓im_1000, nI_add, pk_mul, pk_sub, ↓pk_rem, pk_div, nm_add, nI_clamp, nI_ltI, nI_leI, nI_eq, nm_eq, mn_eq, mm_eq, nm_lt, mn_lt, nm_le, mn_le, nl_T, nl_F, nle_T, nle_F, ne_T, ne_F, b2i_0, b2i_1, b2i_n, nb_0, nb_1, or_false, false_or, or_true, true_or, and_true, true_and, and_false, false_and, or_self, and_self, not_true_eq_false, not_false_eq_true, ↓reduceIte, if_true, if_false, ↓jv_bs, ↓jv_ol, ↓jv_or, jv_tl, jv_tn, jo_T, ck_2_166_17, ck_6_43_16, ck_6_43_17, ck_6_73_16, ck_7_65_17, ck_30_10_19, su_F, e26_0, e26_1, e26_4, e26_5, e26_6, e26_7, e26_10, e26_11, ↓tgb_8 hp, ↓trb_8 hp, ↓tub_8 hp, wl_8, ↓tgb_11 hp, wi_11, ↓tgb_13 hp, wi_13, ↓tgb_20 hp, wi_20, ↓tgb_21 hp, ↓trb_21 hp, ↓tub_21 hp, wl_21, ↓tw_rcb hp, n26, h2, ↓jbR r1]
  rw [st]
  unfold znm
  generalize hzz : zmu K 1 (.inr (t, w)) = zz at z1 ⊢
  cases zz with
  | inl e =>
    obtain ⟨k1, k2, _⟩ := id z1
    refine ⟨s1, f1, z1, ?_⟩
    have k0 := fe_0 k1 k2
    by_cases h : nm.length = 0
    · rw [h] at m1
      simp (disch := omega) only [il_0, il_1, il_2, il_3, il_4, il_5, il_6, il_7, il_8, il_9, il_10, il_11, il_12, il_13, il_14, il_15, il_16, il_17, il_18, il_19, il_20, il_21, il_22, il_23, il_24, il_25, il_26, il_27, il_28, il_29, il_30, il_31, il_32, il_40, il_41, il_42, il_43, il_44, il_45, il_46, il_47, il_48, il_52, il_56, il_57, il_59, il_60, il_61, il_63, il_64, il_68, il_72, il_75, il_76, il_82, il_88, il_89, il_90, il_92, il_96, il_97, il_99, il_100, il_101, il_102, il_103, il_104, il_105, il_107, il_108, il_109, il_110, il_111, il_112, il_114, il_115, il_116, il_117, il_118, il_119, il_121, il_122, il_130, il_200, il_255, il_256, il_260, il_276, il_400, il_403, il_420, il_840, il_999, il_1000, il_2000, il_2001, il_2668, il_2760, il_9999, il_12345, il_1000000, il_1103515245, ↓im_1, ↓im_2, ↓im_8, ↓im_1000, nI_add, pk_mul, pk_sub, ↓pk_rem, pk_div, nm_add, nI_clamp, nI_ltI, nI_leI, nI_eq, nm_eq, mn_eq, mm_eq, nm_lt, mn_lt, nm_le, mn_le, nl_T, nl_F, nle_T, nle_F, ne_T, ne_F, b2i_0, b2i_1, b2i_n, nb_0, nb_1, or_false, false_or, or_true, true_or, and_true, true_and, and_false, false_and, or_self, and_self, not_true_eq_false, not_false_eq_true, ↓reduceIte, if_true, if_false, ↓jv_bs, ↓jv_ol, ↓jv_or, jv_tl, jv_tn, jo_T, ck_2_166_17, ck_6_43_16, ck_6_43_17, ck_6_73_16, ck_7_65_17, ck_30_10_19, su_F, e26_12, e26_13, e26_14, e26_17, e26_20, e26_21, e26_24, e26_27, e26_28, e26_31, e26_32, e26_33, e26_34, e26_37, e26_38, e26_39, e26_40, e26_43, e26_44, e26_45, e26_46, e26_49, e26_52, e26_55, e26_56, ↓tgb_8 hp, ↓trb_8 hp, ↓tub_8 hp, wl_8, ↓tgb_11 hp, wi_11, ↓tgb_13 hp, wi_13, ↓tgb_20 hp, wi_20, ↓tgb_21 hp, ↓trb_21 hp, ↓tub_21 hp, wl_21, ↓tw_rcb hp, m1]
    · simp (disch := omega) only [il_0, il_1, il_2, il_3, il_4, il_5, il_6, il_7, il_8, il_9, il_10, il_11, il_12, il_13, il_14, il_15, il_16, il_17, il_18, il_19, il_20, il_21, il_22, il_23, il_24, il_25, il_26, il_27, il_28, il_29, il_30, il_31, il_32, il_40, il_41, il_42, il_43, il_44, il_45, il_46, il_47, il_48, il_52, il_56, il_57, il_59, il_60, il_61, il_63, il_64, il_68, il_72, il_75, il_76, il_82, il_88, il_89, il_90, il_92, il_96, il_97, il_99, il_100, il_101, il_102, il_103, il_104, il_105, il_107, il_108, il_109, il_110, il_111, il_112, il_114, il_115, il_116, il_117, il_118, il_119, il_121, il_122, il_130, il_200, il_255, il_256, il_260, il_276, il_400, il_403, il_420, il_840, il_999, il_1000, il_2000, il_2001, il_2668, il_2760, il_9999, il_12345, il_1000000, il_1103515245, ↓im_1, ↓im_2, ↓im_8, ↓im_1000, nI_add, pk_mul, pk_sub, ↓pk_rem, pk_div, nm_add, nI_clamp, nI_ltI, nI_leI, nI_eq, nm_eq, mn_eq, mm_eq, nm_lt, mn_lt, nm_le, mn_le, nl_T, nl_F, nle_T, nle_F, ne_T, ne_F, b2i_0, b2i_1, b2i_n, nb_0, nb_1, or_false, false_or, or_true, true_or, and_true, true_and, and_false, false_and, or_self, and_self, not_true_eq_false, not_false_eq_true, ↓reduceIte, if_true, if_false, ↓jv_bs, ↓jv_ol, ↓jv_or, jv_tl, jv_tn, jo_T, ck_2_166_17, ck_6_43_16, ck_6_43_17, ck_6_73_16, ck_7_65_17, ck_30_10_19, su_F, e26_12, e26_13, e26_14, e26_17, e26_20, e26_21, e26_24, e26_27, e26_28, e26_31, e26_32, e26_33, e26_34, e26_37, e26_38, e26_39, e26_40, e26_43, e26_44, e26_45, e26_46, e26_49, e26_52, e26_55, e26_56, ↓tgb_8 hp, ↓trb_8 hp, ↓tub_8 hp, wl_8, ↓tgb_11 hp, wi_11, ↓tgb_13 hp, wi_13, ↓tgb_20 hp, wi_20, ↓tgb_21 hp, ↓trb_21 hp, ↓tub_21 hp, wl_21, ↓tw_rcb hp, m1, k0]
  | inr y =>
    obtain ⟨rfl, hk1, hne⟩ := zmu_r hzz
    have hte1 := TE_FZ hte f1
    have h8 := ((hte1 t h4).2.2.2 (by dsimp only at hk1; omega)).2
    dsimp only
    obtain ⟨⟨s3, w3⟩, ⟨f3, z3, e3⟩, g3⟩ := jl_inv (N := nm.length) (F := fun k (x : tw_S × Wt) => jv_ev (d + 3) 26 12 [some (.ref 589), some (.int (nI t)), some (.int (nI k))] [] (tw_h p x.1 q)) (fun k x => FZ s1 x.1 ∧ ZQ x.1 K F (.inr (t + 1, x.2)) ∧ x.2 = if N t ∈ nm.take k then wt w 3 t else w) (fun k hk x hI => by
      obtain ⟨s3, w3⟩ := x
      obtain ⟨i1, i2, i3⟩ := hI
      dsimp only at i1 i2 i3
      obtain ⟨n1, n2, n3, n4⟩ := NQ_FZ (NQ_FZ hn f1) i1
      have n3 := n3 k hk
      have h8' : s3.2.2 8 t = nL (N t) := by rw [i1.2]; exact h8
      obtain ⟨j1, j2, _⟩ := id i2
      have hmem : nm.getD k 0 ∈ nm := by
        rw [List.getD_eq_getElem?_getD, List.getElem?_eq_getElem hk]
        exact List.getElem_mem hk
      have htake : nm.take (k + 1) = nm.take k ++ [nm.getD k 0] := by
        rw [List.take_add_one, List.getD_eq_getElem?_getD, List.getElem?_eq_getElem hk]
        rfl
      by_cases hc : nm.getD k 0 = N t
      · obtain ⟨s4, f4, z4, r4⟩ := z_wr (d := d + 2) (q := q) (n := 3) (tok := t) hp hE i2 (TE_FZ hte1 i1) (by decide) ht4 (fun y hy => by obtain rfl := Sum.inr.inj hy; dsimp only; omega)
        refine ⟨(s4, wt w3 3 t), ⟨FZ_tr i1 f4, z4, ?_⟩, ?_⟩
        · dsimp only
          rw [htake, if_pos (by rw [hc]; simp), i3]
          split
          · exact wt_i
          · rfl
        · have hlc : lg_cmp (nL (nm.getD k 0)) (nL (N t)) = nI 0 := lgc_0.mpr (by rw [hc])
          dsimp only
          rw [e26_12]
          simp (disch := omega) only [il_0, il_1, il_2, il_3, il_4, il_5, il_6, il_7, il_8, il_9, il_10, il_11, il_12, il_13, il_14, il_15, il_16, il_17, il_18, il_19, il_20, il_21, il_22, il_23, il_24, il_25, il_26, il_27, il_28, il_29, il_30, il_31, il_32, il_40, il_41, il_42, il_43, il_44, il_45, il_46, il_47, il_48, il_52, il_56, il_57, il_59, il_60, il_61, il_63, il_64, il_68, il_72, il_75, il_76, il_82, il_88, il_89, il_90, il_92, il_96, il_97, il_99, il_100, il_101, il_102, il_103, il_104, il_105, il_107, il_108, il_109, il_110, il_111, il_112, il_114, il_115, il_116, il_117, il_118, il_119, il_121, il_122, il_130, il_200, il_255, il_256, il_260, il_276, il_400, il_403, il_420, il_840, il_999, il_1000, il_2000, il_2001, il_2668, il_2760, il_9999, il_12345, il_1000000, il_1103515245, ↓im_1, ↓im_2, ↓im_8, ↓im_1000, nI_add, pk_mul, pk_sub, ↓pk_rem, pk_div, nm_add, nI_clamp, nI_ltI, nI_leI, nI_eq, nm_eq, mn_eq, mm_eq, nm_lt, mn_lt, nm_le, mn_le, nl_T, nl_F, nle_T, nle_F, ne_T, ne_F, b2i_0, b2i_1, b2i_n, nb_0, nb_1, or_false, false_or, or_true, true_or, and_true, true_and, and_false, false_and, or_self, and_self, not_true_eq_false, not_false_eq_true, ↓reduceIte, if_true, if_false, ↓jv_bs, ↓jv_ol, ↓jv_or, jv_tl, jv_tn, jo_T, ck_2_166_17, ck_6_43_16, ck_6_43_17, ck_6_73_16, ck_7_65_17, ck_30_10_19, su_F, e26_13, e26_14, e26_17, e26_20, e26_21, e26_24, e26_27, e26_28, e26_31, e26_32, e26_33, e26_34, e26_37, e26_38, e26_39, e26_40, e26_43, e26_44, e26_45, e26_46, e26_49, e26_52, ↓tgb_8 hp, ↓trb_8 hp, ↓tub_8 hp, wl_8, ↓tgb_11 hp, wi_11, ↓tgb_13 hp, wi_13, ↓tgb_20 hp, wi_20, ↓tgb_21 hp, ↓trb_21 hp, ↓tub_21 hp, wl_21, ↓tw_rcb hp, n1, j1, n3, h8', hlc, ↓jbR r4]
      · have hlc : ¬ lg_cmp (nL (nm.getD k 0)) (nL (N t)) = nI 0 := fun h => hc ((nL_inj (n4 _ hmem) (hE.2.2.2.2.1 t)).mp (lgc_0.mp h))
        refine ⟨(s3, w3), ⟨i1, i2, ?_⟩, ?_⟩
        · dsimp only
          rw [i3, htake]
          have : (N t ∈ nm.take k ++ [nm.getD k 0]) ↔ N t ∈ nm.take k := by
            rw [List.mem_append, List.mem_singleton]
            exact ⟨fun h => h.resolve_right fun e => hc e.symm, Or.inl⟩
          by_cases hm : N t ∈ nm.take k
          · rw [if_pos hm, if_pos (this.mpr hm)]
          · rw [if_neg hm, if_neg (fun h => hm (this.mp h))]
        · dsimp only
          rw [e26_12]
          simp (disch := omega) only [il_0, il_1, il_2, il_3, il_4, il_5, il_6, il_7, il_8, il_9, il_10, il_11, il_12, il_13, il_14, il_15, il_16, il_17, il_18, il_19, il_20, il_21, il_22, il_23, il_24, il_25, il_26, il_27, il_28, il_29, il_30, il_31, il_32, il_40, il_41, il_42, il_43, il_44, il_45, il_46, il_47, il_48, il_52, il_56, il_57, il_59, il_60, il_61, il_63, il_64, il_68, il_72, il_75, il_76, il_82, il_88, il_89, il_90, il_92, il_96, il_97, il_99, il_100, il_101, il_102, il_103, il_104, il_105, il_107, il_108, il_109, il_110, il_111, il_112, il_114, il_115, il_116, il_117, il_118, il_119, il_121, il_122, il_130, il_200, il_255, il_256, il_260, il_276, il_400, il_403, il_420, il_840, il_999, il_1000, il_2000, il_2001, il_2668, il_2760, il_9999, il_12345, il_1000000, il_1103515245, ↓im_1, ↓im_2, ↓im_8, ↓im_1000, nI_add, pk_mul, pk_sub, ↓pk_rem, pk_div, nm_add, nI_clamp, nI_ltI, nI_leI, nI_eq, nm_eq, mn_eq, mm_eq, nm_lt, mn_lt, nm_le, mn_le, nl_T, nl_F, nle_T, nle_F, ne_T, ne_F, b2i_0, b2i_1, b2i_n, nb_0, nb_1, or_false, false_or, or_true, true_or, and_true, true_and, and_false, false_and, or_self, and_self, not_true_eq_false, not_false_eq_true, ↓reduceIte, if_true, if_false, ↓jv_bs, ↓jv_ol, ↓jv_or, jv_tl, jv_tn, jo_T, ck_2_166_17, ck_6_43_16, ck_6_43_17, ck_6_73_16, ck_7_65_17, ck_30_10_19, su_F, e26_13, e26_14, e26_17, e26_20, e26_21, e26_24, e26_27, e26_28, e26_31, e26_32, e26_33, e26_34, e26_37, e26_38, e26_39, e26_40, e26_43, e26_44, e26_45, e26_46, e26_49, e26_52, ↓tgb_8 hp, ↓trb_8 hp, ↓tub_8 hp, wl_8, ↓tgb_11 hp, wi_11, ↓tgb_13 hp, wi_13, ↓tgb_20 hp, wi_20, ↓tgb_21 hp, ↓trb_21 hp, ↓tub_21 hp, wl_21, ↓tw_rcb hp, n1, j1, n3, h8', hlc]) (s := (s1, w)) ⟨FZ_id, z1, by rw [List.take_zero, if_neg (List.not_mem_nil)]⟩
    dsimp only at f3 z3 e3 g3
    rw [List.take_length] at e3
    refine ⟨s3, FZ_tr f1 f3, by rw [← e3]; exact z3, g3.trans ?_⟩
    have n1 := (NQ_FZ (NQ_FZ hn f1) f3).1
    simp (disch := omega) only [il_0, il_1, il_2, il_3, il_4, il_5, il_6, il_7, il_8, il_9, il_10, il_11, il_12, il_13, il_14, il_15, il_16, il_17, il_18, il_19, il_20, il_21, il_22, il_23, il_24, il_25, il_26, il_27, il_28, il_29, il_30, il_31, il_32, il_40, il_41, il_42, il_43, il_44, il_45, il_46, il_47, il_48, il_52, il_56, il_57, il_59, il_60, il_61, il_63, il_64, il_68, il_72, il_75, il_76, il_82, il_88, il_89, il_90, il_92, il_96, il_97, il_99, il_100, il_101, il_102, il_103, il_104, il_105, il_107, il_108, il_109, il_110, il_111, il_112, il_114, il_115, il_116, il_117, il_118, il_119, il_121, il_122, il_130, il_200, il_255, il_256, il_260, il_276, il_400, il_403, il_420, il_840, il_999, il_1000, il_2000, il_2001, il_2668, il_2760, il_9999, il_12345, il_1000000, il_1103515245, ↓im_1, ↓im_2, ↓im_8, ↓im_1000, nI_add, pk_mul, pk_sub, ↓pk_rem, pk_div, nm_add, nI_clamp, nI_ltI, nI_leI, nI_eq, nm_eq, mn_eq, mm_eq, nm_lt, mn_lt, nm_le, mn_le, nl_T, nl_F, nle_T, nle_F, ne_T, ne_F, b2i_0, b2i_1, b2i_n, nb_0, nb_1, or_false, false_or, or_true, true_or, and_true, true_and, and_false, false_and, or_self, and_self, not_true_eq_false, not_false_eq_true, ↓reduceIte, if_true, if_false, ↓jv_bs, ↓jv_ol, ↓jv_or, jv_tl, jv_tn, jo_T, ck_2_166_17, ck_6_43_16, ck_6_43_17, ck_6_73_16, ck_7_65_17, ck_30_10_19, su_F, e26_12, e26_13, e26_14, e26_17, e26_20, e26_21, e26_24, e26_27, e26_28, e26_31, e26_32, e26_33, e26_34, e26_37, e26_38, e26_39, e26_40, e26_43, e26_44, e26_45, e26_46, e26_49, e26_52, e26_55, e26_56, ↓tgb_8 hp, ↓trb_8 hp, ↓tub_8 hp, wl_8, ↓tgb_11 hp, wi_11, ↓tgb_13 hp, wi_13, ↓tgb_20 hp, wi_20, ↓tgb_21 hp, ↓trb_21 hp, ↓tub_21 hp, wl_21, ↓tw_rcb hp, n1]
/-- a name is kept -/
theorem m_endsF (hp : p.length = 589) {t e : Nat} (hf : s.1 13 = nI e) (he : 1 ≤ e ∧ e ≤ 9) : jv_cd (d + 4) 28 [.ref 589, .int (nI t)] (tw_h p s q) = some (.inl none, tw_h p s q) := by
  have g := m_mustF (d := d) (q := q) (x := nI 4) hp hf he
  simp (disch := omega) only [il_0, il_1, il_2, il_3, il_4, il_5, il_6, il_7, il_8, il_9, il_10, il_11, il_12, il_13, il_14, il_15, il_16, il_17, il_18, il_19, il_20, il_21, il_22, il_23, il_24, il_25, il_26, il_27, il_28, il_29, il_30, il_31, il_32, il_40, il_41, il_42, il_43, il_44, il_45, il_46, il_47, il_48, il_52, il_56, il_57, il_59, il_60, il_61, il_63, il_64, il_68, il_72, il_75, il_76, il_82, il_88, il_89, il_90, il_92, il_96, il_97, il_99, il_100, il_101, il_102, il_103, il_104, il_105, il_107, il_108, il_109, il_110, il_111, il_112, il_114, il_115, il_116, il_117, il_118, il_119, il_121, il_122, il_130, il_200, il_255, il_256, il_260, il_276, il_400, il_403, il_420, il_840, il_999, il_1000, il_2000, il_2001, il_2668, il_2760, il_9999, il_12345, il_1000000, il_1103515245, ↓im_1, ↓im_2, ↓im_8, ↓im_1000, nI_add, pk_mul, pk_sub, ↓pk_rem, pk_div, nm_add, nI_clamp, nI_ltI, nI_leI, nI_eq, nm_eq, mn_eq, mm_eq, nm_lt, mn_lt, nm_le, mn_le, nl_T, nl_F, nle_T, nle_F, ne_T, ne_F, b2i_0, b2i_1, b2i_n, nb_0, nb_1, or_false, false_or, or_true, true_or, and_true, true_and, and_false, false_and, or_self, and_self, not_true_eq_false, not_false_eq_true, ↓reduceIte, if_true, if_false, ↓jv_bs, ↓jv_ol, ↓jv_or, jv_tl, jv_tn, jo_T, ck_2_166_17, ck_6_43_16, ck_6_43_17, ck_6_73_16, ck_7_65_17, ck_30_10_19, su_F, e28_0, e28_1, e28_2, e28_5, e28_6, e28_9, e28_12, e28_13, e28_14, e28_17, e28_18, e28_21, e28_22, e28_25, e28_26, e28_27, e28_28, e28_29, e28_30, e28_33, e28_34, e28_35, e28_38, ↓tgb_8 hp, ↓trb_8 hp, ↓tub_8 hp, wl_8, ↓tgb_13 hp, wi_13, ↓tgb_20 hp, wi_20, ↓tpb_20 hp, ↓tgb_21 hp, ↓trb_21 hp, ↓tub_21 hp, wl_21, ↓tw_rcb hp, n28, hf, ↓jbR g]
theorem m_endsF_b (hp : p.length = 589) {t e : Nat} (hf : s.1 13 = nI e) (he : 1 ≤ e ∧ e ≤ 9) {F : jv_R → Option jv_R} : (jv_cd (d + 4) 28 [.ref 589, .int (nI t)] (tw_h p s q)).bind F = F (.inl none, tw_h p s q) := jb (m_endsF hp hf he)
def nmS (s : tw_S) (nm : List Nat) (x : Int64) : tw_S := tw_i (tw_l s 21 (vp_updL (s.2.2 21) nm.length x)) 20 (nI (nm.length + 1))
theorem NQ_s {nm : List Nat} {x : Nat} (h : NQ s nm) (h9 : nm.length < 10) (hx : x < 2 ^ 60) : NQ (nmS s nm (nL x)) (nm ++ [x]) := by
  obtain ⟨h1, h2, h3, h4⟩ := h
  refine ⟨by rw [List.length_append]; rfl, by rw [List.length_append]; simp; omega, fun i hi => ?_, fun y hy => ?_⟩
  · show vp_updL (s.2.2 21) nm.length (nL x) i = _
    rw [List.getD_eq_getElem?_getD]
    by_cases e : i = nm.length
    · subst e
      rw [vpL_s, List.getElem?_append_right (Nat.le_refl _), Nat.sub_self]
      rfl
    · rw [List.length_append] at hi
      have hi : i < nm.length := by simp at hi; omega
      rw [vpL_n e, List.getElem?_append_left hi, ← List.getD_eq_getElem?_getD]
      exact h3 i hi
  · rcases List.mem_append.mp hy with hy | hy
    · exact h4 y hy
    · rw [List.mem_singleton] at hy; rw [hy]; exact hx
theorem z_ends (hp : p.length = 589) (hz : ZQ s K F z) (hte : TE s K V F N) {nm : List Nat} (hn : NQ s nm) (h9 : nm.length < 10) {t : Nat} (ht : RC K t) (hk : K t ≠ 0) : ∃ s', FZ s s' ∧ ZQ s' K F (zmu K 4 z) ∧ jv_cd (d + 4) 28 [.ref 589, .int (nI t)] (tw_h p s q) = some (.inl none, tw_h p (match zmu K 4 z with | .inl _ => s' | .inr _ => nmS s' nm (nL (N t))) q) := by
  obtain ⟨s1, f1, z1, r1⟩ := z_mu (d := d) (q := q) (k := 4) hp hz hte (by decide)
  refine ⟨s1, f1, z1, ?_⟩
  have h20 := (NQ_FZ hn f1).1
  have h8 := ((TE_FZ hte f1 t ht).2.2.2 hk).2
  have ht4 := ht.1
  generalize zmu K 4 z = zz at z1 ⊢
  cases zz with
  | inl e =>
    obtain ⟨k1, k2, _⟩ := id z1
    dsimp only
    simp (disch := omega) only [il_0, il_1, il_2, il_3, il_4, il_5, il_6, il_7, il_8, il_9, il_10, il_11, il_12, il_13, il_14, il_15, il_16, il_17, il_18, il_19, il_20, il_21, il_22, il_23, il_24, il_25, il_26, il_27, il_28, il_29, il_30, il_31, il_32, il_40, il_41, il_42, il_43, il_44, il_45, il_46, il_47, il_48, il_52, il_56, il_57, il_59, il_60, il_61, il_63, il_64, il_68, il_72, il_75, il_76, il_82, il_88, il_89, il_90, il_92, il_96, il_97, il_99, il_100, il_101, il_102, il_103, il_104, il_105, il_107, il_108, il_109, il_110, il_111, il_112, il_114, il_115, il_116, il_117, il_118, il_119, il_121, il_122, il_130, il_200, il_255, il_256, il_260, il_276, il_400, il_403, il_420, il_840, il_999, il_1000, il_2000, il_2001, il_2668, il_2760, il_9999, il_12345, il_1000000, il_1103515245, ↓im_1, ↓im_2, ↓im_8, ↓im_1000, nI_add, pk_mul, pk_sub, ↓pk_rem, pk_div, nm_add, nI_clamp, nI_ltI, nI_leI, nI_eq, nm_eq, mn_eq, mm_eq, nm_lt, mn_lt, nm_le, mn_le, nl_T, nl_F, nle_T, nle_F, ne_T, ne_F, b2i_0, b2i_1, b2i_n, nb_0, nb_1, or_false, false_or, or_true, true_or, and_true, true_and, and_false, false_and, or_self, and_self, not_true_eq_false, not_false_eq_true, ↓reduceIte, if_true, if_false, ↓jv_bs, ↓jv_ol, ↓jv_or, jv_tl, jv_tn, jo_T, ck_2_166_17, ck_6_43_16, ck_6_43_17, ck_6_73_16, ck_7_65_17, ck_30_10_19, su_F, e28_0, e28_1, e28_2, e28_5, e28_6, e28_9, e28_12, e28_13, e28_14, e28_17, e28_18, e28_21, e28_22, e28_25, e28_26, e28_27, e28_28, e28_29, e28_30, e28_33, e28_34, e28_35, e28_38, ↓tgb_8 hp, ↓trb_8 hp, ↓tub_8 hp, wl_8, ↓tgb_13 hp, wi_13, ↓tgb_20 hp, wi_20, ↓tpb_20 hp, ↓tgb_21 hp, ↓trb_21 hp, ↓tub_21 hp, wl_21, ↓tw_rcb hp, n28, k1, ↓jbR r1]
  | inr y =>
    obtain ⟨k1, k2, _⟩ := id z1
    dsimp only
    simp (disch := omega) only [il_0, il_1, il_2, il_3, il_4, il_5, il_6, il_7, il_8, il_9, il_10, il_11, il_12, il_13, il_14, il_15, il_16, il_17, il_18, il_19, il_20, il_21, il_22, il_23, il_24, il_25, il_26, il_27, il_28, il_29, il_30, il_31, il_32, il_40, il_41, il_42, il_43, il_44, il_45, il_46, il_47, il_48, il_52, il_56, il_57, il_59, il_60, il_61, il_63, il_64, il_68, il_72, il_75, il_76, il_82, il_88, il_89, il_90, il_92, il_96, il_97, il_99, il_100, il_101, il_102, il_103, il_104, il_105, il_107, il_108, il_109, il_110, il_111, il_112, il_114, il_115, il_116, il_117, il_118, il_119, il_121, il_122, il_130, il_200, il_255, il_256, il_260, il_276, il_400, il_403, il_420, il_840, il_999, il_1000, il_2000, il_2001, il_2668, il_2760, il_9999, il_12345, il_1000000, il_1103515245, ↓im_1, ↓im_2, ↓im_8, ↓im_1000, nI_add, pk_mul, pk_sub, ↓pk_rem, pk_div, nm_add, nI_clamp, nI_ltI, nI_leI, nI_eq, nm_eq, mn_eq, mm_eq, nm_lt, mn_lt, nm_le, mn_le, nl_T, nl_F, nle_T, nle_F, ne_T, ne_F, b2i_0, b2i_1, b2i_n, nb_0, nb_1, or_false, false_or, or_true, true_or, and_true, true_and, and_false, false_and, or_self, and_self, not_true_eq_false, not_false_eq_true, ↓reduceIte, if_true, if_false, ↓jv_bs, ↓jv_ol, ↓jv_or, jv_tl, jv_tn, jo_T, ck_2_166_17, ck_6_43_16, ck_6_43_17, ck_6_73_16, ck_7_65_17, ck_30_10_19, su_F, e28_0, e28_1, e28_2, e28_5, e28_6, e28_9, e28_12, e28_13, e28_14, e28_17, e28_18, e28_21, e28_22, e28_25, e28_26, e28_27, e28_28, e28_29, e28_30, e28_33, e28_34, e28_35, e28_38, ↓tgb_8 hp, ↓trb_8 hp, ↓tub_8 hp, wl_8, ↓tgb_13 hp, wi_13, ↓tgb_20 hp, wi_20, ↓tpb_20 hp, ↓tgb_21 hp, ↓trb_21 hp, ↓tub_21 hp, wl_21, ↓tw_rcb hp, n28, k1, h20, h8, ↓jbR r1, tw_l1, tw_l2, tw_l3, Nat.reduceEqDiff, nmS]
end
