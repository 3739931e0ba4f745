/-! the reference: what is done -/
def TI (s : tw_S) (lv : Nat) (A : Ab) : Prop := TV s lv A.1 ∧ s.2.1 50 = A.2.1 0 ∧ RZ (s.2.1 51) ∧ s.1 53 = nI (A.2.2.1 0) ∧ (∀ i < A.2.2.1 0, ∀ k < 92, s.2.1 54 (92 * i + k) = A.2.1 (1 + i) k) ∧ (∀ i < 3, s.2.1 70 i = nI (A.2.2.1 (1 + i)) ∧ (A.2.2.1 (1 + i) = 1 → ∀ k < 92, s.2.1 71 (92 * i + k) = A.2.1 (40 + i) k)) ∧ s.1 65 = nI (A.2.2.1 4) ∧ (∀ i < A.2.2.1 4, s.2.1 66 i = A.2.1 50 i ∧ s.2.1 67 i = A.2.1 51 i) ∧ s.1 2 = nI (A.2.2.1 5) ∧ (∀ i < A.2.2.1 5, s.2.1 1 i = A.2.1 60 i) ∧ s.1 17 = A.2.2.2 ∧ s.2.2 9 = kyf
theorem TI_SC {s s' : tw_S} {lv : Nat} {A : Ab} (h : SC s s') (hi : TI s lv A) : TI s' lv A := by
  obtain ⟨⟨a1, a2, a3, a4, a5⟩, a6, a7, a8⟩ := id h
  obtain ⟨b1, b2, b3, b4, b5, b6, b7, b8, b9, b10, b11, b12⟩ := hi
  refine ⟨TV_SC h b1, ?_, a8, a4.trans b4, ?_, ?_, a5.trans b7, ?_, a1.trans b9, ?_, a2.trans b11, a7.trans b12⟩
  · rw [a6 50 rfl]; exact b2
  · rw [a6 54 rfl]; exact b5
  · rw [a6 70 rfl, a6 71 rfl]; exact b6
  · rw [a6 66 rfl, a6 67 rfl]; exact b8
  · rw [a6 1 rfl]; exact b10
/-- all but what is told, typed -/
def FR (A A' : Ab) : Prop := A'.1 = A.1 ∧ (∀ i, i < 43 → A'.2.1 i = A.2.1 i) ∧ (∀ i, i < 4 → A'.2.2.1 i = A.2.2.1 i) ∧ A'.2.2.2 = A.2.2.2
theorem TI_tt {s s' : tw_S} {lv : Nat} {A A' : Ab} (hu : A.2.2.1 0 ≤ 30) (hi : TI s lv A) (hF : FR A A') (hs : s'.1 17 = s.1 17 ∧ s'.1 18 = s.1 18 ∧ s'.1 53 = s.1 53 ∧ s'.2.2 9 = s.2.2 9) (he : ∀ k, (22 ≤ k ∧ k ≤ 44) ∨ k = 50 ∨ k = 51 ∨ k = 54 ∨ k = 70 ∨ k = 71 → s'.2.1 k = s.2.1 k) (c7 : s'.1 65 = nI (A'.2.2.1 4)) (c8 : ∀ i < A'.2.2.1 4, s'.2.1 66 i = A'.2.1 50 i ∧ s'.2.1 67 i = A'.2.1 51 i) (c9 : s'.1 2 = nI (A'.2.2.1 5)) (c10 : ∀ i < A'.2.2.1 5, s'.2.1 1 i = A'.2.1 60 i) : TI s' lv A' := by
  obtain ⟨b1, b2, b3, b4, b5, b6, b7, b8, b9, b10, b11, b12⟩ := hi
  obtain ⟨f1, f2, f3, f4⟩ := hF
  refine ⟨by rw [f1]; exact TV_c hs.2.1 (fun k h1 h2 => he k (by omega)) b1, ?_, ?_, ?_, ?_, fun i hi => ?_, c7, c8, c9, c10, hs.1.trans (b11.trans f4.symm), hs.2.2.2.trans b12⟩
  · rw [he 50 (by omega), f2 0 (by omega)]; exact b2
  · rw [he 51 (by omega)]; exact b3
  · rw [f3 0 (by omega)]; exact hs.2.2.1.trans b4
  · rw [f3 0 (by omega), he 54 (by omega)]
    intro i hi k hk
    rw [f2 (1 + i) (by omega)]
    exact b5 i hi k hk
  · rw [f3 (1 + i) (by omega), he 70 (by omega), he 71 (by omega), f2 (40 + i) (by omega)]
    exact b6 i hi
section
variable {d lv : Nat} {p q : jv_H} {s : tw_S} {T : Tx} {r v pl : Nat → Int32} {lo b : Int32} {j : Jk}
variable {A : Ab}
theorem FR_n {k n : Nat} (hk : 4 ≤ k) : FR A (aN A k n) := ⟨rfl, fun _ _ => rfl, fun i hi => if_neg (by omega), rfl⟩
theorem FR_r {A' : Ab} {k : Nat} {f : Nat → Int32} (h : FR A A') (hk : 43 ≤ k) : FR A (aR A' k f) := ⟨h.1, fun i hi => (if_neg (by omega)).trans (h.2.1 i hi), h.2.2.1, h.2.2.2⟩
theorem FR_rn {A' : Ab} {k n : Nat} (h : FR A A') (hk : 4 ≤ k) : FR A (aN A' k n) := ⟨h.1, h.2.1, fun i hi => (if_neg (by omega)).trans (h.2.2.1 i hi), h.2.2.2⟩
theorem FR_0 : FR A A := ⟨rfl, fun _ _ => rfl, fun _ _ => rfl, rfl⟩
theorem kp_n {i : Nat} (h : i ≠ 0) : (kp A r).2.2.1 i = A.2.2.1 i := if_neg h
theorem kp_k {k : Nat} (hu : A.2.2.1 0 ≤ 30) (h : 40 ≤ k) : (kp A r).2.1 k = A.2.1 k := by
  unfold kp
  dsimp only
  rw [if_neg (by omega)]
  split
  · rw [if_neg (by omega), if_neg (by omega)]
  · rw [if_neg (by omega)]
theorem m_keepsRow (hp : p.length = 589) : jv_cd (d + 1) 6 [.ref 589] (tw_h p (tw_w s r lo j) q) = some (.inl none, tw_h p (tw_w (tw_a s 50 (cp r (s.2.1 50) 92)) r lo j) q) := by
  have hl := jl_0 (N := 92) (F := fun k => jv_ev d 6 2 [some (.ref 589), some (.int (nI k))] [] (tw_h p (tw_w (tw_a s 50 (cp r (s.2.1 50) k)) r lo j) q)) (fun k hk => by
    rw [e6_2]
    simp (disch := omega) only [il_0, il_1, il_2, il_3, il_4, il_5, il_6, il_7, il_8, il_9, il_10, il_11, il_12, il_13, il_14, il_15, il_16, il_17, il_18, il_19, il_20, il_21, il_22, il_23, il_24, il_25, il_26, il_27, il_28, il_29, il_30, il_31, il_32, il_40, il_41, il_42, il_43, il_44, il_45, il_46, il_47, il_48, il_52, il_56, il_57, il_59, il_60, il_61, il_63, il_64, il_68, il_72, il_75, il_76, il_82, il_88, il_89, il_90, il_92, il_96, il_97, il_99, il_100, il_101, il_102, il_103, il_104, il_105, il_107, il_108, il_109, il_110, il_111, il_112, il_114, il_115, il_116, il_117, il_118, il_119, il_121, il_122, il_130, il_200, il_255, il_256, il_260, il_276, il_400, il_403, il_420, il_840, il_999, il_1000, il_2000, il_2001, il_2668, il_2760, il_9999, il_12345, il_1000000, il_1103515245, ↓im_1, ↓im_2, ↓im_8, ↓im_1000, nI_add, pk_mul, pk_sub, ↓pk_rem, pk_div, nm_add, nI_clamp, nI_ltI, nI_leI, nI_eq, nm_eq, mn_eq, mm_eq, nm_lt, mn_lt, nm_le, mn_le, nl_T, nl_F, nle_T, nle_F, ne_T, ne_F, b2i_0, b2i_1, b2i_n, nb_0, nb_1, or_false, false_or, or_true, true_or, and_true, true_and, and_false, false_and, or_self, and_self, not_true_eq_false, not_false_eq_true, ↓reduceIte, if_true, if_false, ↓jv_bs, ↓jv_ol, ↓jv_or, jv_tl, jv_tn, jo_T, ck_2_166_17, ck_6_43_16, ck_6_43_17, ck_6_73_16, ck_7_65_17, ck_30_10_19, su_F, e6_0, e6_1, e6_3, e6_5, e6_8, e6_9, e6_12, e6_13, e6_14, e6_17, e6_18, e6_19, e6_20, e6_23, e6_26, ↓tgb_50 hp, ↓trb_50 hp, ↓tub_50 hp, wa_50, ↓tgb_51 hp, ↓trb_51 hp, ↓tub_51 hp, wa_51, ww_a51, ↓tw_rcb hp, ww_i, ww_a, ww_w, tw_i1, tw_i2, tw_a1, tw_a2, tw_a3, Nat.reduceEqDiff, cp_u, tw_aa])
  rw [cp_0, tw_ai] at hl
  refine Eq.trans ?_ (Eq.trans hl ?_)
  · simp (disch := omega) only [il_0, il_1, il_2, il_3, il_4, il_5, il_6, il_7, il_8, il_9, il_10, il_11, il_12, il_13, il_14, il_15, il_16, il_17, il_18, il_19, il_20, il_21, il_22, il_23, il_24, il_25, il_26, il_27, il_28, il_29, il_30, il_31, il_32, il_40, il_41, il_42, il_43, il_44, il_45, il_46, il_47, il_48, il_52, il_56, il_57, il_59, il_60, il_61, il_63, il_64, il_68, il_72, il_75, il_76, il_82, il_88, il_89, il_90, il_92, il_96, il_97, il_99, il_100, il_101, il_102, il_103, il_104, il_105, il_107, il_108, il_109, il_110, il_111, il_112, il_114, il_115, il_116, il_117, il_118, il_119, il_121, il_122, il_130, il_200, il_255, il_256, il_260, il_276, il_400, il_403, il_420, il_840, il_999, il_1000, il_2000, il_2001, il_2668, il_2760, il_9999, il_12345, il_1000000, il_1103515245, ↓im_1, ↓im_2, ↓im_8, ↓im_1000, nI_add, pk_mul, pk_sub, ↓pk_rem, pk_div, nm_add, nI_clamp, nI_ltI, nI_leI, nI_eq, nm_eq, mn_eq, mm_eq, nm_lt, mn_lt, nm_le, mn_le, nl_T, nl_F, nle_T, nle_F, ne_T, ne_F, b2i_0, b2i_1, b2i_n, nb_0, nb_1, or_false, false_or, or_true, true_or, and_true, true_and, and_false, false_and, or_self, and_self, not_true_eq_false, not_false_eq_true, ↓reduceIte, if_true, if_false, ↓jv_bs, ↓jv_ol, ↓jv_or, jv_tl, jv_tn, jo_T, ck_2_166_17, ck_6_43_16, ck_6_43_17, ck_6_73_16, ck_7_65_17, ck_30_10_19, su_F, e6_0, e6_1, ↓tgb_50 hp, ↓trb_50 hp, ↓tub_50 hp, wa_50, ↓tgb_51 hp, ↓trb_51 hp, ↓tub_51 hp, wa_51, ww_a51, ↓tw_rcb hp, ww_i, ww_a, ww_w, tw_i1, tw_i2, tw_a1, tw_a2, tw_a3, Nat.reduceEqDiff, n6]
  · simp (disch := omega) only [il_0, il_1, il_2, il_3, il_4, il_5, il_6, il_7, il_8, il_9, il_10, il_11, il_12, il_13, il_14, il_15, il_16, il_17, il_18, il_19, il_20, il_21, il_22, il_23, il_24, il_25, il_26, il_27, il_28, il_29, il_30, il_31, il_32, il_40, il_41, il_42, il_43, il_44, il_45, il_46, il_47, il_48, il_52, il_56, il_57, il_59, il_60, il_61, il_63, il_64, il_68, il_72, il_75, il_76, il_82, il_88, il_89, il_90, il_92, il_96, il_97, il_99, il_100, il_101, il_102, il_103, il_104, il_105, il_107, il_108, il_109, il_110, il_111, il_112, il_114, il_115, il_116, il_117, il_118, il_119, il_121, il_122, il_130, il_200, il_255, il_256, il_260, il_276, il_400, il_403, il_420, il_840, il_999, il_1000, il_2000, il_2001, il_2668, il_2760, il_9999, il_12345, il_1000000, il_1103515245, ↓im_1, ↓im_2, ↓im_8, ↓im_1000, nI_add, pk_mul, pk_sub, ↓pk_rem, pk_div, nm_add, nI_clamp, nI_ltI, nI_leI, nI_eq, nm_eq, mn_eq, mm_eq, nm_lt, mn_lt, nm_le, mn_le, nl_T, nl_F, nle_T, nle_F, ne_T, ne_F, b2i_0, b2i_1, b2i_n, nb_0, nb_1, or_false, false_or, or_true, true_or, and_true, true_and, and_false, false_and, or_self, and_self, not_true_eq_false, not_false_eq_true, ↓reduceIte, if_true, if_false, ↓jv_bs, ↓jv_ol, ↓jv_or, jv_tl, jv_tn, jo_T, ck_2_166_17, ck_6_43_16, ck_6_43_17, ck_6_73_16, ck_7_65_17, ck_30_10_19, su_F, e6_0, e6_1, e6_2, e6_3, e6_5, e6_8, e6_9, e6_12, e6_13, e6_14, e6_17, e6_18, e6_19, e6_20, e6_23, e6_26, ↓tgb_50 hp, ↓trb_50 hp, ↓tub_50 hp, wa_50, ↓tgb_51 hp, ↓trb_51 hp, ↓tub_51 hp, wa_51, ww_a51, ↓tw_rcb hp, ww_i, ww_a, ww_w, tw_i1, tw_i2, tw_a1, tw_a2, tw_a3, Nat.reduceEqDiff]
theorem m_keepsRow_b (hp : p.length = 589) {F : jv_R → Option jv_R} : (jv_cd (d + 1) 6 [.ref 589] (tw_h p (tw_w s r lo j) q)).bind F = F (.inl none, tw_h p (tw_w (tw_a s 50 (cp r (s.2.1 50) 92)) r lo j) q) := jb (m_keepsRow hp)
/-- history, shifted or not -/
theorem m_keepsH (hp : p.length = 589) {u : Nat} (hu : u ≤ 30) (h53 : s.1 53 = nI u) : ∃ H, (u = 30 → ∀ i < 2668, H i = s.2.1 54 (i + 92)) ∧ (u ≠ 30 → H = s.2.1 54) ∧ jv_cd (d + 2) 61 [.ref 589] (tw_h p (tw_w s r lo j) q) = jv_ev (d + 1) 61 51 [some (.ref 589), some (.int (nI 0))] [] (tw_h p (tw_w (tw_i (tw_a s 54 H) 53 (nI (if u = 30 then 29 else u))) r lo j) q) := by
  by_cases h30 : u = 30
  · subst h30
    have hl := jl_0 (N := 2668) (F := fun k => jv_ev (d + 1) 61 11 [some (.ref 589), some (.int (nI k))] [] (tw_h p (tw_w (tw_a s 54 (cp (fun i => s.2.1 54 (i + 92)) (s.2.1 54) k)) r lo j) q)) (fun k hk => by
      rw [← cp_u, e61_11]
      have e : cp (fun i => s.2.1 54 (i + 92)) (s.2.1 54) k (k + 92) = s.2.1 54 (k + 92) := cp_out (by omega)
      simp (disch := omega) only [il_0, il_1, il_2, il_3, il_4, il_5, il_6, il_7, il_8, il_9, il_10, il_11, il_12, il_13, il_14, il_15, il_16, il_17, il_18, il_19, il_20, il_21, il_22, il_23, il_24, il_25, il_26, il_27, il_28, il_29, il_30, il_31, il_32, il_40, il_41, il_42, il_43, il_44, il_45, il_46, il_47, il_48, il_52, il_56, il_57, il_59, il_60, il_61, il_63, il_64, il_68, il_72, il_75, il_76, il_82, il_88, il_89, il_90, il_92, il_96, il_97, il_99, il_100, il_101, il_102, il_103, il_104, il_105, il_107, il_108, il_109, il_110, il_111, il_112, il_114, il_115, il_116, il_117, il_118, il_119, il_121, il_122, il_130, il_200, il_255, il_256, il_260, il_276, il_400, il_403, il_420, il_840, il_999, il_1000, il_2000, il_2001, il_2668, il_2760, il_9999, il_12345, il_1000000, il_1103515245, ↓im_1, ↓im_2, ↓im_8, ↓im_1000, nI_add, pk_mul, pk_sub, ↓pk_rem, pk_div, nm_add, nI_clamp, nI_ltI, nI_leI, nI_eq, nm_eq, mn_eq, mm_eq, nm_lt, mn_lt, nm_le, mn_le, nl_T, nl_F, nle_T, nle_F, ne_T, ne_F, b2i_0, b2i_1, b2i_n, nb_0, nb_1, or_false, false_or, or_true, true_or, and_true, true_and, and_false, false_and, or_self, and_self, not_true_eq_false, not_false_eq_true, ↓reduceIte, if_true, if_false, ↓jv_bs, ↓jv_ol, ↓jv_or, jv_tl, jv_tn, jo_T, ck_2_166_17, ck_6_43_16, ck_6_43_17, ck_6_73_16, ck_7_65_17, ck_30_10_19, su_F, e61_12, e61_15, e61_18, e61_19, e61_22, e61_23, e61_24, e61_27, e61_28, e61_30, e61_31, e61_32, e61_33, e61_36, ↓tgb_50 hp, ↓trb_50 hp, ↓tub_50 hp, wa_50, ↓tgb_53 hp, wi_53, ↓tpb_53 hp, ↓tgb_54 hp, ↓trb_54 hp, ↓tub_54 hp, wa_54, ↓tw_rcb hp, ww_i, ww_a, ww_w, tw_i1, tw_i2, tw_a1, tw_a2, tw_a3, Nat.reduceEqDiff, tw_aa, e])
    rw [cp_0, tw_ai] at hl
    refine ⟨cp (fun i => s.2.1 54 (i + 92)) (s.2.1 54) 2668, fun _ i hi => cp_in hi, fun h => absurd rfl h, ?_⟩
    refine Eq.trans ?_ (Eq.trans hl ?_)
    · simp (disch := omega) only [il_0, il_1, il_2, il_3, il_4, il_5, il_6, il_7, il_8, il_9, il_10, il_11, il_12, il_13, il_14, il_15, il_16, il_17, il_18, il_19, il_20, il_21, il_22, il_23, il_24, il_25, il_26, il_27, il_28, il_29, il_30, il_31, il_32, il_40, il_41, il_42, il_43, il_44, il_45, il_46, il_47, il_48, il_52, il_56, il_57, il_59, il_60, il_61, il_63, il_64, il_68, il_72, il_75, il_76, il_82, il_88, il_89, il_90, il_92, il_96, il_97, il_99, il_100, il_101, il_102, il_103, il_104, il_105, il_107, il_108, il_109, il_110, il_111, il_112, il_114, il_115, il_116, il_117, il_118, il_119, il_121, il_122, il_130, il_200, il_255, il_256, il_260, il_276, il_400, il_403, il_420, il_840, il_999, il_1000, il_2000, il_2001, il_2668, il_2760, il_9999, il_12345, il_1000000, il_1103515245, ↓im_1, ↓im_2, ↓im_8, ↓im_1000, nI_add, pk_mul, pk_sub, ↓pk_rem, pk_div, nm_add, nI_clamp, nI_ltI, nI_leI, nI_eq, nm_eq, mn_eq, mm_eq, nm_lt, mn_lt, nm_le, mn_le, nl_T, nl_F, nle_T, nle_F, ne_T, ne_F, b2i_0, b2i_1, b2i_n, nb_0, nb_1, or_false, false_or, or_true, true_or, and_true, true_and, and_false, false_and, or_self, and_self, not_true_eq_false, not_false_eq_true, ↓reduceIte, if_true, if_false, ↓jv_bs, ↓jv_ol, ↓jv_or, jv_tl, jv_tn, jo_T, ck_2_166_17, ck_6_43_16, ck_6_43_17, ck_6_73_16, ck_7_65_17, ck_30_10_19, su_F, e61_0, e61_1, e61_4, e61_6, e61_9, e61_10, ↓tgb_50 hp, ↓trb_50 hp, ↓tub_50 hp, wa_50, ↓tgb_53 hp, wi_53, ↓tpb_53 hp, ↓tgb_54 hp, ↓trb_54 hp, ↓tub_54 hp, wa_54, ↓tw_rcb hp, ww_i, ww_a, ww_w, tw_i1, tw_i2, tw_a1, tw_a2, tw_a3, Nat.reduceEqDiff, n61, h53]
    · simp (disch := omega) only [il_0, il_1, il_2, il_3, il_4, il_5, il_6, il_7, il_8, il_9, il_10, il_11, il_12, il_13, il_14, il_15, il_16, il_17, il_18, il_19, il_20, il_21, il_22, il_23, il_24, il_25, il_26, il_27, il_28, il_29, il_30, il_31, il_32, il_40, il_41, il_42, il_43, il_44, il_45, il_46, il_47, il_48, il_52, il_56, il_57, il_59, il_60, il_61, il_63, il_64, il_68, il_72, il_75, il_76, il_82, il_88, il_89, il_90, il_92, il_96, il_97, il_99, il_100, il_101, il_102, il_103, il_104, il_105, il_107, il_108, il_109, il_110, il_111, il_112, il_114, il_115, il_116, il_117, il_118, il_119, il_121, il_122, il_130, il_200, il_255, il_256, il_260, il_276, il_400, il_403, il_420, il_840, il_999, il_1000, il_2000, il_2001, il_2668, il_2760, il_9999, il_12345, il_1000000, il_1103515245, ↓im_1, ↓im_2, ↓im_8, ↓im_1000, nI_add, pk_mul, pk_sub, ↓pk_rem, pk_div, nm_add, nI_clamp, nI_ltI, nI_leI, nI_eq, nm_eq, mn_eq, mm_eq, nm_lt, mn_lt, nm_le, mn_le, nl_T, nl_F, nle_T, nle_F, ne_T, ne_F, b2i_0, b2i_1, b2i_n, nb_0, nb_1, or_false, false_or, or_true, true_or, and_true, true_and, and_false, false_and, or_self, and_self, not_true_eq_false, not_false_eq_true, ↓reduceIte, if_true, if_false, ↓jv_bs, ↓jv_ol, ↓jv_or, jv_tl, jv_tn, jo_T, ck_2_166_17, ck_6_43_16, ck_6_43_17, ck_6_73_16, ck_7_65_17, ck_30_10_19, su_F, e61_11, e61_12, e61_15, e61_18, e61_19, e61_22, e61_23, e61_24, e61_27, e61_28, e61_30, e61_31, e61_32, e61_33, e61_36, e61_39, e61_40, e61_41, e61_44, e61_45, e61_46, e61_49, e61_50, ↓tgb_50 hp, ↓trb_50 hp, ↓tub_50 hp, wa_50, ↓tgb_53 hp, wi_53, ↓tpb_53 hp, ↓tgb_54 hp, ↓trb_54 hp, ↓tub_54 hp, wa_54, ↓tw_rcb hp, ww_i, ww_a, ww_w, tw_i1, tw_i2, tw_a1, tw_a2, tw_a3, Nat.reduceEqDiff, h53]
  · refine ⟨s.2.1 54, fun h => absurd h h30, fun _ => rfl, ?_⟩
    rw [tw_ai, if_neg h30]
    have e : tw_i s 53 (nI u) = s := by
      rw [← h53]
      unfold tw_i
      refine Prod.ext (funext fun i => ?_) rfl
      by_cases h : i = 53
      · subst h; simp
      · simp [h]
    rw [e]
    simp (disch := omega) only [il_0, il_1, il_2, il_3, il_4, il_5, il_6, il_7, il_8, il_9, il_10, il_11, il_12, il_13, il_14, il_15, il_16, il_17, il_18, il_19, il_20, il_21, il_22, il_23, il_24, il_25, il_26, il_27, il_28, il_29, il_30, il_31, il_32, il_40, il_41, il_42, il_43, il_44, il_45, il_46, il_47, il_48, il_52, il_56, il_57, il_59, il_60, il_61, il_63, il_64, il_68, il_72, il_75, il_76, il_82, il_88, il_89, il_90, il_92, il_96, il_97, il_99, il_100, il_101, il_102, il_103, il_104, il_105, il_107, il_108, il_109, il_110, il_111, il_112, il_114, il_115, il_116, il_117, il_118, il_119, il_121, il_122, il_130, il_200, il_255, il_256, il_260, il_276, il_400, il_403, il_420, il_840, il_999, il_1000, il_2000, il_2001, il_2668, il_2760, il_9999, il_12345, il_1000000, il_1103515245, ↓im_1, ↓im_2, ↓im_8, ↓im_1000, nI_add, pk_mul, pk_sub, ↓pk_rem, pk_div, nm_add, nI_clamp, nI_ltI, nI_leI, nI_eq, nm_eq, mn_eq, mm_eq, nm_lt, mn_lt, nm_le, mn_le, nl_T, nl_F, nle_T, nle_F, ne_T, ne_F, b2i_0, b2i_1, b2i_n, nb_0, nb_1, or_false, false_or, or_true, true_or, and_true, true_and, and_false, false_and, or_self, and_self, not_true_eq_false, not_false_eq_true, ↓reduceIte, if_true, if_false, ↓jv_bs, ↓jv_ol, ↓jv_or, jv_tl, jv_tn, jo_T, ck_2_166_17, ck_6_43_16, ck_6_43_17, ck_6_73_16, ck_7_65_17, ck_30_10_19, su_F, e61_0, e61_1, e61_4, e61_6, e61_49, e61_50, ↓tgb_50 hp, ↓trb_50 hp, ↓tub_50 hp, wa_50, ↓tgb_53 hp, wi_53, ↓tpb_53 hp, ↓tgb_54 hp, ↓trb_54 hp, ↓tub_54 hp, wa_54, ↓tw_rcb hp, ww_i, ww_a, ww_w, tw_i1, tw_i2, tw_a1, tw_a2, tw_a3, Nat.reduceEqDiff, n61, h53]
theorem m_keeps (hp : p.length = 589) (hi : TI s lv A) (hA : AW A) (hz : RZ r) : ∃ s', TI (tw_w s' r lo j) lv (kp A r) ∧ s'.2.1 50 = r ∧ jv_cd (d + 2) 61 [.ref 589] (tw_h p (tw_w s r lo j) q) = some (.inl none, tw_h p (tw_w s' r lo j) q) := by
  obtain ⟨b1, b2, b3, b4, b5, b6, b7, b8, b9, b10, b11, b12⟩ := hi
  obtain ⟨c1, c2, c3, c4, c5, c6, c7, c8⟩ := hA
  obtain ⟨H, g1, g2, g3⟩ := m_keepsH (d := d) (q := q) (r := r) (lo := lo) (j := j) hp c3 b4
  generalize hu : A.2.2.1 0 = u at b4 b5 c3 c4 g1 g2 g3
  generalize hv : (if u = 30 then 29 else u) = v at g3
  have hv2 : v ≤ 29 := by rw [← hv]; split <;> omega
  obtain ⟨H2, ⟨i1, i2⟩, h2⟩ := jl_inv (N := 92) (F := fun k (H : Nat → Int32) => jv_ev (d + 1) 61 51 [some (.ref 589), some (.int (nI k))] [] (tw_h p (tw_w (tw_i (tw_a s 54 H) 53 (nI v)) r lo j) q)) (fun k H2 => (∀ i < k, H2 (92 * v + i) = s.2.1 50 i) ∧ ∀ i, (i < 92 * v ∨ 92 * v + 92 ≤ i) → H2 i = H i) (fun k hk H2 hI => by
    refine ⟨upd H2 (92 * v + k) (s.2.1 50 k), ⟨fun i hi => ?_, fun i hi => ?_⟩, ?_⟩
    · by_cases e : i = k
      · subst e; exact pk_us
      · rw [pk_un (by omega)]; exact hI.1 i (by omega)
    · rw [pk_un (by omega)]; exact hI.2 i hi
    · rw [e61_51]
      simp (disch := omega) only [il_0, il_1, il_2, il_3, il_4, il_5, il_6, il_7, il_8, il_9, il_10, il_11, il_12, il_13, il_14, il_15, il_16, il_17, il_18, il_19, il_20, il_21, il_22, il_23, il_24, il_25, il_26, il_27, il_28, il_29, il_30, il_31, il_32, il_40, il_41, il_42, il_43, il_44, il_45, il_46, il_47, il_48, il_52, il_56, il_57, il_59, il_60, il_61, il_63, il_64, il_68, il_72, il_75, il_76, il_82, il_88, il_89, il_90, il_92, il_96, il_97, il_99, il_100, il_101, il_102, il_103, il_104, il_105, il_107, il_108, il_109, il_110, il_111, il_112, il_114, il_115, il_116, il_117, il_118, il_119, il_121, il_122, il_130, il_200, il_255, il_256, il_260, il_276, il_400, il_403, il_420, il_840, il_999, il_1000, il_2000, il_2001, il_2668, il_2760, il_9999, il_12345, il_1000000, il_1103515245, ↓im_1, ↓im_2, ↓im_8, ↓im_1000, nI_add, pk_mul, pk_sub, ↓pk_rem, pk_div, nm_add, nI_clamp, nI_ltI, nI_leI, nI_eq, nm_eq, mn_eq, mm_eq, nm_lt, mn_lt, nm_le, mn_le, nl_T, nl_F, nle_T, nle_F, ne_T, ne_F, b2i_0, b2i_1, b2i_n, nb_0, nb_1, or_false, false_or, or_true, true_or, and_true, true_and, and_false, false_and, or_self, and_self, not_true_eq_false, not_false_eq_true, ↓reduceIte, if_true, if_false, ↓jv_bs, ↓jv_ol, ↓jv_or, jv_tl, jv_tn, jo_T, ck_2_166_17, ck_6_43_16, ck_6_43_17, ck_6_73_16, ck_7_65_17, ck_30_10_19, su_F, e61_52, e61_54, e61_57, e61_58, e61_61, e61_63, e61_64, e61_67, e61_68, e61_69, e61_70, e61_71, e61_74, e61_75, e61_76, e61_77, e61_80, ↓tgb_50 hp, ↓trb_50 hp, ↓tub_50 hp, wa_50, ↓tgb_53 hp, wi_53, ↓tpb_53 hp, ↓tgb_54 hp, ↓trb_54 hp, ↓tub_54 hp, wa_54, ↓tw_rcb hp, ww_i, ww_a, ww_w, tw_i1, tw_i2, tw_a1, tw_a2, tw_a3, Nat.reduceEqDiff, tw_aa, tw_ci]) (s := H) ⟨fun i hi => absurd hi (Nat.not_lt_zero _), fun i _ => rfl⟩
  refine ⟨tw_a (tw_i (tw_a s 54 H2) 53 (nI (v + 1))) 50 r, ?_, rfl, g3.trans (h2.trans ?_)⟩
  · have hz50 : (kp A r).2.1 0 = r := rfl
    have hN : (kp A r).2.2.1 0 = v + 1 := by
      show (if A.2.2.1 0 = 30 then 30 else A.2.2.1 0 + 1) = _
      rw [hu, ← hv]
      split <;> rfl
    have hu30 : A.2.2.1 0 ≤ 30 := by rw [hu]; exact c3
    refine ⟨TV_c (s := s) rfl (fun k h1 h2 => ?_) b1, rfl, hz, ?_, ?_, fun i hi => ?_, b7, ?_, b9, ?_, b11, b12⟩
    rotate_left 3
    · rw [kp_n (by omega), kp_k hu30 (by omega)]; exact b6 i hi
    · rw [kp_k hu30 (by omega), kp_k hu30 (by omega)]; exact b8
    · rw [kp_k hu30 (by omega)]; exact b10
    · unfold tw_w
      dsimp only
      rw [if_neg (by omega), if_neg (by omega), if_neg (by omega), tw_a2, if_neg (by omega), tw_i2, tw_a2, if_neg (by omega)]
    · rw [hN]; rfl
    · rw [hN]
      intro i hi k hk
      show H2 (92 * i + k) = (if 1 + i = 0 then r else if A.2.2.1 0 = 30 then (if 1 ≤ 1 + i ∧ 1 + i < 30 then A.2.1 (1 + i + 1) else if 1 + i = 30 then A.2.1 0 else A.2.1 (1 + i)) else if 1 + i = 1 + A.2.2.1 0 then A.2.1 0 else A.2.1 (1 + i)) k
      rw [if_neg (by omega), hu]
      by_cases h30 : u = 30
      · rw [if_pos h30]
        rw [if_pos h30] at hv
        by_cases e : i = 29
        · rw [if_neg (by omega), if_pos (by omega), ← b2, ← i1 k hk]
          congr 1
          omega
        · rw [if_pos (by omega), i2 _ (by omega), g1 h30 _ (by omega), show 92 * i + k + 92 = 92 * (i + 1) + k by omega, b5 (i + 1) (by omega) k hk, show 1 + (i + 1) = 1 + i + 1 by omega]
      · rw [if_neg h30]
        rw [if_neg h30] at hv
        by_cases e : i = u
        · rw [if_pos (by omega), ← b2, ← i1 k hk]
          congr 1
          omega
        · rw [if_neg (by omega), i2 _ (by omega), g2 h30, b5 i (by omega) k hk]
  · have hcp : cp r (s.2.1 50) 92 = r := cp_Z hz (by rw [b2]; exact c2.2.1)
    have hkr := fun F => m_keepsRow_b (d := d) (q := q) (s := tw_i (tw_a s 54 H2) 53 (nI (v + 1))) (r := r) (lo := lo) (j := j) hp (F := F)
    simp only [tw_i2, tw_a2, Nat.reduceEqDiff, if_false, hcp] at hkr
    simp (disch := omega) only [il_0, il_1, il_2, il_3, il_4, il_5, il_6, il_7, il_8, il_9, il_10, il_11, il_12, il_13, il_14, il_15, il_16, il_17, il_18, il_19, il_20, il_21, il_22, il_23, il_24, il_25, il_26, il_27, il_28, il_29, il_30, il_31, il_32, il_40, il_41, il_42, il_43, il_44, il_45, il_46, il_47, il_48, il_52, il_56, il_57, il_59, il_60, il_61, il_63, il_64, il_68, il_72, il_75, il_76, il_82, il_88, il_89, il_90, il_92, il_96, il_97, il_99, il_100, il_101, il_102, il_103, il_104, il_105, il_107, il_108, il_109, il_110, il_111, il_112, il_114, il_115, il_116, il_117, il_118, il_119, il_121, il_122, il_130, il_200, il_255, il_256, il_260, il_276, il_400, il_403, il_420, il_840, il_999, il_1000, il_2000, il_2001, il_2668, il_2760, il_9999, il_12345, il_1000000, il_1103515245, ↓im_1, ↓im_2, ↓im_8, ↓im_1000, nI_add, pk_mul, pk_sub, ↓pk_rem, pk_div, nm_add, nI_clamp, nI_ltI, nI_leI, nI_eq, nm_eq, mn_eq, mm_eq, nm_lt, mn_lt, nm_le, mn_le, nl_T, nl_F, nle_T, nle_F, ne_T, ne_F, b2i_0, b2i_1, b2i_n, nb_0, nb_1, or_false, false_or, or_true, true_or, and_true, true_and, and_false, false_and, or_self, and_self, not_true_eq_false, not_false_eq_true, ↓reduceIte, if_true, if_false, ↓jv_bs, ↓jv_ol, ↓jv_or, jv_tl, jv_tn, jo_T, ck_2_166_17, ck_6_43_16, ck_6_43_17, ck_6_73_16, ck_7_65_17, ck_30_10_19, su_F, e61_51, e61_52, e61_54, e61_83, e61_84, e61_85, e61_88, e61_89, e61_90, e61_93, e61_94, e61_97, ↓tgb_50 hp, ↓trb_50 hp, ↓tub_50 hp, wa_50, ↓tgb_53 hp, wi_53, ↓tpb_53 hp, ↓tgb_54 hp, ↓trb_54 hp, ↓tub_54 hp, wa_54, ↓tw_rcb hp, ww_i, ww_a, ww_w, tw_i1, tw_i2, tw_a1, tw_a2, tw_a3, Nat.reduceEqDiff, tw_ii, ↓hkr]
end
