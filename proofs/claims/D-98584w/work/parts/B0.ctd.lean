/-! the component: what is told, numbers -/
/-- one thing, without the sign behind it -/
def pTd (K V N L : Nat → Nat) (R : Nat → Nat → Nat) (t : Nat) (S : Sx) : Pa Sx :=
  if K t = 20 then (if t_r S.1 = 6 then .inl (2, t) else qp t fun t1 => qm K 1 t1 fun t2 => .inr (t2, (rwT S.1 (L t1) (R t1), S.2.1, if rwB S.1 (L t1) (R t1) = true then wt S.2.2 6 t1 else S.2.2)))
  else if K t = 21 then (if t_nf S.1 = 6 then .inl (2, t) else qp t fun t1 => qm K 1 t1 fun t2 => qn K V 0 99 t2 (if N t1 ∈ S.2.1 then wt S.2.2 3 t1 else S.2.2) fun t3 w => qn K V 0 999 t3 w fun t4 w => .inr (t4, (fdT S.1 (V t2) (V t3), S.2.1 ++ [N t1], w)))
  else if K t = 22 then (if t_nl S.1 = 4 then .inl (2, t) else qp t fun t1 => qm K 1 t1 fun t2 => qn K V 1 8 t2 (if N t1 ∈ S.2.1 then wt S.2.2 3 t1 else S.2.2) fun t3 w => qn K V 0 99 t3 w fun t4 w => .inr (t4, (lmT S.1 (V t2) (V t3), S.2.1 ++ [N t1], w)))
  else if K t = 26 then qp t fun t1 => qn K V 0 9999 t1 S.2.2 fun t2 w => .inr (t2, (tI S.1 0 (nI (V t1)), S.2.1, w))
  else if K t = 27 then qp t fun t1 => qn K V 0 100 t1 S.2.2 fun t2 w => .inr (t2, (tI S.1 1 (nI (V t1)), S.2.1, w))
  else if K t = 28 then qp t fun t1 => qn K V 0 9999 t1 S.2.2 fun t2 w => .inr (t2, (tI S.1 2 (nI (V t1)), S.2.1, w))
  else if 23 ≤ K t ∧ K t ≤ 25 then qp t fun t1 => qm K 5 t1 fun t2 => qb (pIf K V 4 t2 []) fun t3 l => .inr (t3, (tL S.1 (K t - 23) l, S.2.1, S.2.2))
  else .inl (1, t)
section
variable {K V N L : Nat → Nat} {R : Nat → Nat → Nat} {t : Nat} {S : Sx}
theorem qb_p {α β : Type} {t : Nat} {f : Nat → Pa α} {Q : Nat → α → Pa β} : qb (qp t f) Q = qp t fun u => qb (f u) Q := by
  unfold qp
  split <;> rfl
theorem qb_m {α β : Type} {k t : Nat} {f : Nat → Pa α} {Q : Nat → α → Pa β} : qb (qm K k t f) Q = qm K k t fun u => qb (f u) Q := by
  unfold qm
  split
  · exact qb_p
  · rfl
theorem qb_n {α β : Type} {lo hi t : Nat} {w : Wt} {f : Nat → Wt → Pa α} {Q : Nat → α → Pa β} : qb (qn K V lo hi t w f) Q = qn K V lo hi t w fun u w => qb (f u w) Q := by
  unfold qn
  split
  · exact qb_p
  · rfl
theorem qb_b {α β γ : Type} {r : Pa α} {f : Nat → α → Pa β} {Q : Nat → β → Pa γ} : qb (qb r f) Q = qb r fun u x => qb (f u x) Q := by
  cases r <;> rfl
theorem pOne_d : pOne K V N L R t S = qb (pTd K V N L R t S) fun u S' => qm K 4 u fun t' => .inr (t', S') := by
  unfold pOne pTd
  split
  · split
    · rfl
    · rw [qb_p]; simp only [qb_m]; rfl
  · split
    · split
      · rfl
      · rw [qb_p]; simp only [qb_m, qb_n]; rfl
    · split
      · split
        · rfl
        · rw [qb_p]; simp only [qb_m, qb_n]; rfl
      · split
        · rw [qb_p]; simp only [qb_n]; rfl
        · split
          · rw [qb_p]; simp only [qb_n]; rfl
          · split
            · rw [qb_p]; simp only [qb_n]; rfl
            · split
              · rw [qb_p]; simp only [qb_m, qb_b]; rfl
              · rfl
end
/-- what telling one thing answers -/
def TDx (o r0 : jv_H) (c : cm_S) (K F L : Nat → Nat) (R : Nat → Nat → Nat) (a : Nat) (run : Option jv_R) (res : Pa Sx) : Prop := match res with
  | .inl e => FT o r0 c F e run
  | .inr x => ∃ c' X, CP c c' ∧ CT c' K F L R x.1 0 ∧ WQ c' x.2.2.2 ∧ RC3 K x.1 ∧ PX a x.2 X ∧ BZ X x.1 ∧ run = some (.inl none, cm_h o c' (r0 ++ X))
section
variable {d t n i m k a b u x lo hi : Nat} {o r r0 rb X Y Z : jv_H} {c c' c2 : cm_S} {K V F N L : Nat → Nat} {R : Nat → Nat → Nat} {w : Wt} {S : Sx}
theorem TDx_c {run : Option jv_R} {res : Pa Sx} (hc : CP c c') (h : TDx o r0 c' K F L R a run res) : TDx o r0 c K F L R a run res := by
  cases res with
  | inl e => exact FT_c hc h
  | inr x =>
    obtain ⟨c2, X, h1, h2⟩ := h
    exact ⟨c2, X, CP_tr hc h1, h2⟩
/-- a number is told -/
def nbS (c : cm_S) (w : Wt) (lo hi : Nat) (V : Nat → Nat) (t : Nat) : cm_S := if V t < lo ∨ hi < V t then wcS (cs_i c 50 (nI (t + 1))) w 5 t else cs_i c 50 (nI (t + 1))
theorem c_nb (ho : o.length = 50) (hE : CE c K F L R) (hK : EK K V L R) (hr : RC3 K t) (h50 : c.1 50 = nI t) (hw : WQ c w) (hlo : lo ≤ 9999) (hhi : hi ≤ 9999) (hV : K t = 2 → V t ≤ 9999) : jv_cd (d + 6) 206 [.ref 59, .int (nI lo), .int (nI hi)] (cm_h o c r) = if K t = 2 then (if t = 400 then some (.inr 51, cm_h o (fcS c (nI 2) (nI (F t))) r) else some (.inl (some (.int (nI (V t)))), cm_h o (nbS c w lo hi V t) r)) else some (.inr 51, cm_h o (fcS c (nI 1) (nI (F t))) r) := by
  have g1 := c_take (d := d) (r := r) (k := 1) ho hE hr h50 (by decide)
  have ht4 := hr.1
  by_cases h2 : K t = 2
  · rw [if_pos h2] at g1 ⊢
    have hV := hV h2
    by_cases h4 : t = 400
    · rw [if_pos h4] at g1 ⊢
      simp (disch := omega) only [il_0, il_1, il_2, il_3, il_4, il_5, il_6, il_7, il_8, il_9, il_10, il_11, il_12, il_13, il_14, il_15, il_16, il_17, il_18, il_19, il_20, il_21, il_22, il_23, il_24, il_25, il_26, il_27, il_28, il_29, il_30, il_31, il_32, il_40, il_41, il_42, il_43, il_44, il_45, il_46, il_47, il_48, il_52, il_56, il_57, il_59, il_60, il_61, il_63, il_64, il_68, il_72, il_75, il_76, il_82, il_88, il_89, il_90, il_92, il_96, il_97, il_99, il_100, il_101, il_102, il_103, il_104, il_105, il_107, il_108, il_109, il_110, il_111, il_112, il_114, il_115, il_116, il_117, il_118, il_119, il_121, il_122, il_130, il_200, il_255, il_256, il_260, il_276, il_400, il_403, il_420, il_840, il_999, il_1000, il_2000, il_2001, il_2668, il_2760, il_9999, il_12345, il_1000000, il_1103515245, ↓im_1, ↓im_2, ↓im_8, ↓im_1000, nI_add, pk_mul, pk_sub, ↓pk_rem, pk_div, nm_add, nI_clamp, nI_ltI, nI_leI, nI_eq, nm_eq, mn_eq, mm_eq, nm_lt, mn_lt, nm_le, mn_le, nl_T, nl_F, nle_T, nle_F, ne_T, ne_F, b2i_0, b2i_1, b2i_n, nb_0, nb_1, or_false, false_or, or_true, true_or, and_true, true_and, and_false, false_and, or_self, and_self, not_true_eq_false, not_false_eq_true, ↓reduceIte, if_true, if_false, ↓jv_bs, ↓jv_ol, ↓jv_or, jv_tl, jv_tn, jo_T, ck_2_166_17, ck_6_43_16, ck_6_43_17, ck_6_73_16, ck_7_65_17, ck_30_10_19, su_F, e206_0, e206_1, e206_2, e206_5, e206_6, e206_7, e206_10, e206_11, e206_14, e206_16, e206_18, e206_19, e206_22, e206_24, e206_25, e206_28, e206_29, e206_30, e206_31, e206_34, e206_36, ↓cg_59_0b ho, ↓cr_50b ho, ↓cr_51b ho, ↓cr_52b ho, ↓cr_59b ho, ↓crlb ho, ci1, ci2, ca1, ca2, ca3, cL1, cL2, cL3, cL4, cx1, cx2, cx3, cx4, cy1, cy2, cy3, cy4, jn_0, Nat.reduceEqDiff, n206, ↓jbR g1]
    · rw [if_neg h4] at g1 ⊢
      have g2 := c_num (d := d + 4) (c := cs_i c 50 (nI (t + 1))) (r := r) ho (CE_CP hE (CP_i (by omega))) hK hr h2
      have hw1 : WQ (cs_i c 50 (nI (t + 1))) w := hw
      have g3 := c_tell (d := d + 4) (r := r) (n := 5) (t := t) ho hw1 (by decide) ht4
      unfold nbS
      by_cases hb : V t < lo ∨ hi < V t
      · rw [if_pos hb]
        by_cases hb1 : V t < lo
        · simp (disch := omega) only [il_0, il_1, il_2, il_3, il_4, il_5, il_6, il_7, il_8, il_9, il_10, il_11, il_12, il_13, il_14, il_15, il_16, il_17, il_18, il_19, il_20, il_21, il_22, il_23, il_24, il_25, il_26, il_27, il_28, il_29, il_30, il_31, il_32, il_40, il_41, il_42, il_43, il_44, il_45, il_46, il_47, il_48, il_52, il_56, il_57, il_59, il_60, il_61, il_63, il_64, il_68, il_72, il_75, il_76, il_82, il_88, il_89, il_90, il_92, il_96, il_97, il_99, il_100, il_101, il_102, il_103, il_104, il_105, il_107, il_108, il_109, il_110, il_111, il_112, il_114, il_115, il_116, il_117, il_118, il_119, il_121, il_122, il_130, il_200, il_255, il_256, il_260, il_276, il_400, il_403, il_420, il_840, il_999, il_1000, il_2000, il_2001, il_2668, il_2760, il_9999, il_12345, il_1000000, il_1103515245, ↓im_1, ↓im_2, ↓im_8, ↓im_1000, nI_add, pk_mul, pk_sub, ↓pk_rem, pk_div, nm_add, nI_clamp, nI_ltI, nI_leI, nI_eq, nm_eq, mn_eq, mm_eq, nm_lt, mn_lt, nm_le, mn_le, nl_T, nl_F, nle_T, nle_F, ne_T, ne_F, b2i_0, b2i_1, b2i_n, nb_0, nb_1, or_false, false_or, or_true, true_or, and_true, true_and, and_false, false_and, or_self, and_self, not_true_eq_false, not_false_eq_true, ↓reduceIte, if_true, if_false, ↓jv_bs, ↓jv_ol, ↓jv_or, jv_tl, jv_tn, jo_T, ck_2_166_17, ck_6_43_16, ck_6_43_17, ck_6_73_16, ck_7_65_17, ck_30_10_19, su_F, e206_0, e206_1, e206_2, e206_5, e206_6, e206_7, e206_10, e206_11, e206_14, e206_16, e206_18, e206_19, e206_22, e206_24, e206_25, e206_28, e206_29, e206_30, e206_31, e206_34, e206_36, ↓cg_59_0b ho, ↓cr_50b ho, ↓cr_51b ho, ↓cr_52b ho, ↓cr_59b ho, ↓crlb ho, ci1, ci2, ca1, ca2, ca3, cL1, cL2, cL3, cL4, cx1, cx2, cx3, cx4, cy1, cy2, cy3, cy4, jn_0, Nat.reduceEqDiff, n206, ↓jbR g1, ↓jbR g2, ↓jbR g3]
        · have hb2 : hi < V t := by omega
          simp (disch := omega) only [il_0, il_1, il_2, il_3, il_4, il_5, il_6, il_7, il_8, il_9, il_10, il_11, il_12, il_13, il_14, il_15, il_16, il_17, il_18, il_19, il_20, il_21, il_22, il_23, il_24, il_25, il_26, il_27, il_28, il_29, il_30, il_31, il_32, il_40, il_41, il_42, il_43, il_44, il_45, il_46, il_47, il_48, il_52, il_56, il_57, il_59, il_60, il_61, il_63, il_64, il_68, il_72, il_75, il_76, il_82, il_88, il_89, il_90, il_92, il_96, il_97, il_99, il_100, il_101, il_102, il_103, il_104, il_105, il_107, il_108, il_109, il_110, il_111, il_112, il_114, il_115, il_116, il_117, il_118, il_119, il_121, il_122, il_130, il_200, il_255, il_256, il_260, il_276, il_400, il_403, il_420, il_840, il_999, il_1000, il_2000, il_2001, il_2668, il_2760, il_9999, il_12345, il_1000000, il_1103515245, ↓im_1, ↓im_2, ↓im_8, ↓im_1000, nI_add, pk_mul, pk_sub, ↓pk_rem, pk_div, nm_add, nI_clamp, nI_ltI, nI_leI, nI_eq, nm_eq, mn_eq, mm_eq, nm_lt, mn_lt, nm_le, mn_le, nl_T, nl_F, nle_T, nle_F, ne_T, ne_F, b2i_0, b2i_1, b2i_n, nb_0, nb_1, or_false, false_or, or_true, true_or, and_true, true_and, and_false, false_and, or_self, and_self, not_true_eq_false, not_false_eq_true, ↓reduceIte, if_true, if_false, ↓jv_bs, ↓jv_ol, ↓jv_or, jv_tl, jv_tn, jo_T, ck_2_166_17, ck_6_43_16, ck_6_43_17, ck_6_73_16, ck_7_65_17, ck_30_10_19, su_F, e206_0, e206_1, e206_2, e206_5, e206_6, e206_7, e206_10, e206_11, e206_14, e206_16, e206_18, e206_19, e206_22, e206_24, e206_25, e206_28, e206_29, e206_30, e206_31, e206_34, e206_36, ↓cg_59_0b ho, ↓cr_50b ho, ↓cr_51b ho, ↓cr_52b ho, ↓cr_59b ho, ↓crlb ho, ci1, ci2, ca1, ca2, ca3, cL1, cL2, cL3, cL4, cx1, cx2, cx3, cx4, cy1, cy2, cy3, cy4, jn_0, Nat.reduceEqDiff, n206, ↓jbR g1, ↓jbR g2, ↓jbR g3]
      · rw [if_neg hb]
        have hb1 : ¬ V t < lo := fun h => hb (Or.inl h)
        have hb2 : ¬ hi < V t := fun h => hb (Or.inr h)
        simp (disch := omega) only [il_0, il_1, il_2, il_3, il_4, il_5, il_6, il_7, il_8, il_9, il_10, il_11, il_12, il_13, il_14, il_15, il_16, il_17, il_18, il_19, il_20, il_21, il_22, il_23, il_24, il_25, il_26, il_27, il_28, il_29, il_30, il_31, il_32, il_40, il_41, il_42, il_43, il_44, il_45, il_46, il_47, il_48, il_52, il_56, il_57, il_59, il_60, il_61, il_63, il_64, il_68, il_72, il_75, il_76, il_82, il_88, il_89, il_90, il_92, il_96, il_97, il_99, il_100, il_101, il_102, il_103, il_104, il_105, il_107, il_108, il_109, il_110, il_111, il_112, il_114, il_115, il_116, il_117, il_118, il_119, il_121, il_122, il_130, il_200, il_255, il_256, il_260, il_276, il_400, il_403, il_420, il_840, il_999, il_1000, il_2000, il_2001, il_2668, il_2760, il_9999, il_12345, il_1000000, il_1103515245, ↓im_1, ↓im_2, ↓im_8, ↓im_1000, nI_add, pk_mul, pk_sub, ↓pk_rem, pk_div, nm_add, nI_clamp, nI_ltI, nI_leI, nI_eq, nm_eq, mn_eq, mm_eq, nm_lt, mn_lt, nm_le, mn_le, nl_T, nl_F, nle_T, nle_F, ne_T, ne_F, b2i_0, b2i_1, b2i_n, nb_0, nb_1, or_false, false_or, or_true, true_or, and_true, true_and, and_false, false_and, or_self, and_self, not_true_eq_false, not_false_eq_true, ↓reduceIte, if_true, if_false, ↓jv_bs, ↓jv_ol, ↓jv_or, jv_tl, jv_tn, jo_T, ck_2_166_17, ck_6_43_16, ck_6_43_17, ck_6_73_16, ck_7_65_17, ck_30_10_19, su_F, e206_0, e206_1, e206_2, e206_5, e206_6, e206_7, e206_10, e206_11, e206_14, e206_16, e206_18, e206_19, e206_22, e206_24, e206_25, e206_28, e206_29, e206_30, e206_31, e206_34, e206_36, ↓cg_59_0b ho, ↓cr_50b ho, ↓cr_51b ho, ↓cr_52b ho, ↓cr_59b ho, ↓crlb ho, ci1, ci2, ca1, ca2, ca3, cL1, cL2, cL3, cL4, cx1, cx2, cx3, cx4, cy1, cy2, cy3, cy4, jn_0, Nat.reduceEqDiff, n206, ↓jbR g1, ↓jbR g2]
  · rw [if_neg h2] at g1 ⊢
    simp (disch := omega) only [il_0, il_1, il_2, il_3, il_4, il_5, il_6, il_7, il_8, il_9, il_10, il_11, il_12, il_13, il_14, il_15, il_16, il_17, il_18, il_19, il_20, il_21, il_22, il_23, il_24, il_25, il_26, il_27, il_28, il_29, il_30, il_31, il_32, il_40, il_41, il_42, il_43, il_44, il_45, il_46, il_47, il_48, il_52, il_56, il_57, il_59, il_60, il_61, il_63, il_64, il_68, il_72, il_75, il_76, il_82, il_88, il_89, il_90, il_92, il_96, il_97, il_99, il_100, il_101, il_102, il_103, il_104, il_105, il_107, il_108, il_109, il_110, il_111, il_112, il_114, il_115, il_116, il_117, il_118, il_119, il_121, il_122, il_130, il_200, il_255, il_256, il_260, il_276, il_400, il_403, il_420, il_840, il_999, il_1000, il_2000, il_2001, il_2668, il_2760, il_9999, il_12345, il_1000000, il_1103515245, ↓im_1, ↓im_2, ↓im_8, ↓im_1000, nI_add, pk_mul, pk_sub, ↓pk_rem, pk_div, nm_add, nI_clamp, nI_ltI, nI_leI, nI_eq, nm_eq, mn_eq, mm_eq, nm_lt, mn_lt, nm_le, mn_le, nl_T, nl_F, nle_T, nle_F, ne_T, ne_F, b2i_0, b2i_1, b2i_n, nb_0, nb_1, or_false, false_or, or_true, true_or, and_true, true_and, and_false, false_and, or_self, and_self, not_true_eq_false, not_false_eq_true, ↓reduceIte, if_true, if_false, ↓jv_bs, ↓jv_ol, ↓jv_or, jv_tl, jv_tn, jo_T, ck_2_166_17, ck_6_43_16, ck_6_43_17, ck_6_73_16, ck_7_65_17, ck_30_10_19, su_F, e206_0, e206_1, e206_2, e206_5, e206_6, e206_7, e206_10, e206_11, e206_14, e206_16, e206_18, e206_19, e206_22, e206_24, e206_25, e206_28, e206_29, e206_30, e206_31, e206_34, e206_36, ↓cg_59_0b ho, ↓cr_50b ho, ↓cr_51b ho, ↓cr_52b ho, ↓cr_59b ho, ↓crlb ho, ci1, ci2, ca1, ca2, ca3, cL1, cL2, cL3, cL4, cx1, cx2, cx3, cx4, cy1, cy2, cy3, cy4, jn_0, Nat.reduceEqDiff, n206, ↓jbR g1]
theorem nb_k (hT : CT c K F L R t 0) (hw : WQ c w) (ht : t ≤ 400) : CP c (nbS c w lo hi V t) ∧ CT (nbS c w lo hi V t) K F L R (t + 1) 0 ∧ WQ (nbS c w lo hi V t) (if V t < lo ∨ hi < V t then wt w 5 t else w) := by
  unfold nbS
  have h1 : CP c (cs_i c 50 (nI (t + 1))) := CP_i (by omega)
  have hw1 : WQ (cs_i c 50 (nI (t + 1))) w := hw
  split
  · obtain ⟨g1, g2, g3, g4⟩ := WQ_w (n := 5) hw1 (by decide) ht
    exact ⟨CP_tr h1 g2, ⟨CE_CP hT.1 (CP_tr h1 g2), g3.trans rfl, g4.trans hT.2.2⟩, g1⟩
  · exact ⟨h1, ⟨CE_CP hT.1 h1, rfl, hT.2.2⟩, hw1⟩
/-- a number of the text itself -/
theorem PX_I {j : Nat} {v : Int32} {w' : Wt} (ho : o.length = 50) (ha : a = 589 + r0.length) (hX : PX a S X) (hj : j < 3) (hw : w'.1 = 0 → S.2.2.1 = 0) : ∃ X', PX a (tI S.1 j v, S.2.1, w') X' ∧ X'.length = X.length ∧ sn_z X' = sn_z X ∧ ∀ c, jv_pf (cm_h o c (r0 ++ X)) a [(5, 6 + j, .int)] (.int v) = some (cm_h o c (r0 ++ X')) := by
  obtain ⟨Y, E, fd, mF, mL, eF, eL, lf, fF, fL, cF, cL, h1, h2, h3, h4, h5, h6, h7, h8⟩ := hX
  have e2 : ∀ i, i ≠ j → (tI S.1 j v).2.1 i = S.1.2.1 i := fun i hi => if_neg hi
  refine ⟨tx5 a (q4 (tI S.1 j v)) (z3 (tI S.1 j v)) fd mF mL eF eL lf ++ Y, ⟨Y, E, fd, mF, mL, eF, eL, lf, fF, fL, cF, cL, rfl, h2, fun h c hc hon => (h3 (hw h) c hc hon).trans (e2 (40 + c) (by omega)).symm, ?_, ?_, h6, h7, h8⟩, by rw [h1]; rfl, ?_, fun c => ?_⟩
  · refine ⟨h4.1, fun f hf => ?_⟩
    obtain ⟨x, sx, g1, g2, g3, g4⟩ := h4.2 f hf
    refine ⟨x, sx, g1, g2, ?_, g4⟩
    show gF (a + 5) Y E x = some (.inr (16, [.ref sx, .int ((tI S.1 j v).2.1 (10 + f)), .int ((tI S.1 j v).2.1 (20 + f))]))
    rw [e2 _ (by omega), e2 _ (by omega)]
    exact g3
  · refine ⟨h5.1, fun f hf => ?_⟩
    obtain ⟨x, sx, g1, g2, g3, g4⟩ := h5.2 f hf
    refine ⟨x, sx, g1, g2, ?_, g4⟩
    show gF (a + 5) Y E x = some (.inr (17, [.ref sx, .int (nI (t_lw S.1 f)), .int ((tI S.1 j v).2.1 (30 + f))]))
    rw [e2 _ (by omega)]
    exact g3
  · rw [h1, sz_app, sz_app]
    rfl
  · rw [h1]
    have h0 := tx_g (c := c) (q := q4 S.1) (z := z3 S.1) (fd := fd) (mF := mF) (mL := mL) (eF := eF) (eL := eL) (lf := lf) (Y := Y) ho ha 0 rfl
    rw [Nat.add_zero] at h0
    have hz : ∀ (z' : Int32 × Int32 × Int32), (tx5 a (q4 S.1) (z3 S.1) fd mF mL eF eL lf).set 0 (.inr (5, [.ref (a + 1), .ref (a + 2), .ref (a + 3), .ref (a + 4), .int (nI (t_r S.1)), .int (nI (t_w S.1)), .int z'.1, .int z'.2.1, .int z'.2.2])) = tx5 a (q4 S.1) z' fd mF mL eF eL lf := fun z' => rfl
    have hset := fun z' => tx_s (c := c) (Y := Y) ho ha 0 (by decide) (hz z')
    simp only [Nat.add_zero] at hset
    rcases (show j = 0 ∨ j = 1 ∨ j = 2 by omega) with rfl | rfl | rfl
    · rw [jv_pf_at (k := 6) h0 rfl (show 50 ≤ a by omega) (Nat.le_of_ble_eq_true rfl) rfl rfl]
      exact congrArg some (hset (v, t_gu S.1, t_se S.1))
    · rw [jv_pf_at (k := 7) h0 rfl (show 50 ≤ a by omega) (Nat.le_of_ble_eq_true rfl) rfl rfl]
      exact congrArg some (hset (t_st S.1, v, t_se S.1))
    · rw [jv_pf_at (k := 8) h0 rfl (show 50 ≤ a by omega) (Nat.le_of_ble_eq_true rfl) rfl rfl]
      exact congrArg some (hset (t_st S.1, t_gu S.1, v))
theorem BZ_eq {X' : jv_H} (h : BZ X t) (h1 : X'.length = X.length) (h2 : sn_z X' = sn_z X) : BZ X' t := ⟨by rw [h1]; exact h.1, by rw [h2]; exact h.2⟩
theorem c_st0 (ho : o.length = 50) (hT : CT c K F L R t 0) (hr : RC3 K t) (h20 : 20 ≤ K t) : jv_cd (d + 4) 188 [.ref 59] (cm_h o c r) = some (.inl (some (.int (nI 3))), cm_h o c r) := by
  have g := c_sort (d := d) (r := r) ho hT.1 hr hT.2.1
  rw [if_neg (by omega), csk_3.mpr h20] at g
  exact g
theorem c_st0_b (ho : o.length = 50) (hT : CT c K F L R t 0) (hr : RC3 K t) (h20 : 20 ≤ K t) {F : jv_R → Option jv_R} : (jv_cd (d + 4) 188 [.ref 59] (cm_h o c r)).bind F = F (.inl (some (.int (nI 3))), cm_h o c r) := jb (c_st0 ho hT hr h20)
theorem k_store (ho : o.length = 50) (hE : EN K V F N L R) (hK : EK K V L R) (ha : a = 589 + r0.length) (hy : c.2.2.2.2 = .ref a) (hT : CT c K F L R t 0) (hr : RC3 K t) (hw : WQ c S.2.2) (hX : PX a S X) (hB : BZ X t) (hk : K t = 26) : TDx o r0 c K F L R a (jv_cd (d + 28) 191 [.ref 59] (cm_h o c (r0 ++ X))) (pTd K V N L R t S) := by
  have e : pTd K V N L R t S = qp t fun t1 => qn K V 0 9999 t1 S.2.2 fun t2 w => .inr (t2, (tI S.1 0 (nI (V t1)), S.2.1, w)) := by
    unfold pTd
    rw [if_neg (by omega)]
    rw [if_neg (by omega)]
    rw [if_neg (by omega)]
    rw [if_pos hk]
  rw [e]
  obtain ⟨e1, e2, e3⟩ := hT.1 t hr
  have ht4 := hr.1
  have e4 := (e3 (by omega)).2.1 (by omega)
  rw [hk, show cwk 26 = 6 from rfl] at e4
  have h50 := hT.2.1
  have gs := c_st0 (d := d + 23) (r := r0 ++ X) ho hT hr (by omega)
  have gp := c_pass (d := d + 23) (r := r0 ++ X) ho e2 ht4 h50
  rw [qp_e]
  by_cases h4 : t = 400
  · rw [if_pos h4] at gp ⊢
    refine FT_f hB ?_
    simp (disch := omega) only [il_0, il_1, il_2, il_3, il_4, il_5, il_6, il_7, il_8, il_9, il_10, il_11, il_12, il_13, il_14, il_15, il_16, il_17, il_18, il_19, il_20, il_21, il_22, il_23, il_24, il_25, il_26, il_27, il_28, il_29, il_30, il_31, il_32, il_40, il_41, il_42, il_43, il_44, il_45, il_46, il_47, il_48, il_52, il_56, il_57, il_59, il_60, il_61, il_63, il_64, il_68, il_72, il_75, il_76, il_82, il_88, il_89, il_90, il_92, il_96, il_97, il_99, il_100, il_101, il_102, il_103, il_104, il_105, il_107, il_108, il_109, il_110, il_111, il_112, il_114, il_115, il_116, il_117, il_118, il_119, il_121, il_122, il_130, il_200, il_255, il_256, il_260, il_276, il_400, il_403, il_420, il_840, il_999, il_1000, il_2000, il_2001, il_2668, il_2760, il_9999, il_12345, il_1000000, il_1103515245, ↓im_1, ↓im_2, ↓im_8, ↓im_1000, nI_add, pk_mul, pk_sub, ↓pk_rem, pk_div, nm_add, nI_clamp, nI_ltI, nI_leI, nI_eq, nm_eq, mn_eq, mm_eq, nm_lt, mn_lt, nm_le, mn_le, nl_T, nl_F, nle_T, nle_F, ne_T, ne_F, b2i_0, b2i_1, b2i_n, nb_0, nb_1, or_false, false_or, or_true, true_or, and_true, true_and, and_false, false_and, or_self, and_self, not_true_eq_false, not_false_eq_true, ↓reduceIte, if_true, if_false, ↓jv_bs, ↓jv_ol, ↓jv_or, jv_tl, jv_tn, jo_T, ck_2_166_17, ck_6_43_16, ck_6_43_17, ck_6_73_16, ck_7_65_17, ck_30_10_19, su_F, e191_0, e191_1, e191_4, e191_5, e191_8, e191_9, e191_12, e191_15, e191_16, e191_19, e191_20, e191_23, e191_24, e191_25, e191_26, e191_27, e191_30, e191_31, e191_32, e191_35, e191_36, e191_39, e191_40, e191_43, e191_46, e191_47, e191_48, e191_49, e191_50, e191_53, e191_54, e191_55, e191_56, e191_245, e191_246, ↓cg_52_6b ho, ↓cg_59_0b ho, ↓cg_59_2b ho, ↓cg_59_3b ho, ↓cr_50b ho, ↓cr_51b ho, ↓cr_52b ho, ↓cr_59b ho, ↓crlb ho, ↓ct_58b ho, ↓cw_58b ho, ci1, ci2, ca1, ca2, ca3, cL1, cL2, cL3, cL4, cx1, cx2, cx3, cx4, cy1, cy2, cy3, cy4, jn_0, Nat.reduceEqDiff, n191, jv_tsl, h50, e4, ↓jbR gs, ↓jbR gp, ↓cg_52_6b ho, ↓ct_58b ho]
  rw [if_neg h4] at gp ⊢
  have hr1 := RC3_s hr h4 (by omega) (by omega)
  have hc1 : CP c (cs_i c 50 (nI (t + 1))) := CP_i (by omega)
  have hT1 := CT_go hT
  have hw1 : WQ (cs_i c 50 (nI (t + 1))) S.2.2 := hw
  have hB1 := BZ_le hB (Nat.le_succ t)
  have hy1 : (cs_i c 50 (nI (t + 1))).2.2.2.2 = .ref a := hy
  generalize cs_i c 50 (nI (t + 1)) = c1 at gp hc1 hT1 hw1 hy1
  refine TDx_c hc1 ?_
  have gn := c_nb (d := d + 21) (r := r0 ++ X) (lo := 0) (hi := 9999) ho hT1.1 hK hr1 hT1.2.1 hw1 (by decide) (by decide) (hE.2.2.2.1 _)
  obtain ⟨n1, n2, n3⟩ := nb_k (V := V) (lo := 0) (hi := 9999) hT1 hw1 hr1.1
  have st : jv_cd (d + 28) 191 [.ref 59] (cm_h o c (r0 ++ X)) = (jv_cd (d + 27) 206 [.ref 59, .int (nI 0), .int (nI 9999)] (cm_h o c1 (r0 ++ X))).bind fun q => jv_on q (fun v h => jv_ev (d + 27) 191 261 [some (.ref 59), some (.int (nI 6)), none] (v.toList ++ [.ref a]) h) (fun q h => some (.inr q, h)) := by
    simp (disch := omega) only [il_0, il_1, il_2, il_3, il_4, il_5, il_6, il_7, il_8, il_9, il_10, il_11, il_12, il_13, il_14, il_15, il_16, il_17, il_18, il_19, il_20, il_21, il_22, il_23, il_24, il_25, il_26, il_27, il_28, il_29, il_30, il_31, il_32, il_40, il_41, il_42, il_43, il_44, il_45, il_46, il_47, il_48, il_52, il_56, il_57, il_59, il_60, il_61, il_63, il_64, il_68, il_72, il_75, il_76, il_82, il_88, il_89, il_90, il_92, il_96, il_97, il_99, il_100, il_101, il_102, il_103, il_104, il_105, il_107, il_108, il_109, il_110, il_111, il_112, il_114, il_115, il_116, il_117, il_118, il_119, il_121, il_122, il_130, il_200, il_255, il_256, il_260, il_276, il_400, il_403, il_420, il_840, il_999, il_1000, il_2000, il_2001, il_2668, il_2760, il_9999, il_12345, il_1000000, il_1103515245, ↓im_1, ↓im_2, ↓im_8, ↓im_1000, nI_add, pk_mul, pk_sub, ↓pk_rem, pk_div, nm_add, nI_clamp, nI_ltI, nI_leI, nI_eq, nm_eq, mn_eq, mm_eq, nm_lt, mn_lt, nm_le, mn_le, nl_T, nl_F, nle_T, nle_F, ne_T, ne_F, b2i_0, b2i_1, b2i_n, nb_0, nb_1, or_false, false_or, or_true, true_or, and_true, true_and, and_false, false_and, or_self, and_self, not_true_eq_false, not_false_eq_true, ↓reduceIte, if_true, if_false, ↓jv_bs, ↓jv_ol, ↓jv_or, jv_tl, jv_tn, jo_T, ck_2_166_17, ck_6_43_16, ck_6_43_17, ck_6_73_16, ck_7_65_17, ck_30_10_19, su_F, e191_0, e191_1, e191_4, e191_5, e191_8, e191_9, e191_12, e191_15, e191_16, e191_19, e191_20, e191_23, e191_24, e191_25, e191_26, e191_27, e191_30, e191_31, e191_32, e191_35, e191_36, e191_39, e191_40, e191_43, e191_46, e191_47, e191_48, e191_49, e191_50, e191_53, e191_54, e191_55, e191_56, e191_245, e191_246, e191_249, e191_250, e191_253, e191_254, e191_255, e191_258, ↓cg_52_6b ho, ↓cg_59_0b ho, ↓cg_59_2b ho, ↓cg_59_3b ho, ↓cr_50b ho, ↓cr_51b ho, ↓cr_52b ho, ↓cr_59b ho, ↓crlb ho, ↓ct_58b ho, ↓cw_58b ho, ci1, ci2, ca1, ca2, ca3, cL1, cL2, cL3, cL4, cx1, cx2, cx3, cx4, cy1, cy2, cy3, cy4, jn_0, Nat.reduceEqDiff, n191, jv_tsl, h50, e4, hy1, ↓jbR gs, ↓jbR gp, ↓cg_52_6b ho, ↓ct_58b ho]
  rw [st, gn]
  unfold qn
  by_cases h2 : K (t + 1) = 2
  · rw [if_pos h2, if_pos h2, qp_e]
    by_cases h41 : t + 1 = 400
    · rw [if_pos h41, if_pos h41]
      exact FT_f hB1 rfl
    rw [if_neg h41, if_neg h41]
    refine TDx_c n1 ?_
    obtain ⟨X', p1, p2, p3, p4⟩ := PX_I (v := nI (V (t + 1))) (w' := if V (t + 1) < 0 ∨ 9999 < V (t + 1) then wt S.2.2 5 (t + 1) else S.2.2) ho ha hX (j := 0) (by decide) (fun h0 => by
      split at h0
      · exact absurd h0 (wt_0 (by decide))
      · exact h0)
    generalize nbS c1 S.2.2 0 9999 V (t + 1) = c2 at n2 n3 ⊢
    have p4 := p4 c2
    refine ⟨c2, X', CP_id, n2, n3, RC3_s hr1 h41 (by omega) (by omega), p1, BZ_eq (BZ_le hB1 (Nat.le_succ _)) p2 p3, ?_⟩
    simp (disch := omega) only [il_0, il_1, il_2, il_3, il_4, il_5, il_6, il_7, il_8, il_9, il_10, il_11, il_12, il_13, il_14, il_15, il_16, il_17, il_18, il_19, il_20, il_21, il_22, il_23, il_24, il_25, il_26, il_27, il_28, il_29, il_30, il_31, il_32, il_40, il_41, il_42, il_43, il_44, il_45, il_46, il_47, il_48, il_52, il_56, il_57, il_59, il_60, il_61, il_63, il_64, il_68, il_72, il_75, il_76, il_82, il_88, il_89, il_90, il_92, il_96, il_97, il_99, il_100, il_101, il_102, il_103, il_104, il_105, il_107, il_108, il_109, il_110, il_111, il_112, il_114, il_115, il_116, il_117, il_118, il_119, il_121, il_122, il_130, il_200, il_255, il_256, il_260, il_276, il_400, il_403, il_420, il_840, il_999, il_1000, il_2000, il_2001, il_2668, il_2760, il_9999, il_12345, il_1000000, il_1103515245, ↓im_1, ↓im_2, ↓im_8, ↓im_1000, nI_add, pk_mul, pk_sub, ↓pk_rem, pk_div, nm_add, nI_clamp, nI_ltI, nI_leI, nI_eq, nm_eq, mn_eq, mm_eq, nm_lt, mn_lt, nm_le, mn_le, nl_T, nl_F, nle_T, nle_F, ne_T, ne_F, b2i_0, b2i_1, b2i_n, nb_0, nb_1, or_false, false_or, or_true, true_or, and_true, true_and, and_false, false_and, or_self, and_self, not_true_eq_false, not_false_eq_true, ↓reduceIte, if_true, if_false, ↓jv_bs, ↓jv_ol, ↓jv_or, jv_tl, jv_tn, jo_T, ck_2_166_17, ck_6_43_16, ck_6_43_17, ck_6_73_16, ck_7_65_17, ck_30_10_19, su_F, e191_261, e191_264, e191_316, ↓cg_52_6b ho, ↓cg_59_0b ho, ↓cg_59_2b ho, ↓cg_59_3b ho, ↓cr_50b ho, ↓cr_51b ho, ↓cr_52b ho, ↓cr_59b ho, ↓crlb ho, ↓ct_58b ho, ↓cw_58b ho, ci1, ci2, ca1, ca2, ca3, cL1, cL2, cL3, cL4, cx1, cx2, cx3, cx4, cy1, cy2, cy3, cy4, jn_0, Nat.reduceEqDiff, ↓jbH p4]
  · rw [if_neg h2, if_neg h2]
    exact FT_f hB1 rfl
theorem k_gusts (ho : o.length = 50) (hE : EN K V F N L R) (hK : EK K V L R) (ha : a = 589 + r0.length) (hy : c.2.2.2.2 = .ref a) (hT : CT c K F L R t 0) (hr : RC3 K t) (hw : WQ c S.2.2) (hX : PX a S X) (hB : BZ X t) (hk : K t = 27) : TDx o r0 c K F L R a (jv_cd (d + 28) 191 [.ref 59] (cm_h o c (r0 ++ X))) (pTd K V N L R t S) := by
  have e : pTd K V N L R t S = qp t fun t1 => qn K V 0 100 t1 S.2.2 fun t2 w => .inr (t2, (tI S.1 1 (nI (V t1)), S.2.1, w)) := by
    unfold pTd
    rw [if_neg (by omega)]
    rw [if_neg (by omega)]
    rw [if_neg (by omega)]
    rw [if_neg (by omega)]
    rw [if_pos hk]
  rw [e]
  obtain ⟨e1, e2, e3⟩ := hT.1 t hr
  have ht4 := hr.1
  have e4 := (e3 (by omega)).2.1 (by omega)
  rw [hk, show cwk 27 = 7 from rfl] at e4
  have h50 := hT.2.1
  have gs := c_st0 (d := d + 23) (r := r0 ++ X) ho hT hr (by omega)
  have gp := c_pass (d := d + 23) (r := r0 ++ X) ho e2 ht4 h50
  rw [qp_e]
  by_cases h4 : t = 400
  · rw [if_pos h4] at gp ⊢
    refine FT_f hB ?_
    simp (disch := omega) only [il_0, il_1, il_2, il_3, il_4, il_5, il_6, il_7, il_8, il_9, il_10, il_11, il_12, il_13, il_14, il_15, il_16, il_17, il_18, il_19, il_20, il_21, il_22, il_23, il_24, il_25, il_26, il_27, il_28, il_29, il_30, il_31, il_32, il_40, il_41, il_42, il_43, il_44, il_45, il_46, il_47, il_48, il_52, il_56, il_57, il_59, il_60, il_61, il_63, il_64, il_68, il_72, il_75, il_76, il_82, il_88, il_89, il_90, il_92, il_96, il_97, il_99, il_100, il_101, il_102, il_103, il_104, il_105, il_107, il_108, il_109, il_110, il_111, il_112, il_114, il_115, il_116, il_117, il_118, il_119, il_121, il_122, il_130, il_200, il_255, il_256, il_260, il_276, il_400, il_403, il_420, il_840, il_999, il_1000, il_2000, il_2001, il_2668, il_2760, il_9999, il_12345, il_1000000, il_1103515245, ↓im_1, ↓im_2, ↓im_8, ↓im_1000, nI_add, pk_mul, pk_sub, ↓pk_rem, pk_div, nm_add, nI_clamp, nI_ltI, nI_leI, nI_eq, nm_eq, mn_eq, mm_eq, nm_lt, mn_lt, nm_le, mn_le, nl_T, nl_F, nle_T, nle_F, ne_T, ne_F, b2i_0, b2i_1, b2i_n, nb_0, nb_1, or_false, false_or, or_true, true_or, and_true, true_and, and_false, false_and, or_self, and_self, not_true_eq_false, not_false_eq_true, ↓reduceIte, if_true, if_false, ↓jv_bs, ↓jv_ol, ↓jv_or, jv_tl, jv_tn, jo_T, ck_2_166_17, ck_6_43_16, ck_6_43_17, ck_6_73_16, ck_7_65_17, ck_30_10_19, su_F, e191_0, e191_1, e191_4, e191_5, e191_8, e191_9, e191_12, e191_15, e191_16, e191_19, e191_20, e191_23, e191_24, e191_25, e191_26, e191_27, e191_30, e191_31, e191_32, e191_35, e191_36, e191_39, e191_40, e191_43, e191_46, e191_47, e191_48, e191_49, e191_50, e191_53, e191_54, e191_55, e191_56, e191_267, e191_268, ↓cg_52_6b ho, ↓cg_59_0b ho, ↓cg_59_2b ho, ↓cg_59_3b ho, ↓cr_50b ho, ↓cr_51b ho, ↓cr_52b ho, ↓cr_59b ho, ↓crlb ho, ↓ct_58b ho, ↓cw_58b ho, ci1, ci2, ca1, ca2, ca3, cL1, cL2, cL3, cL4, cx1, cx2, cx3, cx4, cy1, cy2, cy3, cy4, jn_0, Nat.reduceEqDiff, n191, jv_tsl, h50, e4, ↓jbR gs, ↓jbR gp, ↓cg_52_6b ho, ↓ct_58b ho]
  rw [if_neg h4] at gp ⊢
  have hr1 := RC3_s hr h4 (by omega) (by omega)
  have hc1 : CP c (cs_i c 50 (nI (t + 1))) := CP_i (by omega)
  have hT1 := CT_go hT
  have hw1 : WQ (cs_i c 50 (nI (t + 1))) S.2.2 := hw
  have hB1 := BZ_le hB (Nat.le_succ t)
  have hy1 : (cs_i c 50 (nI (t + 1))).2.2.2.2 = .ref a := hy
  generalize cs_i c 50 (nI (t + 1)) = c1 at gp hc1 hT1 hw1 hy1
  refine TDx_c hc1 ?_
  have gn := c_nb (d := d + 21) (r := r0 ++ X) (lo := 0) (hi := 100) ho hT1.1 hK hr1 hT1.2.1 hw1 (by decide) (by decide) (hE.2.2.2.1 _)
  obtain ⟨n1, n2, n3⟩ := nb_k (V := V) (lo := 0) (hi := 100) hT1 hw1 hr1.1
  have st : jv_cd (d + 28) 191 [.ref 59] (cm_h o c (r0 ++ X)) = (jv_cd (d + 27) 206 [.ref 59, .int (nI 0), .int (nI 100)] (cm_h o c1 (r0 ++ X))).bind fun q => jv_on q (fun v h => jv_ev (d + 27) 191 282 [some (.ref 59), some (.int (nI 7)), none] (v.toList ++ [.ref a]) h) (fun q h => some (.inr q, h)) := by
    simp (disch := omega) only [il_0, il_1, il_2, il_3, il_4, il_5, il_6, il_7, il_8, il_9, il_10, il_11, il_12, il_13, il_14, il_15, il_16, il_17, il_18, il_19, il_20, il_21, il_22, il_23, il_24, il_25, il_26, il_27, il_28, il_29, il_30, il_31, il_32, il_40, il_41, il_42, il_43, il_44, il_45, il_46, il_47, il_48, il_52, il_56, il_57, il_59, il_60, il_61, il_63, il_64, il_68, il_72, il_75, il_76, il_82, il_88, il_89, il_90, il_92, il_96, il_97, il_99, il_100, il_101, il_102, il_103, il_104, il_105, il_107, il_108, il_109, il_110, il_111, il_112, il_114, il_115, il_116, il_117, il_118, il_119, il_121, il_122, il_130, il_200, il_255, il_256, il_260, il_276, il_400, il_403, il_420, il_840, il_999, il_1000, il_2000, il_2001, il_2668, il_2760, il_9999, il_12345, il_1000000, il_1103515245, ↓im_1, ↓im_2, ↓im_8, ↓im_1000, nI_add, pk_mul, pk_sub, ↓pk_rem, pk_div, nm_add, nI_clamp, nI_ltI, nI_leI, nI_eq, nm_eq, mn_eq, mm_eq, nm_lt, mn_lt, nm_le, mn_le, nl_T, nl_F, nle_T, nle_F, ne_T, ne_F, b2i_0, b2i_1, b2i_n, nb_0, nb_1, or_false, false_or, or_true, true_or, and_true, true_and, and_false, false_and, or_self, and_self, not_true_eq_false, not_false_eq_true, ↓reduceIte, if_true, if_false, ↓jv_bs, ↓jv_ol, ↓jv_or, jv_tl, jv_tn, jo_T, ck_2_166_17, ck_6_43_16, ck_6_43_17, ck_6_73_16, ck_7_65_17, ck_30_10_19, su_F, e191_0, e191_1, e191_4, e191_5, e191_8, e191_9, e191_12, e191_15, e191_16, e191_19, e191_20, e191_23, e191_24, e191_25, e191_26, e191_27, e191_30, e191_31, e191_32, e191_35, e191_36, e191_39, e191_40, e191_43, e191_46, e191_47, e191_48, e191_49, e191_50, e191_53, e191_54, e191_55, e191_56, e191_267, e191_268, e191_271, e191_272, e191_275, e191_276, e191_277, e191_279, ↓cg_52_6b ho, ↓cg_59_0b ho, ↓cg_59_2b ho, ↓cg_59_3b ho, ↓cr_50b ho, ↓cr_51b ho, ↓cr_52b ho, ↓cr_59b ho, ↓crlb ho, ↓ct_58b ho, ↓cw_58b ho, ci1, ci2, ca1, ca2, ca3, cL1, cL2, cL3, cL4, cx1, cx2, cx3, cx4, cy1, cy2, cy3, cy4, jn_0, Nat.reduceEqDiff, n191, jv_tsl, h50, e4, hy1, ↓jbR gs, ↓jbR gp, ↓cg_52_6b ho, ↓ct_58b ho]
  rw [st, gn]
  unfold qn
  by_cases h2 : K (t + 1) = 2
  · rw [if_pos h2, if_pos h2, qp_e]
    by_cases h41 : t + 1 = 400
    · rw [if_pos h41, if_pos h41]
      exact FT_f hB1 rfl
    rw [if_neg h41, if_neg h41]
    refine TDx_c n1 ?_
    obtain ⟨X', p1, p2, p3, p4⟩ := PX_I (v := nI (V (t + 1))) (w' := if V (t + 1) < 0 ∨ 100 < V (t + 1) then wt S.2.2 5 (t + 1) else S.2.2) ho ha hX (j := 1) (by decide) (fun h0 => by
      split at h0
      · exact absurd h0 (wt_0 (by decide))
      · exact h0)
    generalize nbS c1 S.2.2 0 100 V (t + 1) = c2 at n2 n3 ⊢
    have p4 := p4 c2
    refine ⟨c2, X', CP_id, n2, n3, RC3_s hr1 h41 (by omega) (by omega), p1, BZ_eq (BZ_le hB1 (Nat.le_succ _)) p2 p3, ?_⟩
    simp (disch := omega) only [il_0, il_1, il_2, il_3, il_4, il_5, il_6, il_7, il_8, il_9, il_10, il_11, il_12, il_13, il_14, il_15, il_16, il_17, il_18, il_19, il_20, il_21, il_22, il_23, il_24, il_25, il_26, il_27, il_28, il_29, il_30, il_31, il_32, il_40, il_41, il_42, il_43, il_44, il_45, il_46, il_47, il_48, il_52, il_56, il_57, il_59, il_60, il_61, il_63, il_64, il_68, il_72, il_75, il_76, il_82, il_88, il_89, il_90, il_92, il_96, il_97, il_99, il_100, il_101, il_102, il_103, il_104, il_105, il_107, il_108, il_109, il_110, il_111, il_112, il_114, il_115, il_116, il_117, il_118, il_119, il_121, il_122, il_130, il_200, il_255, il_256, il_260, il_276, il_400, il_403, il_420, il_840, il_999, il_1000, il_2000, il_2001, il_2668, il_2760, il_9999, il_12345, il_1000000, il_1103515245, ↓im_1, ↓im_2, ↓im_8, ↓im_1000, nI_add, pk_mul, pk_sub, ↓pk_rem, pk_div, nm_add, nI_clamp, nI_ltI, nI_leI, nI_eq, nm_eq, mn_eq, mm_eq, nm_lt, mn_lt, nm_le, mn_le, nl_T, nl_F, nle_T, nle_F, ne_T, ne_F, b2i_0, b2i_1, b2i_n, nb_0, nb_1, or_false, false_or, or_true, true_or, and_true, true_and, and_false, false_and, or_self, and_self, not_true_eq_false, not_false_eq_true, ↓reduceIte, if_true, if_false, ↓jv_bs, ↓jv_ol, ↓jv_or, jv_tl, jv_tn, jo_T, ck_2_166_17, ck_6_43_16, ck_6_43_17, ck_6_73_16, ck_7_65_17, ck_30_10_19, su_F, e191_282, e191_285, e191_316, ↓cg_52_6b ho, ↓cg_59_0b ho, ↓cg_59_2b ho, ↓cg_59_3b ho, ↓cr_50b ho, ↓cr_51b ho, ↓cr_52b ho, ↓cr_59b ho, ↓crlb ho, ↓ct_58b ho, ↓cw_58b ho, ci1, ci2, ca1, ca2, ca3, cL1, cL2, cL3, cL4, cx1, cx2, cx3, cx4, cy1, cy2, cy3, cy4, jn_0, Nat.reduceEqDiff, ↓jbH p4]
  · rw [if_neg h2, if_neg h2]
    exact FT_f hB1 rfl
theorem k_seed (ho : o.length = 50) (hE : EN K V F N L R) (hK : EK K V L R) (ha : a = 589 + r0.length) (hy : c.2.2.2.2 = .ref a) (hT : CT c K F L R t 0) (hr : RC3 K t) (hw : WQ c S.2.2) (hX : PX a S X) (hB : BZ X t) (hk : K t = 28) : TDx o r0 c K F L R a (jv_cd (d + 28) 191 [.ref 59] (cm_h o c (r0 ++ X))) (pTd K V N L R t S) := by
  have e : pTd K V N L R t S = qp t fun t1 => qn K V 0 9999 t1 S.2.2 fun t2 w => .inr (t2, (tI S.1 2 (nI (V t1)), S.2.1, w)) := by
    unfold pTd
    rw [if_neg (by omega)]
    rw [if_neg (by omega)]
    rw [if_neg (by omega)]
    rw [if_neg (by omega)]
    rw [if_neg (by omega)]
    rw [if_pos hk]
  rw [e]
  obtain ⟨e1, e2, e3⟩ := hT.1 t hr
  have ht4 := hr.1
  have e4 := (e3 (by omega)).2.1 (by omega)
  rw [hk, show cwk 28 = 8 from rfl] at e4
  have h50 := hT.2.1
  have gs := c_st0 (d := d + 23) (r := r0 ++ X) ho hT hr (by omega)
  have gp := c_pass (d := d + 23) (r := r0 ++ X) ho e2 ht4 h50
  rw [qp_e]
  by_cases h4 : t = 400
  · rw [if_pos h4] at gp ⊢
    refine FT_f hB ?_
    simp (disch := omega) only [il_0, il_1, il_2, il_3, il_4, il_5, il_6, il_7, il_8, il_9, il_10, il_11, il_12, il_13, il_14, il_15, il_16, il_17, il_18, il_19, il_20, il_21, il_22, il_23, il_24, il_25, il_26, il_27, il_28, il_29, il_30, il_31, il_32, il_40, il_41, il_42, il_43, il_44, il_45, il_46, il_47, il_48, il_52, il_56, il_57, il_59, il_60, il_61, il_63, il_64, il_68, il_72, il_75, il_76, il_82, il_88, il_89, il_90, il_92, il_96, il_97, il_99, il_100, il_101, il_102, il_103, il_104, il_105, il_107, il_108, il_109, il_110, il_111, il_112, il_114, il_115, il_116, il_117, il_118, il_119, il_121, il_122, il_130, il_200, il_255, il_256, il_260, il_276, il_400, il_403, il_420, il_840, il_999, il_1000, il_2000, il_2001, il_2668, il_2760, il_9999, il_12345, il_1000000, il_1103515245, ↓im_1, ↓im_2, ↓im_8, ↓im_1000, nI_add, pk_mul, pk_sub, ↓pk_rem, pk_div, nm_add, nI_clamp, nI_ltI, nI_leI, nI_eq, nm_eq, mn_eq, mm_eq, nm_lt, mn_lt, nm_le, mn_le, nl_T, nl_F, nle_T, nle_F, ne_T, ne_F, b2i_0, b2i_1, b2i_n, nb_0, nb_1, or_false, false_or, or_true, true_or, and_true, true_and, and_false, false_and, or_self, and_self, not_true_eq_false, not_false_eq_true, ↓reduceIte, if_true, if_false, ↓jv_bs, ↓jv_ol, ↓jv_or, jv_tl, jv_tn, jo_T, ck_2_166_17, ck_6_43_16, ck_6_43_17, ck_6_73_16, ck_7_65_17, ck_30_10_19, su_F, e191_0, e191_1, e191_4, e191_5, e191_8, e191_9, e191_12, e191_15, e191_16, e191_19, e191_20, e191_23, e191_24, e191_25, e191_26, e191_27, e191_30, e191_31, e191_32, e191_35, e191_36, e191_39, e191_40, e191_43, e191_46, e191_47, e191_48, e191_49, e191_50, e191_53, e191_54, e191_55, e191_56, e191_288, e191_289, ↓cg_52_6b ho, ↓cg_59_0b ho, ↓cg_59_2b ho, ↓cg_59_3b ho, ↓cr_50b ho, ↓cr_51b ho, ↓cr_52b ho, ↓cr_59b ho, ↓crlb ho, ↓ct_58b ho, ↓cw_58b ho, ci1, ci2, ca1, ca2, ca3, cL1, cL2, cL3, cL4, cx1, cx2, cx3, cx4, cy1, cy2, cy3, cy4, jn_0, Nat.reduceEqDiff, n191, jv_tsl, h50, e4, ↓jbR gs, ↓jbR gp, ↓cg_52_6b ho, ↓ct_58b ho]
  rw [if_neg h4] at gp ⊢
  have hr1 := RC3_s hr h4 (by omega) (by omega)
  have hc1 : CP c (cs_i c 50 (nI (t + 1))) := CP_i (by omega)
  have hT1 := CT_go hT
  have hw1 : WQ (cs_i c 50 (nI (t + 1))) S.2.2 := hw
  have hB1 := BZ_le hB (Nat.le_succ t)
  have hy1 : (cs_i c 50 (nI (t + 1))).2.2.2.2 = .ref a := hy
  generalize cs_i c 50 (nI (t + 1)) = c1 at gp hc1 hT1 hw1 hy1
  refine TDx_c hc1 ?_
  have gn := c_nb (d := d + 21) (r := r0 ++ X) (lo := 0) (hi := 9999) ho hT1.1 hK hr1 hT1.2.1 hw1 (by decide) (by decide) (hE.2.2.2.1 _)
  obtain ⟨n1, n2, n3⟩ := nb_k (V := V) (lo := 0) (hi := 9999) hT1 hw1 hr1.1
  have st : jv_cd (d + 28) 191 [.ref 59] (cm_h o c (r0 ++ X)) = (jv_cd (d + 27) 206 [.ref 59, .int (nI 0), .int (nI 9999)] (cm_h o c1 (r0 ++ X))).bind fun q => jv_on q (fun v h => jv_ev (d + 27) 191 304 [some (.ref 59), some (.int (nI 8)), none] (v.toList ++ [.ref a]) h) (fun q h => some (.inr q, h)) := by
    simp (disch := omega) only [il_0, il_1, il_2, il_3, il_4, il_5, il_6, il_7, il_8, il_9, il_10, il_11, il_12, il_13, il_14, il_15, il_16, il_17, il_18, il_19, il_20, il_21, il_22, il_23, il_24, il_25, il_26, il_27, il_28, il_29, il_30, il_31, il_32, il_40, il_41, il_42, il_43, il_44, il_45, il_46, il_47, il_48, il_52, il_56, il_57, il_59, il_60, il_61, il_63, il_64, il_68, il_72, il_75, il_76, il_82, il_88, il_89, il_90, il_92, il_96, il_97, il_99, il_100, il_101, il_102, il_103, il_104, il_105, il_107, il_108, il_109, il_110, il_111, il_112, il_114, il_115, il_116, il_117, il_118, il_119, il_121, il_122, il_130, il_200, il_255, il_256, il_260, il_276, il_400, il_403, il_420, il_840, il_999, il_1000, il_2000, il_2001, il_2668, il_2760, il_9999, il_12345, il_1000000, il_1103515245, ↓im_1, ↓im_2, ↓im_8, ↓im_1000, nI_add, pk_mul, pk_sub, ↓pk_rem, pk_div, nm_add, nI_clamp, nI_ltI, nI_leI, nI_eq, nm_eq, mn_eq, mm_eq, nm_lt, mn_lt, nm_le, mn_le, nl_T, nl_F, nle_T, nle_F, ne_T, ne_F, b2i_0, b2i_1, b2i_n, nb_0, nb_1, or_false, false_or, or_true, true_or, and_true, true_and, and_false, false_and, or_self, and_self, not_true_eq_false, not_false_eq_true, ↓reduceIte, if_true, if_false, ↓jv_bs, ↓jv_ol, ↓jv_or, jv_tl, jv_tn, jo_T, ck_2_166_17, ck_6_43_16, ck_6_43_17, ck_6_73_16, ck_7_65_17, ck_30_10_19, su_F, e191_0, e191_1, e191_4, e191_5, e191_8, e191_9, e191_12, e191_15, e191_16, e191_19, e191_20, e191_23, e191_24, e191_25, e191_26, e191_27, e191_30, e191_31, e191_32, e191_35, e191_36, e191_39, e191_40, e191_43, e191_46, e191_47, e191_48, e191_49, e191_50, e191_53, e191_54, e191_55, e191_56, e191_288, e191_289, e191_292, e191_293, e191_296, e191_297, e191_298, e191_301, ↓cg_52_6b ho, ↓cg_59_0b ho, ↓cg_59_2b ho, ↓cg_59_3b ho, ↓cr_50b ho, ↓cr_51b ho, ↓cr_52b ho, ↓cr_59b ho, ↓crlb ho, ↓ct_58b ho, ↓cw_58b ho, ci1, ci2, ca1, ca2, ca3, cL1, cL2, cL3, cL4, cx1, cx2, cx3, cx4, cy1, cy2, cy3, cy4, jn_0, Nat.reduceEqDiff, n191, jv_tsl, h50, e4, hy1, ↓jbR gs, ↓jbR gp, ↓cg_52_6b ho, ↓ct_58b ho]
  rw [st, gn]
  unfold qn
  by_cases h2 : K (t + 1) = 2
  · rw [if_pos h2, if_pos h2, qp_e]
    by_cases h41 : t + 1 = 400
    · rw [if_pos h41, if_pos h41]
      exact FT_f hB1 rfl
    rw [if_neg h41, if_neg h41]
    refine TDx_c n1 ?_
    obtain ⟨X', p1, p2, p3, p4⟩ := PX_I (v := nI (V (t + 1))) (w' := if V (t + 1) < 0 ∨ 9999 < V (t + 1) then wt S.2.2 5 (t + 1) else S.2.2) ho ha hX (j := 2) (by decide) (fun h0 => by
      split at h0
      · exact absurd h0 (wt_0 (by decide))
      · exact h0)
    generalize nbS c1 S.2.2 0 9999 V (t + 1) = c2 at n2 n3 ⊢
    have p4 := p4 c2
    refine ⟨c2, X', CP_id, n2, n3, RC3_s hr1 h41 (by omega) (by omega), p1, BZ_eq (BZ_le hB1 (Nat.le_succ _)) p2 p3, ?_⟩
    simp (disch := omega) only [il_0, il_1, il_2, il_3, il_4, il_5, il_6, il_7, il_8, il_9, il_10, il_11, il_12, il_13, il_14, il_15, il_16, il_17, il_18, il_19, il_20, il_21, il_22, il_23, il_24, il_25, il_26, il_27, il_28, il_29, il_30, il_31, il_32, il_40, il_41, il_42, il_43, il_44, il_45, il_46, il_47, il_48, il_52, il_56, il_57, il_59, il_60, il_61, il_63, il_64, il_68, il_72, il_75, il_76, il_82, il_88, il_89, il_90, il_92, il_96, il_97, il_99, il_100, il_101, il_102, il_103, il_104, il_105, il_107, il_108, il_109, il_110, il_111, il_112, il_114, il_115, il_116, il_117, il_118, il_119, il_121, il_122, il_130, il_200, il_255, il_256, il_260, il_276, il_400, il_403, il_420, il_840, il_999, il_1000, il_2000, il_2001, il_2668, il_2760, il_9999, il_12345, il_1000000, il_1103515245, ↓im_1, ↓im_2, ↓im_8, ↓im_1000, nI_add, pk_mul, pk_sub, ↓pk_rem, pk_div, nm_add, nI_clamp, nI_ltI, nI_leI, nI_eq, nm_eq, mn_eq, mm_eq, nm_lt, mn_lt, nm_le, mn_le, nl_T, nl_F, nle_T, nle_F, ne_T, ne_F, b2i_0, b2i_1, b2i_n, nb_0, nb_1, or_false, false_or, or_true, true_or, and_true, true_and, and_false, false_and, or_self, and_self, not_true_eq_false, not_false_eq_true, ↓reduceIte, if_true, if_false, ↓jv_bs, ↓jv_ol, ↓jv_or, jv_tl, jv_tn, jo_T, ck_2_166_17, ck_6_43_16, ck_6_43_17, ck_6_73_16, ck_7_65_17, ck_30_10_19, su_F, e191_304, e191_307, e191_316, ↓cg_52_6b ho, ↓cg_59_0b ho, ↓cg_59_2b ho, ↓cg_59_3b ho, ↓cr_50b ho, ↓cr_51b ho, ↓cr_52b ho, ↓cr_59b ho, ↓crlb ho, ↓ct_58b ho, ↓cw_58b ho, ci1, ci2, ca1, ca2, ca3, cL1, cL2, cL3, cL4, cx1, cx2, cx3, cx4, cy1, cy2, cy3, cy4, jn_0, Nat.reduceEqDiff, ↓jbH p4]
  · rw [if_neg h2, if_neg h2]
    exact FT_f hB1 rfl
end
