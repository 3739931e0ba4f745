/-! the component: a row is told -/
section
variable {d t n i m k a b u x lo hi : Nat} {o r r0 rb X Y Z : jv_H} {c c' c2 : cm_S} {K V F N L : Nat → Nat} {R : Nat → Nat → Nat} {w : Wt} {S : Sx} {q : Nat × Nat × Nat × Nat} {z : Int32 × Int32 × Int32} {fd : Nat → Int32} {mF mL : Int32} {eF eL : Nat} {lf fF fL : Nat → Option Nat} {E : List Nat}
/-- a text's fields -/
theorem t5_f (ho : o.length = 50) (ha : a = 589 + r0.length) : jv_gf (cm_h o c (r0 ++ (tx5 a q z fd mF mL eF eL lf ++ Y))) a [(5, 0, .array .int)] = some (.ref (a + 1)) ∧ jv_gf (cm_h o c (r0 ++ (tx5 a q z fd mF mL eF eL lf ++ Y))) a [(5, 1, .object "java/util/ArrayList")] = some (.ref (a + 2)) ∧ jv_gf (cm_h o c (r0 ++ (tx5 a q z fd mF mL eF eL lf ++ Y))) a [(5, 2, .object "java/util/ArrayList")] = some (.ref (a + 3)) ∧ jv_gf (cm_h o c (r0 ++ (tx5 a q z fd mF mL eF eL lf ++ Y))) a [(5, 3, .array (.object "RainLoom$Law"))] = some (.ref (a + 4)) ∧ jv_gf (cm_h o c (r0 ++ (tx5 a q z fd mF mL eF eL lf ++ Y))) a [(5, 4, .int)] = some (.int (nI q.1)) ∧ jv_gf (cm_h o c (r0 ++ (tx5 a q z fd mF mL eF eL lf ++ Y))) a [(5, 5, .int)] = some (.int (nI q.2.1)) := by
  have h0 := tx_g (c := c) (q := q) (z := z) (fd := fd) (mF := mF) (mL := mL) (eF := eF) (eL := eL) (lf := lf) (Y := Y) ho ha 0 rfl
  rw [Nat.add_zero] at h0
  exact ⟨jv_gf_at h0 rfl rfl, jv_gf_at h0 rfl rfl, jv_gf_at h0 rfl rfl, jv_gf_at h0 rfl rfl, jv_gf_at h0 rfl rfl, jv_gf_at h0 rfl rfl⟩
theorem t5_p4 (ho : o.length = 50) (ha : a = 589 + r0.length) : jv_pf (cm_h o c (r0 ++ (tx5 a q z fd mF mL eF eL lf ++ Y))) a [(5, 4, .int)] (.int (nI n)) = some (cm_h o c (r0 ++ (tx5 a (n, q.2) z fd mF mL eF eL lf ++ Y))) := by
  have h0 := tx_g (c := c) (q := q) (z := z) (fd := fd) (mF := mF) (mL := mL) (eF := eF) (eL := eL) (lf := lf) (Y := Y) ho ha 0 rfl
  have h1 := tx_s (c := c) (q := q) (z := z) (fd := fd) (mF := mF) (mL := mL) (eF := eF) (eL := eL) (lf := lf) (Y := Y) (q' := (n, q.2)) (z' := z) (fd' := fd) (mF' := mF) (mL' := mL) (eF' := eF) (eL' := eL) (lf' := lf) ho ha 0 (by decide) rfl
  rw [Nat.add_zero] at h0 h1
  rw [jv_pf_at (k := 4) h0 rfl (show 50 ≤ a by omega) (Nat.le_of_ble_eq_true rfl) rfl rfl]
  exact congrArg some h1
theorem t5_p5 (ho : o.length = 50) (ha : a = 589 + r0.length) : jv_pf (cm_h o c (r0 ++ (tx5 a q z fd mF mL eF eL lf ++ Y))) a [(5, 5, .int)] (.int (nI n)) = some (cm_h o c (r0 ++ (tx5 a (q.1, n, q.2.2) z fd mF mL eF eL lf ++ Y))) := by
  have h0 := tx_g (c := c) (q := q) (z := z) (fd := fd) (mF := mF) (mL := mL) (eF := eF) (eL := eL) (lf := lf) (Y := Y) ho ha 0 rfl
  have h1 := tx_s (c := c) (q := q) (z := z) (fd := fd) (mF := mF) (mL := mL) (eF := eF) (eL := eL) (lf := lf) (Y := Y) (q' := (q.1, n, q.2.2)) (z' := z) (fd' := fd) (mF' := mF) (mL' := mL) (eF' := eF) (eL' := eL) (lf' := lf) ho ha 0 (by decide) rfl
  rw [Nat.add_zero] at h0 h1
  rw [jv_pf_at (k := 5) h0 rfl (show 50 ≤ a by omega) (Nat.le_of_ble_eq_true rfl) rfl rfl]
  exact congrArg some h1
theorem t5_w (ho : o.length = 50) (ha : a = 589 + r0.length) {j : Nat} {v : Int32} (hj : j < 48) : jv_ip (cm_h o c (r0 ++ (tx5 a q z fd mF mL eF eL lf ++ Y))) (a + 1) 0 0 (nI j) v = some (cm_h o c (r0 ++ (tx5 a q z (upd fd j v) mF mL eF eL lf ++ Y))) := by
  rw [jv_ip_at (tx_g (c := c) (q := q) (z := z) (fd := fd) (mF := mF) (mL := mL) (eF := eF) (eL := eL) (lf := lf) (Y := Y) ho ha 1 rfl) (Or.inl rfl) (show 50 ≤ a + 1 by omega), if_neg (nI_in hj (by decide)), nI_clamp (by omega)]
  exact congrArg some (tx_s (c := c) (q' := q) (z' := z) (fd' := upd fd j v) (mF' := mF) (mL' := mL) (eF' := eF) (eL' := eL) (lf' := lf) ho ha 1 (by decide) rfl)
/-- the cells so far -/
def fdI (fd : Nat → Int32) (l : Nat → Nat) (r k : Nat) : Nat → Int32 := fun j => if 8 * r ≤ j ∧ j < 8 * r + k then lcv (l (j - 8 * r)) else fd j
theorem fdI_0 {l : Nat → Nat} {r : Nat} : fdI fd l r 0 = fd := by
  funext j
  exact if_neg (by omega)
theorem fdI_s {l : Nat → Nat} {r : Nat} : upd (fdI fd l r k) (8 * r + k) (lcv (l k)) = fdI fd l r (k + 1) := by
  funext j
  by_cases e : j = 8 * r + k
  · subst e
    rw [pk_us]
    unfold fdI
    rw [if_pos ⟨by omega, by omega⟩, Nat.add_sub_cancel_left]
  · rw [pk_un e]
    unfold fdI
    by_cases h : 8 * r ≤ j ∧ j < 8 * r + k
    · rw [if_pos h, if_pos ⟨h.1, by omega⟩]
    · rw [if_neg h, if_neg (by omega)]
theorem lba_s {l : Nat → Nat} : lba l (k + 1) = (lba l k || lbd (l k)) := rfl
/-- letters of a row -/
theorem c_rwl (ho : o.length = 50) (ha : a = 589 + r0.length) (hy : c.2.2.2.2 = .ref a) {y g : Nat → Int32} {l : Nat → Nat} {v : Nat} {fs : List Value} (hx : a + 5 ≤ x) (hv : a + 5 ≤ v) (hs : Y[x - (a + 5)]? = some (.inr (19, .ref v :: .int (nI 0) :: fs))) (hb : Y[v - (a + 5)]? = some (.inl (1, n, .inl g))) (hn : n ≤ 8) (hg : ∀ k < n, g k = nI (l k) ∧ 97 ≤ l k ∧ l k ≤ 122) (hr : q.1 < 6) {b : Bool} : ∃ x5, jv_ev (d + 26) 202 72 [some (.ref 59), some (.int (nI i)), some (.ref x), some (.int (b2i b)), some (.int (nI 0)), none] [] (cm_h o c (r0 ++ (tx5 a q z fd mF mL eF eL lf ++ Y))) = jv_ev (d + 26) 202 171 [some (.ref 59), some (.int (nI i)), some (.ref x), some (.int (b2i (b && !lba l n))), some (.int (nI n)), x5] [] (cm_h o c (r0 ++ (tx5 a q z (fdI fd l q.1 n) mF mL eF eL lf ++ Y))) := by
  obtain ⟨x5, _, h⟩ := jl_inv (N := n) (F := fun k (x5 : Option Value) => jv_ev (d + 26) 202 72 [some (.ref 59), some (.int (nI i)), some (.ref x), some (.int (b2i (b && !lba l k))), some (.int (nI k)), x5] [] (cm_h o c (r0 ++ (tx5 a q z (fdI fd l q.1 k) mF mL eF eL lf ++ Y)))) (fun _ _ => True) (fun k hk x5 _ => by
    obtain ⟨g1, g2, g3⟩ := hg k hk
    have e1 := m_slen (d := d + 24) (Y_heap (c := c) (q := q) (z := z) (fd := fdI fd l q.1 k) (mF := mF) (mL := mL) (eF := eF) (eL := eL) (lf := lf) ho ha hx hs) (Y_heap ho ha hv hb)
    have e2 := m_schar (d := d + 22) (Y_heap (c := c) (q := q) (z := z) (fd := fdI fd l q.1 k) (mF := mF) (mL := mL) (eF := eF) (eL := eL) (lf := lf) ho ha hx hs) (Y_heap ho ha hv hb) (by omega) hk g1 (by omega)
    have v1 : jv_rc (cm_h o c (r0 ++ (tx5 a q z (fdI fd l q.1 k) mF mL eF eL lf ++ Y))) x [(19, 268)] = some 268 := jv_rc_at (Y_heap ho ha hx hs)
    have v2 : jv_rc (cm_h o c (r0 ++ (tx5 a q z (fdI fd l q.1 k) mF mL eF eL lf ++ Y))) x [(19, 270)] = some 270 := jv_rc_at (Y_heap ho ha hx hs)
    obtain ⟨f1, _, _, _, f5, f6⟩ := t5_f (c := c) (q := q) (z := z) (fd := fdI fd l q.1 k) (mF := mF) (mL := mL) (eF := eF) (eL := eL) (lf := lf) (Y := Y) ho ha
    have p1 := t5_w (c := c) (q := q) (z := z) (fd := fdI fd l q.1 k) (mF := mF) (mL := mL) (eF := eF) (eL := eL) (lf := lf) (Y := Y) (j := 8 * q.1 + k) (v := lcv (l k)) ho ha (by omega)
    rw [fdI_s] at p1
    have eq8 : q.1 * 8 + k = 8 * q.1 + k := by omega
    refine ⟨some (.int (nI (l k))), trivial, ?_⟩
    rw [lba_s]
    generalize lba l k = bk
    have hlb : lbd (l k) = !(decide (l k = 111) || decide (l k ≤ 102)) := rfl
    have hlc : lcv (l k) = if l k ≤ 102 then nI (l k - 97) else mI 2 := rfl
    rw [hlb]
    by_cases h1 : l k = 111
    · rw [hlc, if_neg (by omega)] at p1
      rw [decide_eq_true h1]
      cases b <;> cases bk <;> simp only [Bool.true_and, Bool.false_and, Bool.not_true, Bool.not_false, Bool.true_or, Bool.false_or, Bool.or_true, Bool.or_false, b2i_t, b2i_f]
      all_goals
        rw [e202_72]
        simp (disch := omega) only [il_0, il_1, il_2, il_3, il_4, il_5, il_6, il_7, il_8, il_9, il_10, il_11, il_12, il_13, il_14, il_15, il_16, il_17, il_18, il_19, il_20, il_21, il_22, il_23, il_24, il_25, il_26, il_27, il_28, il_29, il_30, il_31, il_32, il_40, il_41, il_42, il_43, il_44, il_45, il_46, il_47, il_48, il_52, il_56, il_57, il_59, il_60, il_61, il_63, il_64, il_68, il_72, il_75, il_76, il_82, il_88, il_89, il_90, il_92, il_96, il_97, il_99, il_100, il_101, il_102, il_103, il_104, il_105, il_107, il_108, il_109, il_110, il_111, il_112, il_114, il_115, il_116, il_117, il_118, il_119, il_121, il_122, il_130, il_200, il_255, il_256, il_260, il_276, il_400, il_403, il_420, il_840, il_999, il_1000, il_2000, il_2001, il_2668, il_2760, il_9999, il_12345, il_1000000, il_1103515245, ↓im_1, ↓im_2, ↓im_8, ↓im_1000, nI_add, pk_mul, pk_sub, ↓pk_rem, pk_div, nm_add, nI_clamp, nI_ltI, nI_leI, nI_eq, nm_eq, mn_eq, mm_eq, nm_lt, mn_lt, nm_le, mn_le, nl_T, nl_F, nle_T, nle_F, ne_T, ne_F, b2i_0, b2i_1, b2i_n, nb_0, nb_1, or_false, false_or, or_true, true_or, and_true, true_and, and_false, false_and, or_self, and_self, not_true_eq_false, not_false_eq_true, ↓reduceIte, if_true, if_false, ↓jv_bs, ↓jv_ol, ↓jv_or, jv_tl, jv_tn, jo_T, ck_2_166_17, ck_6_43_16, ck_6_43_17, ck_6_73_16, ck_7_65_17, ck_30_10_19, su_F, e202_74, e202_75, e202_78, e202_81, e202_82, e202_84, e202_87, e202_89, e202_90, e202_93, e202_95, e202_97, e202_100, e202_102, e202_104, e202_107, e202_109, e202_111, e202_114, e202_115, e202_118, e202_119, e202_120, e202_121, e202_124, e202_127, e202_128, e202_131, e202_134, e202_136, e202_137, e202_139, e202_140, e202_142, e202_144, e202_147, e202_149, e202_151, e202_154, e202_156, e202_158, e202_159, e202_162, e202_164, e202_165, e202_168, ↓cg_59_0b ho, ↓cg_59_2b ho, ↓cr_50b ho, ↓cr_51b ho, ↓cr_52b ho, ↓cr_59b ho, ↓crlb ho, ci1, ci2, ca1, ca2, ca3, cL1, cL2, cL3, cL4, cx1, cx2, cx3, cx4, cy1, cy2, cy3, cy4, jn_0, Nat.reduceEqDiff, hy, ↓jbR e1, ↓jbR e2, ↓jbN v1, ↓jbN v2, ↓jb f1, ↓jb f5, ↓jb f6, eq8, ↓jbH p1]
    · by_cases h2 : l k ≤ 102
      · rw [hlc, if_pos h2] at p1
        rw [decide_eq_true h2, decide_eq_false h1]
        cases b <;> cases bk <;> simp only [Bool.true_and, Bool.false_and, Bool.not_true, Bool.not_false, Bool.true_or, Bool.false_or, Bool.or_true, Bool.or_false, b2i_t, b2i_f]
        all_goals
          rw [e202_72]
          simp (disch := omega) only [il_0, il_1, il_2, il_3, il_4, il_5, il_6, il_7, il_8, il_9, il_10, il_11, il_12, il_13, il_14, il_15, il_16, il_17, il_18, il_19, il_20, il_21, il_22, il_23, il_24, il_25, il_26, il_27, il_28, il_29, il_30, il_31, il_32, il_40, il_41, il_42, il_43, il_44, il_45, il_46, il_47, il_48, il_52, il_56, il_57, il_59, il_60, il_61, il_63, il_64, il_68, il_72, il_75, il_76, il_82, il_88, il_89, il_90, il_92, il_96, il_97, il_99, il_100, il_101, il_102, il_103, il_104, il_105, il_107, il_108, il_109, il_110, il_111, il_112, il_114, il_115, il_116, il_117, il_118, il_119, il_121, il_122, il_130, il_200, il_255, il_256, il_260, il_276, il_400, il_403, il_420, il_840, il_999, il_1000, il_2000, il_2001, il_2668, il_2760, il_9999, il_12345, il_1000000, il_1103515245, ↓im_1, ↓im_2, ↓im_8, ↓im_1000, nI_add, pk_mul, pk_sub, ↓pk_rem, pk_div, nm_add, nI_clamp, nI_ltI, nI_leI, nI_eq, nm_eq, mn_eq, mm_eq, nm_lt, mn_lt, nm_le, mn_le, nl_T, nl_F, nle_T, nle_F, ne_T, ne_F, b2i_0, b2i_1, b2i_n, nb_0, nb_1, or_false, false_or, or_true, true_or, and_true, true_and, and_false, false_and, or_self, and_self, not_true_eq_false, not_false_eq_true, ↓reduceIte, if_true, if_false, ↓jv_bs, ↓jv_ol, ↓jv_or, jv_tl, jv_tn, jo_T, ck_2_166_17, ck_6_43_16, ck_6_43_17, ck_6_73_16, ck_7_65_17, ck_30_10_19, su_F, e202_74, e202_75, e202_78, e202_81, e202_82, e202_84, e202_87, e202_89, e202_90, e202_93, e202_95, e202_97, e202_100, e202_102, e202_104, e202_107, e202_109, e202_111, e202_114, e202_115, e202_118, e202_119, e202_120, e202_121, e202_124, e202_127, e202_128, e202_131, e202_134, e202_136, e202_137, e202_139, e202_140, e202_142, e202_144, e202_147, e202_149, e202_151, e202_154, e202_156, e202_158, e202_159, e202_162, e202_164, e202_165, e202_168, ↓cg_59_0b ho, ↓cg_59_2b ho, ↓cr_50b ho, ↓cr_51b ho, ↓cr_52b ho, ↓cr_59b ho, ↓crlb ho, ci1, ci2, ca1, ca2, ca3, cL1, cL2, cL3, cL4, cx1, cx2, cx3, cx4, cy1, cy2, cy3, cy4, jn_0, Nat.reduceEqDiff, hy, ↓jbR e1, ↓jbR e2, ↓jbN v1, ↓jbN v2, ↓jb f1, ↓jb f5, ↓jb f6, eq8, ↓jbH p1]
      · rw [hlc, if_neg h2] at p1
        rw [decide_eq_false h2, decide_eq_false h1]
        cases b <;> cases bk <;> simp only [Bool.true_and, Bool.false_and, Bool.not_true, Bool.not_false, Bool.true_or, Bool.false_or, Bool.or_true, Bool.or_false, b2i_t, b2i_f]
        all_goals
          rw [e202_72]
          simp (disch := omega) only [il_0, il_1, il_2, il_3, il_4, il_5, il_6, il_7, il_8, il_9, il_10, il_11, il_12, il_13, il_14, il_15, il_16, il_17, il_18, il_19, il_20, il_21, il_22, il_23, il_24, il_25, il_26, il_27, il_28, il_29, il_30, il_31, il_32, il_40, il_41, il_42, il_43, il_44, il_45, il_46, il_47, il_48, il_52, il_56, il_57, il_59, il_60, il_61, il_63, il_64, il_68, il_72, il_75, il_76, il_82, il_88, il_89, il_90, il_92, il_96, il_97, il_99, il_100, il_101, il_102, il_103, il_104, il_105, il_107, il_108, il_109, il_110, il_111, il_112, il_114, il_115, il_116, il_117, il_118, il_119, il_121, il_122, il_130, il_200, il_255, il_256, il_260, il_276, il_400, il_403, il_420, il_840, il_999, il_1000, il_2000, il_2001, il_2668, il_2760, il_9999, il_12345, il_1000000, il_1103515245, ↓im_1, ↓im_2, ↓im_8, ↓im_1000, nI_add, pk_mul, pk_sub, ↓pk_rem, pk_div, nm_add, nI_clamp, nI_ltI, nI_leI, nI_eq, nm_eq, mn_eq, mm_eq, nm_lt, mn_lt, nm_le, mn_le, nl_T, nl_F, nle_T, nle_F, ne_T, ne_F, b2i_0, b2i_1, b2i_n, nb_0, nb_1, or_false, false_or, or_true, true_or, and_true, true_and, and_false, false_and, or_self, and_self, not_true_eq_false, not_false_eq_true, ↓reduceIte, if_true, if_false, ↓jv_bs, ↓jv_ol, ↓jv_or, jv_tl, jv_tn, jo_T, ck_2_166_17, ck_6_43_16, ck_6_43_17, ck_6_73_16, ck_7_65_17, ck_30_10_19, su_F, e202_74, e202_75, e202_78, e202_81, e202_82, e202_84, e202_87, e202_89, e202_90, e202_93, e202_95, e202_97, e202_100, e202_102, e202_104, e202_107, e202_109, e202_111, e202_114, e202_115, e202_118, e202_119, e202_120, e202_121, e202_124, e202_127, e202_128, e202_131, e202_134, e202_136, e202_137, e202_139, e202_140, e202_142, e202_144, e202_147, e202_149, e202_151, e202_154, e202_156, e202_158, e202_159, e202_162, e202_164, e202_165, e202_168, ↓cg_59_0b ho, ↓cg_59_2b ho, ↓cr_50b ho, ↓cr_51b ho, ↓cr_52b ho, ↓cr_59b ho, ↓crlb ho, ci1, ci2, ca1, ca2, ca3, cL1, cL2, cL3, cL4, cx1, cx2, cx3, cx4, cy1, cy2, cy3, cy4, jn_0, Nat.reduceEqDiff, hy, ↓jbR e1, ↓jbR e2, ↓jbN v1, ↓jbN v2, ↓jb f1, ↓jb f5, ↓jb f6, eq8, ↓jbH p1]) (s := none) trivial
  refine ⟨x5, ?_⟩
  rw [fdI_0, show lba l 0 = false from rfl, Bool.not_false, Bool.and_true] at h
  rw [h]
  have e1 := m_slen (d := d + 24) (Y_heap (c := c) (q := q) (z := z) (fd := fdI fd l q.1 n) (mF := mF) (mL := mL) (eF := eF) (eL := eL) (lf := lf) ho ha hx hs) (Y_heap ho ha hv hb)
  have v1 : jv_rc (cm_h o c (r0 ++ (tx5 a q z (fdI fd l q.1 n) mF mL eF eL lf ++ Y))) x [(19, 268)] = some 268 := jv_rc_at (Y_heap ho ha hx hs)
  simp (disch := omega) only [il_0, il_1, il_2, il_3, il_4, il_5, il_6, il_7, il_8, il_9, il_10, il_11, il_12, il_13, il_14, il_15, il_16, il_17, il_18, il_19, il_20, il_21, il_22, il_23, il_24, il_25, il_26, il_27, il_28, il_29, il_30, il_31, il_32, il_40, il_41, il_42, il_43, il_44, il_45, il_46, il_47, il_48, il_52, il_56, il_57, il_59, il_60, il_61, il_63, il_64, il_68, il_72, il_75, il_76, il_82, il_88, il_89, il_90, il_92, il_96, il_97, il_99, il_100, il_101, il_102, il_103, il_104, il_105, il_107, il_108, il_109, il_110, il_111, il_112, il_114, il_115, il_116, il_117, il_118, il_119, il_121, il_122, il_130, il_200, il_255, il_256, il_260, il_276, il_400, il_403, il_420, il_840, il_999, il_1000, il_2000, il_2001, il_2668, il_2760, il_9999, il_12345, il_1000000, il_1103515245, ↓im_1, ↓im_2, ↓im_8, ↓im_1000, nI_add, pk_mul, pk_sub, ↓pk_rem, pk_div, nm_add, nI_clamp, nI_ltI, nI_leI, nI_eq, nm_eq, mn_eq, mm_eq, nm_lt, mn_lt, nm_le, mn_le, nl_T, nl_F, nle_T, nle_F, ne_T, ne_F, b2i_0, b2i_1, b2i_n, nb_0, nb_1, or_false, false_or, or_true, true_or, and_true, true_and, and_false, false_and, or_self, and_self, not_true_eq_false, not_false_eq_true, ↓reduceIte, if_true, if_false, ↓jv_bs, ↓jv_ol, ↓jv_or, jv_tl, jv_tn, jo_T, ck_2_166_17, ck_6_43_16, ck_6_43_17, ck_6_73_16, ck_7_65_17, ck_30_10_19, su_F, e202_72, e202_74, e202_75, e202_78, ↓cg_59_0b ho, ↓cg_59_2b ho, ↓cr_50b ho, ↓cr_51b ho, ↓cr_52b ho, ↓cr_59b ho, ↓crlb ho, ci1, ci2, ca1, ca2, ca3, cL1, cL2, cL3, cL4, cx1, cx2, cx3, cx4, cy1, cy2, cy3, cy4, jn_0, Nat.reduceEqDiff, ↓jbR e1, ↓jbN v1]
end
