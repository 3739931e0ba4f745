/-! the component: which loom suits -/
theorem it_r {f : Nat → Int32 → Int32} {b : Nat} (hf : ∀ k a, ∀ m : Nat, a = nI m → ∃ n : Nat, n ≤ b ∧ f k a = nI (m + n)) : ∀ n, ∃ m : Nat, m ≤ n * b ∧ it f n (nI 0) = nI m := by
  intro n
  induction n with
  | zero => exact ⟨0, Nat.zero_le _, rfl⟩
  | succ n ih =>
    obtain ⟨m, hm, e⟩ := ih
    obtain ⟨n1, h1, e1⟩ := hf n _ m e
    refine ⟨m + n1, ?_, e1⟩
    rw [Nat.succ_mul]
    omega
theorem hd_r {T : Tx} {r : Nat → Int32} {l w h : Nat} (hw : w * h ≤ 48) : ∃ n : Nat, n ≤ 432 ∧ hd_a T r l w h = nI n := by
  obtain ⟨m, hm, e⟩ := it_r (f := fun k a => a + th T l (k % w) (r (48 + l) + nI (k / w))) (b := 9) (fun k a m ha => by
    obtain ⟨n, hn, e⟩ := th_r (T := T) (l := l) (w := k % w) (a := r (48 + l) + nI (k / w))
    exact ⟨n, hn, by rw [ha, e, nI_add]⟩) (w * h)
  refine ⟨m, ?_, e⟩
  have : w * h * 9 ≤ 48 * 9 := Nat.mul_le_mul_right 9 hw
  omega
theorem nd_r {T : Tx} (hT : TW T) {f : Nat} (hf : f < t_nf T) : ∃ n : Nat, n ≤ 4752 ∧ nd_a T f = nI n := by
  have t3 := hT.2.2.1
  obtain ⟨nn, hnn, en⟩ := hT.2.2.2.2.2.2.1 f hf
  obtain ⟨m, hm, e⟩ := it_r (f := nd_s T f) (b := 99) (fun k a m ha => by
    unfold nd_s
    split
    · split
      · rename_i h
        refine ⟨nn, hnn, ?_⟩
        have : r_nd T k = nI nn := by
          unfold r_nd
          rw [h, if_neg (fun h => by rw [nI_ltI (by omega) (by decide)] at h; omega), nI_clamp (by omega), en]
        rw [ha, this, nI_add]
      · exact ⟨0, Nat.zero_le _, ha⟩
    · exact ⟨0, Nat.zero_le _, ha⟩) 48
  exact ⟨m, by omega, e⟩
theorem of_r {T : Tx} (hT : TW T) {r : Nat → Int32} {l f w h : Nat} (hf : f < t_nf T) (hw : w * h ≤ 48) : ∃ n : Nat, n ≤ 4752 ∧ of_v T r l f w h = nI n := by
  obtain ⟨a, ha, e1⟩ := hd_r (T := T) (r := r) (l := l) hw
  obtain ⟨b, hb, e2⟩ := nd_r hT hf
  unfold of_v ab
  rw [e1, e2]
  by_cases h : a < b
  · refine ⟨b - a, by omega, ?_⟩
    have e : nI a - nI b = mI (b - a) := by
      apply Int32.toInt_inj.mp
      rw [pk_sub_toInt (by omega) (by omega), mI_toInt (by omega)]
      omega
    rw [e, if_pos (by rw [Int32.lt_iff_toInt_lt, mI_toInt (by omega), nI_toInt (by decide)]; omega)]
    unfold mI
    exact Int32.neg_neg
  · refine ⟨a - b, by omega, ?_⟩
    rw [pk_sub (by omega), if_neg (fun h => by rw [nI_ltI (by omega) (by decide)] at h; omega)]
section
variable {d : Nat} {o r : jv_H} {c : cm_S} {g : Nat → Option jv_C} {T : Tx} {R : Nat → Int32} {k : Kc}
theorem m_abs {x : Int32} {h : jv_H} : jv_cd (d + 1) 310 [.int x] h = some (.inl (some (.int (ab x))), h) := by
  unfold ab
  by_cases h0 : x < nI 0
  · have h1 : ¬ nI 0 ≤ x := Int32.not_le.mpr h0
    simp (disch := omega) only [il_0, il_1, il_2, il_3, il_4, il_5, il_6, il_7, il_8, il_9, il_10, il_11, il_12, il_13, il_14, il_15, il_16, il_17, il_18, il_19, il_20, il_21, il_22, il_23, il_24, il_25, il_26, il_27, il_28, il_29, il_30, il_31, il_32, il_40, il_41, il_42, il_43, il_44, il_45, il_46, il_47, il_48, il_52, il_56, il_57, il_59, il_60, il_61, il_63, il_64, il_68, il_72, il_75, il_76, il_82, il_88, il_89, il_90, il_92, il_96, il_97, il_99, il_100, il_101, il_102, il_103, il_104, il_105, il_107, il_108, il_109, il_110, il_111, il_112, il_114, il_115, il_116, il_117, il_118, il_119, il_121, il_122, il_130, il_200, il_255, il_256, il_260, il_276, il_400, il_403, il_420, il_840, il_999, il_1000, il_2000, il_2001, il_2668, il_2760, il_9999, il_12345, il_1000000, il_1103515245, ↓im_1, ↓im_2, ↓im_8, ↓im_1000, nI_add, pk_mul, pk_sub, ↓pk_rem, pk_div, nm_add, nI_clamp, nI_ltI, nI_leI, nI_eq, nm_eq, mn_eq, mm_eq, nm_lt, mn_lt, nm_le, mn_le, nl_T, nl_F, nle_T, nle_F, ne_T, ne_F, b2i_0, b2i_1, b2i_n, nb_0, nb_1, or_false, false_or, or_true, true_or, and_true, true_and, and_false, false_and, or_self, and_self, not_true_eq_false, not_false_eq_true, ↓reduceIte, if_true, if_false, ↓jv_bs, ↓jv_ol, ↓jv_or, jv_tl, jv_tn, jo_T, ck_2_166_17, ck_6_43_16, ck_6_43_17, ck_6_73_16, ck_7_65_17, ck_30_10_19, su_F, e310_0, e310_1, e310_4, e310_5, e310_6, e310_9, e310_10, n310, h0, h1]
  · have h1 : nI 0 ≤ x := Int32.not_lt.mp h0
    simp (disch := omega) only [il_0, il_1, il_2, il_3, il_4, il_5, il_6, il_7, il_8, il_9, il_10, il_11, il_12, il_13, il_14, il_15, il_16, il_17, il_18, il_19, il_20, il_21, il_22, il_23, il_24, il_25, il_26, il_27, il_28, il_29, il_30, il_31, il_32, il_40, il_41, il_42, il_43, il_44, il_45, il_46, il_47, il_48, il_52, il_56, il_57, il_59, il_60, il_61, il_63, il_64, il_68, il_72, il_75, il_76, il_82, il_88, il_89, il_90, il_92, il_96, il_97, il_99, il_100, il_101, il_102, il_103, il_104, il_105, il_107, il_108, il_109, il_110, il_111, il_112, il_114, il_115, il_116, il_117, il_118, il_119, il_121, il_122, il_130, il_200, il_255, il_256, il_260, il_276, il_400, il_403, il_420, il_840, il_999, il_1000, il_2000, il_2001, il_2668, il_2760, il_9999, il_12345, il_1000000, il_1103515245, ↓im_1, ↓im_2, ↓im_8, ↓im_1000, nI_add, pk_mul, pk_sub, ↓pk_rem, pk_div, nm_add, nI_clamp, nI_ltI, nI_leI, nI_eq, nm_eq, mn_eq, mm_eq, nm_lt, mn_lt, nm_le, mn_le, nl_T, nl_F, nle_T, nle_F, ne_T, ne_F, b2i_0, b2i_1, b2i_n, nb_0, nb_1, or_false, false_or, or_true, true_or, and_true, true_and, and_false, false_and, or_self, and_self, not_true_eq_false, not_false_eq_true, ↓reduceIte, if_true, if_false, ↓jv_bs, ↓jv_ol, ↓jv_or, jv_tl, jv_tn, jo_T, ck_2_166_17, ck_6_43_16, ck_6_43_17, ck_6_73_16, ck_7_65_17, ck_30_10_19, su_F, e310_0, e310_1, e310_4, e310_5, e310_6, e310_9, e310_10, n310, h0, h1]
theorem m_abs_b {x : Int32} {h : jv_H} {F : jv_R → Option jv_R} : (jv_cd (d + 1) 310 [.int x] h).bind F = F (.inl (some (.int (ab x))), h) := jb (m_abs )
/-- the best so far in two locals -/
def sg (T : Tx) (R : Nat → Int32) (f w h : Nat) (b : Option Nat) (x4 x5 : Int32) : Prop := match b with
  | none => x4 = mI 2 ∧ x5 = nI 1000000
  | some m => x4 = nI m ∧ x5 = of_v T R m f w h
theorem cq_suits (ho : o.length = 50) (hG : ∀ c : cm_S, GH g (cm_h o c r)) (hX : XA g c.2.2.2.1 T) (hT : TW T) (hr : LR (c.2.2.1 0) R) {f w h : Int32} : ∃ k', jv_cd (d + 406) 163 [.ref 50, .int f, .int w, .int h] (cm_h o (ck c k) r) = some (.inl (some (.int (f_suits T R f w h))), cm_h o (ck c k') r) := by
  unfold f_suits
  obtain ⟨t1, t2, t3, t4, t5, _⟩ := id hT
  cases h1 : ir f 0 (t_nf T) with
  | false =>
    refine ⟨k, ?_⟩
    simp (disch := omega) only [il_0, il_1, il_2, il_3, il_4, il_5, il_6, il_7, il_8, il_9, il_10, il_11, il_12, il_13, il_14, il_15, il_16, il_17, il_18, il_19, il_20, il_21, il_22, il_23, il_24, il_25, il_26, il_27, il_28, il_29, il_30, il_31, il_32, il_40, il_41, il_42, il_43, il_44, il_45, il_46, il_47, il_48, il_52, il_56, il_57, il_59, il_60, il_61, il_63, il_64, il_68, il_72, il_75, il_76, il_82, il_88, il_89, il_90, il_92, il_96, il_97, il_99, il_100, il_101, il_102, il_103, il_104, il_105, il_107, il_108, il_109, il_110, il_111, il_112, il_114, il_115, il_116, il_117, il_118, il_119, il_121, il_122, il_130, il_200, il_255, il_256, il_260, il_276, il_400, il_403, il_420, il_840, il_999, il_1000, il_2000, il_2001, il_2668, il_2760, il_9999, il_12345, il_1000000, il_1103515245, ↓im_1, ↓im_2, ↓im_8, ↓im_1000, nI_add, pk_mul, ↓pk_rem, pk_div, nm_add, nI_clamp, nI_ltI, nI_leI, nI_eq, nm_eq, mn_eq, mm_eq, nm_lt, mn_lt, nm_le, mn_le, nl_T, nl_F, nle_T, nle_F, ne_T, ne_F, b2i_0, b2i_1, b2i_n, nb_0, nb_1, or_false, false_or, or_true, true_or, and_true, true_and, and_false, false_and, or_self, and_self, not_true_eq_false, not_false_eq_true, ↓reduceIte, if_true, if_false, ↓jv_bs, ↓jv_ol, ↓jv_or, jv_tl, jv_tn, jo_T, ck_2_166_17, ck_6_43_16, ck_6_43_17, ck_6_73_16, ck_7_65_17, ck_30_10_19, su_F, e163_0, e163_1, e163_2, e163_3, e163_6, e163_7, e163_8, e163_11, e163_14, e163_15, e163_16, e163_18, e163_21, e163_24, e163_25, e163_26, e163_28, e163_31, e163_34, e163_35, ↓cg_50_3b ho, ↓cr_50b ho, ↓cr_51b ho, ↓cr_52b ho, ↓cr_59b ho, ↓crlb ho, ci1, ci2, ca1, ca2, ca3, cL1, cL2, cL3, cL4, cx1, cx2, cx3, cx4, cy1, cy2, cy3, cy4, jn_0, Nat.reduceEqDiff, n163, ↓c_fields_b ho hG hX hT, ↓m_isInW_b, h1, b2i_f, Bool.false_eq_true, Bool.false_and]
  | true =>
    cases h2 : ir w 1 9 with
    | false =>
      refine ⟨k, ?_⟩
      simp (disch := omega) only [il_0, il_1, il_2, il_3, il_4, il_5, il_6, il_7, il_8, il_9, il_10, il_11, il_12, il_13, il_14, il_15, il_16, il_17, il_18, il_19, il_20, il_21, il_22, il_23, il_24, il_25, il_26, il_27, il_28, il_29, il_30, il_31, il_32, il_40, il_41, il_42, il_43, il_44, il_45, il_46, il_47, il_48, il_52, il_56, il_57, il_59, il_60, il_61, il_63, il_64, il_68, il_72, il_75, il_76, il_82, il_88, il_89, il_90, il_92, il_96, il_97, il_99, il_100, il_101, il_102, il_103, il_104, il_105, il_107, il_108, il_109, il_110, il_111, il_112, il_114, il_115, il_116, il_117, il_118, il_119, il_121, il_122, il_130, il_200, il_255, il_256, il_260, il_276, il_400, il_403, il_420, il_840, il_999, il_1000, il_2000, il_2001, il_2668, il_2760, il_9999, il_12345, il_1000000, il_1103515245, ↓im_1, ↓im_2, ↓im_8, ↓im_1000, nI_add, pk_mul, ↓pk_rem, pk_div, nm_add, nI_clamp, nI_ltI, nI_leI, nI_eq, nm_eq, mn_eq, mm_eq, nm_lt, mn_lt, nm_le, mn_le, nl_T, nl_F, nle_T, nle_F, ne_T, ne_F, b2i_0, b2i_1, b2i_n, nb_0, nb_1, or_false, false_or, or_true, true_or, and_true, true_and, and_false, false_and, or_self, and_self, not_true_eq_false, not_false_eq_true, ↓reduceIte, if_true, if_false, ↓jv_bs, ↓jv_ol, ↓jv_or, jv_tl, jv_tn, jo_T, ck_2_166_17, ck_6_43_16, ck_6_43_17, ck_6_73_16, ck_7_65_17, ck_30_10_19, su_F, e163_0, e163_1, e163_2, e163_3, e163_6, e163_7, e163_8, e163_11, e163_14, e163_15, e163_16, e163_18, e163_21, e163_24, e163_25, e163_26, e163_28, e163_31, e163_34, e163_35, ↓cg_50_3b ho, ↓cr_50b ho, ↓cr_51b ho, ↓cr_52b ho, ↓cr_59b ho, ↓crlb ho, ci1, ci2, ca1, ca2, ca3, cL1, cL2, cL3, cL4, cx1, cx2, cx3, cx4, cy1, cy2, cy3, cy4, jn_0, Nat.reduceEqDiff, n163, ↓c_fields_b ho hG hX hT, ↓m_isInW_b, ↓m_isInL_b, Nat.reduceAdd, h1, h2, b2i_t, b2i_f, Bool.false_eq_true, Bool.false_and, Bool.and_false]
    | true =>
      cases h3 : ir h 1 7 with
      | false =>
        refine ⟨k, ?_⟩
        simp (disch := omega) only [il_0, il_1, il_2, il_3, il_4, il_5, il_6, il_7, il_8, il_9, il_10, il_11, il_12, il_13, il_14, il_15, il_16, il_17, il_18, il_19, il_20, il_21, il_22, il_23, il_24, il_25, il_26, il_27, il_28, il_29, il_30, il_31, il_32, il_40, il_41, il_42, il_43, il_44, il_45, il_46, il_47, il_48, il_52, il_56, il_57, il_59, il_60, il_61, il_63, il_64, il_68, il_72, il_75, il_76, il_82, il_88, il_89, il_90, il_92, il_96, il_97, il_99, il_100, il_101, il_102, il_103, il_104, il_105, il_107, il_108, il_109, il_110, il_111, il_112, il_114, il_115, il_116, il_117, il_118, il_119, il_121, il_122, il_130, il_200, il_255, il_256, il_260, il_276, il_400, il_403, il_420, il_840, il_999, il_1000, il_2000, il_2001, il_2668, il_2760, il_9999, il_12345, il_1000000, il_1103515245, ↓im_1, ↓im_2, ↓im_8, ↓im_1000, nI_add, pk_mul, ↓pk_rem, pk_div, nm_add, nI_clamp, nI_ltI, nI_leI, nI_eq, nm_eq, mn_eq, mm_eq, nm_lt, mn_lt, nm_le, mn_le, nl_T, nl_F, nle_T, nle_F, ne_T, ne_F, b2i_0, b2i_1, b2i_n, nb_0, nb_1, or_false, false_or, or_true, true_or, and_true, true_and, and_false, false_and, or_self, and_self, not_true_eq_false, not_false_eq_true, ↓reduceIte, if_true, if_false, ↓jv_bs, ↓jv_ol, ↓jv_or, jv_tl, jv_tn, jo_T, ck_2_166_17, ck_6_43_16, ck_6_43_17, ck_6_73_16, ck_7_65_17, ck_30_10_19, su_F, e163_0, e163_1, e163_2, e163_3, e163_6, e163_7, e163_8, e163_11, e163_14, e163_15, e163_16, e163_18, e163_21, e163_24, e163_25, e163_26, e163_28, e163_31, e163_34, e163_35, ↓cg_50_3b ho, ↓cr_50b ho, ↓cr_51b ho, ↓cr_52b ho, ↓cr_59b ho, ↓crlb ho, ci1, ci2, ca1, ca2, ca3, cL1, cL2, cL3, cL4, cx1, cx2, cx3, cx4, cy1, cy2, cy3, cy4, jn_0, Nat.reduceEqDiff, n163, ↓c_fields_b ho hG hX hT, ↓m_isInW_b, ↓m_isInL_b, Nat.reduceAdd, h1, h2, h3, b2i_t, b2i_f, Bool.false_eq_true, Bool.and_false]
      | true =>
        obtain ⟨f, rfl, _, hf⟩ := ir_T (by omega) (by decide) h1
        obtain ⟨w, rfl, hw1, hw2⟩ := ir_T (by decide) (by decide) h2
        obtain ⟨h, rfl, hh1, hh2⟩ := ir_T (by decide) (by decide) h3
        have hwh : w * h ≤ 8 * 6 := Nat.mul_le_mul (by omega) (by omega)
        rw [nI_clamp (by omega), nI_clamp (by omega), nI_clamp (by omega), if_pos (by rfl)]
        obtain ⟨⟨k', x4, x5, x7⟩, i1, g1⟩ := jl_inv (N := t_nl T) (F := fun l (st : Kc × Int32 × Int32 × Option Value) => jv_ev (d + 405) 163 48 [some (.ref 50), some (.int (nI f)), some (.int (nI w)), some (.int (nI h)), some (.int st.2.1), some (.int st.2.2.1), some (.int (nI l)), st.2.2.2] [] (cm_h o (ck c st.1) r)) (fun l st => sg T R f w h (it (su_s T R f w h) l none) st.2.1 st.2.2.1) (fun l hl st hI => by
          have h8 := t5 l hl
          have k9 : ∀ k, jv_rc (cm_h o (ck c k) r) c.2.2.2.1 [(5, 215)] = some 215 := fun k => (tx_i hX (hG _)).2.2.2.2.2 _
          rw [it_s]
          generalize it (su_s T R f w h) l none = a at hI ⊢
          unfold su_s
          rw [e163_48]
          by_cases hw3 : w ≤ t_lw T l
          · rw [if_pos hw3]
            obtain ⟨k1, g1⟩ := c_holdsOf (d := d + 1) (k := st.1) ho hG hX hT hr hl ⟨hw1, by omega⟩ ⟨hh1, by omega⟩ (b := false) (w := w) (h := h)
            simp only [b2i_f, Bool.false_eq_true, if_false] at g1
            have e9 : ab (hd_a T R l w h - nd_a T f) = of_v T R l f w h := rfl
            obtain ⟨n1, hn1, en1⟩ := of_r hT (r := R) (l := l) (f := f) (w := w) (h := h) hf (by omega)
            cases a with
            | none =>
              obtain ⟨h4, h5⟩ := hI
              refine ⟨(k1, nI l, of_v T R l f w h, some (.int (of_v T R l f w h))), ⟨rfl, rfl⟩, ?_⟩
              simp (disch := omega) only [il_0, il_1, il_2, il_3, il_4, il_5, il_6, il_7, il_8, il_9, il_10, il_11, il_12, il_13, il_14, il_15, il_16, il_17, il_18, il_19, il_20, il_21, il_22, il_23, il_24, il_25, il_26, il_27, il_28, il_29, il_30, il_31, il_32, il_40, il_41, il_42, il_43, il_44, il_45, il_46, il_47, il_48, il_52, il_56, il_57, il_59, il_60, il_61, il_63, il_64, il_68, il_72, il_75, il_76, il_82, il_88, il_89, il_90, il_92, il_96, il_97, il_99, il_100, il_101, il_102, il_103, il_104, il_105, il_107, il_108, il_109, il_110, il_111, il_112, il_114, il_115, il_116, il_117, il_118, il_119, il_121, il_122, il_130, il_200, il_255, il_256, il_260, il_276, il_400, il_403, il_420, il_840, il_999, il_1000, il_2000, il_2001, il_2668, il_2760, il_9999, il_12345, il_1000000, il_1103515245, ↓im_1, ↓im_2, ↓im_8, ↓im_1000, nI_add, pk_mul, pk_sub, ↓pk_rem, pk_div, nm_add, nI_clamp, nI_ltI, nI_leI, nI_eq, nm_eq, mn_eq, mm_eq, nm_lt, mn_lt, nm_le, mn_le, nl_T, nl_F, nle_T, nle_F, ne_T, ne_F, b2i_0, b2i_1, b2i_n, nb_0, nb_1, or_false, false_or, or_true, true_or, and_true, true_and, and_false, false_and, or_self, and_self, not_true_eq_false, not_false_eq_true, ↓reduceIte, if_true, if_false, ↓jv_bs, ↓jv_ol, ↓jv_or, jv_tl, jv_tn, jo_T, ck_2_166_17, ck_6_43_16, ck_6_43_17, ck_6_73_16, ck_7_65_17, ck_30_10_19, su_F, e163_50, e163_51, e163_54, e163_57, e163_58, e163_59, e163_61, e163_64, e163_67, e163_70, e163_73, e163_74, e163_76, e163_77, e163_78, e163_79, e163_82, e163_83, e163_86, e163_87, e163_90, e163_91, e163_94, e163_96, e163_98, e163_100, e163_103, e163_106, e163_108, e163_110, e163_112, e163_114, e163_117, ↓cg_50_3b ho, ↓cr_50b ho, ↓cr_51b ho, ↓cr_52b ho, ↓cr_59b ho, ↓crlb ho, ci1, ci2, ca1, ca2, ca3, cL1, cL2, cL3, cL4, cx1, cx2, cx3, cx4, cy1, cy2, cy3, cy4, jn_0, Nat.reduceEqDiff, ↓c_looms_b ho hG hX hT, ↓c_wideOf_b ho hG hX hT hl, ↓jbR g1, ck4, ↓jbN (k9 _), ↓m_tNeedsOf_b hX hT (hG _), ↓m_abs_b, e9, en1, h4, h5]
            | some m =>
              obtain ⟨h4, h5⟩ := hI
              by_cases h0 : of_v T R l f w h < of_v T R m f w h
              · dsimp only
                rw [if_pos h0]
                refine ⟨(k1, nI l, of_v T R l f w h, some (.int (of_v T R l f w h))), ⟨rfl, rfl⟩, ?_⟩
                simp (disch := omega) only [il_0, il_1, il_2, il_3, il_4, il_5, il_6, il_7, il_8, il_9, il_10, il_11, il_12, il_13, il_14, il_15, il_16, il_17, il_18, il_19, il_20, il_21, il_22, il_23, il_24, il_25, il_26, il_27, il_28, il_29, il_30, il_31, il_32, il_40, il_41, il_42, il_43, il_44, il_45, il_46, il_47, il_48, il_52, il_56, il_57, il_59, il_60, il_61, il_63, il_64, il_68, il_72, il_75, il_76, il_82, il_88, il_89, il_90, il_92, il_96, il_97, il_99, il_100, il_101, il_102, il_103, il_104, il_105, il_107, il_108, il_109, il_110, il_111, il_112, il_114, il_115, il_116, il_117, il_118, il_119, il_121, il_122, il_130, il_200, il_255, il_256, il_260, il_276, il_400, il_403, il_420, il_840, il_999, il_1000, il_2000, il_2001, il_2668, il_2760, il_9999, il_12345, il_1000000, il_1103515245, ↓im_1, ↓im_2, ↓im_8, ↓im_1000, nI_add, pk_mul, pk_sub, ↓pk_rem, pk_div, nm_add, nI_clamp, nI_ltI, nI_leI, nI_eq, nm_eq, mn_eq, mm_eq, nm_lt, mn_lt, nm_le, mn_le, nl_T, nl_F, nle_T, nle_F, ne_T, ne_F, b2i_0, b2i_1, b2i_n, nb_0, nb_1, or_false, false_or, or_true, true_or, and_true, true_and, and_false, false_and, or_self, and_self, not_true_eq_false, not_false_eq_true, ↓reduceIte, if_true, if_false, ↓jv_bs, ↓jv_ol, ↓jv_or, jv_tl, jv_tn, jo_T, ck_2_166_17, ck_6_43_16, ck_6_43_17, ck_6_73_16, ck_7_65_17, ck_30_10_19, su_F, e163_50, e163_51, e163_54, e163_57, e163_58, e163_59, e163_61, e163_64, e163_67, e163_70, e163_73, e163_74, e163_76, e163_77, e163_78, e163_79, e163_82, e163_83, e163_86, e163_87, e163_90, e163_91, e163_94, e163_96, e163_98, e163_100, e163_103, e163_106, e163_108, e163_110, e163_112, e163_114, e163_117, ↓cg_50_3b ho, ↓cr_50b ho, ↓cr_51b ho, ↓cr_52b ho, ↓cr_59b ho, ↓crlb ho, ci1, ci2, ca1, ca2, ca3, cL1, cL2, cL3, cL4, cx1, cx2, cx3, cx4, cy1, cy2, cy3, cy4, jn_0, Nat.reduceEqDiff, ↓c_looms_b ho hG hX hT, ↓c_wideOf_b ho hG hX hT hl, ↓jbR g1, ck4, ↓jbN (k9 _), ↓m_tNeedsOf_b hX hT (hG _), ↓m_abs_b, e9, h4, h5, h0]
              · dsimp only
                rw [if_neg h0]
                refine ⟨(k1, st.2.1, st.2.2.1, some (.int (of_v T R l f w h))), ⟨h4, h5⟩, ?_⟩
                simp (disch := omega) only [il_0, il_1, il_2, il_3, il_4, il_5, il_6, il_7, il_8, il_9, il_10, il_11, il_12, il_13, il_14, il_15, il_16, il_17, il_18, il_19, il_20, il_21, il_22, il_23, il_24, il_25, il_26, il_27, il_28, il_29, il_30, il_31, il_32, il_40, il_41, il_42, il_43, il_44, il_45, il_46, il_47, il_48, il_52, il_56, il_57, il_59, il_60, il_61, il_63, il_64, il_68, il_72, il_75, il_76, il_82, il_88, il_89, il_90, il_92, il_96, il_97, il_99, il_100, il_101, il_102, il_103, il_104, il_105, il_107, il_108, il_109, il_110, il_111, il_112, il_114, il_115, il_116, il_117, il_118, il_119, il_121, il_122, il_130, il_200, il_255, il_256, il_260, il_276, il_400, il_403, il_420, il_840, il_999, il_1000, il_2000, il_2001, il_2668, il_2760, il_9999, il_12345, il_1000000, il_1103515245, ↓im_1, ↓im_2, ↓im_8, ↓im_1000, nI_add, pk_mul, pk_sub, ↓pk_rem, pk_div, nm_add, nI_clamp, nI_ltI, nI_leI, nI_eq, nm_eq, mn_eq, mm_eq, nm_lt, mn_lt, nm_le, mn_le, nl_T, nl_F, nle_T, nle_F, ne_T, ne_F, b2i_0, b2i_1, b2i_n, nb_0, nb_1, or_false, false_or, or_true, true_or, and_true, true_and, and_false, false_and, or_self, and_self, not_true_eq_false, not_false_eq_true, ↓reduceIte, if_true, if_false, ↓jv_bs, ↓jv_ol, ↓jv_or, jv_tl, jv_tn, jo_T, ck_2_166_17, ck_6_43_16, ck_6_43_17, ck_6_73_16, ck_7_65_17, ck_30_10_19, su_F, e163_50, e163_51, e163_54, e163_57, e163_58, e163_59, e163_61, e163_64, e163_67, e163_70, e163_73, e163_74, e163_76, e163_77, e163_78, e163_79, e163_82, e163_83, e163_86, e163_87, e163_90, e163_91, e163_94, e163_96, e163_98, e163_100, e163_103, e163_106, e163_108, e163_110, e163_112, e163_114, e163_117, ↓cg_50_3b ho, ↓cr_50b ho, ↓cr_51b ho, ↓cr_52b ho, ↓cr_59b ho, ↓crlb ho, ci1, ci2, ca1, ca2, ca3, cL1, cL2, cL3, cL4, cx1, cx2, cx3, cx4, cy1, cy2, cy3, cy4, jn_0, Nat.reduceEqDiff, ↓c_looms_b ho hG hX hT, ↓c_wideOf_b ho hG hX hT hl, ↓jbR g1, ck4, ↓jbN (k9 _), ↓m_tNeedsOf_b hX hT (hG _), ↓m_abs_b, e9, h4, h5, h0]
          · rw [if_neg hw3]
            refine ⟨(st.1, st.2.1, st.2.2.1, some (.int (nI 1000000))), hI, ?_⟩
            have hx5 : ¬ nI 1000000 < st.2.2.1 := by
              cases a with
              | none => rw [hI.2]; decide
              | some m =>
                obtain ⟨n1, hn1, en1⟩ := of_r hT (r := R) (l := m) (f := f) (w := w) (h := h) hf (by omega)
                rw [hI.2, en1, nI_ltI (by omega) (by omega)]
                omega
            simp (disch := omega) only [il_0, il_1, il_2, il_3, il_4, il_5, il_6, il_7, il_8, il_9, il_10, il_11, il_12, il_13, il_14, il_15, il_16, il_17, il_18, il_19, il_20, il_21, il_22, il_23, il_24, il_25, il_26, il_27, il_28, il_29, il_30, il_31, il_32, il_40, il_41, il_42, il_43, il_44, il_45, il_46, il_47, il_48, il_52, il_56, il_57, il_59, il_60, il_61, il_63, il_64, il_68, il_72, il_75, il_76, il_82, il_88, il_89, il_90, il_92, il_96, il_97, il_99, il_100, il_101, il_102, il_103, il_104, il_105, il_107, il_108, il_109, il_110, il_111, il_112, il_114, il_115, il_116, il_117, il_118, il_119, il_121, il_122, il_130, il_200, il_255, il_256, il_260, il_276, il_400, il_403, il_420, il_840, il_999, il_1000, il_2000, il_2001, il_2668, il_2760, il_9999, il_12345, il_1000000, il_1103515245, ↓im_1, ↓im_2, ↓im_8, ↓im_1000, nI_add, pk_mul, pk_sub, ↓pk_rem, pk_div, nm_add, nI_clamp, nI_ltI, nI_leI, nI_eq, nm_eq, mn_eq, mm_eq, nm_lt, mn_lt, nm_le, mn_le, nl_T, nl_F, nle_T, nle_F, ne_T, ne_F, b2i_0, b2i_1, b2i_n, nb_0, nb_1, or_false, false_or, or_true, true_or, and_true, true_and, and_false, false_and, or_self, and_self, not_true_eq_false, not_false_eq_true, ↓reduceIte, if_true, if_false, ↓jv_bs, ↓jv_ol, ↓jv_or, jv_tl, jv_tn, jo_T, ck_2_166_17, ck_6_43_16, ck_6_43_17, ck_6_73_16, ck_7_65_17, ck_30_10_19, su_F, e163_50, e163_51, e163_54, e163_57, e163_58, e163_59, e163_61, e163_64, e163_67, e163_70, e163_73, e163_74, e163_76, e163_77, e163_78, e163_79, e163_82, e163_83, e163_86, e163_87, e163_90, e163_91, e163_94, e163_96, e163_98, e163_100, e163_103, e163_106, e163_108, e163_110, e163_112, e163_114, e163_117, ↓cg_50_3b ho, ↓cr_50b ho, ↓cr_51b ho, ↓cr_52b ho, ↓cr_59b ho, ↓crlb ho, ci1, ci2, ca1, ca2, ca3, cL1, cL2, cL3, cL4, cx1, cx2, cx3, cx4, cy1, cy2, cy3, cy4, jn_0, Nat.reduceEqDiff, ↓c_looms_b ho hG hX hT, ↓c_wideOf_b ho hG hX hT hl, hx5]) (s := (k, mI 2, nI 1000000, none)) ⟨rfl, rfl⟩
        refine ⟨k', Eq.trans ?_ (Eq.trans g1 ?_)⟩
        · simp (disch := omega) only [il_0, il_1, il_2, il_3, il_4, il_5, il_6, il_7, il_8, il_9, il_10, il_11, il_12, il_13, il_14, il_15, il_16, il_17, il_18, il_19, il_20, il_21, il_22, il_23, il_24, il_25, il_26, il_27, il_28, il_29, il_30, il_31, il_32, il_40, il_41, il_42, il_43, il_44, il_45, il_46, il_47, il_48, il_52, il_56, il_57, il_59, il_60, il_61, il_63, il_64, il_68, il_72, il_75, il_76, il_82, il_88, il_89, il_90, il_92, il_96, il_97, il_99, il_100, il_101, il_102, il_103, il_104, il_105, il_107, il_108, il_109, il_110, il_111, il_112, il_114, il_115, il_116, il_117, il_118, il_119, il_121, il_122, il_130, il_200, il_255, il_256, il_260, il_276, il_400, il_403, il_420, il_840, il_999, il_1000, il_2000, il_2001, il_2668, il_2760, il_9999, il_12345, il_1000000, il_1103515245, ↓im_1, ↓im_2, ↓im_8, ↓im_1000, nI_add, pk_mul, ↓pk_rem, pk_div, nm_add, nI_clamp, nI_ltI, nI_leI, nI_eq, nm_eq, mn_eq, mm_eq, nm_lt, mn_lt, nm_le, mn_le, nl_T, nl_F, nle_T, nle_F, ne_T, ne_F, b2i_0, b2i_1, b2i_n, nb_0, nb_1, or_false, false_or, or_true, true_or, and_true, true_and, and_false, false_and, or_self, and_self, not_true_eq_false, not_false_eq_true, ↓reduceIte, if_true, if_false, ↓jv_bs, ↓jv_ol, ↓jv_or, jv_tl, jv_tn, jo_T, ck_2_166_17, ck_6_43_16, ck_6_43_17, ck_6_73_16, ck_7_65_17, ck_30_10_19, su_F, e163_0, e163_1, e163_2, e163_3, e163_6, e163_7, e163_8, e163_11, e163_14, e163_15, e163_16, e163_18, e163_21, e163_24, e163_25, e163_26, e163_28, e163_31, e163_34, e163_35, e163_36, e163_38, e163_40, e163_43, e163_45, e163_46, ↓cg_50_3b ho, ↓cr_50b ho, ↓cr_51b ho, ↓cr_52b ho, ↓cr_59b ho, ↓crlb ho, ci1, ci2, ca1, ca2, ca3, cL1, cL2, cL3, cL4, cx1, cx2, cx3, cx4, cy1, cy2, cy3, cy4, jn_0, Nat.reduceEqDiff, n163, ↓c_fields_b ho hG hX hT, ↓m_isInW_b, ↓m_isInL_b, Nat.reduceAdd, h1, h2, h3, b2i_t]
        · have hx4 : x4 = fst (it (su_s T R f w h) (t_nl T) none) := by
            dsimp only at i1
            generalize it (su_s T R f w h) (t_nl T) none = a at i1 ⊢
            cases a with
            | none => exact i1.1
            | some m => exact i1.1
          dsimp only
          simp (disch := omega) only [il_0, il_1, il_2, il_3, il_4, il_5, il_6, il_7, il_8, il_9, il_10, il_11, il_12, il_13, il_14, il_15, il_16, il_17, il_18, il_19, il_20, il_21, il_22, il_23, il_24, il_25, il_26, il_27, il_28, il_29, il_30, il_31, il_32, il_40, il_41, il_42, il_43, il_44, il_45, il_46, il_47, il_48, il_52, il_56, il_57, il_59, il_60, il_61, il_63, il_64, il_68, il_72, il_75, il_76, il_82, il_88, il_89, il_90, il_92, il_96, il_97, il_99, il_100, il_101, il_102, il_103, il_104, il_105, il_107, il_108, il_109, il_110, il_111, il_112, il_114, il_115, il_116, il_117, il_118, il_119, il_121, il_122, il_130, il_200, il_255, il_256, il_260, il_276, il_400, il_403, il_420, il_840, il_999, il_1000, il_2000, il_2001, il_2668, il_2760, il_9999, il_12345, il_1000000, il_1103515245, ↓im_1, ↓im_2, ↓im_8, ↓im_1000, nI_add, pk_mul, pk_sub, ↓pk_rem, pk_div, nm_add, nI_clamp, nI_ltI, nI_leI, nI_eq, nm_eq, mn_eq, mm_eq, nm_lt, mn_lt, nm_le, mn_le, nl_T, nl_F, nle_T, nle_F, ne_T, ne_F, b2i_0, b2i_1, b2i_n, nb_0, nb_1, or_false, false_or, or_true, true_or, and_true, true_and, and_false, false_and, or_self, and_self, not_true_eq_false, not_false_eq_true, ↓reduceIte, if_true, if_false, ↓jv_bs, ↓jv_ol, ↓jv_or, jv_tl, jv_tn, jo_T, ck_2_166_17, ck_6_43_16, ck_6_43_17, ck_6_73_16, ck_7_65_17, ck_30_10_19, su_F, e163_48, e163_50, e163_51, e163_54, e163_120, e163_122, ↓cg_50_3b ho, ↓cr_50b ho, ↓cr_51b ho, ↓cr_52b ho, ↓cr_59b ho, ↓crlb ho, ci1, ci2, ca1, ca2, ca3, cL1, cL2, cL3, cL4, cx1, cx2, cx3, cx4, cy1, cy2, cy3, cy4, jn_0, Nat.reduceEqDiff, ↓c_looms_b ho hG hX hT, hx4]
end
