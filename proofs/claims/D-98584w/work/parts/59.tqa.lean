/-! the reference: the tape -/
/-- four bytes are put -/
def pu (f : Nat → Int32) (t : Nat) (w : Int32) : Nat → Int32 := fun i => if t ≤ i ∧ i < t + 4 then byt w (i - t) else f i
theorem pu_u {f : Nat → Int32} {t : Nat} {w : Int32} : upd (upd (upd (upd f t (byt w 0)) (t + 1) (byt w 1)) (t + 2) (byt w 2)) (t + 3) (byt w 3) = pu f t w := by
  funext i
  unfold pu
  by_cases h3 : i = t + 3
  · subst h3
    rw [pk_us, if_pos (by omega), show t + 3 - t = 3 by omega]
  rw [pk_un h3]
  by_cases h2 : i = t + 2
  · subst h2
    rw [pk_us, if_pos (by omega), show t + 2 - t = 2 by omega]
  rw [pk_un h2]
  by_cases h1 : i = t + 1
  · subst h1
    rw [pk_us, if_pos (by omega), show t + 1 - t = 1 by omega]
  rw [pk_un h1]
  by_cases h0 : i = t
  · subst h0
    rw [pk_us, if_pos (by omega), Nat.sub_self]
  rw [pk_un h0, if_neg (by omega)]
theorem by_0 {w : Int32} : (w >>> (nI 24 &&& nI 31)).toInt8.toInt32 = byt w 0 := rfl
theorem by_1 {w : Int32} : (w >>> (nI 16 &&& nI 31)).toInt8.toInt32 = byt w 1 := rfl
theorem by_2 {w : Int32} : (w >>> (nI 8 &&& nI 31)).toInt8.toInt32 = byt w 2 := rfl
theorem by_3 {w : Int32} : (w >>> (nI 0 &&& nI 31)).toInt8.toInt32 = byt w 3 := rfl
theorem by_n {w : Int32} {k : Nat} : vp_nar .byte (byt w k) = byt w k := pk_vb _
theorem by_j {w : Int32} {k : Nat} : jv_nar 1 (byt w k) = byt w k := by_n
theorem nz_m8 : nI 0 + mI 8 = mI 8 := rfl
/-- five of them -/
theorem pu_5 {f : Nat → Int32} {t : Nat} {a b c d e : Int32} {i : Nat} (hi : i < t + 20) : pu (pu (pu (pu (pu f t a) (t + 4) b) (t + 8) c) (t + 12) d) (t + 16) e i = if i < t then f i else byt ([a, b, c, d, e].getD ((i - t) / 4) 0) ((i - t) % 4) := by
  by_cases h0 : i < t
  · rw [if_pos h0]
    unfold pu
    rw [if_neg (by omega), if_neg (by omega), if_neg (by omega), if_neg (by omega), if_neg (by omega)]
  · rw [if_neg h0]
    obtain ⟨m, rfl⟩ : ∃ m, i = t + m := ⟨i - t, by omega⟩
    rw [show t + m - t = m by omega]
    unfold pu
    by_cases h1 : m < 4
    · rw [if_neg (by omega), if_neg (by omega), if_neg (by omega), if_neg (by omega), if_pos (by omega), show m / 4 = 0 by omega, show m % 4 = t + m - t by omega]
      rfl
    by_cases h2 : m < 8
    · rw [if_neg (by omega), if_neg (by omega), if_neg (by omega), if_pos (by omega), show m / 4 = 1 by omega, show m % 4 = t + m - (t + 4) by omega]
      rfl
    by_cases h3 : m < 12
    · rw [if_neg (by omega), if_neg (by omega), if_pos (by omega), show m / 4 = 2 by omega, show m % 4 = t + m - (t + 8) by omega]
      rfl
    by_cases h4 : m < 16
    · rw [if_neg (by omega), if_pos (by omega), show m / 4 = 3 by omega, show m % 4 = t + m - (t + 12) by omega]
      rfl
    · rw [if_pos (by omega), show m / 4 = 4 by omega, show m % 4 = t + m - (t + 16) by omega]
      rfl
section
variable {d lv : Nat} {p q : jv_H} {s : tw_S} {T : Tx} {r v pl : Nat → Int32} {lo b : Int32} {j : Jk}
variable {A : Ab}
theorem m_put (hp : p.length = 589) {t : Nat} (ht : s.1 2 = nI t) (h2 : t + 4 ≤ 2000) {w : Int32} : jv_cd (d + 1) 8 [.ref 589, .int w] (tw_h p (tw_w s r lo j) q) = some (.inl none, tw_h p (tw_w (tw_i (tw_a s 1 (pu (s.2.1 1) t w)) 2 (nI (t + 4))) r lo j) q) := by
  rw [← pu_u]
  simp (disch := omega) only [il_0, il_1, il_2, il_3, il_4, il_5, il_6, il_7, il_8, il_9, il_10, il_11, il_12, il_13, il_14, il_15, il_16, il_17, il_18, il_19, il_20, il_21, il_22, il_23, il_24, il_25, il_26, il_27, il_28, il_29, il_30, il_31, il_32, il_40, il_41, il_42, il_43, il_44, il_45, il_46, il_47, il_48, il_52, il_56, il_57, il_59, il_60, il_61, il_63, il_64, il_68, il_72, il_75, il_76, il_82, il_88, il_89, il_90, il_92, il_96, il_97, il_99, il_100, il_101, il_102, il_103, il_104, il_105, il_107, il_108, il_109, il_110, il_111, il_112, il_114, il_115, il_116, il_117, il_118, il_119, il_121, il_122, il_130, il_200, il_255, il_256, il_260, il_276, il_400, il_403, il_420, il_840, il_999, il_1000, il_2000, il_2001, il_2668, il_2760, il_9999, il_12345, il_1000000, il_1103515245, ↓im_1, ↓im_2, ↓im_8, ↓im_1000, nI_add, pk_mul, pk_sub, ↓pk_rem, pk_div, nm_add, nI_clamp, nI_ltI, nI_leI, nI_eq, nm_eq, mn_eq, mm_eq, nm_lt, mn_lt, nm_le, mn_le, nl_T, nl_F, nle_T, nle_F, ne_T, ne_F, b2i_0, b2i_1, b2i_n, nb_0, nb_1, or_false, false_or, or_true, true_or, and_true, true_and, and_false, false_and, or_self, and_self, not_true_eq_false, not_false_eq_true, ↓reduceIte, if_true, if_false, ↓jv_bs, ↓jv_ol, ↓jv_or, jv_tl, jv_tn, jo_T, ck_2_166_17, ck_6_43_16, ck_6_43_17, ck_6_73_16, ck_7_65_17, ck_30_10_19, su_F, e8_0, e8_2, e8_3, e8_4, e8_7, e8_8, e8_11, e8_12, e8_15, e8_16, e8_17, e8_18, e8_19, e8_20, e8_21, e8_22, e8_25, e8_26, e8_27, e8_30, e8_33, e8_36, ↓tgb_1 hp, ↓trb_1 hp, ↓tub_1 hp, wa_1, ↓tgb_2 hp, wi_2, ↓tpb_2 hp, ↓tw_rcb hp, ww_i, ww_a, ww_w, tw_i1, tw_i2, tw_a1, tw_a2, tw_a3, Nat.reduceEqDiff, n8, ht, by_0, by_1, by_2, by_3, by_n, nz_m8, tw_aa, tw_ci, tw_ii, Nat.add_assoc, Nat.reduceAdd, Nat.reduceSub]
theorem m_put_b (hp : p.length = 589) {t : Nat} (ht : s.1 2 = nI t) (h2 : t + 4 ≤ 2000) {w : Int32} {F : jv_R → Option jv_R} : (jv_cd (d + 1) 8 [.ref 589, .int w] (tw_h p (tw_w s r lo j) q)).bind F = F (.inl none, tw_h p (tw_w (tw_i (tw_a s 1 (pu (s.2.1 1) t w)) 2 (nI (t + 4))) r lo j) q) := jb (m_put hp ht h2)
theorem to_feed (hp : p.length = 589) (hi : TI s lv A) (hA : AW A) {a b c e f : Int32} : ∃ s', TI s' lv (o_feed A a b c e f).2 ∧ jv_cd (d + 2) 7 [.ref 589, .int a, .int b, .int c, .int e, .int f] (tw_h p s q) = some (.inl (some (.int (o_feed A a b c e f).1)), tw_h p s' q) := by
  have hz := hi.2.2.1
  rw [← ww_id (s := s)]
  generalize s.2.1 51 = r at hz ⊢
  generalize s.1 52 = lo
  generalize (s.2.1 47, s.2.1 48, s.1 49) = j
  have hno : TI (tw_w s r lo j) lv A := TI_SC (SC_w hz) hi
  obtain ⟨b1, b2, b3, b4, b5, b6, b7, b8, b9, b10, b11, b12⟩ := id hno
  have h2 : s.1 2 = nI (A.2.2.1 5) := b9
  have h5 : A.2.2.1 5 ≤ 2000 := hA.2.2.2.2.2.2.2
  unfold o_feed
  by_cases h0 : 2000 < A.2.2.1 5 + 20
  · rw [if_pos h0]
    refine ⟨_, hno, ?_⟩
    simp (disch := omega) only [il_0, il_1, il_2, il_3, il_4, il_5, il_6, il_7, il_8, il_9, il_10, il_11, il_12, il_13, il_14, il_15, il_16, il_17, il_18, il_19, il_20, il_21, il_22, il_23, il_24, il_25, il_26, il_27, il_28, il_29, il_30, il_31, il_32, il_40, il_41, il_42, il_43, il_44, il_45, il_46, il_47, il_48, il_52, il_56, il_57, il_59, il_60, il_61, il_63, il_64, il_68, il_72, il_75, il_76, il_82, il_88, il_89, il_90, il_92, il_96, il_97, il_99, il_100, il_101, il_102, il_103, il_104, il_105, il_107, il_108, il_109, il_110, il_111, il_112, il_114, il_115, il_116, il_117, il_118, il_119, il_121, il_122, il_130, il_200, il_255, il_256, il_260, il_276, il_400, il_403, il_420, il_840, il_999, il_1000, il_2000, il_2001, il_2668, il_2760, il_9999, il_12345, il_1000000, il_1103515245, ↓im_1, ↓im_2, ↓im_8, ↓im_1000, nI_add, pk_mul, pk_sub, ↓pk_rem, pk_div, nm_add, nI_clamp, nI_ltI, nI_leI, nI_eq, nm_eq, mn_eq, mm_eq, nm_lt, mn_lt, nm_le, mn_le, nl_T, nl_F, nle_T, nle_F, ne_T, ne_F, b2i_0, b2i_1, b2i_n, nb_0, nb_1, or_false, false_or, or_true, true_or, and_true, true_and, and_false, false_and, or_self, and_self, not_true_eq_false, not_false_eq_true, ↓reduceIte, if_true, if_false, ↓jv_bs, ↓jv_ol, ↓jv_or, jv_tl, jv_tn, jo_T, ck_2_166_17, ck_6_43_16, ck_6_43_17, ck_6_73_16, ck_7_65_17, ck_30_10_19, su_F, e7_0, e7_1, e7_4, e7_6, e7_7, e7_10, e7_13, e7_14, e7_15, e7_16, e7_17, e7_20, e7_21, e7_22, e7_25, e7_26, e7_27, e7_30, e7_31, e7_33, e7_36, e7_37, e7_39, e7_42, e7_43, e7_46, ↓tgb_2 hp, wi_2, ↓tw_rcb hp, n7, h2]
  · rw [if_neg h0]
    have p1 := fun F => m_put_b (d := d) (q := q) (s := s) (r := r) (lo := lo) (j := j) hp (t := A.2.2.1 5) h2 (by omega) (w := a) (F := F)
    have p2 := fun F => m_put_b (d := d) (q := q) (s := tw_i (tw_a s 1 (pu (s.2.1 1) (A.2.2.1 5) a)) 2 (nI (A.2.2.1 5 + 4))) (r := r) (lo := lo) (j := j) hp (t := A.2.2.1 5 + 4) rfl (by omega) (w := b) (F := F)
    have p3 := fun F => m_put_b (d := d) (q := q) (s := tw_i (tw_a s 1 (pu (pu (s.2.1 1) (A.2.2.1 5) a) (A.2.2.1 5 + 4) b)) 2 (nI (A.2.2.1 5 + 8))) (r := r) (lo := lo) (j := j) hp (t := A.2.2.1 5 + 8) rfl (by omega) (w := c) (F := F)
    have p4 := fun F => m_put_b (d := d) (q := q) (s := tw_i (tw_a s 1 (pu (pu (pu (s.2.1 1) (A.2.2.1 5) a) (A.2.2.1 5 + 4) b) (A.2.2.1 5 + 8) c)) 2 (nI (A.2.2.1 5 + 12))) (r := r) (lo := lo) (j := j) hp (t := A.2.2.1 5 + 12) rfl (by omega) (w := e) (F := F)
    have p5 := fun F => m_put_b (d := d) (q := q) (s := tw_i (tw_a s 1 (pu (pu (pu (pu (s.2.1 1) (A.2.2.1 5) a) (A.2.2.1 5 + 4) b) (A.2.2.1 5 + 8) c) (A.2.2.1 5 + 12) e)) 2 (nI (A.2.2.1 5 + 16))) (r := r) (lo := lo) (j := j) hp (t := A.2.2.1 5 + 16) rfl (by omega) (w := f) (F := F)
    simp only [tw_i2, tw_a2, if_true, tw_ci, tw_aa, tw_ii, Nat.add_assoc, Nat.reduceAdd] at p2 p3 p4 p5
    refine ⟨tw_w (tw_i (tw_a s 1 (pu (pu (pu (pu (pu (s.2.1 1) (A.2.2.1 5) a) (A.2.2.1 5 + 4) b) (A.2.2.1 5 + 8) c) (A.2.2.1 5 + 12) e) (A.2.2.1 5 + 16) f)) 2 (nI (A.2.2.1 5 + 20))) r lo j, TI_tt hA.2.2.1 hno (FR_rn (FR_r FR_0 (by decide)) (by decide)) ⟨rfl, rfl, rfl, rfl⟩ (fun k hk => ?_) b7 b8 rfl (fun i hi => ?_), ?_⟩
    · unfold tw_w
      dsimp only
      rw [tw_i2, tw_a2, if_neg (show ¬ k = 1 by omega)]
    · have hi : i < A.2.2.1 5 + 20 := hi
      show pu (pu (pu (pu (pu (s.2.1 1) (A.2.2.1 5) a) (A.2.2.1 5 + 4) b) (A.2.2.1 5 + 8) c) (A.2.2.1 5 + 12) e) (A.2.2.1 5 + 16) f i = if i < A.2.2.1 5 then A.2.1 60 i else byt ([a, b, c, e, f].getD ((i - A.2.2.1 5) / 4) 0) ((i - A.2.2.1 5) % 4)
      rw [pu_5 hi]
      by_cases g : i < A.2.2.1 5
      · rw [if_pos g, if_pos g]; exact b10 i g
      · rw [if_neg g, if_neg g]
    · simp (disch := omega) only [il_0, il_1, il_2, il_3, il_4, il_5, il_6, il_7, il_8, il_9, il_10, il_11, il_12, il_13, il_14, il_15, il_16, il_17, il_18, il_19, il_20, il_21, il_22, il_23, il_24, il_25, il_26, il_27, il_28, il_29, il_30, il_31, il_32, il_40, il_41, il_42, il_43, il_44, il_45, il_46, il_47, il_48, il_52, il_56, il_57, il_59, il_60, il_61, il_63, il_64, il_68, il_72, il_75, il_76, il_82, il_88, il_89, il_90, il_92, il_96, il_97, il_99, il_100, il_101, il_102, il_103, il_104, il_105, il_107, il_108, il_109, il_110, il_111, il_112, il_114, il_115, il_116, il_117, il_118, il_119, il_121, il_122, il_130, il_200, il_255, il_256, il_260, il_276, il_400, il_403, il_420, il_840, il_999, il_1000, il_2000, il_2001, il_2668, il_2760, il_9999, il_12345, il_1000000, il_1103515245, ↓im_1, ↓im_2, ↓im_8, ↓im_1000, nI_add, pk_mul, pk_sub, ↓pk_rem, pk_div, nm_add, nI_clamp, nI_ltI, nI_leI, nI_eq, nm_eq, mn_eq, mm_eq, nm_lt, mn_lt, nm_le, mn_le, nl_T, nl_F, nle_T, nle_F, ne_T, ne_F, b2i_0, b2i_1, b2i_n, nb_0, nb_1, or_false, false_or, or_true, true_or, and_true, true_and, and_false, false_and, or_self, and_self, not_true_eq_false, not_false_eq_true, ↓reduceIte, if_true, if_false, ↓jv_bs, ↓jv_ol, ↓jv_or, jv_tl, jv_tn, jo_T, ck_2_166_17, ck_6_43_16, ck_6_43_17, ck_6_73_16, ck_7_65_17, ck_30_10_19, su_F, e7_0, e7_1, e7_4, e7_6, e7_7, e7_10, e7_13, e7_14, e7_15, e7_16, e7_17, e7_20, e7_21, e7_22, e7_25, e7_26, e7_27, e7_30, e7_31, e7_33, e7_36, e7_37, e7_39, e7_42, e7_43, e7_46, ↓tgb_2 hp, wi_2, ↓tw_rcb hp, ww_i, ww_a, ww_w, tw_i1, tw_i2, tw_a1, tw_a2, tw_a3, Nat.reduceEqDiff, n7, h2, ↓p1, ↓p2, ↓p3, ↓p4, ↓p5]
theorem to_back (hp : p.length = 589) (hi : TI s lv A) (hA : AW A) {n : Int32} : ∃ s', TI s' lv (o_back A n).2 ∧ jv_cd (d + 1) 9 [.ref 589, .int n] (tw_h p s q) = some (.inl (some (.int (o_back A n).1)), tw_h p s' q) := by
  have hz := hi.2.2.1
  rw [← ww_id (s := s)]
  generalize s.2.1 51 = r at hz ⊢
  generalize s.1 52 = lo
  generalize (s.2.1 47, s.2.1 48, s.1 49) = j
  have hno : TI (tw_w s r lo j) lv A := TI_SC (SC_w hz) hi
  obtain ⟨b1, b2, b3, b4, b5, b6, b7, b8, b9, b10, b11, b12⟩ := id hno
  have h2 : s.1 2 = nI (A.2.2.1 5) := b9
  have h5 : A.2.2.1 5 ≤ 2000 := hA.2.2.2.2.2.2.2
  unfold o_back
  cases h1 : ir n 0 (A.2.2.1 5 + 1) with
  | false =>
    refine ⟨_, hno, ?_⟩
    unfold ir at h1
    simp only [← nI_le_lt (show A.2.2.1 5 + 1 < 2 ^ 31 by omega), Bool.and_eq_false_iff, decide_eq_false_iff_not] at h1
    rcases h1 with h1 | h1
    · have h3 : n < nI 0 := Int32.not_le.mp h1
      simp (disch := omega) only [il_0, il_1, il_2, il_3, il_4, il_5, il_6, il_7, il_8, il_9, il_10, il_11, il_12, il_13, il_14, il_15, il_16, il_17, il_18, il_19, il_20, il_21, il_22, il_23, il_24, il_25, il_26, il_27, il_28, il_29, il_30, il_31, il_32, il_40, il_41, il_42, il_43, il_44, il_45, il_46, il_47, il_48, il_52, il_56, il_57, il_59, il_60, il_61, il_63, il_64, il_68, il_72, il_75, il_76, il_82, il_88, il_89, il_90, il_92, il_96, il_97, il_99, il_100, il_101, il_102, il_103, il_104, il_105, il_107, il_108, il_109, il_110, il_111, il_112, il_114, il_115, il_116, il_117, il_118, il_119, il_121, il_122, il_130, il_200, il_255, il_256, il_260, il_276, il_400, il_403, il_420, il_840, il_999, il_1000, il_2000, il_2001, il_2668, il_2760, il_9999, il_12345, il_1000000, il_1103515245, ↓im_1, ↓im_2, ↓im_8, ↓im_1000, nI_add, pk_mul, pk_sub, ↓pk_rem, pk_div, nm_add, nI_clamp, nI_ltI, nI_leI, nI_eq, nm_eq, mn_eq, mm_eq, nm_lt, mn_lt, nm_le, mn_le, nl_T, nl_F, nle_T, nle_F, ne_T, ne_F, b2i_0, b2i_1, b2i_n, nb_0, nb_1, or_false, false_or, or_true, true_or, and_true, true_and, and_false, false_and, or_self, and_self, not_true_eq_false, not_false_eq_true, ↓reduceIte, if_true, if_false, ↓jv_bs, ↓jv_ol, ↓jv_or, jv_tl, jv_tn, jo_T, ck_2_166_17, ck_6_43_16, ck_6_43_17, ck_6_73_16, ck_7_65_17, ck_30_10_19, su_F, e9_0, e9_1, e9_4, e9_5, e9_6, e9_9, e9_12, e9_13, e9_14, e9_15, e9_16, e9_19, e9_20, e9_21, e9_24, e9_25, e9_28, ↓tgb_2 hp, wi_2, ↓tpb_2 hp, ↓tw_rcb hp, n9, h2, h3, Bool.false_eq_true]
    · by_cases h3 : n < nI 0
      · simp (disch := omega) only [il_0, il_1, il_2, il_3, il_4, il_5, il_6, il_7, il_8, il_9, il_10, il_11, il_12, il_13, il_14, il_15, il_16, il_17, il_18, il_19, il_20, il_21, il_22, il_23, il_24, il_25, il_26, il_27, il_28, il_29, il_30, il_31, il_32, il_40, il_41, il_42, il_43, il_44, il_45, il_46, il_47, il_48, il_52, il_56, il_57, il_59, il_60, il_61, il_63, il_64, il_68, il_72, il_75, il_76, il_82, il_88, il_89, il_90, il_92, il_96, il_97, il_99, il_100, il_101, il_102, il_103, il_104, il_105, il_107, il_108, il_109, il_110, il_111, il_112, il_114, il_115, il_116, il_117, il_118, il_119, il_121, il_122, il_130, il_200, il_255, il_256, il_260, il_276, il_400, il_403, il_420, il_840, il_999, il_1000, il_2000, il_2001, il_2668, il_2760, il_9999, il_12345, il_1000000, il_1103515245, ↓im_1, ↓im_2, ↓im_8, ↓im_1000, nI_add, pk_mul, pk_sub, ↓pk_rem, pk_div, nm_add, nI_clamp, nI_ltI, nI_leI, nI_eq, nm_eq, mn_eq, mm_eq, nm_lt, mn_lt, nm_le, mn_le, nl_T, nl_F, nle_T, nle_F, ne_T, ne_F, b2i_0, b2i_1, b2i_n, nb_0, nb_1, or_false, false_or, or_true, true_or, and_true, true_and, and_false, false_and, or_self, and_self, not_true_eq_false, not_false_eq_true, ↓reduceIte, if_true, if_false, ↓jv_bs, ↓jv_ol, ↓jv_or, jv_tl, jv_tn, jo_T, ck_2_166_17, ck_6_43_16, ck_6_43_17, ck_6_73_16, ck_7_65_17, ck_30_10_19, su_F, e9_0, e9_1, e9_4, e9_5, e9_6, e9_9, e9_12, e9_13, e9_14, e9_15, e9_16, e9_19, e9_20, e9_21, e9_24, e9_25, e9_28, ↓tgb_2 hp, wi_2, ↓tpb_2 hp, ↓tw_rcb hp, n9, h2, h3, Bool.false_eq_true]
      · simp (disch := omega) only [il_0, il_1, il_2, il_3, il_4, il_5, il_6, il_7, il_8, il_9, il_10, il_11, il_12, il_13, il_14, il_15, il_16, il_17, il_18, il_19, il_20, il_21, il_22, il_23, il_24, il_25, il_26, il_27, il_28, il_29, il_30, il_31, il_32, il_40, il_41, il_42, il_43, il_44, il_45, il_46, il_47, il_48, il_52, il_56, il_57, il_59, il_60, il_61, il_63, il_64, il_68, il_72, il_75, il_76, il_82, il_88, il_89, il_90, il_92, il_96, il_97, il_99, il_100, il_101, il_102, il_103, il_104, il_105, il_107, il_108, il_109, il_110, il_111, il_112, il_114, il_115, il_116, il_117, il_118, il_119, il_121, il_122, il_130, il_200, il_255, il_256, il_260, il_276, il_400, il_403, il_420, il_840, il_999, il_1000, il_2000, il_2001, il_2668, il_2760, il_9999, il_12345, il_1000000, il_1103515245, ↓im_1, ↓im_2, ↓im_8, ↓im_1000, nI_add, pk_mul, pk_sub, ↓pk_rem, pk_div, nm_add, nI_clamp, nI_ltI, nI_leI, nI_eq, nm_eq, mn_eq, mm_eq, nm_lt, mn_lt, nm_le, mn_le, nl_T, nl_F, nle_T, nle_F, ne_T, ne_F, b2i_0, b2i_1, b2i_n, nb_0, nb_1, or_false, false_or, or_true, true_or, and_true, true_and, and_false, false_and, or_self, and_self, not_true_eq_false, not_false_eq_true, ↓reduceIte, if_true, if_false, ↓jv_bs, ↓jv_ol, ↓jv_or, jv_tl, jv_tn, jo_T, ck_2_166_17, ck_6_43_16, ck_6_43_17, ck_6_73_16, ck_7_65_17, ck_30_10_19, su_F, e9_0, e9_1, e9_4, e9_5, e9_6, e9_9, e9_12, e9_13, e9_14, e9_15, e9_16, e9_19, e9_20, e9_21, e9_24, e9_25, e9_28, ↓tgb_2 hp, wi_2, ↓tpb_2 hp, ↓tw_rcb hp, n9, h2, h3, h1, Bool.false_eq_true]
  | true =>
    obtain ⟨n, rfl, _, hn⟩ := ir_T (by omega) (by decide) h1
    rw [nI_clamp (by omega), if_pos rfl]
    refine ⟨tw_w (tw_i s 2 (nI (A.2.2.1 5 - n))) r lo j, TI_tt hA.2.2.1 hno (FR_n (by decide)) ⟨rfl, rfl, rfl, rfl⟩ (fun k hk => rfl) b7 b8 rfl (fun i hi => ?_), ?_⟩
    · have hi : i < A.2.2.1 5 - n := hi
      exact b10 i (by omega)
    · simp (disch := omega) only [il_0, il_1, il_2, il_3, il_4, il_5, il_6, il_7, il_8, il_9, il_10, il_11, il_12, il_13, il_14, il_15, il_16, il_17, il_18, il_19, il_20, il_21, il_22, il_23, il_24, il_25, il_26, il_27, il_28, il_29, il_30, il_31, il_32, il_40, il_41, il_42, il_43, il_44, il_45, il_46, il_47, il_48, il_52, il_56, il_57, il_59, il_60, il_61, il_63, il_64, il_68, il_72, il_75, il_76, il_82, il_88, il_89, il_90, il_92, il_96, il_97, il_99, il_100, il_101, il_102, il_103, il_104, il_105, il_107, il_108, il_109, il_110, il_111, il_112, il_114, il_115, il_116, il_117, il_118, il_119, il_121, il_122, il_130, il_200, il_255, il_256, il_260, il_276, il_400, il_403, il_420, il_840, il_999, il_1000, il_2000, il_2001, il_2668, il_2760, il_9999, il_12345, il_1000000, il_1103515245, ↓im_1, ↓im_2, ↓im_8, ↓im_1000, nI_add, pk_mul, pk_sub, ↓pk_rem, pk_div, nm_add, nI_clamp, nI_ltI, nI_leI, nI_eq, nm_eq, mn_eq, mm_eq, nm_lt, mn_lt, nm_le, mn_le, nl_T, nl_F, nle_T, nle_F, ne_T, ne_F, b2i_0, b2i_1, b2i_n, nb_0, nb_1, or_false, false_or, or_true, true_or, and_true, true_and, and_false, false_and, or_self, and_self, not_true_eq_false, not_false_eq_true, ↓reduceIte, if_true, if_false, ↓jv_bs, ↓jv_ol, ↓jv_or, jv_tl, jv_tn, jo_T, ck_2_166_17, ck_6_43_16, ck_6_43_17, ck_6_73_16, ck_7_65_17, ck_30_10_19, su_F, e9_0, e9_1, e9_4, e9_5, e9_6, e9_9, e9_12, e9_13, e9_14, e9_15, e9_16, e9_19, e9_20, e9_21, e9_24, e9_25, e9_28, ↓tgb_2 hp, wi_2, ↓tpb_2 hp, ↓tw_rcb hp, ww_i, ww_a, ww_w, tw_i1, tw_i2, tw_a1, tw_a2, tw_a3, Nat.reduceEqDiff, n9, h2]
theorem to_place (hp : p.length = 589) (hi : TI s lv A) : jv_cd (d + 1) 37 [.ref 589] (tw_h p s q) = some (.inl (some (.int A.2.2.2)), tw_h p s q) := by
  have h17 : s.1 17 = A.2.2.2 := hi.2.2.2.2.2.2.2.2.2.2.1
  rw [← ww_id (s := s)]
  generalize s.2.1 51 = r
  generalize s.1 52 = lo
  generalize (s.2.1 47, s.2.1 48, s.1 49) = j
  simp (disch := omega) only [il_0, il_1, il_2, il_3, il_4, il_5, il_6, il_7, il_8, il_9, il_10, il_11, il_12, il_13, il_14, il_15, il_16, il_17, il_18, il_19, il_20, il_21, il_22, il_23, il_24, il_25, il_26, il_27, il_28, il_29, il_30, il_31, il_32, il_40, il_41, il_42, il_43, il_44, il_45, il_46, il_47, il_48, il_52, il_56, il_57, il_59, il_60, il_61, il_63, il_64, il_68, il_72, il_75, il_76, il_82, il_88, il_89, il_90, il_92, il_96, il_97, il_99, il_100, il_101, il_102, il_103, il_104, il_105, il_107, il_108, il_109, il_110, il_111, il_112, il_114, il_115, il_116, il_117, il_118, il_119, il_121, il_122, il_130, il_200, il_255, il_256, il_260, il_276, il_400, il_403, il_420, il_840, il_999, il_1000, il_2000, il_2001, il_2668, il_2760, il_9999, il_12345, il_1000000, il_1103515245, ↓im_1, ↓im_2, ↓im_8, ↓im_1000, nI_add, pk_mul, pk_sub, ↓pk_rem, pk_div, nm_add, nI_clamp, nI_ltI, nI_leI, nI_eq, nm_eq, mn_eq, mm_eq, nm_lt, mn_lt, nm_le, mn_le, nl_T, nl_F, nle_T, nle_F, ne_T, ne_F, b2i_0, b2i_1, b2i_n, nb_0, nb_1, or_false, false_or, or_true, true_or, and_true, true_and, and_false, false_and, or_self, and_self, not_true_eq_false, not_false_eq_true, ↓reduceIte, if_true, if_false, ↓jv_bs, ↓jv_ol, ↓jv_or, jv_tl, jv_tn, jo_T, ck_2_166_17, ck_6_43_16, ck_6_43_17, ck_6_73_16, ck_7_65_17, ck_30_10_19, su_F, e37_0, e37_1, e37_4, ↓tgb_17 hp, wi_17, ↓tw_rcb hp, n37, h17]
end
