/-! the component: what is done -/
/-- what stands in the component -/
def CI (c : cm_S) (g : Nat → Option jv_C) (A : Ab) : Prop := XA g c.2.2.2.1 A.1 ∧ LR (c.2.2.1 0) (A.2.1 0) ∧ (c.2.2.1 0).1 2 = t_se A.1 ∧ c.1 5 = nI (A.2.2.1 0) ∧ (∃ n : Nat, n < 30 ∧ c.1 6 = nI n ∧ ∀ i < A.2.2.1 0, LR (c.2.2.1 (5 + (n + 30 - A.2.2.1 0 + i) % 30)) (A.2.1 (1 + i)) ∧ (c.2.2.1 (5 + (n + 30 - A.2.2.1 0 + i) % 30)).1 2 = t_se A.1) ∧ (∀ i < 3, c.2.1 5 i = nI (A.2.2.1 (1 + i)) ∧ (A.2.2.1 (1 + i) = 1 → LR (c.2.2.1 (2 + i)) (A.2.1 (40 + i)) ∧ (c.2.2.1 (2 + i)).1 2 = t_se A.1)) ∧ c.1 21 = nI (A.2.2.1 4) ∧ (∀ i < A.2.2.1 4, c.2.1 16 i = A.2.1 50 i ∧ c.2.1 17 i = A.2.1 51 i) ∧ c.1 40 = nI (A.2.2.1 5) ∧ (∀ i < A.2.2.1 5, c.2.1 0 i = A.2.1 60 i) ∧ c.1 4 = A.2.2.2
/-- what stands is the same -/
def CS (c c' : cm_S) : Prop := (c'.1 4 = c.1 4 ∧ c'.1 5 = c.1 5 ∧ c'.1 6 = c.1 6 ∧ c'.1 21 = c.1 21 ∧ c'.1 40 = c.1 40) ∧ (c'.2.1 0 = c.2.1 0 ∧ c'.2.1 5 = c.2.1 5 ∧ c'.2.1 16 = c.2.1 16 ∧ c'.2.1 17 = c.2.1 17) ∧ (∃ v b, c'.2.2.1 0 = lk (c.2.2.1 0) v b) ∧ (∀ n, 2 ≤ n → c'.2.2.1 n = c.2.2.1 n) ∧ c'.2.2.2.1 = c.2.2.2.1
section
variable {d : Nat} {o r : jv_H} {c : cm_S} {g : Nat → Option jv_C} {T : Tx} {R : Nat → Int32} {k : Kc}
variable {A : Ab} {c' : cm_S}
theorem CI_CS (h : CS c c') (hi : CI c g A) : CI c' g A := by
  obtain ⟨⟨a1, a2, a3, a4, a5⟩, ⟨a6, a7, a8, a9⟩, ⟨v, b, a10⟩, a11, a12⟩ := h
  obtain ⟨b1, b2, b3, b4, ⟨n, hn, b5, b6⟩, b7, b8, b9, b10, b11, b12⟩ := hi
  refine ⟨by rw [a12]; exact b1, ?_, ?_, a2.trans b4, ⟨n, hn, a3.trans b5, fun i hi => ?_⟩, fun i hi => ?_, a4.trans b8, fun i hi => ?_, a5.trans b10, fun i hi => ?_, a1.trans b12⟩
  · rw [a10]; exact lr_k b2
  · rw [a10]; exact (lk1 (by decide)).trans b3
  · rw [a11 _ (by omega)]; exact b6 i hi
  · rw [a7, a11 _ (by omega)]; exact b7 i hi
  · rw [a8, a9]; exact b9 i hi
  · rw [a6]; exact b11 i hi
theorem CI_tt {A' : Ab} (hu : A.2.2.1 0 ≤ 30) (hi : CI c g A) (hF : FR A A') (hs : c'.1 4 = c.1 4 ∧ c'.1 5 = c.1 5 ∧ c'.1 6 = c.1 6) (h5 : c'.2.1 5 = c.2.1 5) (h2 : c'.2.2 = c.2.2) (c7 : c'.1 21 = nI (A'.2.2.1 4)) (c8 : ∀ i < A'.2.2.1 4, c'.2.1 16 i = A'.2.1 50 i ∧ c'.2.1 17 i = A'.2.1 51 i) (c9 : c'.1 40 = nI (A'.2.2.1 5)) (c10 : ∀ i < A'.2.2.1 5, c'.2.1 0 i = A'.2.1 60 i) : CI c' g A' := by
  obtain ⟨b1, b2, b3, b4, ⟨n, hn, b5, b6⟩, b7, b8, b9, b10, b11, b12⟩ := hi
  obtain ⟨f1, f2, f3, f4⟩ := hF
  unfold CI
  rw [f1, h2, h5, f2 0 (by omega), f3 0 (by omega), f4]
  refine ⟨b1, b2, b3, hs.2.1.trans b4, ⟨n, hn, hs.2.2.trans b5, fun i hi => ?_⟩, fun i hi => ?_, c7, c8, c9, c10, hs.1.trans b12⟩
  · rw [f2 (1 + i) (by omega)]; exact b6 i hi
  · rw [f3 (1 + i) (by omega), f2 (40 + i) (by omega)]; exact b7 i hi
theorem CS_ck : CS c (ck c k) := ⟨⟨rfl, rfl, rfl, rfl, rfl⟩, ⟨rfl, rfl, rfl, rfl⟩, ⟨k.1, k.2, rfl⟩, fun n hn => ck3 (by omega), rfl⟩
theorem CS_t {s : rg_S} : CS c (cs_L c 1 s) := ⟨⟨rfl, rfl, rfl, rfl, rfl⟩, ⟨rfl, rfl, rfl, rfl⟩, ⟨(c.2.2.1 0).2 10, (c.2.2.1 0).1 3, by rw [lk_id]; rfl⟩, fun n hn => by rw [cL3, if_neg (by omega)], rfl⟩
theorem CS_trans {c2 : cm_S} (h1 : CS c c') (h2 : CS c' c2) : CS c c2 := by
  obtain ⟨⟨a1, a2, a3, a4, a5⟩, ⟨a6, a7, a8, a9⟩, ⟨v, b, a10⟩, a11, a12⟩ := h1
  obtain ⟨⟨b1, b2, b3, b4, b5⟩, ⟨b6, b7, b8, b9⟩, ⟨w, e, b10⟩, b11, b12⟩ := h2
  exact ⟨⟨b1.trans a1, b2.trans a2, b3.trans a3, b4.trans a4, b5.trans a5⟩, ⟨b6.trans a6, b7.trans a7, b8.trans a8, b9.trans a9⟩, ⟨w, e, by rw [b10, a10, lk_lk]⟩, fun n hn => (b11 n hn).trans (a11 n hn), b12.trans a12⟩
/-- the land that stands is another -/
theorem CI_land {s : rg_S} {r' : Nat → Int32} (hi : CI c g A) (hs : LR s r') (h2 : s.1 2 = t_se A.1) : CI (cs_L c 0 s) g (aR A 0 r') := by
  obtain ⟨b1, b2, b3, b4, ⟨n, hn, b5, b6⟩, b7, b8, b9, b10, b11, b12⟩ := hi
  refine ⟨b1, hs, h2, b4, ⟨n, hn, b5, fun i hi => ?_⟩, fun i hi => ?_, b8, b9, b10, b11, b12⟩
  · show LR ((cs_L c 0 s).2.2.1 (5 + (n + 30 - A.2.2.1 0 + i) % 30)) (if 1 + i = 0 then r' else A.2.1 (1 + i)) ∧ ((cs_L c 0 s).2.2.1 (5 + (n + 30 - A.2.2.1 0 + i) % 30)).1 2 = t_se A.1
    rw [cL3, if_neg (by omega), if_neg (by omega)]
    exact b6 i hi
  · show _ ∧ (A.2.2.1 (1 + i) = 1 → LR ((cs_L c 0 s).2.2.1 (2 + i)) (if 40 + i = 0 then r' else A.2.1 (40 + i)) ∧ ((cs_L c 0 s).2.2.1 (2 + i)).1 2 = t_se A.1)
    rw [cL3, if_neg (by omega), if_neg (by omega)]
    exact b7 i hi
theorem kp_aR {r' : Nat → Int32} : aR (kp A (A.2.1 0)) 0 r' = kp A r' := by
  unfold aR kp
  refine Prod.ext rfl (Prod.ext (funext fun i => ?_) rfl)
  dsimp only
  by_cases h : i = 0 <;> simp [h]
theorem c_keeps (ho : o.length = 50) (hi : CI c g A) (hA : AW A) : ∃ c1, CI c1 g (kp A (A.2.1 0)) ∧ c1.2.2.2 = c.2.2.2 ∧ jv_cd (d + 3) 132 [.ref 50] (cm_h o c r) = some (.inl none, cm_h o c1 r) := by
  obtain ⟨b1, b2, b3, b4, ⟨n, hn, b5, b6⟩, b7, b8, b9, b10, b11, b12⟩ := id hi
  have hu : A.2.2.1 0 ≤ 30 := hA.2.2.1
  obtain ⟨s1, l1, o1, e1⟩ := c_takes (d := d) (r := r) (c := c) ho (m := 5 + n) (n := 0) (by omega) (by decide) (by omega) b2
  have hN : (kp A (A.2.1 0)).2.2.1 0 = if A.2.2.1 0 = 30 then 30 else A.2.2.1 0 + 1 := rfl
  have hmin : cl (nI 30) (nI (A.2.2.1 0 + 1)) = nI (if A.2.2.1 0 = 30 then 30 else A.2.2.1 0 + 1) := by
    rw [cl_r (by decide) (by omega)]
    congr 1
    split <;> omega
  refine ⟨cs_i (cs_i (cs_L c (5 + n) s1) 6 (nI ((n + 1) % 30))) 5 (nI (if A.2.2.1 0 = 30 then 30 else A.2.2.1 0 + 1)), ⟨b1, ?_, ?_, ?_, ⟨(n + 1) % 30, Nat.mod_lt _ (by decide), rfl, fun i hi => ?_⟩, fun i hi => ?_, b8, ?_, b10, ?_, b12⟩, rfl, ?_⟩
  · show LR ((cs_L c (5 + n) s1).2.2.1 0) _
    rw [cL3, if_neg (by omega)]; exact b2
  · show ((cs_L c (5 + n) s1).2.2.1 0).1 2 = _
    rw [cL3, if_neg (by omega)]; exact b3
  · rw [hN]; rfl
  · rw [hN] at hi ⊢
    show LR ((cs_L c (5 + n) s1).2.2.1 _) (if 1 + i = 0 then A.2.1 0 else if A.2.2.1 0 = 30 then (if 1 ≤ 1 + i ∧ 1 + i < 30 then A.2.1 (1 + i + 1) else if 1 + i = 30 then A.2.1 0 else A.2.1 (1 + i)) else if 1 + i = 1 + A.2.2.1 0 then A.2.1 0 else A.2.1 (1 + i)) ∧ ((cs_L c (5 + n) s1).2.2.1 _).1 2 = t_se A.1
    rw [if_neg (show ¬ 1 + i = 0 by omega)]
    by_cases h30 : A.2.2.1 0 = 30
    · rw [if_pos h30] at hi ⊢
      rw [if_pos h30]
      by_cases e : i = 29
      · rw [if_neg (by omega), if_pos (by omega), cL3, if_pos (by omega)]
        exact ⟨l1, o1.trans b3⟩
      · rw [if_pos (by omega), cL3, if_neg (by omega)]
        have := b6 (i + 1) (by omega)
        rw [show (n + 30 - A.2.2.1 0 + (i + 1)) % 30 = ((n + 1) % 30 + 30 - 30 + i) % 30 by omega, show 1 + (i + 1) = 1 + i + 1 by omega] at this
        exact this
    · rw [if_neg h30] at hi ⊢
      rw [if_neg h30]
      by_cases e : i = A.2.2.1 0
      · rw [if_pos (by omega), cL3, if_pos (by omega)]
        exact ⟨l1, o1.trans b3⟩
      · rw [if_neg (by omega), cL3, if_neg (by omega)]
        have := b6 i (by omega)
        rw [show (n + 30 - A.2.2.1 0 + i) % 30 = ((n + 1) % 30 + 30 - (A.2.2.1 0 + 1) + i) % 30 by omega] at this
        exact this
  · rw [kp_n (by omega), kp_k hu (by omega)]
    show c.2.1 5 i = _ ∧ (_ → LR ((cs_L c (5 + n) s1).2.2.1 (2 + i)) _ ∧ ((cs_L c (5 + n) s1).2.2.1 (2 + i)).1 2 = t_se A.1)
    rw [cL3, if_neg (by omega)]
    exact b7 i hi
  · rw [kp_k hu (by omega), kp_k hu (by omega)]; exact b9
  · rw [kp_k hu (by omega)]; exact b11
  · simp (disch := omega) only [il_0, il_1, il_2, il_3, il_4, il_5, il_6, il_7, il_8, il_9, il_10, il_11, il_12, il_13, il_14, il_15, il_16, il_17, il_18, il_19, il_20, il_21, il_22, il_23, il_24, il_25, il_26, il_27, il_28, il_29, il_30, il_31, il_32, il_40, il_41, il_42, il_43, il_44, il_45, il_46, il_47, il_48, il_52, il_56, il_57, il_59, il_60, il_61, il_63, il_64, il_68, il_72, il_75, il_76, il_82, il_88, il_89, il_90, il_92, il_96, il_97, il_99, il_100, il_101, il_102, il_103, il_104, il_105, il_107, il_108, il_109, il_110, il_111, il_112, il_114, il_115, il_116, il_117, il_118, il_119, il_121, il_122, il_130, il_200, il_255, il_256, il_260, il_276, il_400, il_403, il_420, il_840, il_999, il_1000, il_2000, il_2001, il_2668, il_2760, il_9999, il_12345, il_1000000, il_1103515245, ↓im_1, ↓im_2, ↓im_8, ↓im_1000, nI_add, pk_mul, pk_sub, ↓pk_rem, pk_div, nm_add, nI_clamp, nI_ltI, nI_leI, nI_eq, nm_eq, mn_eq, mm_eq, nm_lt, mn_lt, nm_le, mn_le, nl_T, nl_F, nle_T, nle_F, ne_T, ne_F, b2i_0, b2i_1, b2i_n, nb_0, nb_1, or_false, false_or, or_true, true_or, and_true, true_and, and_false, false_and, or_self, and_self, not_true_eq_false, not_false_eq_true, ↓reduceIte, if_true, if_false, ↓jv_bs, ↓jv_ol, ↓jv_or, jv_tl, jv_tn, jo_T, ck_2_166_17, ck_6_43_16, ck_6_43_17, ck_6_73_16, ck_7_65_17, ck_30_10_19, su_F, e132_0, e132_1, e132_4, e132_5, e132_8, e132_9, e132_10, e132_13, e132_16, e132_17, e132_18, e132_21, e132_22, e132_23, e132_25, e132_26, e132_29, e132_30, e132_32, e132_33, e132_36, e132_37, e132_38, e132_41, e132_44, ↓cg_50_5b ho, ↓cg_50_6b ho, ↓cg_50_7b ho, ↓cg_50_9b ho, ↓cp_50_5b ho, ↓cp_50_6b ho, ↓cr_50b ho, ↓cr_51b ho, ↓cr_52b ho, ↓cr_59b ho, ↓crlb ho, ↓ct_91b ho, ci1, ci2, ca1, ca2, ca3, cL1, cL2, cL3, cL4, cx1, cx2, cx3, cx4, cy1, cy2, cy3, cy4, jn_0, Nat.reduceEqDiff, n132, b5, b4, ↓jbR e1, ↓m_min_b, hmin]
end
