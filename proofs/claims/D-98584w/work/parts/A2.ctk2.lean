/-! the component: reading tokens -/
/-- a sort by the component's numbers -/
def csk (k : Nat) : Nat := if k = 0 then 4 else if k = 1 then 0 else if k = 2 then 1 else if k = 3 then 5 else if k < 20 then 2 else 3
/-- what it is -/
def cwh (b : Nat → Nat) (n p : Nat) : Int32 := if cLt (b p) = true then (if 20 ≤ (tkk b n p).1 then nI ((tkk b n p).1 - 20) else mI 1) else if cDg (b p) = true then nI 0 else nI (if sgk (b p) = 3 then 0 else b p)
def caS (c : cm_S) (i : Nat) (s f t w : Int32) : cm_S := cs_i (cs_a (cs_a (cs_a (cs_a c 1 (upd (c.2.1 1) i s)) 2 (upd (c.2.1 2) i f)) 3 (upd (c.2.1 3) i t)) 4 (upd (c.2.1 4) i w)) 41 (nI (i + 1))
/-- one token stands -/
def TC1 (c : cm_S) (b : Nat → Nat) (n i : Nat) : Prop := c.2.1 1 i = nI (csk (tkd b n i)) ∧ c.2.1 2 i = nI (tfr b n i) ∧ (tfr b n i < n → c.2.1 3 i = nI (tfr b n i + (tkk b n (tfr b n i)).2) ∧ c.2.1 4 i = cwh b n (tfr b n i))
/-- what reading tokens keeps -/
def CF (c c' : cm_S) : Prop := (∀ k, k ≠ 41 → c'.1 k = c.1 k) ∧ (∀ k, k < 1 ∨ 4 < k → c'.2.1 k = c.2.1 k) ∧ c'.2.2 = c.2.2
section
variable {d n i p m : Nat} {o r : jv_H} {c c' c2 : cm_S} {b : Nat → Nat}
theorem CF_id : CF c c := ⟨fun _ _ => rfl, fun _ _ => rfl, rfl⟩
theorem CF_s {s f t w : Int32} (h : CF c c') : CF c (caS c' i s f t w) := by
  refine ⟨fun k hk => ?_, fun k hk => ?_, h.2.2⟩
  · show (if k = 41 then _ else c'.1 k) = _
    rw [if_neg hk]; exact h.1 k hk
  · show (if k = 4 then _ else if k = 3 then _ else if k = 2 then _ else if k = 1 then _ else c'.2.1 k) = _
    rw [if_neg (by omega), if_neg (by omega), if_neg (by omega), if_neg (by omega)]; exact h.2.1 k hk
theorem CB_f (h : CF c c') (hb : CB c b n) : CB c' b n := by
  obtain ⟨h1, h2, h3, h4, h5⟩ := hb
  exact ⟨(h.1 40 (by decide)).trans h1, h2, fun i hi => by rw [h.2.1 0 (by omega)]; exact h3 i hi, h4, h5⟩
theorem TC1_n {z : Nat} {s f t w : Int32} (hz : z ≠ i) (h : TC1 c b n z) : TC1 (caS c i s f t w) b n z := by
  obtain ⟨h1, h2, h3⟩ := h
  exact ⟨(pk_un hz).trans h1, (pk_un hz).trans h2, fun hn => ⟨(pk_un hz).trans (h3 hn).1, (pk_un hz).trans (h3 hn).2⟩⟩
theorem c_add (ho : o.length = 50) (h41 : c.1 41 = nI i) (hi : i ≤ 2000) {s f t : Nat} (hs : s ≤ 127) (hf : f ≤ 32767) (ht : t ≤ 32767) {w : Int32} (hw : jv_nar 3 (w.toInt16.toInt32) = w) : jv_cd (d + 1) 183 [.ref 52, .int (nI s), .int (nI f), .int (nI t), .int w] (cm_h o c r) = some (.inl none, cm_h o (caS c i (nI s) (nI f) (nI t) w) r) := by
  simp (disch := omega) only [il_0, il_1, il_2, il_3, il_4, il_5, il_6, il_7, il_8, il_9, il_10, il_11, il_12, il_13, il_14, il_15, il_16, il_17, il_18, il_19, il_20, il_21, il_22, il_23, il_24, il_25, il_26, il_27, il_28, il_29, il_30, il_31, il_32, il_40, il_41, il_42, il_43, il_44, il_45, il_46, il_47, il_48, il_52, il_56, il_57, il_59, il_60, il_61, il_63, il_64, il_68, il_72, il_75, il_76, il_82, il_88, il_89, il_90, il_92, il_96, il_97, il_99, il_100, il_101, il_102, il_103, il_104, il_105, il_107, il_108, il_109, il_110, il_111, il_112, il_114, il_115, il_116, il_117, il_118, il_119, il_121, il_122, il_130, il_200, il_255, il_256, il_260, il_276, il_400, il_403, il_420, il_840, il_999, il_1000, il_2000, il_2001, il_2668, il_2760, il_9999, il_12345, il_1000000, il_1103515245, ↓im_1, ↓im_2, ↓im_8, ↓im_1000, nI_add, pk_mul, pk_sub, ↓pk_rem, pk_div, nm_add, nI_clamp, nI_ltI, nI_leI, nI_eq, nm_eq, mn_eq, mm_eq, nm_lt, mn_lt, nm_le, mn_le, nl_T, nl_F, nle_T, nle_F, ne_T, ne_F, b2i_0, b2i_1, b2i_n, nb_0, nb_1, or_false, false_or, or_true, true_or, and_true, true_and, and_false, false_and, or_self, and_self, not_true_eq_false, not_false_eq_true, ↓reduceIte, if_true, if_false, ↓jv_bs, ↓jv_ol, ↓jv_or, jv_tl, jv_tn, jo_T, ck_2_166_17, ck_6_43_16, ck_6_43_17, ck_6_73_16, ck_7_65_17, ck_30_10_19, su_F, e183_0, e183_1, e183_4, e183_5, e183_8, e183_9, e183_10, e183_11, e183_12, e183_15, e183_16, e183_19, e183_20, e183_21, e183_22, e183_23, e183_26, e183_27, e183_30, e183_31, e183_32, e183_33, e183_34, e183_37, e183_38, e183_41, e183_43, e183_44, e183_45, e183_46, e183_47, e183_50, e183_51, e183_52, e183_55, ↓cg_52_3b ho, ↓cg_52_4b ho, ↓cg_52_5b ho, ↓cg_52_6b ho, ↓cg_52_7b ho, ↓cp_52_7b ho, ↓cr_50b ho, ↓cr_51b ho, ↓cr_52b ho, ↓cr_59b ho, ↓crlb ho, ↓ct_55b ho, ↓ct_56b ho, ↓ct_57b ho, ↓ct_58b ho, ↓cw_55b ho, ↓cw_56b ho, ↓cw_57b ho, ↓cw_58b ho, ci1, ci2, ca1, ca2, ca3, cL1, cL2, cL3, cL4, cx1, cx2, cx3, cx4, cy1, cy2, cy3, cy4, jn_0, Nat.reduceEqDiff, n183, h41, an8, an16, hw, caS]
theorem c_add_b (ho : o.length = 50) (h41 : c.1 41 = nI i) (hi : i ≤ 2000) {s f t : Nat} (hs : s ≤ 127) (hf : f ≤ 32767) (ht : t ≤ 32767) {w : Int32} (hw : jv_nar 3 (w.toInt16.toInt32) = w) {F : jv_R → Option jv_R} : (jv_cd (d + 1) 183 [.ref 52, .int (nI s), .int (nI f), .int (nI t), .int w] (cm_h o c r)).bind F = F (.inl none, cm_h o (caS c i (nI s) (nI f) (nI t) w) r) := jb (c_add ho h41 hi hs hf ht hw)
theorem cwh_w (hb : ∀ i, b i ≤ 255) : jv_nar 3 ((cwh b n p).toInt16.toInt32) = cwh b n p := by
  unfold cwh
  have := (tkk_0 (b := b) (n := n) (p := p)).2
  split
  · split
    · exact an16 (by omega)
    · exact an16m
  · split
    · exact an16 (by decide)
    · refine an16 ?_
      have := hb p
      split <;> omega
/-- a token is read -/
theorem c_tok (hO : OH o) (hb : CB c b n) (h41 : c.1 41 = nI i) (hi : i ≤ 2000) (hp : p < n) (hs : cSp (b p) = false) {x3 x4 x5 x6 : Option Value} : ∃ y3 y4 y5 y6, jv_ev (d + 6) 177 9 [some (.ref 52), some (.int (nI p)), some (.int (nI 1)), x3, x4, x5, x6] [] (cm_h o c r) = jv_ev (d + 6) 177 9 [some (.ref 52), some (.int (nI (p + (tkk b n p).2))), some (.int (nI (if (tkk b n p).1 = 3 then 0 else 1))), y3, y4, y5, y6] [] (cm_h o (caS c i (nI (csk (tkk b n p).1)) (nI p) (nI (p + (tkk b n p).2)) (cwh b n p)) r) := by
  have ho := hO.1
  obtain ⟨h40, hn, h3, h255, h0⟩ := id hb
  have h3 := h3 p hp
  have hbp := h255 p
  have hlen := tkk_1 (b := b) hp
  unfold cSp at hs
  simp only [Bool.or_eq_false_iff, decide_eq_false_iff_not] at hs
  obtain ⟨⟨⟨s1, s2⟩, s3⟩, s4⟩ := hs
  have t9 := (sb_eq (m := 9) hbp (by decide)).trans (eq_false s1)
  have t10 := (sb_eq (m := 10) hbp (by decide)).trans (eq_false s2)
  have t13 := (sb_eq (m := 13) hbp (by decide)).trans (eq_false s3)
  have t32 := (sb_eq (m := 32) hbp (by decide)).trans (eq_false s4)
  have gl := fun k hk => c_isLet (d := d + 4) (r := r) ho hb (i := k) hk
  have gd := fun k hk => c_isDig (d := d + 4) (r := r) ho hb (i := k) hk
  have ga := fun (s : Nat) (hs : s ≤ 127) => c_add (d := d + 5) (r := r) ho h41 hi (s := s) (f := p) (t := p + (tkk b n p).2) hs (by omega) (by omega) (cwh_w (n := n) (p := p) h255)
  cases hl : cLt (b p) with
  | true =>
    obtain ⟨e1, e2, _⟩ := tkk_L (n := n) hl
    have hin : ∀ k, k < rn cLt b n p → cLt (b (p + k)) = true := fun k hk => rn_in hk
    have hout := rn_out (C := cLt) (n := n) (p := p) (by decide) h0
    have hr1 := rn_1 (C := cLt) hp hl
    have hlets : ∀ k < rn cLt b n p, 97 ≤ b (p + k) ∧ b (p + k) ≤ 122 := fun k hk => cLt_i (hin k hk)
    have gw := c_word (d := d + 1) (r := r) (m := rn cLt b n p) hO hb (by rw [← e1]; exact hlen.2)
    have gl0 := gl p (by omega)
    rw [hl, b2i_t] at gl0
    rw [e1] at ga hlen ⊢
    generalize hm : rn cLt b n p = m at e1 e2 hin hout hr1 hlets gw hlen ga ⊢
    have st0 : jv_ev (d + 6) 177 9 [some (.ref 52), some (.int (nI p)), some (.int (nI 1)), x3, x4, x5, x6] [] (cm_h o c r) = jv_ev (d + 6) 177 74 [some (.ref 52), some (.int (nI p)), some (.int (nI 1)), some (.int (sbv (b p))), some (.int (nI (p + 1 + 0))), x5, some (.int (nI 0))] [] (cm_h o c r) := by
      simp (disch := omega) only [il_0, il_1, il_2, il_3, il_4, il_5, il_6, il_7, il_8, il_9, il_10, il_11, il_12, il_13, il_14, il_15, il_16, il_17, il_18, il_19, il_20, il_21, il_22, il_23, il_24, il_25, il_26, il_27, il_28, il_29, il_30, il_31, il_32, il_40, il_41, il_42, il_43, il_44, il_45, il_46, il_47, il_48, il_52, il_56, il_57, il_59, il_60, il_61, il_63, il_64, il_68, il_72, il_75, il_76, il_82, il_88, il_89, il_90, il_92, il_96, il_97, il_99, il_100, il_101, il_102, il_103, il_104, il_105, il_107, il_108, il_109, il_110, il_111, il_112, il_114, il_115, il_116, il_117, il_118, il_119, il_121, il_122, il_130, il_200, il_255, il_256, il_260, il_276, il_400, il_403, il_420, il_840, il_999, il_1000, il_2000, il_2001, il_2668, il_2760, il_9999, il_12345, il_1000000, il_1103515245, ↓im_1, ↓im_2, ↓im_8, ↓im_1000, nI_add, pk_mul, pk_sub, ↓pk_rem, pk_div, nm_add, nI_clamp, nI_ltI, nI_leI, nI_eq, nm_eq, mn_eq, mm_eq, nm_lt, mn_lt, nm_le, mn_le, nl_T, nl_F, nle_T, nle_F, ne_T, ne_F, b2i_0, b2i_1, b2i_n, nb_0, nb_1, or_false, false_or, or_true, true_or, and_true, true_and, and_false, false_and, or_self, and_self, not_true_eq_false, not_false_eq_true, ↓reduceIte, if_true, if_false, ↓jv_bs, ↓jv_ol, ↓jv_or, jv_tl, jv_tn, jo_T, ck_2_166_17, ck_6_43_16, ck_6_43_17, ck_6_73_16, ck_7_65_17, ck_30_10_19, su_F, e177_9, e177_10, e177_11, e177_14, e177_17, e177_18, e177_21, e177_22, e177_25, e177_26, e177_27, e177_28, e177_29, e177_30, e177_31, e177_33, e177_34, e177_36, e177_39, e177_40, e177_42, e177_45, e177_46, e177_48, e177_51, e177_52, e177_54, e177_57, e177_60, e177_63, e177_64, e177_66, e177_67, e177_68, e177_71, ↓cg_52_1b ho, ↓cg_52_2b ho, ↓cp_52_7b ho, ↓cr_50b ho, ↓cr_51b ho, ↓cr_52b ho, ↓cr_59b ho, ↓crlb ho, ↓ct_54b ho, ↓cw_54b ho, ci1, ci2, ca1, ca2, ca3, cL1, cL2, cL3, cL4, cx1, cx2, cx3, cx4, cy1, cy2, cy3, cy4, jn_0, Nat.reduceEqDiff, h40, h3, t9, t10, t13, t32, ↓jbR gl0, Nat.add_zero]
    have l1 := jl_0 (N := m - 1) (F := fun k => jv_ev (d + 6) 177 74 [some (.ref 52), some (.int (nI p)), some (.int (nI 1)), some (.int (sbv (b p))), some (.int (nI (p + 1 + k))), x5, some (.int (nI 0))] [] (cm_h o c r)) (fun k hk => by
      have g := gl (p + 1 + k) (by omega)
      rw [show p + 1 + k = p + (k + 1) by omega, hin (k + 1) (by omega), b2i_t] at g
      rw [e177_74, show p + 1 + k = p + (k + 1) by omega, show p + 1 + (k + 1) = p + (k + 1) + 1 by omega]
      simp (disch := omega) only [il_0, il_1, il_2, il_3, il_4, il_5, il_6, il_7, il_8, il_9, il_10, il_11, il_12, il_13, il_14, il_15, il_16, il_17, il_18, il_19, il_20, il_21, il_22, il_23, il_24, il_25, il_26, il_27, il_28, il_29, il_30, il_31, il_32, il_40, il_41, il_42, il_43, il_44, il_45, il_46, il_47, il_48, il_52, il_56, il_57, il_59, il_60, il_61, il_63, il_64, il_68, il_72, il_75, il_76, il_82, il_88, il_89, il_90, il_92, il_96, il_97, il_99, il_100, il_101, il_102, il_103, il_104, il_105, il_107, il_108, il_109, il_110, il_111, il_112, il_114, il_115, il_116, il_117, il_118, il_119, il_121, il_122, il_130, il_200, il_255, il_256, il_260, il_276, il_400, il_403, il_420, il_840, il_999, il_1000, il_2000, il_2001, il_2668, il_2760, il_9999, il_12345, il_1000000, il_1103515245, ↓im_1, ↓im_2, ↓im_8, ↓im_1000, nI_add, pk_mul, pk_sub, ↓pk_rem, pk_div, nm_add, nI_clamp, nI_ltI, nI_leI, nI_eq, nm_eq, mn_eq, mm_eq, nm_lt, mn_lt, nm_le, mn_le, nl_T, nl_F, nle_T, nle_F, ne_T, ne_F, b2i_0, b2i_1, b2i_n, nb_0, nb_1, or_false, false_or, or_true, true_or, and_true, true_and, and_false, false_and, or_self, and_self, not_true_eq_false, not_false_eq_true, ↓reduceIte, if_true, if_false, ↓jv_bs, ↓jv_ol, ↓jv_or, jv_tl, jv_tn, jo_T, ck_2_166_17, ck_6_43_16, ck_6_43_17, ck_6_73_16, ck_7_65_17, ck_30_10_19, su_F, e177_75, e177_77, e177_80, e177_83, e177_86, ↓cg_52_1b ho, ↓cg_52_2b ho, ↓cp_52_7b ho, ↓cr_50b ho, ↓cr_51b ho, ↓cr_52b ho, ↓cr_59b ho, ↓crlb ho, ↓ct_54b ho, ↓cw_54b ho, ci1, ci2, ca1, ca2, ca3, cL1, cL2, cL3, cL4, cx1, cx2, cx3, cx4, cy1, cy2, cy3, cy4, jn_0, Nat.reduceEqDiff, ↓jbR g])
    rw [show p + 1 + (m - 1) = p + m by omega] at l1
    have g2 := gl (p + m) (by omega)
    rw [hout, b2i_f] at g2
    have hpm : nI (p + m) - nI p = nI m := by rw [pk_sub (by omega), Nat.add_sub_cancel_left]
    have hcw : cwh b n p = wdr b p m ∧ (csk (tkk b n p).1 = if 20 ≤ (tkk b n p).1 then 3 else if m ≤ 8 then 0 else 5) ∧ ((tkk b n p).1 = 3 ↔ 8 < m ∧ ¬ 20 ≤ (tkk b n p).1) := by
      unfold cwh
      rw [if_pos hl]
      by_cases h7 : m ≤ 7
      · rw [if_pos h7] at e2
        rw [wdr_k hlets, e2]
        refine ⟨rfl, ?_, ?_⟩
        · unfold csk
          rcases kw_1 (c := nc b p m) with h | h
          · rw [h]; rw [if_neg (by decide), if_pos rfl, if_neg (by decide), if_pos (by omega)]
          · rw [if_neg (by omega), if_neg (by omega), if_neg (by omega), if_neg (by omega), if_neg (by omega), if_pos h]
        · rcases kw_1 (c := nc b p m) with h | h <;> omega
      · rw [if_neg h7] at e2
        rw [wdr_8 hlets (by omega)]
        by_cases h8 : m ≤ 8
        · rw [if_pos h8] at e2
          rw [e2]
          exact ⟨rfl, by rw [if_neg (by decide), if_pos h8]; rfl, by omega⟩
        · rw [if_neg h8] at e2
          rw [e2]
          exact ⟨rfl, by rw [if_neg (by decide), if_neg h8]; rfl, by omega⟩
    obtain ⟨c1, c2, c3⟩ := hcw
    by_cases h20 : 20 ≤ (tkk b n p).1
    · rw [if_pos h20] at c2
      have hw0 : wdr b p m = nI ((tkk b n p).1 - 20) := by
        rw [← c1]
        unfold cwh
        rw [if_pos hl, if_pos h20]
      have hk40 := (tkk_0 (b := b) (n := n) (p := p)).2
      have ga := ga 3 (by decide)
      rw [c1, hw0] at ga
      rw [hw0] at gw
      rw [c1, c2, hw0, if_neg (by omega)]
      refine ⟨some (.int (sbv (b p))), some (.int (nI (p + m))), some (.int (nI 3)), some (.int (nI ((tkk b n p).1 - 20))), (st0.trans l1).trans ?_⟩
      have hww : (tkk b n p).1 - 20 ≤ 20 := by omega
      generalize (tkk b n p).1 - 20 = ww at gw ga hww ⊢
      simp (disch := omega) only [il_0, il_1, il_2, il_3, il_4, il_5, il_6, il_7, il_8, il_9, il_10, il_11, il_12, il_13, il_14, il_15, il_16, il_17, il_18, il_19, il_20, il_21, il_22, il_23, il_24, il_25, il_26, il_27, il_28, il_29, il_30, il_31, il_32, il_40, il_41, il_42, il_43, il_44, il_45, il_46, il_47, il_48, il_52, il_56, il_57, il_59, il_60, il_61, il_63, il_64, il_68, il_72, il_75, il_76, il_82, il_88, il_89, il_90, il_92, il_96, il_97, il_99, il_100, il_101, il_102, il_103, il_104, il_105, il_107, il_108, il_109, il_110, il_111, il_112, il_114, il_115, il_116, il_117, il_118, il_119, il_121, il_122, il_130, il_200, il_255, il_256, il_260, il_276, il_400, il_403, il_420, il_840, il_999, il_1000, il_2000, il_2001, il_2668, il_2760, il_9999, il_12345, il_1000000, il_1103515245, ↓im_1, ↓im_2, ↓im_8, ↓im_1000, nI_add, pk_mul, pk_sub, ↓pk_rem, pk_div, nm_add, nI_clamp, nI_ltI, nI_leI, nI_eq, nm_eq, mn_eq, mm_eq, nm_lt, mn_lt, nm_le, mn_le, nl_T, nl_F, nle_T, nle_F, ne_T, ne_F, b2i_0, b2i_1, b2i_n, nb_0, nb_1, or_false, false_or, or_true, true_or, and_true, true_and, and_false, false_and, or_self, and_self, not_true_eq_false, not_false_eq_true, ↓reduceIte, if_true, if_false, ↓jv_bs, ↓jv_ol, ↓jv_or, jv_tl, jv_tn, jo_T, ck_2_166_17, ck_6_43_16, ck_6_43_17, ck_6_73_16, ck_7_65_17, ck_30_10_19, su_F, e177_74, e177_75, e177_77, e177_80, e177_89, e177_90, e177_91, e177_93, e177_96, e177_98, e177_100, e177_103, e177_104, e177_121, e177_123, e177_186, e177_187, e177_189, e177_190, e177_192, e177_194, e177_197, e177_199, e177_200, e177_203, e177_204, e177_207, e177_208, e177_209, e177_211, e177_212, ↓cg_52_1b ho, ↓cg_52_2b ho, ↓cp_52_7b ho, ↓cr_50b ho, ↓cr_51b ho, ↓cr_52b ho, ↓cr_59b ho, ↓crlb ho, ↓ct_54b ho, ↓cw_54b ho, ci1, ci2, ca1, ca2, ca3, cL1, cL2, cL3, cL4, cx1, cx2, cx3, cx4, cy1, cy2, cy3, cy4, jn_0, Nat.reduceEqDiff, ↓jbR g2, ↓jbR gw, ↓jbR ga]
    · rw [if_neg h20] at c2
      have hw0 : wdr b p m = mI 1 := by
        rw [← c1]
        unfold cwh
        rw [if_pos hl, if_neg h20]
      rw [c1, hw0] at ga
      rw [hw0] at gw
      rw [c1, c2, hw0]
      by_cases h8 : m ≤ 8
      · have ga := ga 0 (by decide)
        rw [if_pos h8, if_neg (by omega)]
        refine ⟨some (.int (sbv (b p))), some (.int (nI (p + m))), some (.int (nI 0)), some (.int (mI 1)), (st0.trans l1).trans ?_⟩
        simp (disch := omega) only [il_0, il_1, il_2, il_3, il_4, il_5, il_6, il_7, il_8, il_9, il_10, il_11, il_12, il_13, il_14, il_15, il_16, il_17, il_18, il_19, il_20, il_21, il_22, il_23, il_24, il_25, il_26, il_27, il_28, il_29, il_30, il_31, il_32, il_40, il_41, il_42, il_43, il_44, il_45, il_46, il_47, il_48, il_52, il_56, il_57, il_59, il_60, il_61, il_63, il_64, il_68, il_72, il_75, il_76, il_82, il_88, il_89, il_90, il_92, il_96, il_97, il_99, il_100, il_101, il_102, il_103, il_104, il_105, il_107, il_108, il_109, il_110, il_111, il_112, il_114, il_115, il_116, il_117, il_118, il_119, il_121, il_122, il_130, il_200, il_255, il_256, il_260, il_276, il_400, il_403, il_420, il_840, il_999, il_1000, il_2000, il_2001, il_2668, il_2760, il_9999, il_12345, il_1000000, il_1103515245, ↓im_1, ↓im_2, ↓im_8, ↓im_1000, nI_add, pk_mul, pk_sub, ↓pk_rem, pk_div, nm_add, nI_clamp, nI_ltI, nI_leI, nI_eq, nm_eq, mn_eq, mm_eq, nm_lt, mn_lt, nm_le, mn_le, nl_T, nl_F, nle_T, nle_F, ne_T, ne_F, b2i_0, b2i_1, b2i_n, nb_0, nb_1, or_false, false_or, or_true, true_or, and_true, true_and, and_false, false_and, or_self, and_self, not_true_eq_false, not_false_eq_true, ↓reduceIte, if_true, if_false, ↓jv_bs, ↓jv_ol, ↓jv_or, jv_tl, jv_tn, jo_T, ck_2_166_17, ck_6_43_16, ck_6_43_17, ck_6_73_16, ck_7_65_17, ck_30_10_19, su_F, e177_74, e177_75, e177_77, e177_80, e177_89, e177_90, e177_91, e177_93, e177_96, e177_98, e177_100, e177_103, e177_104, e177_107, e177_109, e177_110, e177_111, e177_113, e177_116, e177_117, e177_120, e177_121, e177_123, e177_186, e177_187, e177_189, e177_190, e177_192, e177_194, e177_197, e177_199, e177_200, e177_203, e177_204, e177_207, e177_208, e177_209, e177_211, e177_212, ↓cg_52_1b ho, ↓cg_52_2b ho, ↓cp_52_7b ho, ↓cr_50b ho, ↓cr_51b ho, ↓cr_52b ho, ↓cr_59b ho, ↓crlb ho, ↓ct_54b ho, ↓cw_54b ho, ci1, ci2, ca1, ca2, ca3, cL1, cL2, cL3, cL4, cx1, cx2, cx3, cx4, cy1, cy2, cy3, cy4, jn_0, Nat.reduceEqDiff, ↓jbR g2, ↓jbR gw, ↓jbR ga, hpm]
      · have ga := ga 5 (by decide)
        rw [if_neg h8, if_pos (by omega)]
        refine ⟨some (.int (sbv (b p))), some (.int (nI (p + m))), some (.int (nI 5)), some (.int (mI 1)), (st0.trans l1).trans ?_⟩
        simp (disch := omega) only [il_0, il_1, il_2, il_3, il_4, il_5, il_6, il_7, il_8, il_9, il_10, il_11, il_12, il_13, il_14, il_15, il_16, il_17, il_18, il_19, il_20, il_21, il_22, il_23, il_24, il_25, il_26, il_27, il_28, il_29, il_30, il_31, il_32, il_40, il_41, il_42, il_43, il_44, il_45, il_46, il_47, il_48, il_52, il_56, il_57, il_59, il_60, il_61, il_63, il_64, il_68, il_72, il_75, il_76, il_82, il_88, il_89, il_90, il_92, il_96, il_97, il_99, il_100, il_101, il_102, il_103, il_104, il_105, il_107, il_108, il_109, il_110, il_111, il_112, il_114, il_115, il_116, il_117, il_118, il_119, il_121, il_122, il_130, il_200, il_255, il_256, il_260, il_276, il_400, il_403, il_420, il_840, il_999, il_1000, il_2000, il_2001, il_2668, il_2760, il_9999, il_12345, il_1000000, il_1103515245, ↓im_1, ↓im_2, ↓im_8, ↓im_1000, nI_add, pk_mul, pk_sub, ↓pk_rem, pk_div, nm_add, nI_clamp, nI_ltI, nI_leI, nI_eq, nm_eq, mn_eq, mm_eq, nm_lt, mn_lt, nm_le, mn_le, nl_T, nl_F, nle_T, nle_F, ne_T, ne_F, b2i_0, b2i_1, b2i_n, nb_0, nb_1, or_false, false_or, or_true, true_or, and_true, true_and, and_false, false_and, or_self, and_self, not_true_eq_false, not_false_eq_true, ↓reduceIte, if_true, if_false, ↓jv_bs, ↓jv_ol, ↓jv_or, jv_tl, jv_tn, jo_T, ck_2_166_17, ck_6_43_16, ck_6_43_17, ck_6_73_16, ck_7_65_17, ck_30_10_19, su_F, e177_74, e177_75, e177_77, e177_80, e177_89, e177_90, e177_91, e177_93, e177_96, e177_98, e177_100, e177_103, e177_104, e177_107, e177_109, e177_110, e177_111, e177_113, e177_116, e177_117, e177_120, e177_121, e177_123, e177_186, e177_187, e177_189, e177_190, e177_192, e177_194, e177_197, e177_199, e177_200, e177_203, e177_204, e177_207, e177_208, e177_209, e177_211, e177_212, ↓cg_52_1b ho, ↓cg_52_2b ho, ↓cp_52_7b ho, ↓cr_50b ho, ↓cr_51b ho, ↓cr_52b ho, ↓cr_59b ho, ↓crlb ho, ↓ct_54b ho, ↓cw_54b ho, ci1, ci2, ca1, ca2, ca3, cL1, cL2, cL3, cL4, cx1, cx2, cx3, cx4, cy1, cy2, cy3, cy4, jn_0, Nat.reduceEqDiff, ↓jbR g2, ↓jbR gw, ↓jbR ga, hpm]
  | false =>
    have gl0 := gl p (by omega)
    rw [hl, b2i_f] at gl0
    cases hd : cDg (b p) with
    | true =>
      obtain ⟨e1, e2, _⟩ := tkk_D (n := n) hl hd
      have hin : ∀ k, k < rn cDg b n p → cDg (b (p + k)) = true := fun k hk => rn_in hk
      have hout := rn_out (C := cDg) (n := n) (p := p) (by decide) h0
      have hr1 := rn_1 (C := cDg) hp hd
      have gd0 := gd p (by omega)
      rw [hd, b2i_t] at gd0
      have hcw : cwh b n p = nI 0 := by
        unfold cwh
        rw [if_neg (by rw [hl]; exact Bool.false_ne_true), if_pos hd]
      rw [e1, hcw] at ga
      rw [e1] at hlen ⊢
      rw [e2, hcw]
      generalize hm : rn cDg b n p = m at hin hout hr1 hlen ga ⊢
      have st0 : jv_ev (d + 6) 177 9 [some (.ref 52), some (.int (nI p)), some (.int (nI 1)), x3, x4, x5, x6] [] (cm_h o c r) = jv_ev (d + 6) 177 134 [some (.ref 52), some (.int (nI p)), some (.int (nI 1)), some (.int (sbv (b p))), some (.int (nI (p + 1 + 0))), x5, some (.int (nI 0))] [] (cm_h o c r) := by
        simp (disch := omega) only [il_0, il_1, il_2, il_3, il_4, il_5, il_6, il_7, il_8, il_9, il_10, il_11, il_12, il_13, il_14, il_15, il_16, il_17, il_18, il_19, il_20, il_21, il_22, il_23, il_24, il_25, il_26, il_27, il_28, il_29, il_30, il_31, il_32, il_40, il_41, il_42, il_43, il_44, il_45, il_46, il_47, il_48, il_52, il_56, il_57, il_59, il_60, il_61, il_63, il_64, il_68, il_72, il_75, il_76, il_82, il_88, il_89, il_90, il_92, il_96, il_97, il_99, il_100, il_101, il_102, il_103, il_104, il_105, il_107, il_108, il_109, il_110, il_111, il_112, il_114, il_115, il_116, il_117, il_118, il_119, il_121, il_122, il_130, il_200, il_255, il_256, il_260, il_276, il_400, il_403, il_420, il_840, il_999, il_1000, il_2000, il_2001, il_2668, il_2760, il_9999, il_12345, il_1000000, il_1103515245, ↓im_1, ↓im_2, ↓im_8, ↓im_1000, nI_add, pk_mul, pk_sub, ↓pk_rem, pk_div, nm_add, nI_clamp, nI_ltI, nI_leI, nI_eq, nm_eq, mn_eq, mm_eq, nm_lt, mn_lt, nm_le, mn_le, nl_T, nl_F, nle_T, nle_F, ne_T, ne_F, b2i_0, b2i_1, b2i_n, nb_0, nb_1, or_false, false_or, or_true, true_or, and_true, true_and, and_false, false_and, or_self, and_self, not_true_eq_false, not_false_eq_true, ↓reduceIte, if_true, if_false, ↓jv_bs, ↓jv_ol, ↓jv_or, jv_tl, jv_tn, jo_T, ck_2_166_17, ck_6_43_16, ck_6_43_17, ck_6_73_16, ck_7_65_17, ck_30_10_19, su_F, e177_9, e177_10, e177_11, e177_14, e177_17, e177_18, e177_21, e177_22, e177_25, e177_26, e177_27, e177_28, e177_29, e177_30, e177_31, e177_33, e177_34, e177_36, e177_39, e177_40, e177_42, e177_45, e177_46, e177_48, e177_51, e177_52, e177_54, e177_57, e177_60, e177_63, e177_64, e177_66, e177_67, e177_68, e177_71, e177_126, e177_127, e177_128, e177_131, ↓cg_52_1b ho, ↓cg_52_2b ho, ↓cp_52_7b ho, ↓cr_50b ho, ↓cr_51b ho, ↓cr_52b ho, ↓cr_59b ho, ↓crlb ho, ↓ct_54b ho, ↓cw_54b ho, ci1, ci2, ca1, ca2, ca3, cL1, cL2, cL3, cL4, cx1, cx2, cx3, cx4, cy1, cy2, cy3, cy4, jn_0, Nat.reduceEqDiff, h40, h3, t9, t10, t13, t32, ↓jbR gl0, ↓jbR gd0, Nat.add_zero]
      have l1 := jl_0 (N := m - 1) (F := fun k => jv_ev (d + 6) 177 134 [some (.ref 52), some (.int (nI p)), some (.int (nI 1)), some (.int (sbv (b p))), some (.int (nI (p + 1 + k))), x5, some (.int (nI 0))] [] (cm_h o c r)) (fun k hk => by
        have g := gd (p + 1 + k) (by omega)
        rw [show p + 1 + k = p + (k + 1) by omega, hin (k + 1) (by omega), b2i_t] at g
        rw [e177_134, show p + 1 + k = p + (k + 1) by omega, show p + 1 + (k + 1) = p + (k + 1) + 1 by omega]
        simp (disch := omega) only [il_0, il_1, il_2, il_3, il_4, il_5, il_6, il_7, il_8, il_9, il_10, il_11, il_12, il_13, il_14, il_15, il_16, il_17, il_18, il_19, il_20, il_21, il_22, il_23, il_24, il_25, il_26, il_27, il_28, il_29, il_30, il_31, il_32, il_40, il_41, il_42, il_43, il_44, il_45, il_46, il_47, il_48, il_52, il_56, il_57, il_59, il_60, il_61, il_63, il_64, il_68, il_72, il_75, il_76, il_82, il_88, il_89, il_90, il_92, il_96, il_97, il_99, il_100, il_101, il_102, il_103, il_104, il_105, il_107, il_108, il_109, il_110, il_111, il_112, il_114, il_115, il_116, il_117, il_118, il_119, il_121, il_122, il_130, il_200, il_255, il_256, il_260, il_276, il_400, il_403, il_420, il_840, il_999, il_1000, il_2000, il_2001, il_2668, il_2760, il_9999, il_12345, il_1000000, il_1103515245, ↓im_1, ↓im_2, ↓im_8, ↓im_1000, nI_add, pk_mul, pk_sub, ↓pk_rem, pk_div, nm_add, nI_clamp, nI_ltI, nI_leI, nI_eq, nm_eq, mn_eq, mm_eq, nm_lt, mn_lt, nm_le, mn_le, nl_T, nl_F, nle_T, nle_F, ne_T, ne_F, b2i_0, b2i_1, b2i_n, nb_0, nb_1, or_false, false_or, or_true, true_or, and_true, true_and, and_false, false_and, or_self, and_self, not_true_eq_false, not_false_eq_true, ↓reduceIte, if_true, if_false, ↓jv_bs, ↓jv_ol, ↓jv_or, jv_tl, jv_tn, jo_T, ck_2_166_17, ck_6_43_16, ck_6_43_17, ck_6_73_16, ck_7_65_17, ck_30_10_19, su_F, e177_135, e177_137, e177_140, e177_143, e177_146, ↓cg_52_1b ho, ↓cg_52_2b ho, ↓cp_52_7b ho, ↓cr_50b ho, ↓cr_51b ho, ↓cr_52b ho, ↓cr_59b ho, ↓crlb ho, ↓ct_54b ho, ↓cw_54b ho, ci1, ci2, ca1, ca2, ca3, cL1, cL2, cL3, cL4, cx1, cx2, cx3, cx4, cy1, cy2, cy3, cy4, jn_0, Nat.reduceEqDiff, ↓jbR g])
      rw [show p + 1 + (m - 1) = p + m by omega] at l1
      have g2 := gd (p + m) (by omega)
      rw [hout, b2i_f] at g2
      have hpm : nI (p + m) - nI p = nI m := by rw [pk_sub (by omega), Nat.add_sub_cancel_left]
      by_cases h4 : m ≤ 4
      · have ga := ga 1 (by decide)
        rw [if_pos h4, if_neg (by decide)]
        refine ⟨some (.int (sbv (b p))), some (.int (nI (p + m))), some (.int (nI 1)), some (.int (nI 0)), (st0.trans l1).trans ?_⟩
        rw [show csk 2 = 1 from rfl]
        simp (disch := omega) only [il_0, il_1, il_2, il_3, il_4, il_5, il_6, il_7, il_8, il_9, il_10, il_11, il_12, il_13, il_14, il_15, il_16, il_17, il_18, il_19, il_20, il_21, il_22, il_23, il_24, il_25, il_26, il_27, il_28, il_29, il_30, il_31, il_32, il_40, il_41, il_42, il_43, il_44, il_45, il_46, il_47, il_48, il_52, il_56, il_57, il_59, il_60, il_61, il_63, il_64, il_68, il_72, il_75, il_76, il_82, il_88, il_89, il_90, il_92, il_96, il_97, il_99, il_100, il_101, il_102, il_103, il_104, il_105, il_107, il_108, il_109, il_110, il_111, il_112, il_114, il_115, il_116, il_117, il_118, il_119, il_121, il_122, il_130, il_200, il_255, il_256, il_260, il_276, il_400, il_403, il_420, il_840, il_999, il_1000, il_2000, il_2001, il_2668, il_2760, il_9999, il_12345, il_1000000, il_1103515245, ↓im_1, ↓im_2, ↓im_8, ↓im_1000, nI_add, pk_mul, pk_sub, ↓pk_rem, pk_div, nm_add, nI_clamp, nI_ltI, nI_leI, nI_eq, nm_eq, mn_eq, mm_eq, nm_lt, mn_lt, nm_le, mn_le, nl_T, nl_F, nle_T, nle_F, ne_T, ne_F, b2i_0, b2i_1, b2i_n, nb_0, nb_1, or_false, false_or, or_true, true_or, and_true, true_and, and_false, false_and, or_self, and_self, not_true_eq_false, not_false_eq_true, ↓reduceIte, if_true, if_false, ↓jv_bs, ↓jv_ol, ↓jv_or, jv_tl, jv_tn, jo_T, ck_2_166_17, ck_6_43_16, ck_6_43_17, ck_6_73_16, ck_7_65_17, ck_30_10_19, su_F, e177_134, e177_135, e177_137, e177_140, e177_149, e177_151, e177_152, e177_153, e177_154, e177_157, e177_158, e177_161, e177_162, e177_164, e177_186, e177_187, e177_189, e177_190, e177_192, e177_194, e177_197, e177_199, e177_200, e177_203, e177_204, e177_207, e177_208, e177_209, e177_211, e177_212, ↓cg_52_1b ho, ↓cg_52_2b ho, ↓cp_52_7b ho, ↓cr_50b ho, ↓cr_51b ho, ↓cr_52b ho, ↓cr_59b ho, ↓crlb ho, ↓ct_54b ho, ↓cw_54b ho, ci1, ci2, ca1, ca2, ca3, cL1, cL2, cL3, cL4, cx1, cx2, cx3, cx4, cy1, cy2, cy3, cy4, jn_0, Nat.reduceEqDiff, ↓jbR g2, ↓jbR ga, hpm]
      · have ga := ga 5 (by decide)
        rw [if_neg h4, if_pos rfl]
        refine ⟨some (.int (sbv (b p))), some (.int (nI (p + m))), some (.int (nI 5)), some (.int (nI 0)), (st0.trans l1).trans ?_⟩
        rw [show csk 3 = 5 from rfl]
        simp (disch := omega) only [il_0, il_1, il_2, il_3, il_4, il_5, il_6, il_7, il_8, il_9, il_10, il_11, il_12, il_13, il_14, il_15, il_16, il_17, il_18, il_19, il_20, il_21, il_22, il_23, il_24, il_25, il_26, il_27, il_28, il_29, il_30, il_31, il_32, il_40, il_41, il_42, il_43, il_44, il_45, il_46, il_47, il_48, il_52, il_56, il_57, il_59, il_60, il_61, il_63, il_64, il_68, il_72, il_75, il_76, il_82, il_88, il_89, il_90, il_92, il_96, il_97, il_99, il_100, il_101, il_102, il_103, il_104, il_105, il_107, il_108, il_109, il_110, il_111, il_112, il_114, il_115, il_116, il_117, il_118, il_119, il_121, il_122, il_130, il_200, il_255, il_256, il_260, il_276, il_400, il_403, il_420, il_840, il_999, il_1000, il_2000, il_2001, il_2668, il_2760, il_9999, il_12345, il_1000000, il_1103515245, ↓im_1, ↓im_2, ↓im_8, ↓im_1000, nI_add, pk_mul, pk_sub, ↓pk_rem, pk_div, nm_add, nI_clamp, nI_ltI, nI_leI, nI_eq, nm_eq, mn_eq, mm_eq, nm_lt, mn_lt, nm_le, mn_le, nl_T, nl_F, nle_T, nle_F, ne_T, ne_F, b2i_0, b2i_1, b2i_n, nb_0, nb_1, or_false, false_or, or_true, true_or, and_true, true_and, and_false, false_and, or_self, and_self, not_true_eq_false, not_false_eq_true, ↓reduceIte, if_true, if_false, ↓jv_bs, ↓jv_ol, ↓jv_or, jv_tl, jv_tn, jo_T, ck_2_166_17, ck_6_43_16, ck_6_43_17, ck_6_73_16, ck_7_65_17, ck_30_10_19, su_F, e177_134, e177_135, e177_137, e177_140, e177_149, e177_151, e177_152, e177_153, e177_154, e177_157, e177_158, e177_161, e177_162, e177_164, e177_186, e177_187, e177_189, e177_190, e177_192, e177_194, e177_197, e177_199, e177_200, e177_203, e177_204, e177_207, e177_208, e177_209, e177_211, e177_212, ↓cg_52_1b ho, ↓cg_52_2b ho, ↓cp_52_7b ho, ↓cr_50b ho, ↓cr_51b ho, ↓cr_52b ho, ↓cr_59b ho, ↓crlb ho, ↓ct_54b ho, ↓cw_54b ho, ci1, ci2, ca1, ca2, ca3, cL1, cL2, cL3, cL4, cx1, cx2, cx3, cx4, cy1, cy2, cy3, cy4, jn_0, Nat.reduceEqDiff, ↓jbR g2, ↓jbR ga, hpm]
    | false =>
      obtain ⟨e1, e2, _⟩ := tkk_S (n := n) hl hd
      have gd0 := gd p (by omega)
      rw [hd, b2i_f] at gd0
      have gs := c_sign (d := d + 4) (r := r) ho hb (i := p) (by omega)
      have hcw : cwh b n p = nI (if sgk (b p) = 3 then 0 else b p) := by
        unfold cwh
        rw [if_neg (by rw [hl]; exact Bool.false_ne_true), if_neg (by rw [hd]; exact Bool.false_ne_true)]
      rw [e1, hcw] at ga
      rw [e1, e2, hcw]
      by_cases h3' : sgk (b p) = 3
      · rw [if_pos h3'] at gs ga ⊢
        rw [h3', if_pos rfl]
        have ga := ga 5 (by decide)
        refine ⟨some (.int (sbv (b p))), some (.int (nI (p + 1))), some (.int (nI 5)), some (.int (nI 0)), ?_⟩
        rw [show csk 3 = 5 from rfl, e177_9]
        simp (disch := omega) only [il_0, il_1, il_2, il_3, il_4, il_5, il_6, il_7, il_8, il_9, il_10, il_11, il_12, il_13, il_14, il_15, il_16, il_17, il_18, il_19, il_20, il_21, il_22, il_23, il_24, il_25, il_26, il_27, il_28, il_29, il_30, il_31, il_32, il_40, il_41, il_42, il_43, il_44, il_45, il_46, il_47, il_48, il_52, il_56, il_57, il_59, il_60, il_61, il_63, il_64, il_68, il_72, il_75, il_76, il_82, il_88, il_89, il_90, il_92, il_96, il_97, il_99, il_100, il_101, il_102, il_103, il_104, il_105, il_107, il_108, il_109, il_110, il_111, il_112, il_114, il_115, il_116, il_117, il_118, il_119, il_121, il_122, il_130, il_200, il_255, il_256, il_260, il_276, il_400, il_403, il_420, il_840, il_999, il_1000, il_2000, il_2001, il_2668, il_2760, il_9999, il_12345, il_1000000, il_1103515245, ↓im_1, ↓im_2, ↓im_8, ↓im_1000, nI_add, pk_mul, pk_sub, ↓pk_rem, pk_div, nm_add, nI_clamp, nI_ltI, nI_leI, nI_eq, nm_eq, mn_eq, mm_eq, nm_lt, mn_lt, nm_le, mn_le, nl_T, nl_F, nle_T, nle_F, ne_T, ne_F, b2i_0, b2i_1, b2i_n, nb_0, nb_1, or_false, false_or, or_true, true_or, and_true, true_and, and_false, false_and, or_self, and_self, not_true_eq_false, not_false_eq_true, ↓reduceIte, if_true, if_false, ↓jv_bs, ↓jv_ol, ↓jv_or, jv_tl, jv_tn, jo_T, ck_2_166_17, ck_6_43_16, ck_6_43_17, ck_6_73_16, ck_7_65_17, ck_30_10_19, su_F, e177_10, e177_11, e177_14, e177_17, e177_18, e177_21, e177_22, e177_25, e177_26, e177_27, e177_28, e177_29, e177_30, e177_31, e177_33, e177_34, e177_36, e177_39, e177_40, e177_42, e177_45, e177_46, e177_48, e177_51, e177_52, e177_54, e177_57, e177_60, e177_63, e177_64, e177_66, e177_67, e177_68, e177_71, e177_126, e177_127, e177_128, e177_131, e177_167, e177_168, e177_169, e177_172, e177_174, e177_176, e177_179, e177_180, e177_183, e177_184, e177_186, e177_187, e177_189, e177_190, e177_192, e177_194, e177_197, e177_199, e177_200, e177_203, e177_204, e177_207, e177_208, e177_209, e177_211, e177_212, ↓cg_52_1b ho, ↓cg_52_2b ho, ↓cp_52_7b ho, ↓cr_50b ho, ↓cr_51b ho, ↓cr_52b ho, ↓cr_59b ho, ↓crlb ho, ↓ct_54b ho, ↓cw_54b ho, ci1, ci2, ca1, ca2, ca3, cL1, cL2, cL3, cL4, cx1, cx2, cx3, cx4, cy1, cy2, cy3, cy4, jn_0, Nat.reduceEqDiff, h40, h3, t9, t10, t13, t32, ↓jbR gl0, ↓jbR gd0, ↓jbR gs, ↓jbR ga]
      · rw [if_neg h3'] at gs ga ⊢
        rw [if_neg h3']
        have hsg : csk (sgk (b p)) = 2 ∧ b p ≠ 0 := by
          have := sgk_3 (c := b p)
          refine ⟨?_, fun e => h3' (by rw [e]; rfl)⟩
          unfold csk
          rw [if_neg (by omega), if_neg (by omega), if_neg (by omega), if_neg h3', if_pos (by omega)]
        rw [hsg.1]
        have hb0 := hsg.2
        have ga := ga 2 (by decide)
        refine ⟨some (.int (sbv (b p))), some (.int (nI (p + 1))), some (.int (nI 2)), some (.int (nI (b p))), ?_⟩
        rw [e177_9]
        simp (disch := omega) only [il_0, il_1, il_2, il_3, il_4, il_5, il_6, il_7, il_8, il_9, il_10, il_11, il_12, il_13, il_14, il_15, il_16, il_17, il_18, il_19, il_20, il_21, il_22, il_23, il_24, il_25, il_26, il_27, il_28, il_29, il_30, il_31, il_32, il_40, il_41, il_42, il_43, il_44, il_45, il_46, il_47, il_48, il_52, il_56, il_57, il_59, il_60, il_61, il_63, il_64, il_68, il_72, il_75, il_76, il_82, il_88, il_89, il_90, il_92, il_96, il_97, il_99, il_100, il_101, il_102, il_103, il_104, il_105, il_107, il_108, il_109, il_110, il_111, il_112, il_114, il_115, il_116, il_117, il_118, il_119, il_121, il_122, il_130, il_200, il_255, il_256, il_260, il_276, il_400, il_403, il_420, il_840, il_999, il_1000, il_2000, il_2001, il_2668, il_2760, il_9999, il_12345, il_1000000, il_1103515245, ↓im_1, ↓im_2, ↓im_8, ↓im_1000, nI_add, pk_mul, pk_sub, ↓pk_rem, pk_div, nm_add, nI_clamp, nI_ltI, nI_leI, nI_eq, nm_eq, mn_eq, mm_eq, nm_lt, mn_lt, nm_le, mn_le, nl_T, nl_F, nle_T, nle_F, ne_T, ne_F, b2i_0, b2i_1, b2i_n, nb_0, nb_1, or_false, false_or, or_true, true_or, and_true, true_and, and_false, false_and, or_self, and_self, not_true_eq_false, not_false_eq_true, ↓reduceIte, if_true, if_false, ↓jv_bs, ↓jv_ol, ↓jv_or, jv_tl, jv_tn, jo_T, ck_2_166_17, ck_6_43_16, ck_6_43_17, ck_6_73_16, ck_7_65_17, ck_30_10_19, su_F, e177_10, e177_11, e177_14, e177_17, e177_18, e177_21, e177_22, e177_25, e177_26, e177_27, e177_28, e177_29, e177_30, e177_31, e177_33, e177_34, e177_36, e177_39, e177_40, e177_42, e177_45, e177_46, e177_48, e177_51, e177_52, e177_54, e177_57, e177_60, e177_63, e177_64, e177_66, e177_67, e177_68, e177_71, e177_126, e177_127, e177_128, e177_131, e177_167, e177_168, e177_169, e177_172, e177_174, e177_176, e177_179, e177_180, e177_183, e177_184, e177_186, e177_187, e177_189, e177_190, e177_192, e177_194, e177_197, e177_199, e177_200, e177_203, e177_204, e177_207, e177_208, e177_209, e177_211, e177_212, ↓cg_52_1b ho, ↓cg_52_2b ho, ↓cp_52_7b ho, ↓cr_50b ho, ↓cr_51b ho, ↓cr_52b ho, ↓cr_59b ho, ↓crlb ho, ↓ct_54b ho, ↓cw_54b ho, ci1, ci2, ca1, ca2, ca3, cL1, cL2, cL3, cL4, cx1, cx2, cx3, cx4, cy1, cy2, cy3, cy4, jn_0, Nat.reduceEqDiff, h40, h3, t9, t10, t13, t32, ↓jbR gl0, ↓jbR gd0, ↓jbR gs, ↓jbR ga, hb0]
theorem c_spc (ho : o.length = 50) (hb : CB c b n) (hp : p < n) (hs : cSp (b p) = true) {x3 x4 x5 x6 : Option Value} : jv_ev (d + 6) 177 9 [some (.ref 52), some (.int (nI p)), some (.int (nI 1)), x3, x4, x5, x6] [] (cm_h o c r) = jv_ev (d + 6) 177 9 [some (.ref 52), some (.int (nI (p + 1))), some (.int (nI 1)), some (.int (sbv (b p))), some (.int (nI (p + 1))), x5, x6] [] (cm_h o c r) := by
  obtain ⟨h40, hn, h3, h255, h0⟩ := id hb
  have h3 := h3 p hp
  have hbp := h255 p
  unfold cSp at hs
  simp only [Bool.or_eq_true, decide_eq_true_eq] at hs
  rw [e177_9]
  rcases hs with ((s1 | s1) | s1) | s1
  · rw [s1, sb_n (by decide)] at h3 ⊢
    simp (disch := omega) only [il_0, il_1, il_2, il_3, il_4, il_5, il_6, il_7, il_8, il_9, il_10, il_11, il_12, il_13, il_14, il_15, il_16, il_17, il_18, il_19, il_20, il_21, il_22, il_23, il_24, il_25, il_26, il_27, il_28, il_29, il_30, il_31, il_32, il_40, il_41, il_42, il_43, il_44, il_45, il_46, il_47, il_48, il_52, il_56, il_57, il_59, il_60, il_61, il_63, il_64, il_68, il_72, il_75, il_76, il_82, il_88, il_89, il_90, il_92, il_96, il_97, il_99, il_100, il_101, il_102, il_103, il_104, il_105, il_107, il_108, il_109, il_110, il_111, il_112, il_114, il_115, il_116, il_117, il_118, il_119, il_121, il_122, il_130, il_200, il_255, il_256, il_260, il_276, il_400, il_403, il_420, il_840, il_999, il_1000, il_2000, il_2001, il_2668, il_2760, il_9999, il_12345, il_1000000, il_1103515245, ↓im_1, ↓im_2, ↓im_8, ↓im_1000, nI_add, pk_mul, pk_sub, ↓pk_rem, pk_div, nm_add, nI_clamp, nI_ltI, nI_leI, nI_eq, nm_eq, mn_eq, mm_eq, nm_lt, mn_lt, nm_le, mn_le, nl_T, nl_F, nle_T, nle_F, ne_T, ne_F, b2i_0, b2i_1, b2i_n, nb_0, nb_1, or_false, false_or, or_true, true_or, and_true, true_and, and_false, false_and, or_self, and_self, not_true_eq_false, not_false_eq_true, ↓reduceIte, if_true, if_false, ↓jv_bs, ↓jv_ol, ↓jv_or, jv_tl, jv_tn, jo_T, ck_2_166_17, ck_6_43_16, ck_6_43_17, ck_6_73_16, ck_7_65_17, ck_30_10_19, su_F, e177_10, e177_11, e177_14, e177_17, e177_18, e177_21, e177_22, e177_25, e177_26, e177_27, e177_28, e177_29, e177_30, e177_31, e177_33, e177_34, e177_36, e177_39, e177_40, e177_42, e177_45, e177_46, e177_48, e177_51, e177_52, e177_54, e177_57, e177_60, ↓cg_52_1b ho, ↓cg_52_2b ho, ↓cp_52_7b ho, ↓cr_50b ho, ↓cr_51b ho, ↓cr_52b ho, ↓cr_59b ho, ↓crlb ho, ↓ct_54b ho, ↓cw_54b ho, ci1, ci2, ca1, ca2, ca3, cL1, cL2, cL3, cL4, cx1, cx2, cx3, cx4, cy1, cy2, cy3, cy4, jn_0, Nat.reduceEqDiff, h40, h3]
  · rw [s1, sb_n (by decide)] at h3 ⊢
    simp (disch := omega) only [il_0, il_1, il_2, il_3, il_4, il_5, il_6, il_7, il_8, il_9, il_10, il_11, il_12, il_13, il_14, il_15, il_16, il_17, il_18, il_19, il_20, il_21, il_22, il_23, il_24, il_25, il_26, il_27, il_28, il_29, il_30, il_31, il_32, il_40, il_41, il_42, il_43, il_44, il_45, il_46, il_47, il_48, il_52, il_56, il_57, il_59, il_60, il_61, il_63, il_64, il_68, il_72, il_75, il_76, il_82, il_88, il_89, il_90, il_92, il_96, il_97, il_99, il_100, il_101, il_102, il_103, il_104, il_105, il_107, il_108, il_109, il_110, il_111, il_112, il_114, il_115, il_116, il_117, il_118, il_119, il_121, il_122, il_130, il_200, il_255, il_256, il_260, il_276, il_400, il_403, il_420, il_840, il_999, il_1000, il_2000, il_2001, il_2668, il_2760, il_9999, il_12345, il_1000000, il_1103515245, ↓im_1, ↓im_2, ↓im_8, ↓im_1000, nI_add, pk_mul, pk_sub, ↓pk_rem, pk_div, nm_add, nI_clamp, nI_ltI, nI_leI, nI_eq, nm_eq, mn_eq, mm_eq, nm_lt, mn_lt, nm_le, mn_le, nl_T, nl_F, nle_T, nle_F, ne_T, ne_F, b2i_0, b2i_1, b2i_n, nb_0, nb_1, or_false, false_or, or_true, true_or, and_true, true_and, and_false, false_and, or_self, and_self, not_true_eq_false, not_false_eq_true, ↓reduceIte, if_true, if_false, ↓jv_bs, ↓jv_ol, ↓jv_or, jv_tl, jv_tn, jo_T, ck_2_166_17, ck_6_43_16, ck_6_43_17, ck_6_73_16, ck_7_65_17, ck_30_10_19, su_F, e177_10, e177_11, e177_14, e177_17, e177_18, e177_21, e177_22, e177_25, e177_26, e177_27, e177_28, e177_29, e177_30, e177_31, e177_33, e177_34, e177_36, e177_39, e177_40, e177_42, e177_45, e177_46, e177_48, e177_51, e177_52, e177_54, e177_57, e177_60, ↓cg_52_1b ho, ↓cg_52_2b ho, ↓cp_52_7b ho, ↓cr_50b ho, ↓cr_51b ho, ↓cr_52b ho, ↓cr_59b ho, ↓crlb ho, ↓ct_54b ho, ↓cw_54b ho, ci1, ci2, ca1, ca2, ca3, cL1, cL2, cL3, cL4, cx1, cx2, cx3, cx4, cy1, cy2, cy3, cy4, jn_0, Nat.reduceEqDiff, h40, h3]
  · rw [s1, sb_n (by decide)] at h3 ⊢
    simp (disch := omega) only [il_0, il_1, il_2, il_3, il_4, il_5, il_6, il_7, il_8, il_9, il_10, il_11, il_12, il_13, il_14, il_15, il_16, il_17, il_18, il_19, il_20, il_21, il_22, il_23, il_24, il_25, il_26, il_27, il_28, il_29, il_30, il_31, il_32, il_40, il_41, il_42, il_43, il_44, il_45, il_46, il_47, il_48, il_52, il_56, il_57, il_59, il_60, il_61, il_63, il_64, il_68, il_72, il_75, il_76, il_82, il_88, il_89, il_90, il_92, il_96, il_97, il_99, il_100, il_101, il_102, il_103, il_104, il_105, il_107, il_108, il_109, il_110, il_111, il_112, il_114, il_115, il_116, il_117, il_118, il_119, il_121, il_122, il_130, il_200, il_255, il_256, il_260, il_276, il_400, il_403, il_420, il_840, il_999, il_1000, il_2000, il_2001, il_2668, il_2760, il_9999, il_12345, il_1000000, il_1103515245, ↓im_1, ↓im_2, ↓im_8, ↓im_1000, nI_add, pk_mul, pk_sub, ↓pk_rem, pk_div, nm_add, nI_clamp, nI_ltI, nI_leI, nI_eq, nm_eq, mn_eq, mm_eq, nm_lt, mn_lt, nm_le, mn_le, nl_T, nl_F, nle_T, nle_F, ne_T, ne_F, b2i_0, b2i_1, b2i_n, nb_0, nb_1, or_false, false_or, or_true, true_or, and_true, true_and, and_false, false_and, or_self, and_self, not_true_eq_false, not_false_eq_true, ↓reduceIte, if_true, if_false, ↓jv_bs, ↓jv_ol, ↓jv_or, jv_tl, jv_tn, jo_T, ck_2_166_17, ck_6_43_16, ck_6_43_17, ck_6_73_16, ck_7_65_17, ck_30_10_19, su_F, e177_10, e177_11, e177_14, e177_17, e177_18, e177_21, e177_22, e177_25, e177_26, e177_27, e177_28, e177_29, e177_30, e177_31, e177_33, e177_34, e177_36, e177_39, e177_40, e177_42, e177_45, e177_46, e177_48, e177_51, e177_52, e177_54, e177_57, e177_60, ↓cg_52_1b ho, ↓cg_52_2b ho, ↓cp_52_7b ho, ↓cr_50b ho, ↓cr_51b ho, ↓cr_52b ho, ↓cr_59b ho, ↓crlb ho, ↓ct_54b ho, ↓cw_54b ho, ci1, ci2, ca1, ca2, ca3, cL1, cL2, cL3, cL4, cx1, cx2, cx3, cx4, cy1, cy2, cy3, cy4, jn_0, Nat.reduceEqDiff, h40, h3]
  · rw [s1, sb_n (by decide)] at h3 ⊢
    simp (disch := omega) only [il_0, il_1, il_2, il_3, il_4, il_5, il_6, il_7, il_8, il_9, il_10, il_11, il_12, il_13, il_14, il_15, il_16, il_17, il_18, il_19, il_20, il_21, il_22, il_23, il_24, il_25, il_26, il_27, il_28, il_29, il_30, il_31, il_32, il_40, il_41, il_42, il_43, il_44, il_45, il_46, il_47, il_48, il_52, il_56, il_57, il_59, il_60, il_61, il_63, il_64, il_68, il_72, il_75, il_76, il_82, il_88, il_89, il_90, il_92, il_96, il_97, il_99, il_100, il_101, il_102, il_103, il_104, il_105, il_107, il_108, il_109, il_110, il_111, il_112, il_114, il_115, il_116, il_117, il_118, il_119, il_121, il_122, il_130, il_200, il_255, il_256, il_260, il_276, il_400, il_403, il_420, il_840, il_999, il_1000, il_2000, il_2001, il_2668, il_2760, il_9999, il_12345, il_1000000, il_1103515245, ↓im_1, ↓im_2, ↓im_8, ↓im_1000, nI_add, pk_mul, pk_sub, ↓pk_rem, pk_div, nm_add, nI_clamp, nI_ltI, nI_leI, nI_eq, nm_eq, mn_eq, mm_eq, nm_lt, mn_lt, nm_le, mn_le, nl_T, nl_F, nle_T, nle_F, ne_T, ne_F, b2i_0, b2i_1, b2i_n, nb_0, nb_1, or_false, false_or, or_true, true_or, and_true, true_and, and_false, false_and, or_self, and_self, not_true_eq_false, not_false_eq_true, ↓reduceIte, if_true, if_false, ↓jv_bs, ↓jv_ol, ↓jv_or, jv_tl, jv_tn, jo_T, ck_2_166_17, ck_6_43_16, ck_6_43_17, ck_6_73_16, ck_7_65_17, ck_30_10_19, su_F, e177_10, e177_11, e177_14, e177_17, e177_18, e177_21, e177_22, e177_25, e177_26, e177_27, e177_28, e177_29, e177_30, e177_31, e177_33, e177_34, e177_36, e177_39, e177_40, e177_42, e177_45, e177_46, e177_48, e177_51, e177_52, e177_54, e177_57, e177_60, ↓cg_52_1b ho, ↓cg_52_2b ho, ↓cp_52_7b ho, ↓cr_50b ho, ↓cr_51b ho, ↓cr_52b ho, ↓cr_59b ho, ↓crlb ho, ↓ct_54b ho, ↓cw_54b ho, ci1, ci2, ca1, ca2, ca3, cL1, cL2, cL3, cL4, cx1, cx2, cx3, cx4, cy1, cy2, cy3, cy4, jn_0, Nat.reduceEqDiff, h40, h3]
theorem tq_i : ∀ i, (∀ k < i, tkd b n k ≠ 0) → i ≤ tq b n i := by
  intro i
  induction i with
  | zero => intro _; exact Nat.zero_le _
  | succ i ih =>
    intro h
    have h1 := ih fun k hk => h k (by omega)
    have h2 : tfr b n i < n := by
      rcases Nat.lt_or_ge (tfr b n i) n with h3 | h3
      · exact h3
      · exact absurd (tkd_0.mpr h3) (h i (by omega))
    rw [tq_s h2]
    have := (tkk_1 (b := b) h2).1
    have := (tfr_le (b := b) (n := n) (i := i)).1
    omega
theorem c_tread (hO : OH o) (hb : CB c b n) : ∃ c', CF c c' ∧ (∀ i, (∀ k < i, tkd b n k ≠ 0 ∧ tkd b n k ≠ 3) → TC1 c' b n i) ∧ jv_cd (d + 7) 177 [.ref 52] (cm_h o c r) = some (.inl none, cm_h o c' r) := by
  have ho := hO.1
  have key : ∀ f i, n < f + tq b n i → (∀ k < i, tkd b n k ≠ 0 ∧ tkd b n k ≠ 3) → ∀ (c1 : cm_S) (x3 x4 x5 x6 : Option Value), CF c c1 → (∀ k < i, TC1 c1 b n k) → c1.1 41 = nI i → ∃ c', CF c c' ∧ (∀ i, (∀ k < i, tkd b n k ≠ 0 ∧ tkd b n k ≠ 3) → TC1 c' b n i) ∧ jv_ev (d + 6) 177 9 [some (.ref 52), some (.int (nI (tq b n i))), some (.int (nI 1)), x3, x4, x5, x6] [] (cm_h o c1 r) = some (.inl none, cm_h o c' r) := by
    intro f
    induction f with
    | zero =>
      intro i hf
      have := tq_le (b := b) (n := n) i
      omega
    | succ f ih =>
      intro i hf hk c1 x3 x4 x5 x6 hF ht h41
      have hb1 := CB_f hF hb
      have hn := hb.2.1
      have hi := tq_i (b := b) (n := n) i fun k hk' => (hk k hk').1
      have hql := tq_le (b := b) (n := n) i
      obtain ⟨hfl, hfn⟩ := tfr_le (b := b) (n := n) (i := i)
      have hre : tfr b n i = tq b n i + rn cSp b n (tq b n i) := rfl
      obtain ⟨⟨y3, y4⟩, _, w1⟩ := jl_inv (N := rn cSp b n (tq b n i)) (F := fun k (x : Option Value × Option Value) => jv_ev (d + 6) 177 9 [some (.ref 52), some (.int (nI (tq b n i + k))), some (.int (nI 1)), x.1, x.2, x5, x6] [] (cm_h o c1 r)) (fun _ _ => True) (fun k hk x _ => ⟨(some (.int (sbv (b (tq b n i + k)))), some (.int (nI (tq b n i + k + 1)))), trivial, c_spc ho hb1 (by have := rn_le (C := cSp) (b := b) (n := n) (p := tq b n i); omega) (rn_in hk)⟩) (s := (x3, x4)) trivial
      rw [← hre] at w1
      have w1 : jv_ev (d + 6) 177 9 [some (.ref 52), some (.int (nI (tq b n i))), some (.int (nI 1)), x3, x4, x5, x6] [] (cm_h o c1 r) = jv_ev (d + 6) 177 9 [some (.ref 52), some (.int (nI (tfr b n i))), some (.int (nI 1)), y3, y4, x5, x6] [] (cm_h o c1 r) := w1
      have hsp : cSp (b (tfr b n i)) = false := rn_out (by decide) hb.2.2.2.2
      by_cases he : tfr b n i < n
      · obtain ⟨z3, z4, z5, z6, w2⟩ := c_tok (d := d) (r := r) hO hb1 h41 (by omega) he hsp (x3 := y3) (x4 := y4) (x5 := x5) (x6 := x6)
        have hkd : tkd b n i = (tkk b n (tfr b n i)).1 := if_neg (Nat.not_le.mpr he)
        have htc : ∀ k < i + 1, TC1 (caS c1 i (nI (csk (tkk b n (tfr b n i)).1)) (nI (tfr b n i)) (nI (tfr b n i + (tkk b n (tfr b n i)).2)) (cwh b n (tfr b n i))) b n k := fun k hk2 => by
          by_cases e : k = i
          · subst e
            exact ⟨pk_us.trans (by rw [hkd]), pk_us, fun _ => ⟨pk_us, pk_us⟩⟩
          · exact TC1_n e (ht k (by omega))
        by_cases h3 : (tkk b n (tfr b n i)).1 = 3
        · rw [if_pos h3] at w2
          refine ⟨_, CF_s hF, fun j hj => htc j ?_, w1.trans (w2.trans ?_)⟩
          · rcases Nat.lt_or_ge i j with h | h
            · exact absurd (hkd.trans h3) (hj i h).2
            · omega
          · have h40 : (caS c1 i (nI (csk (tkk b n (tfr b n i)).1)) (nI (tfr b n i)) (nI (tfr b n i + (tkk b n (tfr b n i)).2)) (cwh b n (tfr b n i))).1 40 = nI n := hb1.1
            generalize caS c1 i (nI (csk (tkk b n (tfr b n i)).1)) (nI (tfr b n i)) (nI (tfr b n i + (tkk b n (tfr b n i)).2)) (cwh b n (tfr b n i)) = c3 at h40 ⊢
            have hle := (tkk_1 (b := b) he).2
            generalize tfr b n i + (tkk b n (tfr b n i)).2 = e' at hle ⊢
            by_cases h5 : e' < n
            · simp (disch := omega) only [il_0, il_1, il_2, il_3, il_4, il_5, il_6, il_7, il_8, il_9, il_10, il_11, il_12, il_13, il_14, il_15, il_16, il_17, il_18, il_19, il_20, il_21, il_22, il_23, il_24, il_25, il_26, il_27, il_28, il_29, il_30, il_31, il_32, il_40, il_41, il_42, il_43, il_44, il_45, il_46, il_47, il_48, il_52, il_56, il_57, il_59, il_60, il_61, il_63, il_64, il_68, il_72, il_75, il_76, il_82, il_88, il_89, il_90, il_92, il_96, il_97, il_99, il_100, il_101, il_102, il_103, il_104, il_105, il_107, il_108, il_109, il_110, il_111, il_112, il_114, il_115, il_116, il_117, il_118, il_119, il_121, il_122, il_130, il_200, il_255, il_256, il_260, il_276, il_400, il_403, il_420, il_840, il_999, il_1000, il_2000, il_2001, il_2668, il_2760, il_9999, il_12345, il_1000000, il_1103515245, ↓im_1, ↓im_2, ↓im_8, ↓im_1000, nI_add, pk_mul, pk_sub, ↓pk_rem, pk_div, nm_add, nI_clamp, nI_ltI, nI_leI, nI_eq, nm_eq, mn_eq, mm_eq, nm_lt, mn_lt, nm_le, mn_le, nl_T, nl_F, nle_T, nle_F, ne_T, ne_F, b2i_0, b2i_1, b2i_n, nb_0, nb_1, or_false, false_or, or_true, true_or, and_true, true_and, and_false, false_and, or_self, and_self, not_true_eq_false, not_false_eq_true, ↓reduceIte, if_true, if_false, ↓jv_bs, ↓jv_ol, ↓jv_or, jv_tl, jv_tn, jo_T, ck_2_166_17, ck_6_43_16, ck_6_43_17, ck_6_73_16, ck_7_65_17, ck_30_10_19, su_F, e177_9, e177_10, e177_11, e177_14, e177_17, e177_18, e177_215, e177_216, e177_219, e177_220, e177_221, e177_222, e177_223, e177_224, e177_227, ↓cg_52_1b ho, ↓cg_52_2b ho, ↓cp_52_7b ho, ↓cr_50b ho, ↓cr_51b ho, ↓cr_52b ho, ↓cr_59b ho, ↓crlb ho, ↓ct_54b ho, ↓cw_54b ho, ci1, ci2, ca1, ca2, ca3, cL1, cL2, cL3, cL4, cx1, cx2, cx3, cx4, cy1, cy2, cy3, cy4, jn_0, Nat.reduceEqDiff, h40]
            · simp (disch := omega) only [il_0, il_1, il_2, il_3, il_4, il_5, il_6, il_7, il_8, il_9, il_10, il_11, il_12, il_13, il_14, il_15, il_16, il_17, il_18, il_19, il_20, il_21, il_22, il_23, il_24, il_25, il_26, il_27, il_28, il_29, il_30, il_31, il_32, il_40, il_41, il_42, il_43, il_44, il_45, il_46, il_47, il_48, il_52, il_56, il_57, il_59, il_60, il_61, il_63, il_64, il_68, il_72, il_75, il_76, il_82, il_88, il_89, il_90, il_92, il_96, il_97, il_99, il_100, il_101, il_102, il_103, il_104, il_105, il_107, il_108, il_109, il_110, il_111, il_112, il_114, il_115, il_116, il_117, il_118, il_119, il_121, il_122, il_130, il_200, il_255, il_256, il_260, il_276, il_400, il_403, il_420, il_840, il_999, il_1000, il_2000, il_2001, il_2668, il_2760, il_9999, il_12345, il_1000000, il_1103515245, ↓im_1, ↓im_2, ↓im_8, ↓im_1000, nI_add, pk_mul, pk_sub, ↓pk_rem, pk_div, nm_add, nI_clamp, nI_ltI, nI_leI, nI_eq, nm_eq, mn_eq, mm_eq, nm_lt, mn_lt, nm_le, mn_le, nl_T, nl_F, nle_T, nle_F, ne_T, ne_F, b2i_0, b2i_1, b2i_n, nb_0, nb_1, or_false, false_or, or_true, true_or, and_true, true_and, and_false, false_and, or_self, and_self, not_true_eq_false, not_false_eq_true, ↓reduceIte, if_true, if_false, ↓jv_bs, ↓jv_ol, ↓jv_or, jv_tl, jv_tn, jo_T, ck_2_166_17, ck_6_43_16, ck_6_43_17, ck_6_73_16, ck_7_65_17, ck_30_10_19, su_F, e177_9, e177_10, e177_11, e177_14, e177_17, e177_18, e177_215, e177_216, e177_219, e177_220, e177_221, e177_222, e177_223, e177_224, e177_227, ↓cg_52_1b ho, ↓cg_52_2b ho, ↓cp_52_7b ho, ↓cr_50b ho, ↓cr_51b ho, ↓cr_52b ho, ↓cr_59b ho, ↓crlb ho, ↓ct_54b ho, ↓cw_54b ho, ci1, ci2, ca1, ca2, ca3, cL1, cL2, cL3, cL4, cx1, cx2, cx3, cx4, cy1, cy2, cy3, cy4, jn_0, Nat.reduceEqDiff, h40]
        · rw [if_neg h3, ← tq_s he] at w2
          have hlt : tq b n i < tq b n (i + 1) := by
            rw [tq_s he]
            have := (tkk_1 (b := b) he).1
            omega
          rw [← tq_s he] at htc
          obtain ⟨c', g1, g2, g3⟩ := ih (i + 1) (by omega) (fun k hk2 => by
            by_cases e : k = i
            · subst e
              rw [hkd]
              have := (tkk_0 (b := b) (n := n) (p := tfr b n k)).1
              omega
            · exact hk k (by omega)) _ z3 z4 z5 z6 (CF_s hF) htc rfl
          exact ⟨c', g1, g2, w1.trans (w2.trans g3)⟩
      · have hen : tfr b n i = n := by omega
        have h40 := hb1.1
        have g := c_add (d := d + 5) (r := r) ho h41 (by omega) (s := 4) (f := n) (t := n) (by decide) (by omega) (by omega) (w := nI 0) (an16 (by decide))
        refine ⟨caS c1 i (nI 4) (nI n) (nI n) (nI 0), CF_s hF, fun z hz => ?_, w1.trans ?_⟩
        · have hzi : z ≤ i := by
            by_cases e : z ≤ i
            · exact e
            · exact absurd (tkd_0.mpr (by omega)) (hz i (by omega)).1
          by_cases e : z = i
          · subst e
            exact ⟨pk_us.trans (by rw [tkd_0.mpr (by omega)]; rfl), pk_us.trans (by rw [hen]), fun h => absurd h he⟩
          · exact TC1_n e (ht z (by omega))
        · rw [hen]
          simp (disch := omega) only [il_0, il_1, il_2, il_3, il_4, il_5, il_6, il_7, il_8, il_9, il_10, il_11, il_12, il_13, il_14, il_15, il_16, il_17, il_18, il_19, il_20, il_21, il_22, il_23, il_24, il_25, il_26, il_27, il_28, il_29, il_30, il_31, il_32, il_40, il_41, il_42, il_43, il_44, il_45, il_46, il_47, il_48, il_52, il_56, il_57, il_59, il_60, il_61, il_63, il_64, il_68, il_72, il_75, il_76, il_82, il_88, il_89, il_90, il_92, il_96, il_97, il_99, il_100, il_101, il_102, il_103, il_104, il_105, il_107, il_108, il_109, il_110, il_111, il_112, il_114, il_115, il_116, il_117, il_118, il_119, il_121, il_122, il_130, il_200, il_255, il_256, il_260, il_276, il_400, il_403, il_420, il_840, il_999, il_1000, il_2000, il_2001, il_2668, il_2760, il_9999, il_12345, il_1000000, il_1103515245, ↓im_1, ↓im_2, ↓im_8, ↓im_1000, nI_add, pk_mul, pk_sub, ↓pk_rem, pk_div, nm_add, nI_clamp, nI_ltI, nI_leI, nI_eq, nm_eq, mn_eq, mm_eq, nm_lt, mn_lt, nm_le, mn_le, nl_T, nl_F, nle_T, nle_F, ne_T, ne_F, b2i_0, b2i_1, b2i_n, nb_0, nb_1, or_false, false_or, or_true, true_or, and_true, true_and, and_false, false_and, or_self, and_self, not_true_eq_false, not_false_eq_true, ↓reduceIte, if_true, if_false, ↓jv_bs, ↓jv_ol, ↓jv_or, jv_tl, jv_tn, jo_T, ck_2_166_17, ck_6_43_16, ck_6_43_17, ck_6_73_16, ck_7_65_17, ck_30_10_19, su_F, e177_9, e177_10, e177_11, e177_14, e177_215, e177_216, e177_219, e177_220, e177_221, e177_222, e177_223, e177_224, e177_227, ↓cg_52_1b ho, ↓cg_52_2b ho, ↓cp_52_7b ho, ↓cr_50b ho, ↓cr_51b ho, ↓cr_52b ho, ↓cr_59b ho, ↓crlb ho, ↓ct_54b ho, ↓cw_54b ho, ci1, ci2, ca1, ca2, ca3, cL1, cL2, cL3, cL4, cx1, cx2, cx3, cx4, cy1, cy2, cy3, cy4, jn_0, Nat.reduceEqDiff, h40, ↓jbR g]
  obtain ⟨c', g1, g2, g3⟩ := key (n + 1) 0 (by omega) (fun k hk => absurd hk (Nat.not_lt_zero _)) (cs_i c 41 (nI 0)) none none none none ⟨fun k hk => by rw [ci1, if_neg hk], fun _ _ => rfl, rfl⟩ (fun k hk => absurd hk (Nat.not_lt_zero _)) rfl
  refine ⟨c', g1, g2, Eq.trans ?_ g3⟩
  rw [show tq b n 0 = 0 from rfl]
  simp (disch := omega) only [il_0, il_1, il_2, il_3, il_4, il_5, il_6, il_7, il_8, il_9, il_10, il_11, il_12, il_13, il_14, il_15, il_16, il_17, il_18, il_19, il_20, il_21, il_22, il_23, il_24, il_25, il_26, il_27, il_28, il_29, il_30, il_31, il_32, il_40, il_41, il_42, il_43, il_44, il_45, il_46, il_47, il_48, il_52, il_56, il_57, il_59, il_60, il_61, il_63, il_64, il_68, il_72, il_75, il_76, il_82, il_88, il_89, il_90, il_92, il_96, il_97, il_99, il_100, il_101, il_102, il_103, il_104, il_105, il_107, il_108, il_109, il_110, il_111, il_112, il_114, il_115, il_116, il_117, il_118, il_119, il_121, il_122, il_130, il_200, il_255, il_256, il_260, il_276, il_400, il_403, il_420, il_840, il_999, il_1000, il_2000, il_2001, il_2668, il_2760, il_9999, il_12345, il_1000000, il_1103515245, ↓im_1, ↓im_2, ↓im_8, ↓im_1000, nI_add, pk_mul, pk_sub, ↓pk_rem, pk_div, nm_add, nI_clamp, nI_ltI, nI_leI, nI_eq, nm_eq, mn_eq, mm_eq, nm_lt, mn_lt, nm_le, mn_le, nl_T, nl_F, nle_T, nle_F, ne_T, ne_F, b2i_0, b2i_1, b2i_n, nb_0, nb_1, or_false, false_or, or_true, true_or, and_true, true_and, and_false, false_and, or_self, and_self, not_true_eq_false, not_false_eq_true, ↓reduceIte, if_true, if_false, ↓jv_bs, ↓jv_ol, ↓jv_or, jv_tl, jv_tn, jo_T, ck_2_166_17, ck_6_43_16, ck_6_43_17, ck_6_73_16, ck_7_65_17, ck_30_10_19, su_F, e177_0, e177_1, e177_2, e177_5, e177_6, e177_7, e177_8, ↓cg_52_1b ho, ↓cg_52_2b ho, ↓cp_52_7b ho, ↓cr_50b ho, ↓cr_51b ho, ↓cr_52b ho, ↓cr_59b ho, ↓crlb ho, ↓ct_54b ho, ↓cw_54b ho, ci1, ci2, ca1, ca2, ca3, cL1, cL2, cL3, cL4, cx1, cx2, cx3, cx4, cy1, cy2, cy3, cy4, jn_0, Nat.reduceEqDiff, n177]
end
