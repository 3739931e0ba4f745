/-! the component: a law, whole -/
section
variable {d t n i m k a b u ifs : Nat} {o r r0 rb X X0 Y : jv_H} {c c' c2 : cm_S} {K V F N L : Nat → Nat} {R : Nat → Nat → Nat} {w : Wt} {cd : Cd} {f1 f2 f3 : Nat → Option Nat}
theorem apA {Z : jv_H} (h : rb = r0 ++ X0) : r0 ++ (X0 ++ Z) = rb ++ Z := by rw [h, List.append_assoc]
theorem apB {Z X : jv_H} (h : rb = r0 ++ X0) : r0 ++ (X0 ++ Z ++ X) = rb ++ Z ++ X := by rw [h, List.append_assoc, List.append_assoc, List.append_assoc]
theorem qp_e {α : Type} {t : Nat} {f : Nat → Pa α} : qp t f = if t = 400 then .inl (2, t) else f (t + 1) := rfl
theorem qm_e {α : Type} {K : Nat → Nat} {k t : Nat} {f : Nat → Pa α} : qm K k t f = if K t = k then (if t = 400 then .inl (2, t) else f (t + 1)) else .inl (1, t) := rfl
/-- what a law answers -/
def LX (o r0 X0 : jv_H) (c : cm_S) (K F L : Nat → Nat) (R : Nat → Nat → Nat) (m : Nat) (run : Option jv_R) (res : Pa Lw) : Prop := match res with
  | .inl e => FT o r0 c F e run
  | .inr x => ∃ c' g1 g2 g3 Y, CP c c' ∧ CT c' K F L R x.1 0 ∧ (c'.1 52 = c.1 52 ∧ c'.1 53 = c.1 53) ∧ RC3 K x.1 ∧ BZ (X0 ++ (lwC m x.2.1.length g1 g2 g3 ++ Y)) x.1 ∧ LBs m Y x.2.1 g1 g2 g3 ∧ (∃ s, g3 x.2.1.length = some s ∧ SA (gY (m + 4) Y) 401 s x.2.2) ∧ run = some (.inl (some (.ref m)), cm_h o c' (r0 ++ (X0 ++ (lwC m x.2.1.length g1 g2 g3 ++ Y))))
theorem LX_c {run : Option jv_R} {res : Pa Lw} (hc : CP c c') (h2 : c'.1 52 = c.1 52 ∧ c'.1 53 = c.1 53) (h : LX o r0 X0 c' K F L R m run res) : LX o r0 X0 c K F L R m run res := by
  cases res with
  | inl e => exact FT_c hc h
  | inr x =>
    obtain ⟨c2, g1, g2, g3, Y, h1, h3, h4, h5⟩ := h
    exact ⟨c2, g1, g2, g3, Y, CP_tr hc h1, h3, ⟨h4.1.trans h2.1, h4.2.trans h2.2⟩, h5⟩
/-- fields of the law -/
theorem lwf (ho : o.length = 50) (hm : m = 589 + rb.length) : jv_gf (cm_h o c (rb ++ (lwC m ifs f1 f2 f3 ++ Y))) m [(12, 0, .array (.object "RainLoom$Sum"))] = some (.ref (m + 1)) ∧ jv_gf (cm_h o c (rb ++ (lwC m ifs f1 f2 f3 ++ Y))) m [(12, 1, .array (.object "RainLoom$Sum"))] = some (.ref (m + 2)) ∧ jv_gf (cm_h o c (rb ++ (lwC m ifs f1 f2 f3 ++ Y))) m [(12, 2, .array (.object "RainLoom$Sum"))] = some (.ref (m + 3)) ∧ jv_gf (cm_h o c (rb ++ (lwC m ifs f1 f2 f3 ++ Y))) m [(12, 3, .int)] = some (.int (nI ifs)) := by
  have h := lwc_g (c := c) (Y := Y) (ifs := ifs) (f1 := f1) (f2 := f2) (f3 := f3) ho hm 0 rfl
  rw [Nat.add_zero] at h
  exact ⟨jv_gf_at h rfl rfl, jv_gf_at h rfl rfl, jv_gf_at h rfl rfl, jv_gf_at h rfl rfl⟩
theorem lwi (ho : o.length = 50) (hm : m = 589 + rb.length) (hm6 : 636 ≤ m) : jv_pf (cm_h o c (rb ++ (lwC m ifs f1 f2 f3 ++ Y))) m [(12, 3, .int)] (.int (nI k)) = some (cm_h o c (rb ++ (lwC m k f1 f2 f3 ++ Y))) := by
  have h := lwc_g (c := c) (Y := Y) (ifs := ifs) (f1 := f1) (f2 := f2) (f3 := f3) ho hm 0 rfl
  rw [Nat.add_zero] at h
  rw [jv_pf_at (k := 3) h rfl (show 50 ≤ m by omega) (Nat.le_of_ble_eq_true rfl) rfl rfl]
  have g := lwc_s (c := c) (Y := Y) (ifs := ifs) (f1 := f1) (f2 := f2) (f3 := f3) (g1 := f1) (g2 := f2) (g3 := f3) (ifs' := k) ho hm 0 (x := .inr (12, [.ref (m + 1), .ref (m + 2), .ref (m + 3), .int (nI k)])) (by decide) rfl
  rw [Nat.add_zero] at g
  exact congrArg some g
/-- the last term of a law -/
theorem c_lawEnd (ho : o.length = 50) (hK : EK K V L R) (hrb : rb = r0 ++ X0) (hm : m = 589 + rb.length) (hm6 : 636 ≤ m) {acc : List (Cd × Cd × Cd)} (hT : CT c K F L R t 0) (hr : RC3 K t) (hB : BZ (X0 ++ (lwC m acc.length f1 f2 f3 ++ Y)) t) (hL : LBs m Y acc f1 f2 f3) (hl : acc.length ≤ 4) (hk : K t ≠ 29) : LX o r0 X0 c K F L R m (jv_ev (d + 26) 193 14 [some (.ref 59), some (.ref m)] [] (cm_h o c (rb ++ (lwC m acc.length f1 f2 f3 ++ Y)))) (qb (pT K V t) fun u cd => .inr (u, (acc, cd))) := by
  have gw := c_isWd (d := d + 25) (r := rb ++ (lwC m acc.length f1 f2 f3 ++ Y)) (k := 9) ho hT.1 hK hr hT.2.1 (by decide)
  rw [decide_eq_false (by omega), b2i_f] at gw
  have hlr : 47 ≤ (rb ++ (lwC m acc.length f1 f2 f3 ++ Y)).length := by rw [List.length_append]; omega
  have g := cz_sum (d := d) (r := rb ++ (lwC m acc.length f1 f2 f3 ++ Y)) ho hK hT hr hlr
  obtain ⟨k1, k2, k3, k4⟩ := lwf (c := c) (Y := Y) (ifs := acc.length) (f1 := f1) (f2 := f2) (f3 := f3) ho hm
  generalize pT K V t = rr at g ⊢
  cases rr with
  | inl e =>
    obtain ⟨c', X, h1, h2, h3, h4, h5⟩ := g
    refine ⟨c', X0 ++ (lwC m acc.length f1 f2 f3 ++ Y) ++ X, h1, h2, h3, BZ_app hB h4, ?_⟩
    rw [apB hrb]
    simp (disch := omega) only [il_0, il_1, il_2, il_3, il_4, il_5, il_6, il_7, il_8, il_9, il_10, il_11, il_12, il_13, il_14, il_15, il_16, il_17, il_18, il_19, il_20, il_21, il_22, il_23, il_24, il_25, il_26, il_27, il_28, il_29, il_30, il_31, il_32, il_40, il_41, il_42, il_43, il_44, il_45, il_46, il_47, il_48, il_52, il_56, il_57, il_59, il_60, il_61, il_63, il_64, il_68, il_72, il_75, il_76, il_82, il_88, il_89, il_90, il_92, il_96, il_97, il_99, il_100, il_101, il_102, il_103, il_104, il_105, il_107, il_108, il_109, il_110, il_111, il_112, il_114, il_115, il_116, il_117, il_118, il_119, il_121, il_122, il_130, il_200, il_255, il_256, il_260, il_276, il_400, il_403, il_420, il_840, il_999, il_1000, il_2000, il_2001, il_2668, il_2760, il_9999, il_12345, il_1000000, il_1103515245, ↓im_1, ↓im_2, ↓im_8, ↓im_1000, nI_add, pk_mul, pk_sub, ↓pk_rem, pk_div, nm_add, nI_clamp, nI_ltI, nI_leI, nI_eq, nm_eq, mn_eq, mm_eq, nm_lt, mn_lt, nm_le, mn_le, nl_T, nl_F, nle_T, nle_F, ne_T, ne_F, b2i_0, b2i_1, b2i_n, nb_0, nb_1, or_false, false_or, or_true, true_or, and_true, true_and, and_false, false_and, or_self, and_self, not_true_eq_false, not_false_eq_true, ↓reduceIte, if_true, if_false, ↓jv_bs, ↓jv_ol, ↓jv_or, jv_tl, jv_tn, jo_T, ck_2_166_17, ck_6_43_16, ck_6_43_17, ck_6_73_16, ck_7_65_17, ck_30_10_19, su_F, e193_14, e193_15, e193_17, e193_20, e193_102, e193_103, e193_106, e193_107, e193_110, e193_111, ↓cr_50b ho, ↓cr_51b ho, ↓cr_52b ho, ↓cr_59b ho, ↓crlb ho, ci1, ci2, ca1, ca2, ca3, cL1, cL2, cL3, cL4, cx1, cx2, cx3, cx4, cy1, cy2, cy3, cy4, jn_0, Nat.reduceEqDiff, ↓jbR gw, ↓jb k3, ↓jb k4, ↓jbR h5]
  | inr x =>
    obtain ⟨c', X, a, h1, h2, h3, h4, h5, h6, h7⟩ := g
    have hS := SA_lw hm h6
    have e1 : rb ++ (lwC m acc.length f1 f2 f3 ++ Y) ++ X = rb ++ (lwC m acc.length f1 f2 f3 ++ (Y ++ X)) := by rw [List.append_assoc, List.append_assoc]
    rw [e1] at h7
    have kp := (lw_put (c := c') (ifs := acc.length) (f1 := f1) (f2 := f2) (f3 := f3) ho hm hm6 hS (j := acc.length)).2.2 (by omega)
    refine ⟨c', f1, f2, va_up f3 acc.length (some a), Y ++ X, h1, h2, h3, h4, ?_, ?_, ⟨a, va_us, hS⟩, ?_⟩
    · have h := BZ_app hB h5
      obtain ⟨z1, z2⟩ := BZ_l (m := m) (ifs := acc.length) (f1 := f1) (f2 := f2) (f3 := f3) (Y := Y ++ X) (X0 := X0)
      obtain ⟨y1, y2⟩ := BZ_l (m := m) (ifs := acc.length) (f1 := f1) (f2 := f2) (f3 := va_up f3 acc.length (some a)) (Y := Y ++ X) (X0 := X0)
      have e2 : X0 ++ (lwC m acc.length f1 f2 f3 ++ Y) ++ X = X0 ++ (lwC m acc.length f1 f2 f3 ++ (Y ++ X)) := by rw [List.append_assoc, List.append_assoc]
      rw [e2] at h
      exact ⟨by rw [y1, ← z1]; exact h.1, by rw [y2, ← z2]; exact h.2⟩
    · intro i x' hx
      have hi : i < acc.length := (List.getElem?_eq_some_iff.mp hx).1
      obtain ⟨p, q, s, j1, j2, j3, j4, j5, j6⟩ := LBs_Y (Z := X) hL i x' hx
      exact ⟨p, q, s, j1, j2, (va_un (by omega)).trans j3, j4, j5, j6⟩
    · rw [apA hrb]
      simp (disch := omega) only [il_0, il_1, il_2, il_3, il_4, il_5, il_6, il_7, il_8, il_9, il_10, il_11, il_12, il_13, il_14, il_15, il_16, il_17, il_18, il_19, il_20, il_21, il_22, il_23, il_24, il_25, il_26, il_27, il_28, il_29, il_30, il_31, il_32, il_40, il_41, il_42, il_43, il_44, il_45, il_46, il_47, il_48, il_52, il_56, il_57, il_59, il_60, il_61, il_63, il_64, il_68, il_72, il_75, il_76, il_82, il_88, il_89, il_90, il_92, il_96, il_97, il_99, il_100, il_101, il_102, il_103, il_104, il_105, il_107, il_108, il_109, il_110, il_111, il_112, il_114, il_115, il_116, il_117, il_118, il_119, il_121, il_122, il_130, il_200, il_255, il_256, il_260, il_276, il_400, il_403, il_420, il_840, il_999, il_1000, il_2000, il_2001, il_2668, il_2760, il_9999, il_12345, il_1000000, il_1103515245, ↓im_1, ↓im_2, ↓im_8, ↓im_1000, nI_add, pk_mul, pk_sub, ↓pk_rem, pk_div, nm_add, nI_clamp, nI_ltI, nI_leI, nI_eq, nm_eq, mn_eq, mm_eq, nm_lt, mn_lt, nm_le, mn_le, nl_T, nl_F, nle_T, nle_F, ne_T, ne_F, b2i_0, b2i_1, b2i_n, nb_0, nb_1, or_false, false_or, or_true, true_or, and_true, true_and, and_false, false_and, or_self, and_self, not_true_eq_false, not_false_eq_true, ↓reduceIte, if_true, if_false, ↓jv_bs, ↓jv_ol, ↓jv_or, jv_tl, jv_tn, jo_T, ck_2_166_17, ck_6_43_16, ck_6_43_17, ck_6_73_16, ck_7_65_17, ck_30_10_19, su_F, e193_14, e193_15, e193_17, e193_20, e193_102, e193_103, e193_106, e193_107, e193_110, e193_111, e193_114, e193_115, e193_116, ↓cr_50b ho, ↓cr_51b ho, ↓cr_52b ho, ↓cr_59b ho, ↓crlb ho, ci1, ci2, ca1, ca2, ca3, cL1, cL2, cL3, cL4, cx1, cx2, cx3, cx4, cy1, cy2, cy3, cy4, jn_0, Nat.reduceEqDiff, ↓jbR gw, ↓jb k3, ↓jb k4, ↓jbR h7, ↓jbH kp]
theorem BZ_w {g1 g2 g3 : Nat → Option Nat} {j : Nat} (h : BZ (X0 ++ (lwC m ifs f1 f2 f3 ++ Y)) t) : BZ (X0 ++ (lwC m j g1 g2 g3 ++ Y)) t := by
  obtain ⟨z1, z2⟩ := BZ_l (m := m) (ifs := ifs) (f1 := f1) (f2 := f2) (f3 := f3) (Y := Y) (X0 := X0)
  obtain ⟨y1, y2⟩ := BZ_l (m := m) (ifs := j) (f1 := g1) (f2 := g2) (f3 := g3) (Y := Y) (X0 := X0)
  exact ⟨by rw [y1, ← z1]; exact h.1, by rw [y2, ← z2]; exact h.2⟩
theorem BZ_s {Z : jv_H} (h : BZ (X0 ++ (lwC m ifs f1 f2 f3 ++ Y)) t) (hZ : Z.length + t ≤ u ∧ sn_z Z + 3 * t ≤ 3 * u) : BZ (X0 ++ (lwC m ifs f1 f2 f3 ++ (Y ++ Z))) u := by
  have := BZ_app h hZ
  rwa [List.append_assoc, List.append_assoc] at this
theorem CT_go (hT : CT c K F L R t 0) : CT (cs_i c 50 (nI (t + 1))) K F L R (t + 1) 0 := ⟨CE_CP hT.1 (CP_i (by omega)), rfl, hT.2.2⟩
theorem c_law (ho : o.length = 50) (hK : EK K V L R) (hrb : rb = r0 ++ X0) (hm : m = 589 + rb.length) (hm6 : 636 ≤ m) : ∀ n t acc c f1 f2 f3 Y, acc.length + n = 4 → CT c K F L R t 0 → RC3 K t → BZ (X0 ++ (lwC m acc.length f1 f2 f3 ++ Y)) t → LBs m Y acc f1 f2 f3 → LX o r0 X0 c K F L R m (jv_ev (d + 26) 193 14 [some (.ref 59), some (.ref m)] [] (cm_h o c (rb ++ (lwC m acc.length f1 f2 f3 ++ Y)))) (pIf K V n t acc) := by
  intro n
  induction n with
  | zero =>
    intro t acc c f1 f2 f3 Y hl hT hr hB hL
    by_cases hk : K t = 29
    · have e : pIf K V 0 t acc = .inl (2, t) := if_pos hk
      rw [e]
      have ht4 := hr.1
      have gw := c_isWd (d := d + 25) (r := rb ++ (lwC m acc.length f1 f2 f3 ++ Y)) (k := 9) ho hT.1 hK hr hT.2.1 (by decide)
      rw [decide_eq_true hk, b2i_t] at gw
      have gb := c_begins (d := d + 21) (r := rb ++ (lwC m acc.length f1 f2 f3 ++ Y)) (j := acc.length) (k := 4) ho (hT.1 t hr).2.1 ht4 hT.2.1 (by omega) (by decide)
      rw [if_pos (by omega)] at gb
      obtain ⟨k1, k2, k3, k4⟩ := lwf (c := c) (Y := Y) (ifs := acc.length) (f1 := f1) (f2 := f2) (f3 := f3) ho hm
      refine FT_f hB ?_
      rw [apA hrb]
      simp (disch := omega) only [il_0, il_1, il_2, il_3, il_4, il_5, il_6, il_7, il_8, il_9, il_10, il_11, il_12, il_13, il_14, il_15, il_16, il_17, il_18, il_19, il_20, il_21, il_22, il_23, il_24, il_25, il_26, il_27, il_28, il_29, il_30, il_31, il_32, il_40, il_41, il_42, il_43, il_44, il_45, il_46, il_47, il_48, il_52, il_56, il_57, il_59, il_60, il_61, il_63, il_64, il_68, il_72, il_75, il_76, il_82, il_88, il_89, il_90, il_92, il_96, il_97, il_99, il_100, il_101, il_102, il_103, il_104, il_105, il_107, il_108, il_109, il_110, il_111, il_112, il_114, il_115, il_116, il_117, il_118, il_119, il_121, il_122, il_130, il_200, il_255, il_256, il_260, il_276, il_400, il_403, il_420, il_840, il_999, il_1000, il_2000, il_2001, il_2668, il_2760, il_9999, il_12345, il_1000000, il_1103515245, ↓im_1, ↓im_2, ↓im_8, ↓im_1000, nI_add, pk_mul, pk_sub, ↓pk_rem, pk_div, nm_add, nI_clamp, nI_ltI, nI_leI, nI_eq, nm_eq, mn_eq, mm_eq, nm_lt, mn_lt, nm_le, mn_le, nl_T, nl_F, nle_T, nle_F, ne_T, ne_F, b2i_0, b2i_1, b2i_n, nb_0, nb_1, or_false, false_or, or_true, true_or, and_true, true_and, and_false, false_and, or_self, and_self, not_true_eq_false, not_false_eq_true, ↓reduceIte, if_true, if_false, ↓jv_bs, ↓jv_ol, ↓jv_or, jv_tl, jv_tn, jo_T, ck_2_166_17, ck_6_43_16, ck_6_43_17, ck_6_73_16, ck_7_65_17, ck_30_10_19, su_F, e193_14, e193_15, e193_17, e193_20, e193_23, e193_24, e193_25, e193_28, e193_29, ↓cr_50b ho, ↓cr_51b ho, ↓cr_52b ho, ↓cr_59b ho, ↓crlb ho, ci1, ci2, ca1, ca2, ca3, cL1, cL2, cL3, cL4, cx1, cx2, cx3, cx4, cy1, cy2, cy3, cy4, jn_0, Nat.reduceEqDiff, ↓jbR gw, ↓jb k4, ↓jbR gb]
    · have e : pIf K V 0 t acc = qb (pT K V t) fun u cd => .inr (u, (acc, cd)) := if_neg hk
      rw [e]
      exact c_lawEnd ho hK hrb hm hm6 hT hr hB hL (by omega) hk
  | succ n ih =>
    intro t acc c f1 f2 f3 Y hl hT hr hB hL
    by_cases hk : K t = 29
    · have e : pIf K V (n + 1) t acc = qp t fun t1 => qb (pT K V t1) fun t2 a => qm K 13 t2 fun t3 => qb (pT K V t3) fun t4 b => qm K 30 t4 fun t5 => qb (pT K V t5) fun t6 c => qm K 31 t6 fun t7 => pIf K V n t7 (acc ++ [(a, b, c)]) := if_pos hk
      rw [e]
      have ht4 := hr.1
      have hlr : ∀ {Z : jv_H}, 47 ≤ (rb ++ Z).length := fun {Z} => by rw [List.length_append]; omega
      have gw := c_isWd (d := d + 25) (r := rb ++ (lwC m acc.length f1 f2 f3 ++ Y)) (k := 9) ho hT.1 hK hr hT.2.1 (by decide)
      rw [decide_eq_true hk, b2i_t] at gw
      have gb := c_begins (d := d + 21) (r := rb ++ (lwC m acc.length f1 f2 f3 ++ Y)) (j := acc.length) (k := 4) ho (hT.1 t hr).2.1 ht4 hT.2.1 (by omega) (by decide)
      rw [if_neg (by omega)] at gb
      unfold stp at gb
      obtain ⟨k1, k2, k3, k4⟩ := lwf (c := c) (Y := Y) (ifs := acc.length) (f1 := f1) (f2 := f2) (f3 := f3) ho hm
      rw [qp_e]
      by_cases h4 : t = 400
      · rw [if_pos h4] at gb ⊢
        refine FT_f hB ?_
        rw [apA hrb]
        simp (disch := omega) only [il_0, il_1, il_2, il_3, il_4, il_5, il_6, il_7, il_8, il_9, il_10, il_11, il_12, il_13, il_14, il_15, il_16, il_17, il_18, il_19, il_20, il_21, il_22, il_23, il_24, il_25, il_26, il_27, il_28, il_29, il_30, il_31, il_32, il_40, il_41, il_42, il_43, il_44, il_45, il_46, il_47, il_48, il_52, il_56, il_57, il_59, il_60, il_61, il_63, il_64, il_68, il_72, il_75, il_76, il_82, il_88, il_89, il_90, il_92, il_96, il_97, il_99, il_100, il_101, il_102, il_103, il_104, il_105, il_107, il_108, il_109, il_110, il_111, il_112, il_114, il_115, il_116, il_117, il_118, il_119, il_121, il_122, il_130, il_200, il_255, il_256, il_260, il_276, il_400, il_403, il_420, il_840, il_999, il_1000, il_2000, il_2001, il_2668, il_2760, il_9999, il_12345, il_1000000, il_1103515245, ↓im_1, ↓im_2, ↓im_8, ↓im_1000, nI_add, pk_mul, pk_sub, ↓pk_rem, pk_div, nm_add, nI_clamp, nI_ltI, nI_leI, nI_eq, nm_eq, mn_eq, mm_eq, nm_lt, mn_lt, nm_le, mn_le, nl_T, nl_F, nle_T, nle_F, ne_T, ne_F, b2i_0, b2i_1, b2i_n, nb_0, nb_1, or_false, false_or, or_true, true_or, and_true, true_and, and_false, false_and, or_self, and_self, not_true_eq_false, not_false_eq_true, ↓reduceIte, if_true, if_false, ↓jv_bs, ↓jv_ol, ↓jv_or, jv_tl, jv_tn, jo_T, ck_2_166_17, ck_6_43_16, ck_6_43_17, ck_6_73_16, ck_7_65_17, ck_30_10_19, su_F, e193_14, e193_15, e193_17, e193_20, e193_23, e193_24, e193_25, e193_28, e193_29, ↓cr_50b ho, ↓cr_51b ho, ↓cr_52b ho, ↓cr_59b ho, ↓crlb ho, ci1, ci2, ca1, ca2, ca3, cL1, cL2, cL3, cL4, cx1, cx2, cx3, cx4, cy1, cy2, cy3, cy4, jn_0, Nat.reduceEqDiff, ↓jbR gw, ↓jb k4, ↓jbR gb]
      rw [if_neg h4] at gb ⊢
      have hr1 := RC3_s hr h4 (by omega) (by omega)
      have hT1 := CT_go hT
      have hc1 : CP c (cs_i c 50 (nI (t + 1))) := CP_i (by omega)
      generalize hc1e : cs_i c 50 (nI (t + 1)) = c1 at gb hT1 hc1
      have hw1 : c1.1 52 = c.1 52 ∧ c1.1 53 = c.1 53 := by rw [← hc1e]; exact ⟨rfl, rfl⟩
      have hB1 := BZ_le hB (Nat.le_succ t)
      obtain ⟨k1', k2', k3', k4'⟩ := lwf (c := c1) (Y := Y) (ifs := acc.length) (f1 := f1) (f2 := f2) (f3 := f3) ho hm
      have st1 : jv_ev (d + 26) 193 14 [some (.ref 59), some (.ref m)] [] (cm_h o c (rb ++ (lwC m acc.length f1 f2 f3 ++ Y))) = (jv_cd (d + 26) 198 [.ref 59] (cm_h o c1 (rb ++ (lwC m acc.length f1 f2 f3 ++ Y)))).bind fun q => jv_on q (fun v h => jv_ev (d + 26) 193 44 [some (.ref 59), some (.ref m)] (v.toList ++ [.int (nI acc.length), .ref (m + 1)]) h) (fun q h => some (.inr q, h)) := by
        simp (disch := omega) only [il_0, il_1, il_2, il_3, il_4, il_5, il_6, il_7, il_8, il_9, il_10, il_11, il_12, il_13, il_14, il_15, il_16, il_17, il_18, il_19, il_20, il_21, il_22, il_23, il_24, il_25, il_26, il_27, il_28, il_29, il_30, il_31, il_32, il_40, il_41, il_42, il_43, il_44, il_45, il_46, il_47, il_48, il_52, il_56, il_57, il_59, il_60, il_61, il_63, il_64, il_68, il_72, il_75, il_76, il_82, il_88, il_89, il_90, il_92, il_96, il_97, il_99, il_100, il_101, il_102, il_103, il_104, il_105, il_107, il_108, il_109, il_110, il_111, il_112, il_114, il_115, il_116, il_117, il_118, il_119, il_121, il_122, il_130, il_200, il_255, il_256, il_260, il_276, il_400, il_403, il_420, il_840, il_999, il_1000, il_2000, il_2001, il_2668, il_2760, il_9999, il_12345, il_1000000, il_1103515245, ↓im_1, ↓im_2, ↓im_8, ↓im_1000, nI_add, pk_mul, pk_sub, ↓pk_rem, pk_div, nm_add, nI_clamp, nI_ltI, nI_leI, nI_eq, nm_eq, mn_eq, mm_eq, nm_lt, mn_lt, nm_le, mn_le, nl_T, nl_F, nle_T, nle_F, ne_T, ne_F, b2i_0, b2i_1, b2i_n, nb_0, nb_1, or_false, false_or, or_true, true_or, and_true, true_and, and_false, false_and, or_self, and_self, not_true_eq_false, not_false_eq_true, ↓reduceIte, if_true, if_false, ↓jv_bs, ↓jv_ol, ↓jv_or, jv_tl, jv_tn, jo_T, ck_2_166_17, ck_6_43_16, ck_6_43_17, ck_6_73_16, ck_7_65_17, ck_30_10_19, su_F, e193_14, e193_15, e193_17, e193_20, e193_23, e193_24, e193_25, e193_28, e193_29, e193_32, e193_33, e193_36, e193_37, e193_40, e193_41, ↓cr_50b ho, ↓cr_51b ho, ↓cr_52b ho, ↓cr_59b ho, ↓crlb ho, ci1, ci2, ca1, ca2, ca3, cL1, cL2, cL3, cL4, cx1, cx2, cx3, cx4, cy1, cy2, cy3, cy4, jn_0, Nat.reduceEqDiff, ↓jbR gw, ↓jb k4, ↓jbR gb, ↓jb k1', ↓jb k4']
      rw [st1]
      refine LX_c hc1 hw1 ?_
      clear gw gb st1 k1 k2 k3 k4
      -- the first sum
      have g := cz_sum (d := d) (r := rb ++ (lwC m acc.length f1 f2 f3 ++ Y)) ho hK hT1 hr1 hlr
      generalize pT K V (t + 1) = rr at g ⊢
      cases rr with
      | inl e =>
        obtain ⟨c', X, h1, h2, h3, h4, h5⟩ := g
        refine ⟨c', X0 ++ (lwC m acc.length f1 f2 f3 ++ Y) ++ X, h1, h2, h3, BZ_app hB1 h4, ?_⟩
        rw [h5, apB hrb]
        rfl
      | inr x =>
      obtain ⟨c2, Z1, a1, h1, hT2, hw2, hr2, hz, hS, h7⟩ := g
      have hS1 := SA_lw hm hS
      have e1 : rb ++ (lwC m acc.length f1 f2 f3 ++ Y) ++ Z1 = rb ++ (lwC m acc.length f1 f2 f3 ++ (Y ++ Z1)) := by rw [List.append_assoc, List.append_assoc]
      rw [e1] at h7
      have kp := (lw_put (c := c2) (ifs := acc.length) (f1 := f1) (f2 := f2) (f3 := f3) ho hm hm6 hS1 (j := acc.length)).1 (by omega)
      have hB2 := BZ_s hB1 hz
      have hL2 := LBs_Y (Z := Z1) hL
      generalize Y ++ Z1 = Y2 at h7 kp hB2 hL2 hS1
      have hB2 := BZ_w (j := acc.length) (g1 := va_up f1 acc.length (some a1)) (g2 := f2) (g3 := f3) hB2
      rw [h7]
      refine LX_c h1 hw2 ?_
      obtain ⟨t2, A⟩ := x
      dsimp only at hT2 hr2 hB2 hS1 ⊢
      have ht2 := hr2.1
      have gs := c_sgn (d := d + 21) (r := rb ++ (lwC m acc.length (va_up f1 acc.length (some a1)) f2 f3 ++ Y2)) (k := 13) ho hT2.1 hK hr2 hT2.2.1 (by omega)
      rw [show cwk 13 = 60 from rfl] at gs
      unfold stp at gs
      show LX o r0 X0 c2 K F L R m _ (qm K 13 t2 _)
      rw [qm_e]
      have st2 : ((some (.inl (some (.ref a1)), cm_h o c2 (rb ++ (lwC m acc.length f1 f2 f3 ++ Y2))) : Option jv_R).bind fun q => jv_on q (fun v h => jv_ev (d + 26) 193 44 [some (.ref 59), some (.ref m)] (v.toList ++ [.int (nI acc.length), .ref (m + 1)]) h) (fun q h => some (.inr q, h))) = (jv_cd (d + 26) 194 [.ref 59, .int (nI 60)] (cm_h o c2 (rb ++ (lwC m acc.length (va_up f1 acc.length (some a1)) f2 f3 ++ Y2)))).bind fun q => jv_on q (fun v h => jv_ev (d + 26) 193 51 [some (.ref 59), some (.ref m)] (v.toList ++ []) h) (fun q h => some (.inr q, h)) := by
        simp (disch := omega) only [il_0, il_1, il_2, il_3, il_4, il_5, il_6, il_7, il_8, il_9, il_10, il_11, il_12, il_13, il_14, il_15, il_16, il_17, il_18, il_19, il_20, il_21, il_22, il_23, il_24, il_25, il_26, il_27, il_28, il_29, il_30, il_31, il_32, il_40, il_41, il_42, il_43, il_44, il_45, il_46, il_47, il_48, il_52, il_56, il_57, il_59, il_60, il_61, il_63, il_64, il_68, il_72, il_75, il_76, il_82, il_88, il_89, il_90, il_92, il_96, il_97, il_99, il_100, il_101, il_102, il_103, il_104, il_105, il_107, il_108, il_109, il_110, il_111, il_112, il_114, il_115, il_116, il_117, il_118, il_119, il_121, il_122, il_130, il_200, il_255, il_256, il_260, il_276, il_400, il_403, il_420, il_840, il_999, il_1000, il_2000, il_2001, il_2668, il_2760, il_9999, il_12345, il_1000000, il_1103515245, ↓im_1, ↓im_2, ↓im_8, ↓im_1000, nI_add, pk_mul, pk_sub, ↓pk_rem, pk_div, nm_add, nI_clamp, nI_ltI, nI_leI, nI_eq, nm_eq, mn_eq, mm_eq, nm_lt, mn_lt, nm_le, mn_le, nl_T, nl_F, nle_T, nle_F, ne_T, ne_F, b2i_0, b2i_1, b2i_n, nb_0, nb_1, or_false, false_or, or_true, true_or, and_true, true_and, and_false, false_and, or_self, and_self, not_true_eq_false, not_false_eq_true, ↓reduceIte, if_true, if_false, ↓jv_bs, ↓jv_ol, ↓jv_or, jv_tl, jv_tn, jo_T, ck_2_166_17, ck_6_43_16, ck_6_43_17, ck_6_73_16, ck_7_65_17, ck_30_10_19, su_F, e193_44, e193_45, e193_46, e193_48, ↓cr_50b ho, ↓cr_51b ho, ↓cr_52b ho, ↓cr_59b ho, ↓crlb ho, ci1, ci2, ca1, ca2, ca3, cL1, cL2, cL3, cL4, cx1, cx2, cx3, cx4, cy1, cy2, cy3, cy4, jn_0, Nat.reduceEqDiff, ↓jbH kp]
      rw [st2, gs]
      clear st2 gs kp h7
      by_cases hk2 : K t2 = 13
      · rw [if_pos hk2, if_pos hk2]
        by_cases h42 : t2 = 400
        · rw [if_pos h42, if_pos h42]
          refine FT_f hB2 ?_
          rw [apA hrb]
          rfl
        rw [if_neg h42, if_neg h42]
        have hr3 := RC3_s hr2 h42 (by omega) (by omega)
        have hT3 := CT_go hT2
        have hc3 : CP c2 (cs_i c2 50 (nI (t2 + 1))) := CP_i (by omega)
        have hB3 := BZ_le hB2 (Nat.le_succ t2)
        generalize hc3e : cs_i c2 50 (nI (t2 + 1)) = c3 at hT3 hc3
        have hw3 : c3.1 52 = c2.1 52 ∧ c3.1 53 = c2.1 53 := by rw [← hc3e]; exact ⟨rfl, rfl⟩
        refine LX_c hc3 hw3 ?_
        generalize hg1 : va_up f1 acc.length (some a1) = g1 at hB3
        obtain ⟨k1, k2, k3, k4⟩ := lwf (c := c3) (Y := Y2) (ifs := acc.length) (f1 := g1) (f2 := f2) (f3 := f3) ho hm
        have st3 : ((some (.inl none, cm_h o c3 (rb ++ (lwC m acc.length g1 f2 f3 ++ Y2))) : Option jv_R).bind fun q => jv_on q (fun v h => jv_ev (d + 26) 193 51 [some (.ref 59), some (.ref m)] (v.toList ++ []) h) (fun q h => some (.inr q, h))) = (jv_cd (d + 26) 198 [.ref 59] (cm_h o c3 (rb ++ (lwC m acc.length g1 f2 f3 ++ Y2)))).bind fun q => jv_on q (fun v h => jv_ev (d + 26) 193 63 [some (.ref 59), some (.ref m)] (v.toList ++ [.int (nI acc.length), .ref (m + 2)]) h) (fun q h => some (.inr q, h)) := by
          simp (disch := omega) only [il_0, il_1, il_2, il_3, il_4, il_5, il_6, il_7, il_8, il_9, il_10, il_11, il_12, il_13, il_14, il_15, il_16, il_17, il_18, il_19, il_20, il_21, il_22, il_23, il_24, il_25, il_26, il_27, il_28, il_29, il_30, il_31, il_32, il_40, il_41, il_42, il_43, il_44, il_45, il_46, il_47, il_48, il_52, il_56, il_57, il_59, il_60, il_61, il_63, il_64, il_68, il_72, il_75, il_76, il_82, il_88, il_89, il_90, il_92, il_96, il_97, il_99, il_100, il_101, il_102, il_103, il_104, il_105, il_107, il_108, il_109, il_110, il_111, il_112, il_114, il_115, il_116, il_117, il_118, il_119, il_121, il_122, il_130, il_200, il_255, il_256, il_260, il_276, il_400, il_403, il_420, il_840, il_999, il_1000, il_2000, il_2001, il_2668, il_2760, il_9999, il_12345, il_1000000, il_1103515245, ↓im_1, ↓im_2, ↓im_8, ↓im_1000, nI_add, pk_mul, pk_sub, ↓pk_rem, pk_div, nm_add, nI_clamp, nI_ltI, nI_leI, nI_eq, nm_eq, mn_eq, mm_eq, nm_lt, mn_lt, nm_le, mn_le, nl_T, nl_F, nle_T, nle_F, ne_T, ne_F, b2i_0, b2i_1, b2i_n, nb_0, nb_1, or_false, false_or, or_true, true_or, and_true, true_and, and_false, false_and, or_self, and_self, not_true_eq_false, not_false_eq_true, ↓reduceIte, if_true, if_false, ↓jv_bs, ↓jv_ol, ↓jv_or, jv_tl, jv_tn, jo_T, ck_2_166_17, ck_6_43_16, ck_6_43_17, ck_6_73_16, ck_7_65_17, ck_30_10_19, su_F, e193_51, e193_52, e193_55, e193_56, e193_59, e193_60, ↓cr_50b ho, ↓cr_51b ho, ↓cr_52b ho, ↓cr_59b ho, ↓crlb ho, ci1, ci2, ca1, ca2, ca3, cL1, cL2, cL3, cL4, cx1, cx2, cx3, cx4, cy1, cy2, cy3, cy4, jn_0, Nat.reduceEqDiff, ↓jb k2, ↓jb k4]
        rw [st3]
        clear st3 k1 k2 k3 k4
        have g := cz_sum (d := d) (r := rb ++ (lwC m acc.length g1 f2 f3 ++ Y2)) ho hK hT3 hr3 hlr
        dsimp only
        generalize pT K V (t2 + 1) = rr at g ⊢
        cases rr with
        | inl e =>
          obtain ⟨c', X, h1, h2, h3, h4, h5⟩ := g
          refine ⟨c', X0 ++ (lwC m acc.length g1 f2 f3 ++ Y2) ++ X, h1, h2, h3, BZ_app hB3 h4, ?_⟩
          rw [h5, apB hrb]
          rfl
        | inr x =>
        obtain ⟨c4, Z2, a2, h1, hT4, hw4, hr4, hz, hS, h7⟩ := g
        have hS2 := SA_lw hm hS
        have e1 : rb ++ (lwC m acc.length g1 f2 f3 ++ Y2) ++ Z2 = rb ++ (lwC m acc.length g1 f2 f3 ++ (Y2 ++ Z2)) := by rw [List.append_assoc, List.append_assoc]
        rw [e1] at h7
        have kp := (lw_put (c := c4) (ifs := acc.length) (f1 := g1) (f2 := f2) (f3 := f3) ho hm hm6 hS2 (j := acc.length)).2.1 (by omega)
        have hB4 := BZ_s hB3 hz
        have hL4 := LBs_Y (Z := Z2) hL2
        have hS1 := SA_gY (Z := Z2) hS1
        generalize Y2 ++ Z2 = Y4 at h7 kp hB4 hL4 hS1 hS2
        have hB4 := BZ_w (j := acc.length) (g1 := g1) (g2 := va_up f2 acc.length (some a2)) (g3 := f3) hB4
        rw [h7]
        refine LX_c h1 hw4 ?_
        obtain ⟨t4, B⟩ := x
        dsimp only at hT4 hr4 hB4 hS2 ⊢
        have ht44 := hr4.1
        have gs := c_wrd (d := d + 21) (r := rb ++ (lwC m acc.length g1 (va_up f2 acc.length (some a2)) f3 ++ Y4)) (k := 10) ho hT4.1 hK hr4 hT4.2.1 (by omega)
        unfold stp at gs
        show LX o r0 X0 c4 K F L R m _ (qm K 30 t4 _)
        rw [qm_e]
        have st4 : ((some (.inl (some (.ref a2)), cm_h o c4 (rb ++ (lwC m acc.length g1 f2 f3 ++ Y4))) : Option jv_R).bind fun q => jv_on q (fun v h => jv_ev (d + 26) 193 63 [some (.ref 59), some (.ref m)] (v.toList ++ [.int (nI acc.length), .ref (m + 2)]) h) (fun q h => some (.inr q, h))) = (jv_cd (d + 26) 201 [.ref 59, .int (nI 10)] (cm_h o c4 (rb ++ (lwC m acc.length g1 (va_up f2 acc.length (some a2)) f3 ++ Y4)))).bind fun q => jv_on q (fun v h => jv_ev (d + 26) 193 70 [some (.ref 59), some (.ref m)] (v.toList ++ []) h) (fun q h => some (.inr q, h)) := by
          simp (disch := omega) only [il_0, il_1, il_2, il_3, il_4, il_5, il_6, il_7, il_8, il_9, il_10, il_11, il_12, il_13, il_14, il_15, il_16, il_17, il_18, il_19, il_20, il_21, il_22, il_23, il_24, il_25, il_26, il_27, il_28, il_29, il_30, il_31, il_32, il_40, il_41, il_42, il_43, il_44, il_45, il_46, il_47, il_48, il_52, il_56, il_57, il_59, il_60, il_61, il_63, il_64, il_68, il_72, il_75, il_76, il_82, il_88, il_89, il_90, il_92, il_96, il_97, il_99, il_100, il_101, il_102, il_103, il_104, il_105, il_107, il_108, il_109, il_110, il_111, il_112, il_114, il_115, il_116, il_117, il_118, il_119, il_121, il_122, il_130, il_200, il_255, il_256, il_260, il_276, il_400, il_403, il_420, il_840, il_999, il_1000, il_2000, il_2001, il_2668, il_2760, il_9999, il_12345, il_1000000, il_1103515245, ↓im_1, ↓im_2, ↓im_8, ↓im_1000, nI_add, pk_mul, pk_sub, ↓pk_rem, pk_div, nm_add, nI_clamp, nI_ltI, nI_leI, nI_eq, nm_eq, mn_eq, mm_eq, nm_lt, mn_lt, nm_le, mn_le, nl_T, nl_F, nle_T, nle_F, ne_T, ne_F, b2i_0, b2i_1, b2i_n, nb_0, nb_1, or_false, false_or, or_true, true_or, and_true, true_and, and_false, false_and, or_self, and_self, not_true_eq_false, not_false_eq_true, ↓reduceIte, if_true, if_false, ↓jv_bs, ↓jv_ol, ↓jv_or, jv_tl, jv_tn, jo_T, ck_2_166_17, ck_6_43_16, ck_6_43_17, ck_6_73_16, ck_7_65_17, ck_30_10_19, su_F, e193_63, e193_64, e193_65, e193_67, ↓cr_50b ho, ↓cr_51b ho, ↓cr_52b ho, ↓cr_59b ho, ↓crlb ho, ci1, ci2, ca1, ca2, ca3, cL1, cL2, cL3, cL4, cx1, cx2, cx3, cx4, cy1, cy2, cy3, cy4, jn_0, Nat.reduceEqDiff, ↓jbH kp]
        rw [st4, gs]
        clear st4 gs kp h7
        by_cases hk4 : K t4 = 30
        · rw [if_pos hk4, if_pos hk4]
          by_cases h44 : t4 = 400
          · rw [if_pos h44, if_pos h44]
            refine FT_f hB4 ?_
            rw [apA hrb]
            rfl
          rw [if_neg h44, if_neg h44]
          have hr5 := RC3_s hr4 h44 (by omega) (by omega)
          have hT5 := CT_go hT4
          have hc5 : CP c4 (cs_i c4 50 (nI (t4 + 1))) := CP_i (by omega)
          have hB5 := BZ_le hB4 (Nat.le_succ t4)
          generalize hc5e : cs_i c4 50 (nI (t4 + 1)) = c5 at hT5 hc5
          have hw5 : c5.1 52 = c4.1 52 ∧ c5.1 53 = c4.1 53 := by rw [← hc5e]; exact ⟨rfl, rfl⟩
          refine LX_c hc5 hw5 ?_
          generalize hg2 : va_up f2 acc.length (some a2) = g2 at hB5
          obtain ⟨k1, k2, k3, k4⟩ := lwf (c := c5) (Y := Y4) (ifs := acc.length) (f1 := g1) (f2 := g2) (f3 := f3) ho hm
          have st5 : ((some (.inl none, cm_h o c5 (rb ++ (lwC m acc.length g1 g2 f3 ++ Y4))) : Option jv_R).bind fun q => jv_on q (fun v h => jv_ev (d + 26) 193 70 [some (.ref 59), some (.ref m)] (v.toList ++ []) h) (fun q h => some (.inr q, h))) = (jv_cd (d + 26) 198 [.ref 59] (cm_h o c5 (rb ++ (lwC m acc.length g1 g2 f3 ++ Y4)))).bind fun q => jv_on q (fun v h => jv_ev (d + 26) 193 82 [some (.ref 59), some (.ref m)] (v.toList ++ [.int (nI acc.length), .ref (m + 3)]) h) (fun q h => some (.inr q, h)) := by
            simp (disch := omega) only [il_0, il_1, il_2, il_3, il_4, il_5, il_6, il_7, il_8, il_9, il_10, il_11, il_12, il_13, il_14, il_15, il_16, il_17, il_18, il_19, il_20, il_21, il_22, il_23, il_24, il_25, il_26, il_27, il_28, il_29, il_30, il_31, il_32, il_40, il_41, il_42, il_43, il_44, il_45, il_46, il_47, il_48, il_52, il_56, il_57, il_59, il_60, il_61, il_63, il_64, il_68, il_72, il_75, il_76, il_82, il_88, il_89, il_90, il_92, il_96, il_97, il_99, il_100, il_101, il_102, il_103, il_104, il_105, il_107, il_108, il_109, il_110, il_111, il_112, il_114, il_115, il_116, il_117, il_118, il_119, il_121, il_122, il_130, il_200, il_255, il_256, il_260, il_276, il_400, il_403, il_420, il_840, il_999, il_1000, il_2000, il_2001, il_2668, il_2760, il_9999, il_12345, il_1000000, il_1103515245, ↓im_1, ↓im_2, ↓im_8, ↓im_1000, nI_add, pk_mul, pk_sub, ↓pk_rem, pk_div, nm_add, nI_clamp, nI_ltI, nI_leI, nI_eq, nm_eq, mn_eq, mm_eq, nm_lt, mn_lt, nm_le, mn_le, nl_T, nl_F, nle_T, nle_F, ne_T, ne_F, b2i_0, b2i_1, b2i_n, nb_0, nb_1, or_false, false_or, or_true, true_or, and_true, true_and, and_false, false_and, or_self, and_self, not_true_eq_false, not_false_eq_true, ↓reduceIte, if_true, if_false, ↓jv_bs, ↓jv_ol, ↓jv_or, jv_tl, jv_tn, jo_T, ck_2_166_17, ck_6_43_16, ck_6_43_17, ck_6_73_16, ck_7_65_17, ck_30_10_19, su_F, e193_70, e193_71, e193_74, e193_75, e193_78, e193_79, ↓cr_50b ho, ↓cr_51b ho, ↓cr_52b ho, ↓cr_59b ho, ↓crlb ho, ci1, ci2, ca1, ca2, ca3, cL1, cL2, cL3, cL4, cx1, cx2, cx3, cx4, cy1, cy2, cy3, cy4, jn_0, Nat.reduceEqDiff, ↓jb k3, ↓jb k4]
          rw [st5]
          clear st5 k1 k2 k3 k4
          have g := cz_sum (d := d) (r := rb ++ (lwC m acc.length g1 g2 f3 ++ Y4)) ho hK hT5 hr5 hlr
          dsimp only
          generalize pT K V (t4 + 1) = rr at g ⊢
          cases rr with
          | inl e =>
            obtain ⟨c', X, h1, h2, h3, h4, h5⟩ := g
            refine ⟨c', X0 ++ (lwC m acc.length g1 g2 f3 ++ Y4) ++ X, h1, h2, h3, BZ_app hB5 h4, ?_⟩
            rw [h5, apB hrb]
            rfl
          | inr x =>
          obtain ⟨c6, Z3, a3, h1, hT6, hw6, hr6, hz, hS, h7⟩ := g
          have hS3 := SA_lw hm hS
          have e1 : rb ++ (lwC m acc.length g1 g2 f3 ++ Y4) ++ Z3 = rb ++ (lwC m acc.length g1 g2 f3 ++ (Y4 ++ Z3)) := by rw [List.append_assoc, List.append_assoc]
          rw [e1] at h7
          have kp := (lw_put (c := c6) (ifs := acc.length) (f1 := g1) (f2 := g2) (f3 := f3) ho hm hm6 hS3 (j := acc.length)).2.2 (by omega)
          have hB6 := BZ_s hB5 hz
          have hL6 := LBs_Y (Z := Z3) hL4
          have hS1 := SA_gY (Z := Z3) hS1
          have hS2 := SA_gY (Z := Z3) hS2
          generalize Y4 ++ Z3 = Y6 at h7 kp hB6 hL6 hS1 hS2 hS3
          have hB6 := BZ_w (j := acc.length) (g1 := g1) (g2 := g2) (g3 := va_up f3 acc.length (some a3)) hB6
          rw [h7]
          refine LX_c h1 hw6 ?_
          obtain ⟨t6, C⟩ := x
          dsimp only at hT6 hr6 hB6 hS3 ⊢
          have ht66 := hr6.1
          have gs := c_wrd (d := d + 21) (r := rb ++ (lwC m acc.length g1 g2 (va_up f3 acc.length (some a3)) ++ Y6)) (k := 11) ho hT6.1 hK hr6 hT6.2.1 (by omega)
          unfold stp at gs
          show LX o r0 X0 c6 K F L R m _ (qm K 31 t6 _)
          rw [qm_e]
          have st6 : ((some (.inl (some (.ref a3)), cm_h o c6 (rb ++ (lwC m acc.length g1 g2 f3 ++ Y6))) : Option jv_R).bind fun q => jv_on q (fun v h => jv_ev (d + 26) 193 82 [some (.ref 59), some (.ref m)] (v.toList ++ [.int (nI acc.length), .ref (m + 3)]) h) (fun q h => some (.inr q, h))) = (jv_cd (d + 26) 201 [.ref 59, .int (nI 11)] (cm_h o c6 (rb ++ (lwC m acc.length g1 g2 (va_up f3 acc.length (some a3)) ++ Y6)))).bind fun q => jv_on q (fun v h => jv_ev (d + 26) 193 89 [some (.ref 59), some (.ref m)] (v.toList ++ []) h) (fun q h => some (.inr q, h)) := by
            simp (disch := omega) only [il_0, il_1, il_2, il_3, il_4, il_5, il_6, il_7, il_8, il_9, il_10, il_11, il_12, il_13, il_14, il_15, il_16, il_17, il_18, il_19, il_20, il_21, il_22, il_23, il_24, il_25, il_26, il_27, il_28, il_29, il_30, il_31, il_32, il_40, il_41, il_42, il_43, il_44, il_45, il_46, il_47, il_48, il_52, il_56, il_57, il_59, il_60, il_61, il_63, il_64, il_68, il_72, il_75, il_76, il_82, il_88, il_89, il_90, il_92, il_96, il_97, il_99, il_100, il_101, il_102, il_103, il_104, il_105, il_107, il_108, il_109, il_110, il_111, il_112, il_114, il_115, il_116, il_117, il_118, il_119, il_121, il_122, il_130, il_200, il_255, il_256, il_260, il_276, il_400, il_403, il_420, il_840, il_999, il_1000, il_2000, il_2001, il_2668, il_2760, il_9999, il_12345, il_1000000, il_1103515245, ↓im_1, ↓im_2, ↓im_8, ↓im_1000, nI_add, pk_mul, pk_sub, ↓pk_rem, pk_div, nm_add, nI_clamp, nI_ltI, nI_leI, nI_eq, nm_eq, mn_eq, mm_eq, nm_lt, mn_lt, nm_le, mn_le, nl_T, nl_F, nle_T, nle_F, ne_T, ne_F, b2i_0, b2i_1, b2i_n, nb_0, nb_1, or_false, false_or, or_true, true_or, and_true, true_and, and_false, false_and, or_self, and_self, not_true_eq_false, not_false_eq_true, ↓reduceIte, if_true, if_false, ↓jv_bs, ↓jv_ol, ↓jv_or, jv_tl, jv_tn, jo_T, ck_2_166_17, ck_6_43_16, ck_6_43_17, ck_6_73_16, ck_7_65_17, ck_30_10_19, su_F, e193_82, e193_83, e193_84, e193_86, ↓cr_50b ho, ↓cr_51b ho, ↓cr_52b ho, ↓cr_59b ho, ↓crlb ho, ci1, ci2, ca1, ca2, ca3, cL1, cL2, cL3, cL4, cx1, cx2, cx3, cx4, cy1, cy2, cy3, cy4, jn_0, Nat.reduceEqDiff, ↓jbH kp]
          rw [st6, gs]
          clear st6 gs kp h7
          by_cases hk6 : K t6 = 31
          · rw [if_pos hk6, if_pos hk6]
            by_cases h46 : t6 = 400
            · rw [if_pos h46, if_pos h46]
              refine FT_f hB6 ?_
              rw [apA hrb]
              rfl
            rw [if_neg h46, if_neg h46]
            have hr7 := RC3_s hr6 h46 (by omega) (by omega)
            have hT7 := CT_go hT6
            have hc7 : CP c6 (cs_i c6 50 (nI (t6 + 1))) := CP_i (by omega)
            have hB7 := BZ_le hB6 (Nat.le_succ t6)
            generalize hc7e : cs_i c6 50 (nI (t6 + 1)) = c7 at hT7 hc7
            have hw7 : c7.1 52 = c6.1 52 ∧ c7.1 53 = c6.1 53 := by rw [← hc7e]; exact ⟨rfl, rfl⟩
            refine LX_c hc7 hw7 ?_
            generalize hg3 : va_up f3 acc.length (some a3) = g3 at hB7
            obtain ⟨k1, k2, k3, k4⟩ := lwf (c := c7) (Y := Y6) (ifs := acc.length) (f1 := g1) (f2 := g2) (f3 := g3) ho hm
            have ki := lwi (c := c7) (Y := Y6) (ifs := acc.length) (k := acc.length + 1) (f1 := g1) (f2 := g2) (f3 := g3) ho hm hm6
            have st7 : ((some (.inl none, cm_h o c7 (rb ++ (lwC m acc.length g1 g2 g3 ++ Y6))) : Option jv_R).bind fun q => jv_on q (fun v h => jv_ev (d + 26) 193 89 [some (.ref 59), some (.ref m)] (v.toList ++ []) h) (fun q h => some (.inr q, h))) = jv_ev (d + 26) 193 14 [some (.ref 59), some (.ref m)] [] (cm_h o c7 (rb ++ (lwC m (acc.length + 1) g1 g2 g3 ++ Y6))) := by
              simp (disch := omega) only [il_0, il_1, il_2, il_3, il_4, il_5, il_6, il_7, il_8, il_9, il_10, il_11, il_12, il_13, il_14, il_15, il_16, il_17, il_18, il_19, il_20, il_21, il_22, il_23, il_24, il_25, il_26, il_27, il_28, il_29, il_30, il_31, il_32, il_40, il_41, il_42, il_43, il_44, il_45, il_46, il_47, il_48, il_52, il_56, il_57, il_59, il_60, il_61, il_63, il_64, il_68, il_72, il_75, il_76, il_82, il_88, il_89, il_90, il_92, il_96, il_97, il_99, il_100, il_101, il_102, il_103, il_104, il_105, il_107, il_108, il_109, il_110, il_111, il_112, il_114, il_115, il_116, il_117, il_118, il_119, il_121, il_122, il_130, il_200, il_255, il_256, il_260, il_276, il_400, il_403, il_420, il_840, il_999, il_1000, il_2000, il_2001, il_2668, il_2760, il_9999, il_12345, il_1000000, il_1103515245, ↓im_1, ↓im_2, ↓im_8, ↓im_1000, nI_add, pk_mul, pk_sub, ↓pk_rem, pk_div, nm_add, nI_clamp, nI_ltI, nI_leI, nI_eq, nm_eq, mn_eq, mm_eq, nm_lt, mn_lt, nm_le, mn_le, nl_T, nl_F, nle_T, nle_F, ne_T, ne_F, b2i_0, b2i_1, b2i_n, nb_0, nb_1, or_false, false_or, or_true, true_or, and_true, true_and, and_false, false_and, or_self, and_self, not_true_eq_false, not_false_eq_true, ↓reduceIte, if_true, if_false, ↓jv_bs, ↓jv_ol, ↓jv_or, jv_tl, jv_tn, jo_T, ck_2_166_17, ck_6_43_16, ck_6_43_17, ck_6_73_16, ck_7_65_17, ck_30_10_19, su_F, e193_89, e193_90, e193_91, e193_94, e193_95, e193_96, e193_99, ↓cr_50b ho, ↓cr_51b ho, ↓cr_52b ho, ↓cr_59b ho, ↓crlb ho, ci1, ci2, ca1, ca2, ca3, cL1, cL2, cL3, cL4, cx1, cx2, cx3, cx4, cy1, cy2, cy3, cy4, jn_0, Nat.reduceEqDiff, ↓jb k4, ↓jbH ki]
            rw [st7]
            have hal : (acc ++ [(A, B, C)]).length = acc.length + 1 := by rw [List.length_append]; rfl
            rw [← hal]
            refine ih (t6 + 1) (acc ++ [(A, B, C)]) c7 g1 g2 g3 Y6 (by omega) hT7 hr7 (BZ_w hB7) fun i x hx => ?_
            by_cases hi : i < acc.length
            · rw [List.getElem?_append_left hi] at hx
              obtain ⟨p, q, s, j1, j2, j3, j4, j5, j6⟩ := hL6 i x hx
              refine ⟨p, q, s, ?_, ?_, ?_, j4, j5, j6⟩
              · rw [← hg1]; exact (va_un (by omega)).trans j1
              · rw [← hg2]; exact (va_un (by omega)).trans j2
              · rw [← hg3]; exact (va_un (by omega)).trans j3
            · have hi2 : i = acc.length := by
                have := (List.getElem?_eq_some_iff.mp hx).1
                omega
              subst hi2
              rw [List.getElem?_append_right (Nat.le_refl _), Nat.sub_self] at hx
              obtain rfl := Option.some.inj hx
              refine ⟨a1, a2, a3, ?_, ?_, ?_, hS1, hS2, hS3⟩
              · rw [← hg1]; exact va_us
              · rw [← hg2]; exact va_us
              · rw [← hg3]; exact va_us
          · rw [if_neg hk6, if_neg hk6]
            refine FT_f hB6 ?_
            rw [apA hrb]
            rfl
        · rw [if_neg hk4, if_neg hk4]
          refine FT_f hB4 ?_
          rw [apA hrb]
          rfl
      · rw [if_neg hk2, if_neg hk2]
        refine FT_f hB2 ?_
        rw [apA hrb]
        rfl
    · have e : pIf K V (n + 1) t acc = qb (pT K V t) fun u cd => .inr (u, (acc, cd)) := if_neg hk
      rw [e]
      exact c_lawEnd ho hK hrb hm hm6 hT hr hB hL (by omega) hk
end
