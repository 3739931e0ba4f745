/-! the component: a law -/
/-- cells behind an address, as a list -/
def gY (m : Nat) (Y : jv_H) : Nat → Option jv_C := fun k => if m ≤ k then Y[k - m]? else none
/-- room for what is made -/
def BZ (X : jv_H) (t : Nat) : Prop := X.length ≤ 10 + 5 * t ∧ sn_z X ≤ 100 + 40 * t
/-- a fault ends it -/
def FT (o r0 : jv_H) (c : cm_S) (F : Nat → Nat) (e : Nat × Nat) (run : Option jv_R) : Prop := ∃ c' X, CP c c' ∧ c'.1 30 = nI e.1 ∧ c'.1 31 = nI (F e.2) ∧ BZ X e.2 ∧ run = some (.inr 51, cm_h o c' (r0 ++ X))
section
variable {d t n i m k a b u : Nat} {o r r0 X Y : jv_H} {c c' c2 : cm_S} {K V F N L : Nat → Nat} {R : Nat → Nat → Nat} {w : Wt} {cd : Cd}
theorem BZ_le (h : BZ X t) (ht : t ≤ u) : BZ X u := ⟨by have := h.1; omega, by have := h.2; omega⟩
theorem BZ_app (h : BZ X t) (hY : Y.length + t ≤ u ∧ sn_z Y + 3 * t ≤ 3 * u) : BZ (X ++ Y) u := by
  obtain ⟨h1, h2⟩ := h
  exact ⟨by rw [List.length_append]; omega, by rw [sz_app]; omega⟩
theorem FT_f {run : Option jv_R} {e x : Nat} (hB : BZ X x) (hr : run = some (.inr 51, cm_h o (fcS c (nI e) (nI (F x))) (r0 ++ X))) : FT o r0 c F (e, x) run := ⟨_, X, CP_f, rfl, rfl, hB, hr⟩
theorem FT_c {run : Option jv_R} {e : Nat × Nat} (hc : CP c c') (h : FT o r0 c' F e run) : FT o r0 c F e run := by
  obtain ⟨c2, X, h1, h2⟩ := h
  exact ⟨c2, X, CP_tr hc h1, h2⟩
/-- a sum, at the outermost -/
theorem cz_sum (ho : o.length = 50) (hK : EK K V L R) (hT : CT c K F L R t 0) (hr : RC3 K t) (hl : 47 ≤ r.length) : match pT K V t with
    | .inl e => ∃ c' X, CP c c' ∧ c'.1 30 = nI e.1 ∧ c'.1 31 = nI (F e.2) ∧ (X.length + t ≤ e.2 ∧ sn_z X + 3 * t ≤ 3 * e.2) ∧ jv_cd (d + 26) 198 [.ref 59] (cm_h o c r) = some (.inr 51, cm_h o c' (r ++ X))
    | .inr x => ∃ c' X a, CP c c' ∧ CT c' K F L R x.1 0 ∧ (c'.1 52 = c.1 52 ∧ c'.1 53 = c.1 53) ∧ RC3 K x.1 ∧ (X.length + t ≤ x.1 ∧ sn_z X + 3 * t ≤ 3 * x.1) ∧ SA (gR (589 + r.length) (r ++ X)) 401 a x.2 ∧ jv_cd (d + 26) 198 [.ref 59] (cm_h o c r) = some (.inl (some (.ref a)), cm_h o c' (r ++ X)) := by
  have g := (c_all (d := d) (F := F) ho hK 2000).2.2.1 (d + 18) 0 t c r [] rfl (Nat.zero_le _) hT hr hl
  have hk := pT_k (K := K) (V := V) hr.1
  change SX o c r K F (589 + r.length) 0 t (jv_cd (d + 26) 198 [.ref 59] (cm_h o c r)) (pT K V t) at g
  generalize pT K V t = rr at g hk ⊢
  cases rr with
  | inl e =>
    rcases g with g | g
    · exact absurd hk.1 (by omega)
    · exact g
  | inr x =>
    obtain ⟨c', X, a, h1, h3, h4, h5, h6, h7, h8, h9⟩ := g
    exact ⟨c', X, a, h1, ⟨CE_CP hT.1 h1, h3, h4⟩, h5, h6, h7, SA_le h8 (by have := hk.2.2.1.2.2.2; omega), h9⟩
theorem SA_1 {g : Nat → Option jv_C} (h : SA g n a cd) : txS a ∧ ∃ ci fs, g a = some (.inr (ci, fs)) ∧ (ci = 13 ∨ ci = 14 ∨ ci = 15) := by
  cases n with
  | zero => exact h.elim
  | succ n =>
    refine ⟨h.1, ?_⟩
    rcases h.2 with ⟨x, h1, _⟩ | ⟨k, _, h1, _⟩ | ⟨o, a', b', ca, cb, _, h1, _⟩
    · exact ⟨13, _, h1, Or.inl rfl⟩
    · exact ⟨14, _, h1, Or.inr (Or.inl rfl)⟩
    · exact ⟨15, _, h1, Or.inr (Or.inr rfl)⟩
theorem fitA_S {h : jv_H} {ci : Nat} {fs : List Value} (hc : h[a]? = some (.inr (ci, fs))) (hi : ci = 13 ∨ ci = 14 ∨ ci = 15) : jv_fitA h 8 a = true := by
  unfold jv_fitA
  rw [hc]
  rcases hi with rfl | rfl | rfl <;> rfl
theorem jv_rp_at {h : jv_H} {tc n j : Nat} {f : Nat → Option Nat} {x : Nat} (hc : h[a]? = some (.inl (tc, n, .inr (.inr (.inr (.inr f)))))) (ha : jt_off ≤ a) (hf : jv_fitA h tc x = true) (hj : j < n) (hn : n < 2 ^ 31) : jv_rp h a (nI j) x = some (h.set a (.inl (tc, n, .inr (.inr (.inr (.inr (va_up f j (some x)))))))) := by
  unfold jv_rp
  rw [hc]
  dsimp only
  rw [if_pos ⟨ha, hf, nI_in hj hn⟩, nI_clamp (by omega)]
end
/-- the cells of a law -/
def lwC (m ifs : Nat) (f1 f2 f3 : Nat → Option Nat) : jv_H := [.inr (12, [.ref (m + 1), .ref (m + 2), .ref (m + 3), .int (nI ifs)]), .inl (8, 4, .inr (.inr (.inr (.inr f1)))), .inl (8, 4, .inr (.inr (.inr (.inr f2)))), .inl (8, 5, .inr (.inr (.inr (.inr f3))))]
section
variable {d t n i m k a b u ifs : Nat} {o r r0 rb X Y : jv_H} {c c' c2 : cm_S} {K V F N L : Nat → Nat} {R : Nat → Nat → Nat} {w : Wt} {cd : Cd} {f1 f2 f3 : Nat → Option Nat}
theorem lwc_g (ho : o.length = 50) (hm : m = 589 + rb.length) (j : Nat) {x : jv_C} (hx : (lwC m ifs f1 f2 f3)[j]? = some x) : (cm_h o c (rb ++ (lwC m ifs f1 f2 f3 ++ Y)))[m + j]? = some x := by
  have hj : j < (lwC m ifs f1 f2 f3).length := (List.getElem?_eq_some_iff.mp hx).1
  subst hm
  rw [Nat.add_assoc, cm_hi ho, List.getElem?_append_right (by omega), Nat.add_sub_cancel_left, List.getElem?_append_left hj]
  exact hx
theorem lwc_s (ho : o.length = 50) (hm : m = 589 + rb.length) (j : Nat) {x : jv_C} {g1 g2 g3 : Nat → Option Nat} {ifs' : Nat} (hj : j < 4) (hx : (lwC m ifs f1 f2 f3).set j x = lwC m ifs' g1 g2 g3) : (cm_h o c (rb ++ (lwC m ifs f1 f2 f3 ++ Y))).set (m + j) x = cm_h o c (rb ++ (lwC m ifs' g1 g2 g3 ++ Y)) := by
  subst hm
  rw [Nat.add_assoc, cm_sr ho, List.set_append_right _ _ (by omega), Nat.add_sub_cancel_left, List.set_append_left _ _ (show j < (lwC (589 + rb.length) ifs f1 f2 f3).length from hj), hx]
theorem lw_put (ho : o.length = 50) (hm : m = 589 + rb.length) (hm6 : 636 ≤ m) (hS : SA (gY (m + 4) Y) 401 a cd) {j : Nat} : (j < 4 → jv_rp (cm_h o c (rb ++ (lwC m ifs f1 f2 f3 ++ Y))) (m + 1) (nI j) a = some (cm_h o c (rb ++ (lwC m ifs (va_up f1 j (some a)) f2 f3 ++ Y)))) ∧ (j < 4 → jv_rp (cm_h o c (rb ++ (lwC m ifs f1 f2 f3 ++ Y))) (m + 2) (nI j) a = some (cm_h o c (rb ++ (lwC m ifs f1 (va_up f2 j (some a)) f3 ++ Y)))) ∧ (j < 5 → jv_rp (cm_h o c (rb ++ (lwC m ifs f1 f2 f3 ++ Y))) (m + 3) (nI j) a = some (cm_h o c (rb ++ (lwC m ifs f1 f2 (va_up f3 j (some a)) ++ Y)))) := by
  obtain ⟨htx, ci, fs, h1, h2⟩ := SA_1 hS
  unfold gY at h1
  split at h1
  · rename_i hka
    have hc : (cm_h o c (rb ++ (lwC m ifs f1 f2 f3 ++ Y)))[a]? = some (.inr (ci, fs)) := by
      obtain ⟨e, rfl⟩ : ∃ e, a = 589 + (rb.length + (4 + e)) := ⟨a - (m + 4), by omega⟩
      rw [cm_hi ho, List.getElem?_append_right (by omega), Nat.add_sub_cancel_left, List.getElem?_append_right (show (lwC m ifs f1 f2 f3).length ≤ 4 + e from Nat.le_add_right 4 e), show 4 + e - (lwC m ifs f1 f2 f3).length = e from Nat.add_sub_cancel_left (n := 4) (m := e)]
      rw [show 589 + (rb.length + (4 + e)) - (m + 4) = e by omega] at h1
      exact h1
    have hf := fitA_S hc h2
    refine ⟨fun hj => ?_, fun hj => ?_, fun hj => ?_⟩
    · rw [jv_rp_at (lwc_g ho hm 1 rfl) (by show 50 ≤ m + 1; omega) hf hj (by decide)]
      exact congrArg some (lwc_s ho hm 1 (by decide) rfl)
    · rw [jv_rp_at (lwc_g ho hm 2 rfl) (by show 50 ≤ m + 2; omega) hf hj (by decide)]
      exact congrArg some (lwc_s ho hm 2 (by decide) rfl)
    · rw [jv_rp_at (lwc_g ho hm 3 rfl) (by show 50 ≤ m + 3; omega) hf hj (by decide)]
      exact congrArg some (lwc_s ho hm 3 (by decide) rfl)
  · cases h1
theorem SA_gY {Z : jv_H} (h : SA (gY m Y) n a cd) : SA (gY m (Y ++ Z)) n a cd := SA_h (fun k _ c hc => by
  unfold gY at hc ⊢
  split at hc
  · rename_i hk
    rw [if_pos hk, List.getElem?_append_left (List.getElem?_eq_some_iff.mp hc).1]
    exact hc
  · cases hc) h
/-- a sum behind a law's cells -/
theorem SA_lw {Z : jv_H} (hm : m = 589 + rb.length) (h : SA (gR (589 + (rb ++ (lwC m ifs f1 f2 f3 ++ Y)).length) (rb ++ (lwC m ifs f1 f2 f3 ++ Y) ++ Z)) n a cd) : SA (gY (m + 4) (Y ++ Z)) n a cd := SA_h (fun k _ c hc => by
  have hl : (rb ++ (lwC m ifs f1 f2 f3 ++ Y)).length = rb.length + (4 + Y.length) := by
    rw [List.length_append, List.length_append]
    rfl
  unfold gR at hc
  unfold gY
  rw [hl] at hc
  split at hc
  · rename_i hk
    rw [if_pos (by omega)]
    obtain ⟨e, rfl⟩ : ∃ e, k = 589 + (rb.length + (4 + e)) := ⟨k - (m + 4), by omega⟩
    rw [Nat.add_sub_cancel_left, List.append_assoc, List.getElem?_append_right (by omega), Nat.add_sub_cancel_left, List.append_assoc, List.getElem?_append_right (show (lwC m ifs f1 f2 f3).length ≤ 4 + e from Nat.le_add_right 4 e), show 4 + e - (lwC m ifs f1 f2 f3).length = e from Nat.add_sub_cancel_left (n := 4) (m := e)] at hc
    rw [show 589 + (rb.length + (4 + e)) - (m + 4) = e by omega]
    exact hc
  · cases hc) h
theorem c_begins (ho : o.length = 50) (h2 : c.2.1 2 t = nI (F t)) (ht : t ≤ 400) (h50 : c.1 50 = nI t) {j k : Nat} (hj : j ≤ 99) (hk : k ≤ 99) : jv_cd (d + 5) 197 [.ref 59, .int (nI j), .int (nI k)] (cm_h o c r) = if j = k then some (.inr 51, cm_h o (fcS c (nI 2) (nI (F t))) r) else stp o r c F t := by
  have g2 := c_pass (d := d) (r := r) ho h2 ht h50
  have g3 := c_wrong (d := d + 1) (r := r) (c := c) (x := nI 2) ho h50 (by omega)
  rw [h2] at g3
  unfold stp
  by_cases h : j = k
  · rw [if_pos h]
    subst h
    simp (disch := omega) only [il_0, il_1, il_2, il_3, il_4, il_5, il_6, il_7, il_8, il_9, il_10, il_11, il_12, il_13, il_14, il_15, il_16, il_17, il_18, il_19, il_20, il_21, il_22, il_23, il_24, il_25, il_26, il_27, il_28, il_29, il_30, il_31, il_32, il_40, il_41, il_42, il_43, il_44, il_45, il_46, il_47, il_48, il_52, il_56, il_57, il_59, il_60, il_61, il_63, il_64, il_68, il_72, il_75, il_76, il_82, il_88, il_89, il_90, il_92, il_96, il_97, il_99, il_100, il_101, il_102, il_103, il_104, il_105, il_107, il_108, il_109, il_110, il_111, il_112, il_114, il_115, il_116, il_117, il_118, il_119, il_121, il_122, il_130, il_200, il_255, il_256, il_260, il_276, il_400, il_403, il_420, il_840, il_999, il_1000, il_2000, il_2001, il_2668, il_2760, il_9999, il_12345, il_1000000, il_1103515245, ↓im_1, ↓im_2, ↓im_8, ↓im_1000, nI_add, pk_mul, pk_sub, ↓pk_rem, pk_div, nm_add, nI_clamp, nI_ltI, nI_leI, nI_eq, nm_eq, mn_eq, mm_eq, nm_lt, mn_lt, nm_le, mn_le, nl_T, nl_F, nle_T, nle_F, ne_T, ne_F, b2i_0, b2i_1, b2i_n, nb_0, nb_1, or_false, false_or, or_true, true_or, and_true, true_and, and_false, false_and, or_self, and_self, not_true_eq_false, not_false_eq_true, ↓reduceIte, if_true, if_false, ↓jv_bs, ↓jv_ol, ↓jv_or, jv_tl, jv_tn, jo_T, ck_2_166_17, ck_6_43_16, ck_6_43_17, ck_6_73_16, ck_7_65_17, ck_30_10_19, su_F, e197_0, e197_1, e197_2, e197_5, e197_6, e197_7, e197_10, e197_11, e197_12, e197_15, ↓cr_50b ho, ↓cr_51b ho, ↓cr_52b ho, ↓cr_59b ho, ↓crlb ho, ci1, ci2, ca1, ca2, ca3, cL1, cL2, cL3, cL4, cx1, cx2, cx3, cx4, cy1, cy2, cy3, cy4, jn_0, Nat.reduceEqDiff, n197, ↓jbR g3, ↓c_thr ho]
  · rw [if_neg h]
    by_cases h4 : t = 400
    · rw [if_pos h4] at g2 ⊢
      simp (disch := omega) only [il_0, il_1, il_2, il_3, il_4, il_5, il_6, il_7, il_8, il_9, il_10, il_11, il_12, il_13, il_14, il_15, il_16, il_17, il_18, il_19, il_20, il_21, il_22, il_23, il_24, il_25, il_26, il_27, il_28, il_29, il_30, il_31, il_32, il_40, il_41, il_42, il_43, il_44, il_45, il_46, il_47, il_48, il_52, il_56, il_57, il_59, il_60, il_61, il_63, il_64, il_68, il_72, il_75, il_76, il_82, il_88, il_89, il_90, il_92, il_96, il_97, il_99, il_100, il_101, il_102, il_103, il_104, il_105, il_107, il_108, il_109, il_110, il_111, il_112, il_114, il_115, il_116, il_117, il_118, il_119, il_121, il_122, il_130, il_200, il_255, il_256, il_260, il_276, il_400, il_403, il_420, il_840, il_999, il_1000, il_2000, il_2001, il_2668, il_2760, il_9999, il_12345, il_1000000, il_1103515245, ↓im_1, ↓im_2, ↓im_8, ↓im_1000, nI_add, pk_mul, pk_sub, ↓pk_rem, pk_div, nm_add, nI_clamp, nI_ltI, nI_leI, nI_eq, nm_eq, mn_eq, mm_eq, nm_lt, mn_lt, nm_le, mn_le, nl_T, nl_F, nle_T, nle_F, ne_T, ne_F, b2i_0, b2i_1, b2i_n, nb_0, nb_1, or_false, false_or, or_true, true_or, and_true, true_and, and_false, false_and, or_self, and_self, not_true_eq_false, not_false_eq_true, ↓reduceIte, if_true, if_false, ↓jv_bs, ↓jv_ol, ↓jv_or, jv_tl, jv_tn, jo_T, ck_2_166_17, ck_6_43_16, ck_6_43_17, ck_6_73_16, ck_7_65_17, ck_30_10_19, su_F, e197_0, e197_1, e197_2, e197_5, e197_6, e197_7, e197_10, e197_11, e197_12, e197_15, ↓cr_50b ho, ↓cr_51b ho, ↓cr_52b ho, ↓cr_59b ho, ↓crlb ho, ci1, ci2, ca1, ca2, ca3, cL1, cL2, cL3, cL4, cx1, cx2, cx3, cx4, cy1, cy2, cy3, cy4, jn_0, Nat.reduceEqDiff, n197, h, ↓jbR g2]
    · rw [if_neg h4] at g2 ⊢
      simp (disch := omega) only [il_0, il_1, il_2, il_3, il_4, il_5, il_6, il_7, il_8, il_9, il_10, il_11, il_12, il_13, il_14, il_15, il_16, il_17, il_18, il_19, il_20, il_21, il_22, il_23, il_24, il_25, il_26, il_27, il_28, il_29, il_30, il_31, il_32, il_40, il_41, il_42, il_43, il_44, il_45, il_46, il_47, il_48, il_52, il_56, il_57, il_59, il_60, il_61, il_63, il_64, il_68, il_72, il_75, il_76, il_82, il_88, il_89, il_90, il_92, il_96, il_97, il_99, il_100, il_101, il_102, il_103, il_104, il_105, il_107, il_108, il_109, il_110, il_111, il_112, il_114, il_115, il_116, il_117, il_118, il_119, il_121, il_122, il_130, il_200, il_255, il_256, il_260, il_276, il_400, il_403, il_420, il_840, il_999, il_1000, il_2000, il_2001, il_2668, il_2760, il_9999, il_12345, il_1000000, il_1103515245, ↓im_1, ↓im_2, ↓im_8, ↓im_1000, nI_add, pk_mul, pk_sub, ↓pk_rem, pk_div, nm_add, nI_clamp, nI_ltI, nI_leI, nI_eq, nm_eq, mn_eq, mm_eq, nm_lt, mn_lt, nm_le, mn_le, nl_T, nl_F, nle_T, nle_F, ne_T, ne_F, b2i_0, b2i_1, b2i_n, nb_0, nb_1, or_false, false_or, or_true, true_or, and_true, true_and, and_false, false_and, or_self, and_self, not_true_eq_false, not_false_eq_true, ↓reduceIte, if_true, if_false, ↓jv_bs, ↓jv_ol, ↓jv_or, jv_tl, jv_tn, jo_T, ck_2_166_17, ck_6_43_16, ck_6_43_17, ck_6_73_16, ck_7_65_17, ck_30_10_19, su_F, e197_0, e197_1, e197_2, e197_5, e197_6, e197_7, e197_10, e197_11, e197_12, e197_15, ↓cr_50b ho, ↓cr_51b ho, ↓cr_52b ho, ↓cr_59b ho, ↓crlb ho, ci1, ci2, ca1, ca2, ca3, cL1, cL2, cL3, cL4, cx1, cx2, cx3, cx4, cy1, cy2, cy3, cy4, jn_0, Nat.reduceEqDiff, n197, h, ↓jbR g2]
/-- what the arrays hold -/
def LBs (m : Nat) (Y : jv_H) (acc : List (Cd × Cd × Cd)) (f1 f2 f3 : Nat → Option Nat) : Prop := ∀ i x, acc[i]? = some x → ∃ p q s : Nat, f1 i = some p ∧ f2 i = some q ∧ f3 i = some s ∧ SA (gY (m + 4) Y) 401 p x.1 ∧ SA (gY (m + 4) Y) 401 q x.2.1 ∧ SA (gY (m + 4) Y) 401 s x.2.2
theorem LBs_Y {Z : jv_H} {acc : List (Cd × Cd × Cd)} (h : LBs m Y acc f1 f2 f3) : LBs m (Y ++ Z) acc f1 f2 f3 := fun i x hx => by
  obtain ⟨p, q, s, h1, h2, h3, h4, h5, h6⟩ := h i x hx
  exact ⟨p, q, s, h1, h2, h3, SA_gY h4, SA_gY h5, SA_gY h6⟩
theorem va_us {f : Nat → Option Nat} {j : Nat} {x : Option Nat} : va_up f j x j = x := if_pos rfl
theorem va_un {f : Nat → Option Nat} {j i : Nat} {x : Option Nat} (h : i ≠ j) : va_up f j x i = f i := if_neg h
theorem BZ_l {X0 : jv_H} : (X0 ++ (lwC m ifs f1 f2 f3 ++ Y)).length = X0.length + 4 + Y.length ∧ sn_z (X0 ++ (lwC m ifs f1 f2 f3 ++ Y)) = sn_z X0 + 17 + sn_z Y := by
  refine ⟨?_, ?_⟩
  · rw [List.length_append, List.length_append, show (lwC m ifs f1 f2 f3).length = 4 from rfl]
    omega
  · rw [sz_app, sz_app, show sn_z (lwC m ifs f1 f2 f3) = 17 from rfl]
    omega
end
