/-! the component: a text that is being told -/
/-- the first cells of a text -/
def tx5 (a : Nat) (q : Nat × Nat × Nat × Nat) (z : Int32 × Int32 × Int32) (fd : Nat → Int32) (mF mL : Int32) (eF eL : Nat) (lf : Nat → Option Nat) : jv_H := [.inr (5, [.ref (a + 1), .ref (a + 2), .ref (a + 3), .ref (a + 4), .int (nI q.1), .int (nI q.2.1), .int z.1, .int z.2.1, .int z.2.2]), .inl (0, 48, .inl fd), .inr (18, [.int mF, .ref eF, .int (nI q.2.2.1)]), .inr (18, [.int mL, .ref eL, .int (nI q.2.2.2)]), .inl (7, 3, .inr (.inr (.inr (.inr lf))))]
def q4 (T : Tx) : Nat × Nat × Nat × Nat := (t_r T, t_w T, t_nf T, t_nl T)
def z3 (T : Tx) : Int32 × Int32 × Int32 := (t_st T, t_gu T, t_se T)
/-- what stays of the cells behind -/
def gF (b : Nat) (Y : jv_H) (E : List Nat) : Nat → Option jv_C := fun k => if b ≤ k ∧ k ∉ E then Y[k - b]? else none
/-- a list's elements: their class, the list's array -/
def LSx (b : Nat) (Y : jv_H) (E : List Nat) (e n cls : Nat) (ff : Nat → Option Nat) (cs : Nat → Nat) (p q : Nat → Value) : Prop := ((n = 0 ∧ e = 45 ∧ ff = fun _ => none) ∨ (e ∈ E ∧ b ≤ e ∧ Y[e - b]? = some (.inl (6, 10, .inr (.inr (.inr (.inr ff))))))) ∧ ∀ f < n, ∃ x sx, ff f = some x ∧ 636 ≤ x ∧ gF b Y E x = some (.inr (cls, [.ref sx, p f, q f])) ∧ STR (gF b Y E) sx (cs f)
/-- the text so far, from address a on -/
def PX (a : Nat) (S : Sx) (X : jv_H) : Prop := ∃ (Y : jv_H) (E : List Nat) (fd : Nat → Int32) (mF mL : Int32) (eF eL : Nat) (lf fF fL : Nat → Option Nat) (cF cL : Nat → Nat), X = tx5 a (q4 S.1) (z3 S.1) fd mF mL eF eL lf ++ Y ∧ (∀ e ∈ E, a + 5 ≤ e ∧ e < a + 5 + Y.length) ∧ (S.2.2.1 = 0 → ∀ c < 48, t_on S.1 c = true → fd c = t_fd S.1 c) ∧ LSx (a + 5) Y E eF (t_nf S.1) 16 fF cF (fun f => .int (t_nd S.1 f)) (fun f => .int (t_dr S.1 f)) ∧ LSx (a + 5) Y E eL (t_nl S.1) 17 fL cL (fun l => .int (nI (t_lw S.1 l))) (fun l => .int (t_pk S.1 l)) ∧ (eF ≠ eL ∨ eF = 45) ∧ (∀ x, x ∈ S.2.1 ↔ (∃ f < t_nf S.1, cF f = x) ∨ ∃ l < t_nl S.1, cL l = x) ∧ ∀ k < 3, match t_law S.1 k with
  | none => lf k = none
  | some L => ∃ x, lf k = some x ∧ LA (gF (a + 5) Y E) x L
section
variable {d t n i m k a b u x : Nat} {o r r0 rb X Y Z : jv_H} {c c' c2 : cm_S} {K V F N L : Nat → Nat} {R : Nat → Nat → Nat} {w : Wt} {S : Sx} {q : Nat × Nat × Nat × Nat} {z : Int32 × Int32 × Int32} {fd : Nat → Int32} {mF mL : Int32} {eF eL : Nat} {lf fF fL : Nat → Option Nat} {E : List Nat}
theorem gF_h {Z : jv_H} (hE : ∀ e ∈ E, e < b + Y.length) {E' : List Nat} (hE' : ∀ e ∈ E', e ∈ E ∨ b + Y.length ≤ e) : ∀ k c, gF b Y E k = some c → gF b (Y ++ Z) E' k = some c := fun k c h => by
  unfold gF at h ⊢
  split at h
  · rename_i hk
    have hl := (List.getElem?_eq_some_iff.mp h).1
    have hn : k ∉ E' := fun hk' => by
      rcases hE' k hk' with h1 | h1
      · exact hk.2 h1
      · omega
    rw [if_pos ⟨hk.1, hn⟩, List.getElem?_append_left hl]
    exact h
  · cases h
/-- a list's array is written -/
theorem gF_s {e : Nat} {y : jv_C} (he : e ∈ E) (hb : b ≤ e) : gF b (Y.set (e - b) y) E = gF b Y E := by
  funext k
  unfold gF
  split
  · rename_i hk
    have : k ≠ e := fun h => hk.2 (by rw [h]; exact he)
    rw [List.getElem?_set_ne (by omega)]
  · rfl
theorem LSx_h {Z : jv_H} {e n cls : Nat} {ff : Nat → Option Nat} {cs : Nat → Nat} {p1 p2 : Nat → Value} (hE : ∀ e ∈ E, b ≤ e ∧ e < b + Y.length) {E' : List Nat} (hE' : ∀ e ∈ E', e ∈ E ∨ b + Y.length ≤ e) (hs : ∀ e ∈ E, e ∈ E') (h : LSx b Y E e n cls ff cs p1 p2) : LSx b (Y ++ Z) E' e n cls ff cs p1 p2 := by
  have hh := gF_h (Z := Z) (fun e he => (hE e he).2) hE'
  refine ⟨?_, fun f hf => ?_⟩
  · rcases h.1 with h1 | ⟨h1, h2, h3⟩
    · exact Or.inl h1
    · refine Or.inr ⟨hs e h1, h2, ?_⟩
      rw [List.getElem?_append_left (List.getElem?_eq_some_iff.mp h3).1]
      exact h3
  · obtain ⟨x, sx, g1, g2, g3, g4⟩ := h.2 f hf
    exact ⟨x, sx, g1, g2, hh _ _ g3, STR_h hh g4⟩
/-- more cells behind -/
theorem PX_app {Z : jv_H} (h : PX a S X) : PX a S (X ++ Z) := by
  obtain ⟨Y, E, fd, mF, mL, eF, eL, lf, fF, fL, cF, cL, h1, h2, h3, h4, h5, h6, h7, h8⟩ := h
  have hE' : ∀ e ∈ E, e ∈ E ∨ a + 5 + Y.length ≤ e := fun e he => Or.inl he
  refine ⟨Y ++ Z, E, fd, mF, mL, eF, eL, lf, fF, fL, cF, cL, by rw [h1, List.append_assoc], fun e he => ⟨(h2 e he).1, by rw [List.length_append]; have := (h2 e he).2; omega⟩, h3, LSx_h h2 hE' (fun e he => he) h4, LSx_h h2 hE' (fun e he => he) h5, h6, h7, fun k hk => ?_⟩
  have := h8 k hk
  split at this
  · exact this
  · obtain ⟨x, g1, g2⟩ := this
    exact ⟨x, g1, LA_h (fun k _ c hc => gF_h (Z := Z) (fun e he => (h2 e he).2) hE' k c hc) g2⟩
/-- cells of the text in the heap -/
theorem tx_g (ho : o.length = 50) (ha : a = 589 + r0.length) (j : Nat) {y : jv_C} (hx : (tx5 a q z fd mF mL eF eL lf)[j]? = some y) : (cm_h o c (r0 ++ (tx5 a q z fd mF mL eF eL lf ++ Y)))[a + j]? = some y := by
  refine rc_g ho ha j ?_
  rw [List.getElem?_append_left (List.getElem?_eq_some_iff.mp hx).1]
  exact hx
theorem tx_s (ho : o.length = 50) (ha : a = 589 + r0.length) (j : Nat) {y : jv_C} {q' : Nat × Nat × Nat × Nat} {z' : Int32 × Int32 × Int32} {fd' : Nat → Int32} {mF' mL' : Int32} {eF' eL' : Nat} {lf' : Nat → Option Nat} (hj : j < 5) (hx : (tx5 a q z fd mF mL eF eL lf).set j y = tx5 a q' z' fd' mF' mL' eF' eL' lf') : (cm_h o c (r0 ++ (tx5 a q z fd mF mL eF eL lf ++ Y))).set (a + j) y = cm_h o c (r0 ++ (tx5 a q' z' fd' mF' mL' eF' eL' lf' ++ Y)) := by
  refine rc_s ho ha j ?_
  rw [List.set_append_left _ _ (show j < (tx5 a q z fd mF mL eF eL lf).length from hj), hx]
theorem gF_heap (ho : o.length = 50) (ha : a = 589 + r0.length) : ∀ k c', gF (a + 5) Y E k = some c' → (cm_h o c (r0 ++ (tx5 a q z fd mF mL eF eL lf ++ Y)))[k]? = some c' := fun k c' h => by
  unfold gF at h
  split at h
  · rename_i hk
    obtain ⟨e, rfl⟩ : ∃ e, k = a + (5 + e) := ⟨k - (a + 5), by omega⟩
    refine rc_g ho ha (5 + e) ?_
    rw [List.getElem?_append_right (show (tx5 a q z fd mF mL eF eL lf).length ≤ 5 + e from Nat.le_add_right 5 e), show 5 + e - (tx5 a q z fd mF mL eF eL lf).length = e from Nat.add_sub_cancel_left (n := 5) (m := e)]
    rw [show a + (5 + e) - (a + 5) = e by omega] at h
    exact h
  · cases h
theorem Y_heap (ho : o.length = 50) (ha : a = 589 + r0.length) {e : Nat} {y : jv_C} (he : a + 5 ≤ e) (hy : Y[e - (a + 5)]? = some y) : (cm_h o c (r0 ++ (tx5 a q z fd mF mL eF eL lf ++ Y)))[e]? = some y := gF_heap (E := []) ho ha e y (by
  unfold gF
  rw [if_pos ⟨he, List.not_mem_nil⟩]
  exact hy)
theorem Y_set (ho : o.length = 50) (ha : a = 589 + r0.length) {e : Nat} {y : jv_C} (he : a + 5 ≤ e) : (cm_h o c (r0 ++ (tx5 a q z fd mF mL eF eL lf ++ Y))).set e y = cm_h o c (r0 ++ (tx5 a q z fd mF mL eF eL lf ++ Y.set (e - (a + 5)) y)) := by
  obtain ⟨j, rfl⟩ : ∃ j, e = a + (5 + j) := ⟨e - (a + 5), by omega⟩
  refine rc_s ho ha (5 + j) ?_
  rw [List.set_append_right _ _ (show (tx5 a q z fd mF mL eF eL lf).length ≤ 5 + j from Nat.le_add_right 5 j), show 5 + j - (tx5 a q z fd mF mL eF eL lf).length = j from Nat.add_sub_cancel_left (n := 5) (m := j), show a + (5 + j) - (a + 5) = j by omega]
/-- the lists in the heap -/
theorem LSx_al (ho : o.length = 50) (h45 : o[45]? = some (.inl (6, 0, .inr (.inr (.inr (.inr fun _ => none)))))) (ha : a = 589 + r0.length) {n cls e : Nat} {ff : Nat → Option Nat} {cs : Nat → Nat} {p1 p2 : Nat → Value} (hn : n ≤ 10) (h : LSx (a + 5) Y E e n cls ff cs p1 p2) : ∃ cap, n ≤ cap ∧ cap < 2 ^ 31 ∧ (cm_h o c (r0 ++ (tx5 a q z fd mF mL eF eL lf ++ Y)))[e]? = some (.inl (6, cap, .inr (.inr (.inr (.inr ff))))) := by
  rcases h.1 with ⟨h1, h2, h3⟩ | ⟨h1, h2, h3⟩
  · subst h1 h2 h3
    exact ⟨0, Nat.le_refl _, by decide, by rw [cm_lo ho (by decide)]; exact h45⟩
  · exact ⟨10, hn, by decide, Y_heap ho ha h2 h3⟩
theorem ff_some_iff {P : Nat → Bool} {n : Nat} : (ff P 0 n).isSome = true ↔ ∃ j < n, P j = true := by
  constructor
  · intro h
    obtain ⟨j, hj⟩ := Option.isSome_iff_exists.mp h
    obtain ⟨h1, _, h2⟩ := ff_some hj
    exact ⟨j, by omega, h1⟩
  · rintro ⟨j, hj, h⟩
    cases ho : ff P 0 n with
    | some k => rfl
    | none =>
      have := ff_none ho j (Nat.zero_le _) (by omega)
      rw [h] at this
      cases this
/-- whether a name stands: over a text with more cells behind -/
theorem c_has (hO : OH o) (ha : a = 589 + r0.length) (hX : PX a S X) (hnf : t_nf S.1 ≤ 6) (hnl : t_nl S.1 ≤ 4) {f g : Nat → Int32} {n : Nat} {l : Nat → Nat} (hm : m = 589 + (r0 ++ X).length) (hm6 : 636 ≤ m) (hn : n ≤ 8) (hg : ∀ k < n, g k = nI (l k) ∧ 97 ≤ l k ∧ l k ≤ 122) : jv_cd (d + 5) 208 [.ref a, .ref (m + 2)] (cm_h o c (r0 ++ (X ++ stC m n f g))) = some (.inl (some (.int (b2i (decide (cn l n ∈ S.2.1))))), cm_h o c (r0 ++ (X ++ stC m n f g))) := by
  have ho := hO.1
  obtain ⟨Y, E, fd, mF, mL, eF, eL, lf, fF, fL, cF, cL, h1, h2, h3, h4, h5, h6, h7, h8⟩ := hX
  have hlX : X.length = 5 + Y.length := by rw [h1, List.length_append]; rfl
  have hmY : m = a + 5 + Y.length := by rw [hm, List.length_append]; omega
  rw [h1, List.append_assoc]
  have hE' : ∀ e ∈ E, e ∈ E ∨ a + 5 + Y.length ≤ e := fun e he => Or.inl he
  have h4' := LSx_h (Z := stC m n f g) h2 hE' (fun e he => he) h4
  have h5' := LSx_h (Z := stC m n f g) h2 hE' (fun e he => he) h5
  have hh := gF_h (Z := stC m n f g) (fun e he => (h2 e he).2) hE'
  have hst : STR (gF (a + 5) (Y ++ stC m n f g) E) (m + 2) (cn l n) := by
    refine ⟨by omega, m + 3, n, l, g, ?_, ?_, hn, hg, rfl⟩
    · unfold gF
      rw [if_pos ⟨by omega, fun he => by have := (h2 _ he).2; omega⟩, List.getElem?_append_right (by omega), show m + 2 - (a + 5) - Y.length = 2 by omega]
      rfl
    · unfold gF
      rw [if_pos ⟨by omega, fun he => by have := (h2 _ he).2; omega⟩, List.getElem?_append_right (by omega), show m + 3 - (a + 5) - Y.length = 3 by omega]
      rfl
  -- names told before lie ahead
  have hne : ∀ {sx cs : Nat}, STR (gF (a + 5) Y E) sx cs → sx ≠ m + 2 := by
    intro sx cs hs he
    obtain ⟨_, v, n2, l2, f2, q1, _⟩ := hs
    unfold gF at q1
    split at q1
    · have := (List.getElem?_eq_some_iff.mp q1).1
      omega
    · cases q1
  have hG : ∀ k c', gF (a + 5) (Y ++ stC m n f g) E k = some c' → (cm_h o c (r0 ++ (tx5 a (q4 S.1) (z3 S.1) fd mF mL eF eL lf ++ (Y ++ stC m n f g))))[k]? = some c' := gF_heap ho ha
  obtain ⟨cp1, p1, p2, p3⟩ := LSx_al (c := c) (q := q4 S.1) (z := z3 S.1) (fd := fd) (mF := mF) (mL := mL) (eF := eF) (eL := eL) (lf := lf) ho hO.2.2 ha (by omega) h4'
  obtain ⟨cp2, q1, q2, q3⟩ := LSx_al (c := c) (q := q4 S.1) (z := z3 S.1) (fd := fd) (mF := mF) (mL := mL) (eF := eF) (eL := eL) (lf := lf) ho hO.2.2 ha (by omega) h5'
  have t0 := tx_g (c := c) (q := q4 S.1) (z := z3 S.1) (fd := fd) (mF := mF) (mL := mL) (eF := eF) (eL := eL) (lf := lf) (Y := Y ++ stC m n f g) ho ha 0 rfl
  rw [Nat.add_zero] at t0
  have aF : ALh (cm_h o c (r0 ++ (tx5 a (q4 S.1) (z3 S.1) fd mF mL eF eL lf ++ (Y ++ stC m n f g)))) (a + 2) (t_nf S.1) fF := ⟨eF, cp1, mF, p1, p2, tx_g ho ha 2 rfl, p3⟩
  have aL : ALh (cm_h o c (r0 ++ (tx5 a (q4 S.1) (z3 S.1) fd mF mL eF eL lf ++ (Y ++ stC m n f g)))) (a + 3) (t_nl S.1) fL := ⟨eL, cp2, mL, q1, q2, tx_g ho ha 3 rfl, q3⟩
  have g1 := mh_isIn (d := d) hG aF (cs := cF) (cls := 16) (y := m + 2) (Or.inl rfl) (fun j hj => by
    obtain ⟨x, sx, e1, e2, e3, e4⟩ := h4.2 j hj
    exact ⟨x, sx, _, _, e1, hG _ _ (hh _ _ e3), STR_h hh e4, hne e4⟩) hst (by omega)
  have g2 := mh_isIn (d := d) hG aL (cs := cL) (cls := 17) (y := m + 2) (Or.inr rfl) (fun j hj => by
    obtain ⟨x, sx, e1, e2, e3, e4⟩ := h5.2 j hj
    exact ⟨x, sx, _, _, e1, hG _ _ (hh _ _ e3), STR_h hh e4, hne e4⟩) hst (by omega)
  have hb : decide (cn l n ∈ S.2.1) = ((ff (fun j => decide (cF j = cn l n)) 0 (t_nf S.1)).isSome || (ff (fun j => decide (cL j = cn l n)) 0 (t_nl S.1)).isSome) := by
    rw [Bool.eq_iff_iff, decide_eq_true_eq, h7, Bool.or_eq_true, ff_some_iff, ff_some_iff]
    constructor
    · rintro (⟨j, hj, e⟩ | ⟨j, hj, e⟩)
      · exact Or.inl ⟨j, hj, by simpa using e⟩
      · exact Or.inr ⟨j, hj, by simpa using e⟩
    · rintro (⟨j, hj, e⟩ | ⟨j, hj, e⟩)
      · exact Or.inl ⟨j, hj, by simpa using e⟩
      · exact Or.inr ⟨j, hj, by simpa using e⟩
  rw [hb]
  generalize (ff (fun j => decide (cF j = cn l n)) 0 (t_nf S.1)).isSome = b1 at g1 ⊢
  generalize (ff (fun j => decide (cL j = cn l n)) 0 (t_nl S.1)).isSome = b2 at g2 ⊢
  generalize cm_h o c (r0 ++ (tx5 a (q4 S.1) (z3 S.1) fd mF mL eF eL lf ++ (Y ++ stC m n f g))) = hh at t0 g1 g2 ⊢
  have k1 : jv_gf hh a [(5, 1, .object "java/util/ArrayList")] = some (.ref (a + 2)) := jv_gf_at t0 rfl rfl
  have k2 : jv_gf hh a [(5, 2, .object "java/util/ArrayList")] = some (.ref (a + 3)) := jv_gf_at t0 rfl rfl
  cases b1 with
  | true =>
    rw [b2i_t] at g1
    rw [Bool.true_or, b2i_t]
    simp (disch := omega) only [il_0, il_1, il_2, il_3, il_4, il_5, il_6, il_7, il_8, il_9, il_10, il_11, il_12, il_13, il_14, il_15, il_16, il_17, il_18, il_19, il_20, il_21, il_22, il_23, il_24, il_25, il_26, il_27, il_28, il_29, il_30, il_31, il_32, il_40, il_41, il_42, il_43, il_44, il_45, il_46, il_47, il_48, il_52, il_56, il_57, il_59, il_60, il_61, il_63, il_64, il_68, il_72, il_75, il_76, il_82, il_88, il_89, il_90, il_92, il_96, il_97, il_99, il_100, il_101, il_102, il_103, il_104, il_105, il_107, il_108, il_109, il_110, il_111, il_112, il_114, il_115, il_116, il_117, il_118, il_119, il_121, il_122, il_130, il_200, il_255, il_256, il_260, il_276, il_400, il_403, il_420, il_840, il_999, il_1000, il_2000, il_2001, il_2668, il_2760, il_9999, il_12345, il_1000000, il_1103515245, ↓im_1, ↓im_2, ↓im_8, ↓im_1000, nI_add, pk_mul, pk_sub, ↓pk_rem, pk_div, nm_add, nI_clamp, nI_ltI, nI_leI, nI_eq, nm_eq, mn_eq, mm_eq, nm_lt, mn_lt, nm_le, mn_le, nl_T, nl_F, nle_T, nle_F, ne_T, ne_F, b2i_0, b2i_1, b2i_n, nb_0, nb_1, or_false, false_or, or_true, true_or, and_true, true_and, and_false, false_and, or_self, and_self, not_true_eq_false, not_false_eq_true, ↓reduceIte, if_true, if_false, ↓jv_bs, ↓jv_ol, ↓jv_or, jv_tl, jv_tn, jo_T, ck_2_166_17, ck_6_43_16, ck_6_43_17, ck_6_73_16, ck_7_65_17, ck_30_10_19, su_F, e208_0, e208_1, e208_4, e208_5, e208_8, e208_11, e208_12, e208_15, e208_16, e208_19, e208_22, e208_23, e208_26, e208_27, n208, ↓jb k1, ↓jb k2, ↓jbR g1]
  | false =>
    rw [b2i_f] at g1
    rw [Bool.false_or]
    cases b2 with
    | true =>
      rw [b2i_t] at g2
      rw [b2i_t]
      simp (disch := omega) only [il_0, il_1, il_2, il_3, il_4, il_5, il_6, il_7, il_8, il_9, il_10, il_11, il_12, il_13, il_14, il_15, il_16, il_17, il_18, il_19, il_20, il_21, il_22, il_23, il_24, il_25, il_26, il_27, il_28, il_29, il_30, il_31, il_32, il_40, il_41, il_42, il_43, il_44, il_45, il_46, il_47, il_48, il_52, il_56, il_57, il_59, il_60, il_61, il_63, il_64, il_68, il_72, il_75, il_76, il_82, il_88, il_89, il_90, il_92, il_96, il_97, il_99, il_100, il_101, il_102, il_103, il_104, il_105, il_107, il_108, il_109, il_110, il_111, il_112, il_114, il_115, il_116, il_117, il_118, il_119, il_121, il_122, il_130, il_200, il_255, il_256, il_260, il_276, il_400, il_403, il_420, il_840, il_999, il_1000, il_2000, il_2001, il_2668, il_2760, il_9999, il_12345, il_1000000, il_1103515245, ↓im_1, ↓im_2, ↓im_8, ↓im_1000, nI_add, pk_mul, pk_sub, ↓pk_rem, pk_div, nm_add, nI_clamp, nI_ltI, nI_leI, nI_eq, nm_eq, mn_eq, mm_eq, nm_lt, mn_lt, nm_le, mn_le, nl_T, nl_F, nle_T, nle_F, ne_T, ne_F, b2i_0, b2i_1, b2i_n, nb_0, nb_1, or_false, false_or, or_true, true_or, and_true, true_and, and_false, false_and, or_self, and_self, not_true_eq_false, not_false_eq_true, ↓reduceIte, if_true, if_false, ↓jv_bs, ↓jv_ol, ↓jv_or, jv_tl, jv_tn, jo_T, ck_2_166_17, ck_6_43_16, ck_6_43_17, ck_6_73_16, ck_7_65_17, ck_30_10_19, su_F, e208_0, e208_1, e208_4, e208_5, e208_8, e208_11, e208_12, e208_15, e208_16, e208_19, e208_22, e208_23, e208_26, e208_27, n208, ↓jb k1, ↓jb k2, ↓jbR g1, ↓jbR g2]
    | false =>
      rw [b2i_f] at g2
      rw [b2i_f]
      simp (disch := omega) only [il_0, il_1, il_2, il_3, il_4, il_5, il_6, il_7, il_8, il_9, il_10, il_11, il_12, il_13, il_14, il_15, il_16, il_17, il_18, il_19, il_20, il_21, il_22, il_23, il_24, il_25, il_26, il_27, il_28, il_29, il_30, il_31, il_32, il_40, il_41, il_42, il_43, il_44, il_45, il_46, il_47, il_48, il_52, il_56, il_57, il_59, il_60, il_61, il_63, il_64, il_68, il_72, il_75, il_76, il_82, il_88, il_89, il_90, il_92, il_96, il_97, il_99, il_100, il_101, il_102, il_103, il_104, il_105, il_107, il_108, il_109, il_110, il_111, il_112, il_114, il_115, il_116, il_117, il_118, il_119, il_121, il_122, il_130, il_200, il_255, il_256, il_260, il_276, il_400, il_403, il_420, il_840, il_999, il_1000, il_2000, il_2001, il_2668, il_2760, il_9999, il_12345, il_1000000, il_1103515245, ↓im_1, ↓im_2, ↓im_8, ↓im_1000, nI_add, pk_mul, pk_sub, ↓pk_rem, pk_div, nm_add, nI_clamp, nI_ltI, nI_leI, nI_eq, nm_eq, mn_eq, mm_eq, nm_lt, mn_lt, nm_le, mn_le, nl_T, nl_F, nle_T, nle_F, ne_T, ne_F, b2i_0, b2i_1, b2i_n, nb_0, nb_1, or_false, false_or, or_true, true_or, and_true, true_and, and_false, false_and, or_self, and_self, not_true_eq_false, not_false_eq_true, ↓reduceIte, if_true, if_false, ↓jv_bs, ↓jv_ol, ↓jv_or, jv_tl, jv_tn, jo_T, ck_2_166_17, ck_6_43_16, ck_6_43_17, ck_6_73_16, ck_7_65_17, ck_30_10_19, su_F, e208_0, e208_1, e208_4, e208_5, e208_8, e208_11, e208_12, e208_15, e208_16, e208_19, e208_22, e208_23, e208_26, e208_27, n208, ↓jb k1, ↓jb k2, ↓jbR g1, ↓jbR g2]
theorem c_has_b (hO : OH o) (ha : a = 589 + r0.length) (hX : PX a S X) (hnf : t_nf S.1 ≤ 6) (hnl : t_nl S.1 ≤ 4) {f g : Nat → Int32} {n : Nat} {l : Nat → Nat} (hm : m = 589 + (r0 ++ X).length) (hm6 : 636 ≤ m) (hn : n ≤ 8) (hg : ∀ k < n, g k = nI (l k) ∧ 97 ≤ l k ∧ l k ≤ 122) {F : jv_R → Option jv_R} : (jv_cd (d + 5) 208 [.ref a, .ref (m + 2)] (cm_h o c (r0 ++ (X ++ stC m n f g)))).bind F = F (.inl (some (.int (b2i (decide (cn l n ∈ S.2.1))))), cm_h o c (r0 ++ (X ++ stC m n f g))) := jb (c_has hO ha hX hnf hnl hm hm6 hn hg)
end
