/-! numbers, loops, branches: what symbolic execution needs -/
def mI (n : Nat) : Int32 := -(nI n)
def b2i (b : Bool) : Int32 := if b then nI 1 else nI 0
theorem il_0 : (0 : Int32) = nI 0 := rfl
theorem il_1 : (1 : Int32) = nI 1 := rfl
theorem il_2 : (2 : Int32) = nI 2 := rfl
theorem il_3 : (3 : Int32) = nI 3 := rfl
theorem il_4 : (4 : Int32) = nI 4 := rfl
theorem il_5 : (5 : Int32) = nI 5 := rfl
theorem il_6 : (6 : Int32) = nI 6 := rfl
theorem il_7 : (7 : Int32) = nI 7 := rfl
theorem il_8 : (8 : Int32) = nI 8 := rfl
theorem il_9 : (9 : Int32) = nI 9 := rfl
theorem il_10 : (10 : Int32) = nI 10 := rfl
theorem il_11 : (11 : Int32) = nI 11 := rfl
theorem il_12 : (12 : Int32) = nI 12 := rfl
theorem il_13 : (13 : Int32) = nI 13 := rfl
theorem il_14 : (14 : Int32) = nI 14 := rfl
theorem il_15 : (15 : Int32) = nI 15 := rfl
theorem il_16 : (16 : Int32) = nI 16 := rfl
theorem il_17 : (17 : Int32) = nI 17 := rfl
theorem il_18 : (18 : Int32) = nI 18 := rfl
theorem il_19 : (19 : Int32) = nI 19 := rfl
theorem il_20 : (20 : Int32) = nI 20 := rfl
theorem il_21 : (21 : Int32) = nI 21 := rfl
theorem il_22 : (22 : Int32) = nI 22 := rfl
theorem il_23 : (23 : Int32) = nI 23 := rfl
theorem il_24 : (24 : Int32) = nI 24 := rfl
theorem il_25 : (25 : Int32) = nI 25 := rfl
theorem il_26 : (26 : Int32) = nI 26 := rfl
theorem il_27 : (27 : Int32) = nI 27 := rfl
theorem il_28 : (28 : Int32) = nI 28 := rfl
theorem il_29 : (29 : Int32) = nI 29 := rfl
theorem il_30 : (30 : Int32) = nI 30 := rfl
theorem il_31 : (31 : Int32) = nI 31 := rfl
theorem il_32 : (32 : Int32) = nI 32 := rfl
theorem il_40 : (40 : Int32) = nI 40 := rfl
theorem il_41 : (41 : Int32) = nI 41 := rfl
theorem il_42 : (42 : Int32) = nI 42 := rfl
theorem il_43 : (43 : Int32) = nI 43 := rfl
theorem il_44 : (44 : Int32) = nI 44 := rfl
theorem il_45 : (45 : Int32) = nI 45 := rfl
theorem il_46 : (46 : Int32) = nI 46 := rfl
theorem il_47 : (47 : Int32) = nI 47 := rfl
theorem il_48 : (48 : Int32) = nI 48 := rfl
theorem il_52 : (52 : Int32) = nI 52 := rfl
theorem il_56 : (56 : Int32) = nI 56 := rfl
theorem il_57 : (57 : Int32) = nI 57 := rfl
theorem il_59 : (59 : Int32) = nI 59 := rfl
theorem il_60 : (60 : Int32) = nI 60 := rfl
theorem il_61 : (61 : Int32) = nI 61 := rfl
theorem il_63 : (63 : Int32) = nI 63 := rfl
theorem il_64 : (64 : Int32) = nI 64 := rfl
theorem il_68 : (68 : Int32) = nI 68 := rfl
theorem il_72 : (72 : Int32) = nI 72 := rfl
theorem il_75 : (75 : Int32) = nI 75 := rfl
theorem il_76 : (76 : Int32) = nI 76 := rfl
theorem il_82 : (82 : Int32) = nI 82 := rfl
theorem il_88 : (88 : Int32) = nI 88 := rfl
theorem il_89 : (89 : Int32) = nI 89 := rfl
theorem il_90 : (90 : Int32) = nI 90 := rfl
theorem il_92 : (92 : Int32) = nI 92 := rfl
theorem il_96 : (96 : Int32) = nI 96 := rfl
theorem il_97 : (97 : Int32) = nI 97 := rfl
theorem il_99 : (99 : Int32) = nI 99 := rfl
theorem il_100 : (100 : Int32) = nI 100 := rfl
theorem il_101 : (101 : Int32) = nI 101 := rfl
theorem il_102 : (102 : Int32) = nI 102 := rfl
theorem il_103 : (103 : Int32) = nI 103 := rfl
theorem il_104 : (104 : Int32) = nI 104 := rfl
theorem il_105 : (105 : Int32) = nI 105 := rfl
theorem il_107 : (107 : Int32) = nI 107 := rfl
theorem il_108 : (108 : Int32) = nI 108 := rfl
theorem il_109 : (109 : Int32) = nI 109 := rfl
theorem il_110 : (110 : Int32) = nI 110 := rfl
theorem il_111 : (111 : Int32) = nI 111 := rfl
theorem il_112 : (112 : Int32) = nI 112 := rfl
theorem il_114 : (114 : Int32) = nI 114 := rfl
theorem il_115 : (115 : Int32) = nI 115 := rfl
theorem il_116 : (116 : Int32) = nI 116 := rfl
theorem il_117 : (117 : Int32) = nI 117 := rfl
theorem il_118 : (118 : Int32) = nI 118 := rfl
theorem il_119 : (119 : Int32) = nI 119 := rfl
theorem il_121 : (121 : Int32) = nI 121 := rfl
theorem il_122 : (122 : Int32) = nI 122 := rfl
theorem il_130 : (130 : Int32) = nI 130 := rfl
theorem il_200 : (200 : Int32) = nI 200 := rfl
theorem il_255 : (255 : Int32) = nI 255 := rfl
theorem il_256 : (256 : Int32) = nI 256 := rfl
theorem il_260 : (260 : Int32) = nI 260 := rfl
theorem il_276 : (276 : Int32) = nI 276 := rfl
theorem il_400 : (400 : Int32) = nI 400 := rfl
theorem il_403 : (403 : Int32) = nI 403 := rfl
theorem il_420 : (420 : Int32) = nI 420 := rfl
theorem il_840 : (840 : Int32) = nI 840 := rfl
theorem il_999 : (999 : Int32) = nI 999 := rfl
theorem il_1000 : (1000 : Int32) = nI 1000 := rfl
theorem il_2000 : (2000 : Int32) = nI 2000 := rfl
theorem il_2001 : (2001 : Int32) = nI 2001 := rfl
theorem il_2668 : (2668 : Int32) = nI 2668 := rfl
theorem il_2760 : (2760 : Int32) = nI 2760 := rfl
theorem il_9999 : (9999 : Int32) = nI 9999 := rfl
theorem il_12345 : (12345 : Int32) = nI 12345 := rfl
theorem il_1000000 : (1000000 : Int32) = nI 1000000 := rfl
theorem il_1103515245 : (1103515245 : Int32) = nI 1103515245 := rfl
theorem im_1 : (-1 : Int32) = mI 1 := rfl
theorem im_2 : (-2 : Int32) = mI 2 := rfl
theorem im_8 : (-8 : Int32) = mI 8 := rfl
theorem im_1000 : (-1000 : Int32) = mI 1000 := rfl
theorem nl_T {a b : Nat} (h : a < b) : (a < b) = True := eq_true h
theorem nl_F {a b : Nat} (h : b ≤ a) : (a < b) = False := eq_false (Nat.not_lt.mpr h)
theorem nle_T {a b : Nat} (h : a ≤ b) : (a ≤ b) = True := eq_true h
theorem nle_F {a b : Nat} (h : b < a) : (a ≤ b) = False := eq_false (Nat.not_le.mpr h)
theorem ne_T {a b : Nat} (h : a = b) : (a = b) = True := eq_true h
theorem ne_F {a b : Nat} (h : a ≠ b) : (a = b) = False := eq_false h
theorem mI_toInt {n : Nat} (h : n < 2 ^ 31) : (mI n).toInt = -(n : Int) := by
  unfold mI
  rw [Int32.toInt_neg, nI_toInt h]
  rw [Int.bmod_eq_of_le] <;> omega
theorem nm_eq {a b : Nat} (ha : a < 2 ^ 31) (hb : b < 2 ^ 31) (h : 0 < b) : (nI a = mI b) = False := eq_false fun e => by
  have := congrArg Int32.toInt e
  rw [nI_toInt ha, mI_toInt hb] at this
  omega
theorem mn_eq {a b : Nat} (ha : a < 2 ^ 31) (hb : b < 2 ^ 31) (h : 0 < b) : (mI b = nI a) = False := eq_false fun e => by
  have := congrArg Int32.toInt e
  rw [nI_toInt ha, mI_toInt hb] at this
  omega
theorem mm_eq {a b : Nat} (ha : a < 2 ^ 31) (hb : b < 2 ^ 31) : (mI a = mI b) ↔ a = b := by
  constructor
  · intro e
    have := congrArg Int32.toInt e
    rw [mI_toInt ha, mI_toInt hb] at this
    omega
  · intro e; rw [e]
theorem nm_lt {a b : Nat} (ha : a < 2 ^ 31) (hb : b < 2 ^ 31) : (nI a < mI b) = False := eq_false fun e => by
  rw [Int32.lt_iff_toInt_lt, nI_toInt ha, mI_toInt hb] at e
  omega
theorem mn_lt {a b : Nat} (ha : a < 2 ^ 31) (hb : b < 2 ^ 31) (h : 0 < b) : (mI b < nI a) = True := eq_true (by
  rw [Int32.lt_iff_toInt_lt, nI_toInt ha, mI_toInt hb]
  omega)
theorem nm_le {a b : Nat} (ha : a < 2 ^ 31) (hb : b < 2 ^ 31) (h : 0 < b) : (nI a ≤ mI b) = False := eq_false fun e => by
  rw [Int32.le_iff_toInt_le, nI_toInt ha, mI_toInt hb] at e
  omega
theorem mn_le {a b : Nat} (ha : a < 2 ^ 31) (hb : b < 2 ^ 31) : (mI b ≤ nI a) = True := eq_true (by
  rw [Int32.le_iff_toInt_le, nI_toInt ha, mI_toInt hb]
  omega)
theorem nm_add {n k : Nat} (h : k ≤ n) : nI n + mI k = nI (n - k) := by
  unfold mI
  rw [← Int32.sub_eq_add_neg]
  exact pk_sub h
theorem b2i_0 {b : Bool} : (b2i b = nI 0) = (b = false) := by cases b <;> decide
theorem b2i_n {b : Bool} : (narrow .boolean (.int (b2i b)) = .int (b2i b)) = True := by cases b <;> exact eq_true rfl
theorem b2i_1 {b : Bool} : (b2i b = nI 1) = (b = true) := by cases b <;> decide
theorem b2i_t : b2i true = nI 1 := rfl
theorem b2i_f : b2i false = nI 0 := rfl
theorem nb_1 : (narrow .boolean (.int (nI 1)) = .int (nI 1)) = True := eq_true rfl
theorem nb_0 : (narrow .boolean (.int (nI 0)) = .int (nI 0)) = True := eq_true rfl
theorem jv_bs {α β : Type} {x : α} {f : α → Option β} : (some x).bind f = f x := rfl
theorem jv_ol {α : Type} {v : Option Value} {h : jv_H} {f : Option Value → jv_H → Option α} {g : Nat → jv_H → Option α} : jv_on (.inl v, h) f g = f v h := rfl
theorem jv_or {α : Type} {v : Nat} {h : jv_H} {f : Option Value → jv_H → Option α} {g : Nat → jv_H → Option α} : jv_on (.inr v, h) f g = g v h := rfl
theorem jv_tl {v : Value} {l : List Value} : (some v).toList ++ l = v :: l := rfl
theorem jv_tn {l : List Value} : (none : Option Value).toList ++ l = l := rfl
theorem b2i_ite {p : Prop} [Decidable p] : (if p then nI 1 else nI 0) = b2i (decide p) := by by_cases h : p <;> simp [h, b2i]
theorem jl_up {α : Type} {F : Nat → α} {N : Nat} (h : ∀ k, k < N → F k = F (k + 1)) : ∀ k, k ≤ N → F k = F N := by
  intro k hk
  obtain ⟨e, rfl⟩ : ∃ e, N = k + e := ⟨N - k, by omega⟩
  clear hk
  induction e with
  | zero => rfl
  | succ e ih => rw [ih fun j hj => h j (by omega)]; exact h (k + e) (by omega)
theorem jl_0 {α : Type} {F : Nat → α} {N : Nat} (h : ∀ k, k < N → F k = F (k + 1)) : F 0 = F N := jl_up h 0 (Nat.zero_le N)
theorem jl_ex {α β : Type} {F : Nat → β → α} {N : Nat} (h : ∀ k, k < N → ∀ j, ∃ j', F k j = F (k + 1) j') (j : β) : ∃ j', F 0 j = F N j' := by
  induction N with
  | zero => exact ⟨j, rfl⟩
  | succ N ih =>
    obtain ⟨j1, h1⟩ := ih fun k hk => h k (by omega)
    obtain ⟨j2, h2⟩ := h N (by omega) j1
    exact ⟨j2, h1.trans h2⟩
theorem ai_m1 {a : Int32} : a + mI 1 = a - nI 1 := by
  unfold mI
  exact (Int32.sub_eq_add_neg a (nI 1)).symm
theorem jo_T {b : Nat} (h : 50 ≤ b) : (jt_off ≤ b) = True := eq_true h
/-- a plain method isn't called by super -/
theorem su_F {y : Nat} (h1 : y ≠ 295) (h2 : y ≠ 301) : (jt_SU.contains y = false) = True := eq_true (by simp [jt_SU, h1, h2])
theorem ck_2_166_17 : (jt_CK.contains (2, 166, 17) = true) = True := eq_true rfl
theorem ck_6_43_16 : (jt_CK.contains (6, 43, 16) = true) = True := eq_true rfl
theorem ck_6_43_17 : (jt_CK.contains (6, 43, 17) = true) = True := eq_true rfl
theorem ck_6_73_16 : (jt_CK.contains (6, 73, 16) = true) = True := eq_true rfl
theorem ck_7_65_17 : (jt_CK.contains (7, 65, 17) = true) = True := eq_true rfl
theorem ck_30_10_19 : (jt_CK.contains (30, 10, 19) = true) = True := eq_true rfl
/-- the first of n from k on -/
def ff (P : Nat → Bool) : Nat → Nat → Option Nat
  | _, 0 => none
  | k, n + 1 => if P k then some k else ff P (k + 1) n
theorem jl_ff {α β : Type} {F R : Nat → β → α} {P : Nat → Bool} {N : Nat} (hn : ∀ k, k < N → P k = false → ∀ j, ∃ j', F k j = F (k + 1) j') (hy : ∀ k, k < N → P k = true → ∀ j, ∃ j', F k j = R k j') : ∀ n k, k + n = N → ∀ j, ∃ j', F k j = match ff P k n with | some i => R i j' | none => F N j' := by
  intro n
  induction n with
  | zero => intro k hk j; exact ⟨j, by rw [show N = k by omega]; rfl⟩
  | succ n ih =>
    intro k hk j
    unfold ff
    cases hP : P k with
    | true =>
      obtain ⟨j', h⟩ := hy k (by omega) hP j
      exact ⟨j', by rw [h]; rfl⟩
    | false =>
      obtain ⟨j1, h1⟩ := hn k (by omega) hP j
      obtain ⟨j2, h2⟩ := ih (k + 1) (by omega) j1
      exact ⟨j2, h1.trans h2⟩
/-- the first k of f, then of g -/
def cp (f g : Nat → Int32) (k : Nat) : Nat → Int32 := fun i => if i < k then f i else g i
theorem cp_0 {f g : Nat → Int32} : cp f g 0 = g := funext fun i => if_neg (Nat.not_lt_zero i)
theorem cp_u {f g : Nat → Int32} {k : Nat} : upd (cp f g k) k (f k) = cp f g (k + 1) := by
  funext i
  unfold upd cp
  by_cases h : i = k
  · subst h; simp
  · by_cases h2 : i < k
    · simp [h, h2, show i < k + 1 by omega]
    · simp [h, h2, show ¬ i < k + 1 by omega]
theorem cp_in {f g : Nat → Int32} {k i : Nat} (h : i < k) : cp f g k i = f i := if_pos h
theorem cp_out {f g : Nat → Int32} {k i : Nat} (h : k ≤ i) : cp f g k i = g i := if_neg (Nat.not_lt.mpr h)
theorem tw_rc0 {p q : jv_H} {s : tw_S} {m : Nat} {l : List (Nat × Nat)} (hp : p.length = 589) : jv_rc (tw_h p s q) 589 ((0, m) :: l) = some m := by
  rw [tw_rc hp]
  rfl
theorem tw_rcb {p q : jv_H} {s : tw_S} {m : Nat} {l : List (Nat × Nat)} {F : Nat → Option jv_R} (hp : p.length = 589) : (jv_rc (tw_h p s q) 589 ((0, m) :: l)).bind F = F m := jb (tw_rc0 hp)
theorem tpb_49_0 {p q : jv_H} {s : tw_S} {F : jv_H → Option jv_R} (hp : p.length = 589) : (jv_pf (tw_h p s q) 589 [(0, 49, .boolean)] (.int (nI 0))).bind F = F (tw_h p (tw_i s 49 (nI 0)) q) := tpb_49 hp (Or.inl rfl)
theorem tpb_49_1 {p q : jv_H} {s : tw_S} {F : jv_H → Option jv_R} (hp : p.length = 589) : (jv_pf (tw_h p s q) 589 [(0, 49, .boolean)] (.int (nI 1))).bind F = F (tw_h p (tw_i s 49 (nI 1)) q) := tpb_49 hp (Or.inr rfl)
theorem jbR {x : Option jv_R} {y : jv_R} (h : x = some y) {F : jv_R → Option jv_R} : x.bind F = F y := jb h
/-- a loop's state after so many rounds -/
def it {α : Type} (f : Nat → α → α) : Nat → α → α
  | 0, a => a
  | k + 1, a => f k (it f k a)
theorem it_0 {α : Type} {f : Nat → α → α} {a : α} : it f 0 a = a := rfl
theorem it_s {α : Type} {f : Nat → α → α} {k : Nat} {a : α} : it f (k + 1) a = f k (it f k a) := rfl
theorem it_ind {α : Type} {f : Nat → α → α} {P : α → Prop} {n : Nat} {a : α} (h0 : P a) (hs : ∀ k < n, ∀ a, P a → P (f k a)) : P (it f n a) := by
  induction n with
  | zero => exact h0
  | succ n ih => exact hs n (Nat.lt_succ_self n) _ (ih fun k hk => hs k (Nat.lt_succ_of_lt hk))
theorem jl_inv {α σ : Type} {F : Nat → σ → α} {N : Nat} (I : Nat → σ → Prop) (h : ∀ k, k < N → ∀ s, I k s → ∃ s', I (k + 1) s' ∧ F k s = F (k + 1) s') {s : σ} (h0 : I 0 s) : ∃ s', I N s' ∧ F 0 s = F N s' := by
  induction N with
  | zero => exact ⟨s, h0, rfl⟩
  | succ N ih =>
    obtain ⟨s1, i1, h1⟩ := ih fun k hk => h k (by omega)
    obtain ⟨s2, i2, h2⟩ := h N (by omega) s1 i1
    exact ⟨s2, i2, h1.trans h2⟩
