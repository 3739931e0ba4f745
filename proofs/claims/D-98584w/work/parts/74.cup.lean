/-! pieces in a roll, place by place: plain -/
section
variable {n L : Nat} {W H P Q : Nat → Nat}
/-- apart -/
abbrev sp (W H : Nat → Nat) (i a j b : Nat) : Prop := a % 8 + W i ≤ b % 8 ∨ b % 8 + W j ≤ a % 8 ∨ a / 8 + H i ≤ b / 8 ∨ b / 8 + H j ≤ a / 8
def gp_G (n : Nat) (W H : Nat → Nat) (L : Nat) (Q : Nat → Nat) : Prop := (∀ i, i < n → Q i % 8 + W i ≤ 8 ∧ Q i / 8 + H i ≤ L) ∧ ∀ i, i < n → ∀ j, j < n → i ≠ j → sp W H i (Q i) j (Q j)
theorem gp_F (hW : ∀ i < n, 1 ≤ W i) : cu_F n W H L ↔ ∃ Q, gp_G n W H L Q := by
  constructor
  · rintro ⟨X, Y, h1, h2⟩
    refine ⟨fun i => 8 * Y i + X i, fun i hi => ?_, fun i hi j hj hij => ?_⟩
    · have := h1 i hi
      have := hW i hi
      dsimp only
      omega
    · have a1 := h1 i hi
      have a2 := hW i hi
      have a3 := h1 j hj
      have a4 := hW j hj
      have a5 := h2 i hi j hj hij
      have e1 : (8 * Y i + X i) % 8 = X i := by omega
      have e2 : (8 * Y i + X i) / 8 = Y i := by omega
      have e3 : (8 * Y j + X j) % 8 = X j := by omega
      have e4 : (8 * Y j + X j) / 8 = Y j := by omega
      unfold sp
      dsimp only
      rw [e1, e2, e3, e4]
      exact a5
  · rintro ⟨Q, h1, h2⟩
    exact ⟨fun i => Q i % 8, fun i => Q i / 8, h1, h2⟩
/-- the bits of a line -/
def mk (w x : Nat) : Nat := (2 ^ w - 1) <<< x
theorem mk_b {w x c : Nat} : (mk w x).testBit c = decide (x ≤ c ∧ c < x + w) := by
  unfold mk
  rw [Nat.testBit_shiftLeft, Nat.testBit_two_pow_sub_one]
  by_cases h : x ≤ c
  · by_cases h2 : c < x + w
    · simp [h, h2]; omega
    · simp [h, h2]; omega
  · simp [h]
theorem mk_lt {w x : Nat} (h : x + w ≤ 8) : mk w x < 256 := by
  refine Nat.lt_pow_two_of_testBit (n := 8) _ fun i hi => ?_
  rw [mk_b]
  simp
  omega
def rm (W H : Nat → Nat) (i a y : Nat) : Nat := if a / 8 ≤ y ∧ y < a / 8 + H i then mk (W i) (a % 8) else 0
theorem rm_b {i a y c : Nat} : (rm W H i a y).testBit c = decide ((a / 8 ≤ y ∧ y < a / 8 + H i) ∧ (a % 8 ≤ c ∧ c < a % 8 + W i)) := by
  unfold rm
  by_cases h : a / 8 ≤ y ∧ y < a / 8 + H i
  · rw [if_pos h, mk_b]
    simp [h]
  · rw [if_neg h, Nat.zero_testBit]
    simp [h]
def tk (W H P : Nat → Nat) (k y : Nat) : Nat := it (fun i a => a ^^^ rm W H i (P i) y) k 0
theorem tk_s {k y : Nat} : tk W H P (k + 1) y = tk W H P k y ^^^ rm W H k (P k) y := rfl
theorem tk_c {k y : Nat} (h : ∀ i < k, P i = Q i) : tk W H P k y = tk W H Q k y := by
  induction k with
  | zero => rfl
  | succ k ih => rw [tk_s, tk_s, ih fun i hi => h i (by omega), h k (by omega)]
theorem tk_lt {k y : Nat} (h : ∀ i < k, P i % 8 + W i ≤ 8) : tk W H P k y < 256 := by
  induction k with
  | zero => exact (show (0 : Nat) < 256 by decide)
  | succ k ih =>
    rw [tk_s]
    refine Nat.xor_lt_two_pow (n := 8) (ih fun i hi => h i (by omega)) ?_
    unfold rm
    split
    · exact mk_lt (h k (by omega))
    · decide
theorem tk_b {k y c : Nat} (h : ∀ i, i < k → ∀ j, j < k → i ≠ j → sp W H i (P i) j (P j)) : (tk W H P k y).testBit c = true ↔ ∃ i, i < k ∧ (rm W H i (P i) y).testBit c = true := by
  induction k with
  | zero => constructor
            · intro h
              have e : tk W H P 0 y = 0 := rfl
              rw [e, Nat.zero_testBit] at h
              cases h
            · rintro ⟨i, hi, _⟩; omega
  | succ k ih =>
    have ih := ih fun i hi j hj => h i (by omega) j (by omega)
    rw [tk_s, Nat.testBit_xor]
    cases h1 : (rm W H k (P k) y).testBit c with
    | false =>
      rw [Bool.xor_false, ih]
      constructor
      · rintro ⟨i, hi, h2⟩; exact ⟨i, by omega, h2⟩
      · rintro ⟨i, hi, h2⟩
        refine ⟨i, ?_, h2⟩
        by_cases e : i = k
        · subst e; rw [h1] at h2; cases h2
        · omega
    | true =>
      have : (tk W H P k y).testBit c = false := by
        cases h3 : (tk W H P k y).testBit c with
        | false => rfl
        | true =>
          obtain ⟨i, hi, h2⟩ := ih.mp h3
          have h4 := h i (by omega) k (by omega) (by omega)
          rw [rm_b, decide_eq_true_eq] at h1 h2
          unfold sp at h4
          omega
      rw [this]
      exact ⟨fun _ => ⟨k, by omega, h1⟩, fun _ => rfl⟩
theorem and_0 {t m : Nat} : t &&& m = 0 ↔ ∀ c, ¬ (t.testBit c = true ∧ m.testBit c = true) := by
  constructor
  · intro h c hc
    have := Nat.testBit_and t m c
    rw [h, hc.1, hc.2, Nat.zero_testBit] at this
    cases this
  · intro h
    apply Nat.eq_of_testBit_eq
    intro c
    rw [Nat.testBit_and, Nat.zero_testBit]
    have := h c
    cases h1 : t.testBit c <;> cases h2 : m.testBit c <;> simp_all
/-- a place is free -/
theorem tk_free {k a : Nat} (hk : 1 ≤ W k ∧ 1 ≤ H k) (h1 : ∀ i < k, 1 ≤ W i ∧ 1 ≤ H i) (h : ∀ i, i < k → ∀ j, j < k → i ≠ j → sp W H i (P i) j (P j)) : (∀ y, a / 8 ≤ y → y < a / 8 + H k → tk W H P k y &&& mk (W k) (a % 8) = 0) ↔ ∀ i < k, sp W H i (P i) k a := by
  constructor
  · intro g i hi
    by_cases hs : sp W H i (P i) k a
    · exact hs
    · exfalso
      have hs' := hs
      unfold sp at hs
      have b1 := h1 i hi
      have y1 : ∃ y, a / 8 ≤ y ∧ y < a / 8 + H k ∧ P i / 8 ≤ y ∧ y < P i / 8 + H i := by
        by_cases e : a / 8 ≤ P i / 8
        · exact ⟨P i / 8, by omega⟩
        · exact ⟨a / 8, by omega⟩
      have c1 : ∃ c, a % 8 ≤ c ∧ c < a % 8 + W k ∧ P i % 8 ≤ c ∧ c < P i % 8 + W i := by
        by_cases e : a % 8 ≤ P i % 8
        · exact ⟨P i % 8, by omega⟩
        · exact ⟨a % 8, by omega⟩
      obtain ⟨y, y1, y2, y3, y4⟩ := y1
      obtain ⟨c, c1, c2, c3, c4⟩ := c1
      refine and_0.mp (g y y1 y2) c ⟨(tk_b h).mpr ⟨i, hi, ?_⟩, ?_⟩
      · rw [rm_b, decide_eq_true_eq]; exact ⟨⟨y3, y4⟩, c3, c4⟩
      · rw [mk_b, decide_eq_true_eq]; exact ⟨c1, c2⟩
  · intro g y y1 y2
    refine and_0.mpr fun c hc => ?_
    obtain ⟨i, hi, h2⟩ := (tk_b h).mp hc.1
    have h3 := hc.2
    rw [rm_b, decide_eq_true_eq] at h2
    rw [mk_b, decide_eq_true_eq] at h3
    have := g i hi
    unfold sp at this
    omega
/-- may the rest be laid, the next from here on -/
def gx (n : Nat) (W H : Nat → Nat) (L k f : Nat) (P : Nat → Nat) : Prop := ∃ Q, gp_G n W H L Q ∧ (∀ i < k, Q i = P i) ∧ f ≤ Q k
/-- a place that will do -/
def gk (W H P : Nat → Nat) (k a : Nat) : Bool := decide (a % 8 + W k ≤ 8) && decide (∀ i < k, sp W H i (P i) k a)
def qu (P : Nat → Nat) (k a : Nat) : Nat → Nat := fun i => if i = k then a else P i
theorem qu_s {k a : Nat} : qu P k a k = a := if_pos rfl
theorem qu_n {k a i : Nat} (h : i ≠ k) : qu P k a i = P i := if_neg h
theorem sp_c {i a j b : Nat} : sp W H i a j b ↔ sp W H j b i a := by unfold sp; omega
theorem gp_up {k a : Nat} (h : gp_G k W H L P) (ha : gk W H P k a = true) (hL : a / 8 + H k ≤ L) : gp_G (k + 1) W H L (qu P k a) := by
  unfold gk at ha
  rw [Bool.and_eq_true, decide_eq_true_eq, decide_eq_true_eq] at ha
  refine ⟨fun i hi => ?_, fun i hi j hj hij => ?_⟩
  · by_cases e : i = k
    · subst e; rw [qu_s]; exact ⟨ha.1, hL⟩
    · rw [qu_n e]; exact h.1 i (by omega)
  · by_cases e : i = k
    · subst e
      rw [qu_s, qu_n (by omega)]
      exact sp_c.mp (ha.2 j (by omega))
    · by_cases e2 : j = k
      · subst e2
        rw [qu_s, qu_n e]
        exact ha.2 i (by omega)
      · rw [qu_n e, qu_n e2]
        exact h.2 i (by omega) j (by omega) hij
theorem gp_ck {k : Nat} (h : gp_G n W H L Q) (hk : k < n) (hQ : ∀ i < k, Q i = P i) : gk W H P k (Q k) = true := by
  unfold gk
  rw [Bool.and_eq_true, decide_eq_true_eq, decide_eq_true_eq]
  exact ⟨(h.1 k hk).1, fun i hi => by rw [← hQ i hi]; exact h.2 i (by omega) k hk (by omega)⟩
theorem gx_no {k f : Nat} (hk : k < n) (h : ∀ a, f ≤ a → a / 8 + H k ≤ L → gk W H P k a = false) : ¬ gx n W H L k f P := by
  rintro ⟨Q, h1, h2, h3⟩
  have h4 := gp_ck h1 hk h2
  rw [h (Q k) h3 (h1.1 k hk).2] at h4
  cases h4
theorem gx_go {k f a : Nat} (hk : k < n) (h : ∀ b, f ≤ b → b < a → gk W H P k b = false) (hf : f ≤ a) : gx n W H L k f P ↔ (gx n W H L (k + 1) 0 (qu P k a) ∨ gx n W H L k (a + 1) P) := by
  constructor
  · rintro ⟨Q, h1, h2, h3⟩
    by_cases e : Q k = a
    · refine Or.inl ⟨Q, h1, fun i hi => ?_, Nat.zero_le _⟩
      by_cases e2 : i = k
      · subst e2; rw [qu_s]; exact e
      · rw [qu_n e2]; exact h2 i (by omega)
    · refine Or.inr ⟨Q, h1, h2, ?_⟩
      by_cases e2 : Q k < a
      · have := gp_ck h1 hk h2
        rw [h (Q k) h3 e2] at this
        cases this
      · omega
  · rintro (⟨Q, h1, h2, h3⟩ | ⟨Q, h1, h2, h3⟩)
    · refine ⟨Q, h1, fun i hi => ?_, ?_⟩
      · rw [h2 i (by omega), qu_n (by omega)]
      · rw [h2 k (by omega), qu_s]; exact hf
    · exact ⟨Q, h1, h2, by omega⟩
theorem gx_end {f : Nat} (h : gp_G n W H L P) : gx n W H L n 0 P := ⟨P, h, fun _ _ => rfl, Nat.zero_le _⟩
theorem gx_F (hW : ∀ i < n, 1 ≤ W i) : gx n W H L 0 0 P ↔ cu_F n W H L := by
  rw [gp_F hW]
  exact ⟨fun ⟨Q, h, _⟩ => ⟨Q, h⟩, fun ⟨Q, h⟩ => ⟨Q, h, fun i hi => absurd hi (Nat.not_lt_zero _), Nat.zero_le _⟩⟩
end
/-- bits of ints -/
theorem nI_and {a b : Nat} : nI a &&& nI b = nI (a &&& b) := by
  apply Int32.toBitVec_inj.mp
  exact (BitVec.ofNat_and (w := 32) (x := a) (y := b)).symm
theorem nI_xor {a b : Nat} : nI a ^^^ nI b = nI (a ^^^ b) := by
  apply Int32.toBitVec_inj.mp
  exact (BitVec.ofNat_xor (w := 32) (x := a) (y := b)).symm
theorem mk_I0 : ∀ w : Fin 9, ∀ x : Fin 8, (nI 1 <<< (nI w.val &&& nI 31) - nI 1) <<< (nI x.val &&& nI 31) = nI (mk w.val x.val) := by decide +kernel
theorem mk_I {w x : Nat} (hw : w ≤ 8) (hx : x < 8) : (nI 1 <<< (nI w &&& nI 31) - nI 1) <<< (nI x &&& nI 31) = nI (mk w x) := mk_I0 ⟨w, by omega⟩ ⟨x, hx⟩
