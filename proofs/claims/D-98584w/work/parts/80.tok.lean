/-! tokens: plain -/
def cLt (c : Nat) : Bool := decide (97 ≤ c) && decide (c ≤ 122)
def cDg (c : Nat) : Bool := decide (48 ≤ c) && decide (c ≤ 57)
def cSp (c : Nat) : Bool := decide (c = 9) || decide (c = 10) || decide (c = 13) || decide (c = 32)
/-- how many in a row -/
def rnl (C : Nat → Bool) (b : Nat → Nat) : Nat → Nat → Nat
  | 0, _ => 0
  | m + 1, p => if C (b p) = true then rnl C b m (p + 1) + 1 else 0
def rn (C : Nat → Bool) (b : Nat → Nat) (n p : Nat) : Nat := rnl C b (n - p) p
section
variable {C : Nat → Bool} {b : Nat → Nat} {n p : Nat}
theorem rnl_le : ∀ {m p : Nat}, rnl C b m p ≤ m := by
  intro m
  induction m with
  | zero => intro p; exact Nat.le_refl _
  | succ m ih =>
    intro p
    unfold rnl
    split
    · have := ih (p := p + 1); omega
    · omega
theorem rnl_in : ∀ {m p i : Nat}, i < rnl C b m p → C (b (p + i)) = true := by
  intro m
  induction m with
  | zero => intro p i h; exact absurd h (Nat.not_lt_zero _)
  | succ m ih =>
    intro p i h
    unfold rnl at h
    split at h
    · rename_i hc
      cases i with
      | zero => exact hc
      | succ i =>
        have := ih (p := p + 1) (i := i) (by omega)
        rwa [show p + (i + 1) = p + 1 + i by omega]
    · exact absurd h (Nat.not_lt_zero _)
theorem rnl_out : ∀ {m p : Nat}, rnl C b m p < m → C (b (p + rnl C b m p)) = false := by
  intro m
  induction m with
  | zero => intro p h; exact absurd h (Nat.not_lt_zero _)
  | succ m ih =>
    intro p h
    unfold rnl at h ⊢
    split at h
    · rename_i hc
      rw [if_pos hc]
      have := ih (p := p + 1) (by omega)
      rwa [show p + (rnl C b m (p + 1) + 1) = p + 1 + rnl C b m (p + 1) by omega]
    · rename_i hc
      rw [if_neg hc]
      simpa using hc
theorem rn_le : rn C b n p ≤ n - p := rnl_le
theorem rn_in {i : Nat} (h : i < rn C b n p) : C (b (p + i)) = true := rnl_in h
theorem rn_out (h0 : C 0 = false) (hb : ∀ i, n ≤ i → b i = 0) : C (b (p + rn C b n p)) = false := by
  by_cases h : rn C b n p < n - p
  · exact rnl_out h
  · rw [hb _ (by have := rn_le (C := C) (b := b) (n := n) (p := p); omega)]
    exact h0
end
/-- the code of a name, the value of an int -/
def nc (b : Nat → Nat) (p m : Nat) : Nat := it (fun i a => 27 * a + (b (p + i) - 96)) m 0
def nv (b : Nat → Nat) (p m : Nat) : Nat := it (fun i a => 10 * a + (b (p + i) - 48)) m 0
def kw (c : Nat) : Nat := it (fun k a => if kyl.getD k 0 = c then 20 + k else a) 21 1
def sgk (c : Nat) : Nat := if c = 59 then 4 else if c = 61 then 5 else if c = 40 then 6 else if c = 41 then 7 else if c = 43 then 8 else if c = 45 then 9 else if c = 42 then 10 else if c = 47 then 15 else if c = 60 then 13 else 3
/-- the sort (by the reference's numbers), the length of what begins here -/
def tkk (b : Nat → Nat) (n p : Nat) : Nat × Nat :=
  if cLt (b p) = true then (if rn cLt b n p ≤ 7 then kw (nc b p (rn cLt b n p)) else if rn cLt b n p ≤ 8 then 1 else 3, rn cLt b n p)
  else if cDg (b p) = true then (if rn cDg b n p ≤ 4 then 2 else 3, rn cDg b n p)
  else (sgk (b p), 1)
def sk (b : Nat → Nat) (n p : Nat) : Nat := p + rn cSp b n p
/-- where the search for a token begins -/
def tq (b : Nat → Nat) (n : Nat) : Nat → Nat
  | 0 => 0
  | i + 1 => if n ≤ sk b n (tq b n i) then n else sk b n (tq b n i) + (tkk b n (sk b n (tq b n i))).2
def tfr (b : Nat → Nat) (n i : Nat) : Nat := sk b n (tq b n i)
def tkd (b : Nat → Nat) (n i : Nat) : Nat := if n ≤ tfr b n i then 0 else (tkk b n (tfr b n i)).1
section
variable {b : Nat → Nat} {n : Nat}
theorem tkk_1 {p : Nat} (hp : p < n) : 1 ≤ (tkk b n p).2 ∧ p + (tkk b n p).2 ≤ n := by
  unfold tkk
  by_cases h1 : cLt (b p) = true
  · rw [if_pos h1]
    have h2 := rn_le (C := cLt) (b := b) (n := n) (p := p)
    have h3 : 1 ≤ rn cLt b n p := by
      unfold rn
      rw [show n - p = (n - p - 1) + 1 by omega]
      unfold rnl
      rw [if_pos h1]
      omega
    exact ⟨h3, by dsimp only; omega⟩
  · rw [if_neg h1]
    by_cases h2 : cDg (b p) = true
    · rw [if_pos h2]
      have h4 := rn_le (C := cDg) (b := b) (n := n) (p := p)
      have h3 : 1 ≤ rn cDg b n p := by
        unfold rn
        rw [show n - p = (n - p - 1) + 1 by omega]
        unfold rnl
        rw [if_pos h2]
        omega
      exact ⟨h3, by dsimp only; omega⟩
    · rw [if_neg h2]
      exact ⟨Nat.le_refl _, hp⟩
theorem sk_le {p : Nat} (hp : p ≤ n) : p ≤ sk b n p ∧ sk b n p ≤ n := by
  have := rn_le (C := cSp) (b := b) (n := n) (p := p)
  unfold sk
  omega
theorem tq_le : ∀ i, tq b n i ≤ n := by
  intro i
  induction i with
  | zero => exact Nat.zero_le _
  | succ i ih =>
    unfold tq
    split
    · exact Nat.le_refl _
    · exact (tkk_1 (by omega)).2
theorem tfr_le {i : Nat} : tq b n i ≤ tfr b n i ∧ tfr b n i ≤ n := sk_le (tq_le i)
theorem tq_s {i : Nat} (h : tfr b n i < n) : tq b n (i + 1) = tfr b n i + (tkk b n (tfr b n i)).2 := if_neg (Nat.not_le.mpr h)
theorem tq_e {i : Nat} (h : n ≤ tfr b n i) : tq b n (i + 1) = n := if_pos h
/-- places grow -/
theorem tfr_lt {i : Nat} (h : tfr b n i < n) : tfr b n i < tfr b n (i + 1) := by
  have h1 := (tfr_le (b := b) (n := n) (i := i + 1)).1
  rw [tq_s h] at h1
  have := (tkk_1 (b := b) h).1
  omega
theorem sgk_3 {c : Nat} : 3 ≤ sgk c ∧ sgk c ≤ 15 := by
  unfold sgk
  repeat' split
  all_goals decide
theorem kw_lt {c : Nat} : 1 ≤ kw c ∧ kw c ≤ 40 := it_ind (P := fun a => 1 ≤ a ∧ a ≤ 40) ⟨by decide, by decide⟩ fun k hk a ha => by
  split <;> omega
theorem tkk_0 {p : Nat} : 1 ≤ (tkk b n p).1 ∧ (tkk b n p).1 ≤ 40 := by
  unfold tkk
  by_cases h1 : cLt (b p) = true
  · rw [if_pos h1]
    dsimp only
    split
    · exact kw_lt
    · split <;> decide
  · rw [if_neg h1]
    split
    · dsimp only
      split <;> decide
    · have := sgk_3 (c := b p)
      dsimp only
      omega
theorem tkd_0 {i : Nat} : tkd b n i = 0 ↔ n ≤ tfr b n i := by
  unfold tkd
  split
  · rename_i h; exact ⟨fun _ => h, fun _ => rfl⟩
  · rename_i h
    have := (tkk_0 (b := b) (n := n) (p := tfr b n i)).1
    exact ⟨fun h2 => by omega, fun h2 => absurd h2 h⟩
end
