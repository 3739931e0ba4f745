/-! reading: plain -/
/-- the low byte -/
def lb (x : Int32) : Nat := x.toBitVec.toNat % 256
theorem lb_and {x : Int32} : x &&& nI 255 = nI (lb x) := by
  apply Int32.toBitVec_inj.mp
  rw [Int32.toBitVec_and]
  apply BitVec.eq_of_toNat_eq
  rw [BitVec.toNat_and]
  have h1 : (nI 255).toBitVec.toNat = 255 := by decide
  have h2 : (nI (lb x)).toBitVec.toNat = lb x := by
    show (BitVec.ofNat 32 (lb x)).toNat = _
    rw [BitVec.toNat_ofNat]
    exact Nat.mod_eq_of_lt (by unfold lb; omega)
  rw [h1, h2]
  unfold lb
  exact Nat.and_two_pow_sub_one_eq_mod _ 8
theorem lb_lt {x : Int32} : lb x ≤ 255 := by unfold lb; omega
/-- the bytes that are read -/
def rb_b (A : Ab) : Nat → Nat := fun i => if i < A.2.2.1 5 then lb (A.2.1 60 i) else 0
def rb_n (A : Ab) : Nat := A.2.2.1 5
def rK (b : Nat → Nat) (n : Nat) : Nat → Nat := tkd b n
def rV (b : Nat → Nat) (n : Nat) : Nat → Nat := fun i => (tkv b n (tfr b n i)).1
def rN (b : Nat → Nat) (n : Nat) : Nat → Nat := fun i => (tkv b n (tfr b n i)).2
def rL (b : Nat → Nat) (n : Nat) : Nat → Nat := fun i => (tkk b n (tfr b n i)).2
def rR (b : Nat → Nat) (n : Nat) : Nat → Nat → Nat := fun i k => b (tfr b n i + k)
def o_rd (A : Ab) (F : Nat → Nat) (r : (Nat × Nat) ⊕ Tx) : Int32 × Ab := match r with
  | .inl e => (nI e.1, (A.1, A.2.1, fun i => if i = 5 then 0 else A.2.2.1 i, nI (F e.2)))
  | .inr T => (nI 0, (T, fun i => if i = 0 then bg_r T else A.2.1 i, fun i => if i ≤ 5 then 0 else A.2.2.1 i, mI 1))
def o_read (A : Ab) : Int32 × Ab := o_rd A (tfr (rb_b A) (rb_n A)) (pRd (rK (rb_b A) (rb_n A)) (rV (rb_b A) (rb_n A)) (rN (rb_b A) (rb_n A)) (rL (rb_b A) (rb_n A)) (rR (rb_b A) (rb_n A)))
/-- what is typed is bytes -/
def AY (A : Ab) : Prop := ∀ i, i < A.2.2.1 5 → (A.2.1 60 i).toInt8.toInt32 = A.2.1 60 i
section
variable {b : Nat → Nat} {n : Nat}
theorem kw_1 {c : Nat} : kw c = 1 ∨ 20 ≤ kw c := it_ind (P := fun a => a = 1 ∨ 20 ≤ a) (Or.inl rfl) fun k hk a ha => by
  split
  · omega
  · exact ha
theorem nv_lt {p : Nat} : ∀ {m : Nat}, (∀ k < m, 48 ≤ b (p + k) ∧ b (p + k) ≤ 57) → nv b p m < 10 ^ m := by
  intro m
  induction m with
  | zero => intro _; exact (by decide : (0 : Nat) < 1)
  | succ m ih =>
    intro h
    have h1 := ih fun k hk => h k (by omega)
    have h2 := h m (by omega)
    have e : nv b p (m + 1) = 10 * nv b p m + (b (p + m) - 48) := rfl
    rw [e, Nat.pow_succ]
    omega
theorem cLt_i {c : Nat} (h : cLt c = true) : 97 ≤ c ∧ c ≤ 122 := by
  unfold cLt at h
  rw [Bool.and_eq_true, decide_eq_true_eq, decide_eq_true_eq] at h
  exact h
theorem cDg_i {c : Nat} (h : cDg c = true) : 48 ≤ c ∧ c ≤ 57 := by
  unfold cDg at h
  rw [Bool.and_eq_true, decide_eq_true_eq, decide_eq_true_eq] at h
  exact h
theorem sgk_n {c : Nat} : 3 ≤ sgk c := sgk_3.1
/-- sorts by what begins -/
theorem tkk_L {p : Nat} (h : cLt (b p) = true) : (tkk b n p).2 = rn cLt b n p ∧ (tkk b n p).1 = (if rn cLt b n p ≤ 7 then kw (nc b p (rn cLt b n p)) else if rn cLt b n p ≤ 8 then 1 else 3) ∧ tkv b n p = (0, nc b p (min (rn cLt b n p) 8)) := by
  unfold tkk tkv
  rw [if_pos h, if_pos h]
  exact ⟨rfl, rfl, rfl⟩
theorem tkk_D {p : Nat} (h : cLt (b p) = false) (h2 : cDg (b p) = true) : (tkk b n p).2 = rn cDg b n p ∧ (tkk b n p).1 = (if rn cDg b n p ≤ 4 then 2 else 3) ∧ tkv b n p = (nv b p (min (rn cDg b n p) 4), 0) := by
  unfold tkk tkv
  have h' : ¬ cLt (b p) = true := by rw [h]; exact Bool.false_ne_true
  simp only [if_neg h', if_pos h2]
  exact ⟨trivial, trivial, trivial⟩
theorem tkk_S {p : Nat} (h : cLt (b p) = false) (h2 : cDg (b p) = false) : (tkk b n p).2 = 1 ∧ (tkk b n p).1 = sgk (b p) ∧ tkv b n p = (0, 0) := by
  unfold tkk tkv
  have h' : ¬ cLt (b p) = true := by rw [h]; exact Bool.false_ne_true
  have h2' : ¬ cDg (b p) = true := by rw [h2]; exact Bool.false_ne_true
  simp only [if_neg h', if_neg h2']
  exact ⟨trivial, trivial, trivial⟩
theorem rn_1 {C : Nat → Bool} {p : Nat} (hp : p < n) (h : C (b p) = true) : 1 ≤ rn C b n p := by
  unfold rn
  rw [show n - p = (n - p - 1) + 1 by omega]
  unfold rnl
  rw [if_pos h]
  omega
theorem tfr_ls {i j : Nat} (hij : i < j) (hr : RC (tkd b n) j) : tfr b n i < tfr b n j := by
  obtain ⟨e, rfl⟩ : ∃ e, j = i + 1 + e := ⟨j - i - 1, by omega⟩
  induction e with
  | zero =>
    have h0 := hr.2 i (by omega)
    refine tfr_lt ?_
    rcases Nat.lt_or_ge (tfr b n i) n with h | h
    · exact h
    · exact absurd (tkd_0.mpr h) h0
  | succ e ih =>
    have h1 := ih (by omega) ⟨by have := hr.1; omega, fun k hk => hr.2 k (by omega)⟩
    have h0 := hr.2 (i + 1 + e) (by omega)
    have h2 : tfr b n (i + 1 + e) < tfr b n (i + 1 + e + 1) := by
      refine tfr_lt ?_
      rcases Nat.lt_or_ge (tfr b n (i + 1 + e)) n with h | h
      · exact h
      · exact absurd (tkd_0.mpr h) h0
    exact Nat.lt_trans h1 h2
theorem EN_b (hn : n ≤ 2000) : EN (rK b n) (rV b n) (tfr b n) (rN b n) (rL b n) (rR b n) := by
  have hlt : ∀ i, tkd b n i ≠ 0 → tfr b n i < n := fun i hi => by
    rcases Nat.lt_or_ge (tfr b n i) n with h | h
    · exact h
    · exact absurd (tkd_0.mpr h) hi
  have hkd : ∀ i, tkd b n i ≠ 0 → tkd b n i = (tkk b n (tfr b n i)).1 := fun i hi => if_neg (Nat.not_le.mpr (hlt i hi))
  refine ⟨fun i => ?_, fun i j hij hr => tfr_ls hij hr, fun i => Nat.le_trans (tfr_le).2 hn, fun i hi => ?_, fun i => ?_, fun i hi => ?_⟩
  · show tkd b n i ≤ 40
    by_cases h : tkd b n i = 0
    · omega
    · rw [hkd i h]; exact tkk_0.2
  · change tkd b n i = 2 at hi
    have hk := hkd i (by omega)
    rw [hi] at hk
    show (tkv b n (tfr b n i)).1 ≤ 9999
    cases hl : cLt (b (tfr b n i)) with
    | true =>
      obtain ⟨_, h2, h3⟩ := tkk_L (n := n) hl
      rw [h3]
      exact Nat.zero_le _
    | false =>
      cases hd : cDg (b (tfr b n i)) with
      | true =>
        obtain ⟨_, h2, h3⟩ := tkk_D (n := n) hl hd
        rw [h3]
        have := nv_lt (b := b) (p := tfr b n i) (m := min (rn cDg b n (tfr b n i)) 4) fun k hk => cDg_i (rn_in (n := n) (by omega))
        have h4 : 10 ^ min (rn cDg b n (tfr b n i)) 4 ≤ 10 ^ 4 := Nat.pow_le_pow_right (by decide) (Nat.min_le_right _ _)
        dsimp only
        omega
      | false =>
        obtain ⟨_, h2, h3⟩ := tkk_S (n := n) hl hd
        rw [h3]
        exact Nat.zero_le _
  · show (tkv b n (tfr b n i)).2 < 2 ^ 60
    cases hl : cLt (b (tfr b n i)) with
    | true =>
      obtain ⟨_, h2, h3⟩ := tkk_L (n := n) hl
      rw [h3]
      have := cn_lt8 (l := fun k => b (tfr b n i + k)) (n := min (rn cLt b n (tfr b n i)) 8) (fun k hk => cLt_i (rn_in (n := n) (by omega))) (Nat.min_le_right _ _)
      change nc b (tfr b n i) (min (rn cLt b n (tfr b n i)) 8) < 2 ^ 40 at this
      dsimp only
      omega
    | false =>
      cases hd : cDg (b (tfr b n i)) with
      | true => rw [(tkk_D (n := n) hl hd).2.2]; exact (by decide : 0 < 2 ^ 60)
      | false => rw [(tkk_S (n := n) hl hd).2.2]; exact (by decide : 0 < 2 ^ 60)
  · change tkd b n i = 1 at hi
    have hk := hkd i (by omega)
    have hln := hlt i (by omega)
    rw [hi] at hk
    cases hl : cLt (b (tfr b n i)) with
    | true =>
      obtain ⟨h1, h2, h3⟩ := tkk_L (n := n) hl
      have h8 : rn cLt b n (tfr b n i) ≤ 8 := by
        rw [h2] at hk
        split at hk
        · omega
        · split at hk
          · assumption
          · omega
      refine ⟨?_, ?_, fun k hk => ?_, ?_⟩
      · show 1 ≤ (tkk b n (tfr b n i)).2
        rw [h1]; exact rn_1 hln hl
      · show (tkk b n (tfr b n i)).2 ≤ 8
        rw [h1]; exact h8
      · have hk : k < (tkk b n (tfr b n i)).2 := hk
        rw [h1] at hk
        exact cLt_i (rn_in hk)
      · show (tkv b n (tfr b n i)).2 = cn (fun k => b (tfr b n i + k)) (tkk b n (tfr b n i)).2
        rw [h3, h1]
        dsimp only
        rw [Nat.min_eq_left h8]
        rfl
    | false =>
      cases hd : cDg (b (tfr b n i)) with
      | true =>
        obtain ⟨_, h2, _⟩ := tkk_D (n := n) hl hd
        rw [h2] at hk
        split at hk <;> omega
      | false =>
        obtain ⟨_, h2, _⟩ := tkk_S (n := n) hl hd
        rw [h2] at hk
        have := sgk_n (c := b (tfr b n i))
        omega
end
theorem bg_RZ {T : Tx} (hT : TW T) : RZ (bg_r T) := fun i hi => by
  unfold bg_r
  have := hT.2.2.2.1
  rw [if_neg (by omega), if_neg (by omega)]
