/-! what a text tells, what its laws answer: plain -/
abbrev Cd : Type := List (Nat × Int32)
abbrev Lw : Type := List (Cd × Cd × Cd) × Cd
/-- numbers (rows, width, fields, looms; from 4 on widths of looms), ints (store, gusts, seed; from 10 on needs, from 20 on drowns, from 30 on picks, from 40 on the fields of cells), laws -/
abbrev Tx : Type := (Nat → Nat) × (Nat → Int32) × (Nat → Option Lw)
def t_r (T : Tx) : Nat := T.1 0
def t_w (T : Tx) : Nat := T.1 1
def t_nf (T : Tx) : Nat := T.1 2
def t_nl (T : Tx) : Nat := T.1 3
def t_lw (T : Tx) (l : Nat) : Nat := T.1 (4 + l)
def t_st (T : Tx) : Int32 := T.2.1 0
def t_gu (T : Tx) : Int32 := T.2.1 1
def t_se (T : Tx) : Int32 := T.2.1 2
def t_nd (T : Tx) (f : Nat) : Int32 := T.2.1 (10 + f)
def t_dr (T : Tx) (f : Nat) : Int32 := T.2.1 (20 + f)
def t_pk (T : Tx) (l : Nat) : Int32 := T.2.1 (30 + l)
def t_fd (T : Tx) (c : Nat) : Int32 := T.2.1 (40 + c)
def t_law (T : Tx) (k : Nat) : Option Lw := T.2.2 k
def t_on (T : Tx) (c : Nat) : Bool := decide (c % 8 < t_w T) && decide (c / 8 < t_r T)
/-- one step of a term -/
def rp_s (v : Nat → Int32) (st : List Int32 × Bool) (e : Nat × Int32) : List Int32 × Bool :=
  if e.1 = 0 then (e.2 :: st.1, st.2) else if e.1 = 1 then (v e.2.toNatClampNeg :: st.1, st.2) else match st.1 with
  | b :: a :: r => if e.1 = 2 then ((a + b) :: r, st.2) else if e.1 = 3 then ((a - b) :: r, st.2) else if e.1 = 4 then ((a * b) :: r, st.2) else if b = nI 0 then (nI 0 :: r, true) else (a / b :: r, st.2)
  | _ => st
def rp_v (v : Nat → Int32) (c : Cd) : Int32 := (c.foldl (rp_s v) ([], false)).1.headD 0
def rp_b (v : Nat → Int32) (c : Cd) : Bool := (c.foldl (rp_s v) ([], false)).2
/-- whether a code has its operands, n lying there -/
def dpc : Nat → Cd → Bool
  | n, [] => decide (n = 1)
  | n, e :: r => if e.1 < 2 then dpc (n + 1) r else decide (2 ≤ n) && dpc (n - 1) r
def WC (c : Cd) : Prop := (∀ n r, dpc n (c ++ r) = dpc (n + 1) r) ∧ (∀ v : Nat → Int32, ∃ x k, ∀ st b, c.foldl (rp_s v) (st, b) = (x :: st, b || k)) ∧ (∀ e ∈ c, e.1 ≤ 5 ∧ (e.1 = 1 → ∃ j : Nat, j < 9 ∧ e.2 = nI j)) ∧ c.length ≤ 400
theorem WC_f {c : Cd} (h : WC c) (v : Nat → Int32) (st : List Int32) (b : Bool) : c.foldl (rp_s v) (st, b) = (rp_v v c :: st, b || rp_b v c) := by
  obtain ⟨x, k, hx⟩ := h.2.1 v
  have h0 := hx [] false
  unfold rp_v rp_b
  rw [hx, h0]
  simp
theorem WC_int {x : Int32} : WC [(0, x)] := ⟨fun n r => rfl, fun v => ⟨x, false, fun st b => by simp [rp_s]⟩, fun e he => by
  rw [List.mem_singleton] at he
  subst he
  exact ⟨Nat.zero_le _, fun h => absurd h (by simp)⟩, by simp⟩
theorem WC_var {j : Nat} (hj : j < 9) : WC [(1, nI j)] := ⟨fun n r => rfl, fun v => ⟨v (nI j).toNatClampNeg, false, fun st b => by simp [rp_s]⟩, fun e he => by
  rw [List.mem_singleton] at he
  subst he
  exact ⟨by simp, fun _ => ⟨j, hj, rfl⟩⟩, by simp⟩
theorem WC_join {a b : Cd} {k : Nat} (ha : WC a) (hb : WC b) (hk : 2 ≤ k ∧ k ≤ 5) (hl : (a ++ b).length < 400) : WC (a ++ b ++ [(k, nI 0)]) := by
  refine ⟨fun n r => ?_, fun v => ?_, fun e he => ?_, ?_⟩
  · rw [List.append_assoc, List.append_assoc, ha.1, hb.1]
    show (if k < 2 then _ else _) = _
    rw [if_neg (by omega)]
    simp
  · obtain ⟨x, kx, hx⟩ := ha.2.1 v
    obtain ⟨y, ky, hy⟩ := hb.2.1 v
    have : ∃ z kz, ∀ st bb, rp_s v (y :: x :: st, bb) (k, nI 0) = (z :: st, bb || kz) := by
      rcases (show k = 2 ∨ k = 3 ∨ k = 4 ∨ k = 5 by omega) with h | h | h | h <;> subst h
      · exact ⟨x + y, false, fun st bb => by simp [rp_s]⟩
      · exact ⟨x - y, false, fun st bb => by simp [rp_s]⟩
      · exact ⟨x * y, false, fun st bb => by simp [rp_s]⟩
      · by_cases h0 : y = nI 0
        · exact ⟨nI 0, true, fun st bb => by simp [rp_s, h0]⟩
        · exact ⟨x / y, false, fun st bb => by simp [rp_s, h0]⟩
    obtain ⟨z, kz, hz⟩ := this
    refine ⟨z, (kx || ky) || kz, fun st bb => ?_⟩
    rw [List.foldl_append, List.foldl_append, hx, hy]
    show rp_s v _ _ = _
    rw [hz, Bool.or_assoc, Bool.or_assoc, Bool.or_assoc]
  · rw [List.mem_append, List.mem_append, List.mem_singleton] at he
    rcases he with (he | he) | he
    · exact ha.2.2.1 e he
    · exact hb.2.2.1 e he
    · subst he
      exact ⟨hk.2, fun h => by simp at h; omega⟩
  · rw [List.length_append]
    exact hl
theorem rp_v_int {v : Nat → Int32} {x : Int32} : rp_v v [(0, x)] = x ∧ rp_b v [(0, x)] = false := ⟨rfl, rfl⟩
theorem rp_v_var {v : Nat → Int32} {j : Nat} (hj : j < 9) : rp_v v [(1, nI j)] = v j ∧ rp_b v [(1, nI j)] = false := by
  refine ⟨?_, rfl⟩
  show v (nI j).toNatClampNeg = v j
  rw [nI_clamp (by omega)]
theorem rp_join {v : Nat → Int32} {a b : Cd} {k : Nat} (ha : WC a) (hb : WC b) : (rp_v v (a ++ b ++ [(k, nI 0)]), rp_b v (a ++ b ++ [(k, nI 0)])) = ((rp_s v ([rp_v v b, rp_v v a], rp_b v a || rp_b v b) (k, nI 0)).1.headD 0, (rp_s v ([rp_v v b, rp_v v a], rp_b v a || rp_b v b) (k, nI 0)).2) := by
  unfold rp_v rp_b
  rw [List.foldl_append, List.foldl_append, WC_f ha, WC_f hb]
  rfl
theorem rp_cong {v w : Nat → Int32} (h : ∀ i < 9, v i = w i) {c : Cd} (hc : ∀ e ∈ c, e.1 ≤ 5 ∧ (e.1 = 1 → ∃ j : Nat, j < 9 ∧ e.2 = nI j)) : ∀ x, c.foldl (rp_s v) x = c.foldl (rp_s w) x := by
  induction c with
  | nil => intro x; rfl
  | cons e r ih =>
    intro x
    rw [List.foldl_cons, List.foldl_cons, ih fun e he => hc e (List.mem_cons_of_mem _ he)]
    congr 1
    unfold rp_s
    by_cases h0 : e.1 = 0
    · rw [if_pos h0, if_pos h0]
    · rw [if_neg h0, if_neg h0]
      by_cases h1 : e.1 = 1
      · obtain ⟨j, hj, he⟩ := (hc e (List.mem_cons_self ..)).2 h1
        rw [if_pos h1, if_pos h1, he, nI_clamp (by omega), h j hj]
      · rw [if_neg h1, if_neg h1]
/-- a law by its branches; whether something was divided by nought -/
def lw_f (v : Nat → Int32) (e : Cd) (b : Bool) : Int32 := if (b || rp_b v e) = true then nI 0 else if rp_v v e < nI 0 then nI 0 else rp_v v e
def lw_e (v : Nat → Int32) : List (Cd × Cd × Cd) → Cd → Bool → Int32
  | [], e, b => lw_f v e b
  | t :: r, e, b => if rp_v v t.2.1 ≤ rp_v v t.1 then lw_e v r e (b || rp_b v t.1 || rp_b v t.2.1) else lw_f v t.2.2 (b || rp_b v t.1 || rp_b v t.2.1)
theorem lw_f_t {v : Nat → Int32} {e : Cd} : lw_f v e true = nI 0 := rfl
theorem lw_e_t {v : Nat → Int32} {r : List (Cd × Cd × Cd)} {e : Cd} : lw_e v r e true = nI 0 := by
  induction r with
  | nil => rfl
  | cons t r ih =>
    unfold lw_e
    simp only [Bool.true_or, lw_f_t, ih]
    split <;> rfl
/-- a well-made law -/
def WL (L : Lw) : Prop := L.1.length ≤ 4 ∧ (∀ t ∈ L.1, WC t.1 ∧ WC t.2.1 ∧ WC t.2.2) ∧ WC L.2
theorem lw_f_cong {v w : Nat → Int32} (h : ∀ i < 9, v i = w i) {c : Cd} (hc : WC c) {b : Bool} : lw_f v c b = lw_f w c b := by
  unfold lw_f rp_v rp_b
  rw [rp_cong h hc.2.2.1]
theorem lw_e_cong {v w : Nat → Int32} (h : ∀ i < 9, v i = w i) {e : Cd} (he : WC e) : ∀ {r : List (Cd × Cd × Cd)}, (∀ t ∈ r, WC t.1 ∧ WC t.2.1 ∧ WC t.2.2) → ∀ {b}, lw_e v r e b = lw_e w r e b := by
  intro r
  induction r with
  | nil => intro _ b; exact lw_f_cong h he
  | cons t r ih =>
    intro hr b
    have ht := hr t (List.mem_cons_self ..)
    unfold lw_e
    rw [ih fun t ht => hr t (List.mem_cons_of_mem _ ht), lw_f_cong h ht.2.2]
    unfold rp_v rp_b
    rw [rp_cong h ht.1.2.2.1, rp_cong h ht.2.1.2.2.1]
/-- what a law answers, at most -/
def ak (T : Tx) (k : Nat) (plain most : Int32) (v : Nat → Int32) : Int32 := match t_law T k with
  | none => plain
  | some L => if most < lw_e v L.1 L.2 false then most else lw_e v L.1 L.2 false
/-- nine numbers that are asked -/
def vr (l : List Int32) : Nat → Int32 := fun i => l.getD i (nI 0)
def th (T : Tx) (l warp : Nat) (at_ : Int32) : Int32 := ak T 0 (nI 1) (nI 9) (vr [at_ - at_ / nI 4 * nI 4, nI warp, at_, nI 0, nI 0, nI 0, nI 0, nI l, nI (t_lw T l)])
/-- a well-made text -/
def TW (T : Tx) : Prop := t_r T ≤ 6 ∧ t_w T ≤ 8 ∧ t_nf T ≤ 6 ∧ t_nl T ≤ 4 ∧ (∀ l < t_nl T, 1 ≤ t_lw T l ∧ t_lw T l ≤ 8) ∧ (∀ c < 48, t_on T c = true → t_fd T c = mI 2 ∨ ∃ f : Nat, f < t_nf T ∧ t_fd T c = nI f) ∧ (∀ f < t_nf T, ∃ n : Nat, n ≤ 99 ∧ t_nd T f = nI n) ∧ (∀ k < 3, ∀ L, t_law T k = some L → WL L)
theorem lw_f_r {v : Nat → Int32} {c : Cd} {b : Bool} : ¬ lw_f v c b < nI 0 := by
  unfold lw_f
  split
  · decide
  · split
    · decide
    · assumption
theorem lw_e_r {v : Nat → Int32} {e : Cd} : ∀ {r : List (Cd × Cd × Cd)} {b}, ¬ lw_e v r e b < nI 0 := by
  intro r
  induction r with
  | nil => intro b; exact lw_f_r
  | cons t r ih =>
    intro b
    unfold lw_e
    split
    · exact ih
    · exact lw_f_r
theorem ak_r {T : Tx} {k plain most : Nat} {v : Nat → Int32} (hp : plain ≤ most) (hm : most < 2 ^ 31) : ∃ n : Nat, n ≤ most ∧ ak T k (nI plain) (nI most) v = nI n := by
  unfold ak
  split
  · exact ⟨plain, hp, rfl⟩
  · rename_i L _
    split
    · exact ⟨most, Nat.le_refl _, rfl⟩
    · rename_i h
      obtain ⟨j, hj, e⟩ := nI_of (x := lw_e v L.1 L.2 false) lw_e_r
      rw [e, nI_ltI hm hj] at h
      exact ⟨j, by omega, e⟩
