/-! which loom serves which field: plain -/
theorem bt_t : ∀ u : Fin 64, ∀ f : Fin 6, (((nI u.val >>> (nI f.val &&& nI 31)) &&& nI 1) = nI 1) ↔ u.val.testBit f.val = true := by decide +kernel
theorem bt_o : ∀ u : Fin 64, ∀ f : Fin 6, (nI u.val ||| nI 1 <<< (nI f.val &&& nI 31)) = nI (u.val ||| 1 <<< f.val) ∧ (u.val ||| 1 <<< f.val) < 64 := by decide +kernel
theorem bit_t {u f : Nat} (hu : u < 64) (hf : f < 6) : (((nI u >>> (nI f &&& nI 31)) &&& nI 1) = nI 1) ↔ u.testBit f = true := bt_t ⟨u, hu⟩ ⟨f, hf⟩
theorem bit_o {u f : Nat} (hu : u < 64) (hf : f < 6) : (nI u ||| nI 1 <<< (nI f &&& nI 31)) = nI (u ||| 1 <<< f) := (bt_o ⟨u, hu⟩ ⟨f, hf⟩).1
theorem bit_l {u f : Nat} (hu : u < 64) (hf : f < 6) : (u ||| 1 <<< f) < 64 := (bt_o ⟨u, hu⟩ ⟨f, hf⟩).2
/-- the field of a loom in a way -/
def sv_d (nl n l : Nat) : Nat := n / 6 ^ (nl - 1 - l) % 6
def sv_s (nl nf : Nat) (O : Nat → Nat → Nat) (n l : Nat) (st : Option (Nat × Nat)) : Option (Nat × Nat) := match st with
  | none => none
  | some x => if sv_d nl n l < nf ∧ x.1.testBit (sv_d nl n l) = false then some (x.1 ||| 1 <<< sv_d nl n l, x.2 + O l (sv_d nl n l)) else none
/-- after so many looms -/
def sv_p (nl nf : Nat) (O : Nat → Nat → Nat) (n l : Nat) : Option (Nat × Nat) := it (sv_s nl nf O n) l (some (0, 0))
/-- the best so far: sum, way -/
def sv_t (nl nf : Nat) (O : Nat → Nat → Nat) (n : Nat) (b : Option (Nat × Nat)) : Option (Nat × Nat) := match sv_p nl nf O n nl with
  | none => b
  | some x => match b with
    | none => some (x.2, n)
    | some y => if y.1 ≤ x.2 then some y else some (x.2, n)
def sv_f (nl nf : Nat) (O : Nat → Nat → Nat) (a m : Nat) (b : Option (Nat × Nat)) : Option (Nat × Nat) := it (fun i b => sv_t nl nf O (a + i) b) m b
section
variable {nl nf : Nat} {O : Nat → Nat → Nat}
theorem sv_f_add {a m k : Nat} {b : Option (Nat × Nat)} : sv_f nl nf O a (m + k) b = sv_f nl nf O (a + m) k (sv_f nl nf O a m b) := by
  induction k with
  | zero => rfl
  | succ k ih =>
    show sv_t nl nf O (a + (m + k)) (sv_f nl nf O a (m + k) b) = sv_t nl nf O (a + m + k) (sv_f nl nf O (a + m) k (sv_f nl nf O a m b))
    rw [ih, Nat.add_assoc]
theorem sv_f_id {a m : Nat} {b : Option (Nat × Nat)} (h : ∀ i, i < m → sv_t nl nf O (a + i) b = b) : sv_f nl nf O a m b = b := by
  induction m with
  | zero => rfl
  | succ m ih =>
    show sv_t nl nf O (a + m) (sv_f nl nf O a m b) = b
    rw [ih fun i hi => h i (by omega)]
    exact h m (by omega)
/-- the digits of a block's ways -/
theorem sv_d_blk {P e i l : Nat} (hl : l + e < nl + 1) (hl2 : l < nl - e) (hi : i < 6 ^ e) (he : e ≤ nl) : sv_d nl (P * 6 ^ e + i) l = P / 6 ^ (nl - e - 1 - l) % 6 := by
  unfold sv_d
  have h1 : nl - 1 - l = e + (nl - e - 1 - l) := by omega
  rw [h1, Nat.pow_add, ← Nat.div_div_eq_div_mul, Nat.mul_comm P, Nat.mul_add_div (Nat.pow_pos (by decide)), Nat.div_eq_of_lt hi, Nat.add_zero]
theorem sv_p_blk {P e i j : Nat} (he : e ≤ nl) (hi : i < 6 ^ e) (hj : j < 6 ^ e) : ∀ l, l ≤ nl - e → sv_p nl nf O (P * 6 ^ e + i) l = sv_p nl nf O (P * 6 ^ e + j) l := by
  intro l
  induction l with
  | zero => intro _; rfl
  | succ l ih =>
    intro hl
    show sv_s nl nf O (P * 6 ^ e + i) l (sv_p nl nf O (P * 6 ^ e + i) l) = sv_s nl nf O (P * 6 ^ e + j) l (sv_p nl nf O (P * 6 ^ e + j) l)
    rw [ih (by omega)]
    unfold sv_s
    rw [sv_d_blk (by omega) (by omega) hi he, sv_d_blk (by omega) (by omega) hj he]
/-- none stays none, sums don't fall -/
theorem sv_p_none {n l : Nat} (h : sv_p nl nf O n l = none) : ∀ m, l ≤ m → sv_p nl nf O n m = none := by
  intro m hm
  obtain ⟨k, rfl⟩ := Nat.le.dest hm
  clear hm
  induction k with
  | zero => exact h
  | succ k ih =>
    show sv_s nl nf O n (l + k) (sv_p nl nf O n (l + k)) = none
    rw [ih]
    rfl
theorem sv_p_up {n l : Nat} {x : Nat × Nat} (h : sv_p nl nf O n l = some x) : ∀ m, l ≤ m → ∀ y, sv_p nl nf O n m = some y → x.2 ≤ y.2 := by
  intro m hm
  obtain ⟨k, rfl⟩ := Nat.le.dest hm
  clear hm
  induction k with
  | zero =>
    intro y hy
    rw [Nat.add_zero, h] at hy
    obtain rfl := Option.some.inj hy
    exact Nat.le_refl _
  | succ k ih =>
    intro y hy
    have hy : sv_s nl nf O n (l + k) (sv_p nl nf O n (l + k)) = some y := hy
    cases hz : sv_p nl nf O n (l + k) with
    | none => rw [hz] at hy; cases hy
    | some z =>
      rw [hz] at hy
      have := ih z hz
      unfold sv_s at hy
      dsimp only at hy
      split at hy
      · obtain rfl := Option.some.inj hy
        dsimp only
        omega
      · cases hy
/-- a block that can't be better -/
theorem sv_cut {P e : Nat} {x y : Nat × Nat} (he : e ≤ nl) (hp : sv_p nl nf O (P * 6 ^ e) (nl - e) = some x) (hy : y.1 ≤ x.2) : sv_f nl nf O (P * 6 ^ e) (6 ^ e) (some y) = some y := by
  refine sv_f_id fun i hi => ?_
  have h1 := sv_p_blk (nl := nl) (nf := nf) (O := O) (P := P) (i := i) (j := 0) he hi (Nat.pow_pos (by decide)) (nl - e) (Nat.le_refl _)
  rw [Nat.add_zero, hp] at h1
  unfold sv_t
  cases hz : sv_p nl nf O (P * 6 ^ e + i) nl with
  | none => rfl
  | some z =>
    have := sv_p_up h1 nl (by omega) z hz
    dsimp only
    rw [if_pos (by omega)]
/-- a block of no ways -/
theorem sv_no {P e : Nat} {b : Option (Nat × Nat)} (he : e ≤ nl) (hp : sv_p nl nf O (P * 6 ^ e) (nl - e) = none) : sv_f nl nf O (P * 6 ^ e) (6 ^ e) b = b := by
  refine sv_f_id fun i hi => ?_
  have h1 := sv_p_blk (nl := nl) (nf := nf) (O := O) (P := P) (i := i) (j := 0) he hi (Nat.pow_pos (by decide)) (nl - e) (Nat.le_refl _)
  rw [Nat.add_zero, hp] at h1
  unfold sv_t
  rw [sv_p_none h1 nl (by omega)]
/-- one loom more -/
theorem sv_next {P e f : Nat} {x : Nat × Nat} (he : e + 1 ≤ nl) (hf : f < 6) (hp : sv_p nl nf O (P * 6 ^ (e + 1)) (nl - (e + 1)) = some x) : sv_p nl nf O ((6 * P + f) * 6 ^ e) (nl - e) = if f < nf ∧ x.1.testBit f = false then some (x.1 ||| 1 <<< f, x.2 + O (nl - (e + 1)) f) else none := by
  have e1 : (6 * P + f) * 6 ^ e = P * 6 ^ (e + 1) + f * 6 ^ e := by rw [Nat.pow_succ, Nat.add_mul, Nat.mul_comm 6 P, Nat.mul_assoc, Nat.mul_comm 6 (6 ^ e)]
  have hlt : f * 6 ^ e < 6 ^ (e + 1) := by
    rw [Nat.pow_succ, Nat.mul_comm (6 ^ e) 6]
    exact Nat.mul_lt_mul_of_pos_right hf (Nat.pow_pos (by decide))
  have h1 := sv_p_blk (nl := nl) (nf := nf) (O := O) (P := P) (e := e + 1) (i := f * 6 ^ e) (j := 0) he hlt (Nat.pow_pos (by decide)) (nl - (e + 1)) (Nat.le_refl _)
  rw [Nat.add_zero (P * 6 ^ (e + 1)), hp] at h1
  rw [show nl - e = (nl - (e + 1)) + 1 by omega, e1]
  show sv_s nl nf O (P * 6 ^ (e + 1) + f * 6 ^ e) (nl - (e + 1)) (sv_p nl nf O (P * 6 ^ (e + 1) + f * 6 ^ e) (nl - (e + 1))) = _
  rw [h1]
  have hd : sv_d nl (P * 6 ^ (e + 1) + f * 6 ^ e) (nl - (e + 1)) = f := by
    rw [← e1]
    unfold sv_d
    rw [show nl - 1 - (nl - (e + 1)) = e by omega, Nat.mul_div_cancel _ (Nat.pow_pos (by decide))]
    omega
  unfold sv_s
  dsimp only
  rw [hd]
theorem sv_has (h : nl ≤ nf) (h6 : nf ≤ 6) : ∀ l, l ≤ nl → ∃ P x, P < 6 ^ l ∧ sv_p nl nf O (P * 6 ^ (nl - l)) l = some x ∧ ∀ f, l ≤ f → x.1.testBit f = false := by
  intro l
  induction l with
  | zero => intro _; exact ⟨0, (0, 0), by decide, rfl, fun f _ => Nat.zero_testBit f⟩
  | succ l ih =>
    intro hl
    obtain ⟨P, x, h1, h2, h3⟩ := ih (by omega)
    obtain ⟨e, he⟩ : ∃ e, nl - l = e + 1 := ⟨nl - l - 1, by omega⟩
    have e1 : nl - (l + 1) = e := by omega
    have e2 : nl - (e + 1) = l := by omega
    rw [he] at h2
    have := sv_next (nl := nl) (nf := nf) (O := O) (P := P) (e := e) (f := l) (x := x) (by omega) (by omega) (by rw [e2]; exact h2)
    rw [if_pos ⟨by omega, h3 l (Nat.le_refl _)⟩, show nl - e = l + 1 by omega] at this
    refine ⟨6 * P + l, _, ?_, by rw [e1]; exact this, fun f hf => ?_⟩
    · rw [Nat.pow_succ]
      omega
    · rw [cu_tb, h3 f (by omega)]
      simp
      omega
theorem sv_t_some {n : Nat} {b : Option (Nat × Nat)} (h : b.isSome ∨ (sv_p nl nf O n nl).isSome) : (sv_t nl nf O n b).isSome := by
  unfold sv_t
  cases hp : sv_p nl nf O n nl with
  | none =>
    rw [hp] at h
    rcases h with h | h
    · exact h
    · cases h
  | some x =>
    cases b with
    | none => rfl
    | some y =>
      dsimp only
      split <;> rfl
theorem sv_some (h : nl ≤ nf) (h6 : nf ≤ 6) : ∃ y, sv_f nl nf O 0 (6 ^ nl) none = some y := by
  obtain ⟨P, x, h1, h2, _⟩ := sv_has (O := O) h h6 nl (Nat.le_refl _)
  rw [Nat.sub_self, Nat.pow_zero, Nat.mul_one] at h2
  have key : ∀ m, P < m → (sv_f nl nf O 0 m none).isSome := by
    intro m
    induction m with
    | zero => intro h; omega
    | succ m ih =>
      intro hm
      show (sv_t nl nf O (0 + m) (sv_f nl nf O 0 m none)).isSome
      by_cases e : P = m
      · subst e
        refine sv_t_some (Or.inr ?_)
        rw [Nat.zero_add, h2]
        rfl
      · exact sv_t_some (Or.inl (ih (by omega)))
  exact Option.isSome_iff_exists.mp (key _ h1)
/-- sums, ways are small -/
theorem sv_p_lt {n : Nat} (hO : ∀ l f, O l f ≤ 4752) : ∀ l x, sv_p nl nf O n l = some x → x.2 ≤ 4752 * l ∧ (nf ≤ 6 → x.1 < 64) := by
  intro l
  induction l with
  | zero =>
    intro x hx
    obtain rfl := Option.some.inj hx
    exact ⟨Nat.le_refl _, fun _ => by decide⟩
  | succ l ih =>
    intro x hx
    have hx : sv_s nl nf O n l (sv_p nl nf O n l) = some x := hx
    cases hz : sv_p nl nf O n l with
    | none => rw [hz] at hx; cases hx
    | some z =>
      rw [hz] at hx
      obtain ⟨i1, i2⟩ := ih z hz
      unfold sv_s at hx
      dsimp only at hx
      split at hx
      · rename_i hc
        obtain rfl := Option.some.inj hx
        have := hO l (sv_d nl n l)
        refine ⟨by dsimp only; omega, fun h6 => bit_l (i2 h6) (by omega)⟩
      · cases hx
theorem sv_f_lt (hO : ∀ l f, O l f ≤ 4752) : ∀ m y, sv_f nl nf O 0 m none = some y → y.1 ≤ 4752 * nl ∧ y.2 < m := by
  intro m
  induction m with
  | zero => intro y hy; cases hy
  | succ m ih =>
    intro y hy
    have hy : sv_t nl nf O (0 + m) (sv_f nl nf O 0 m none) = some y := hy
    rw [Nat.zero_add] at hy
    unfold sv_t at hy
    cases hp : sv_p nl nf O m nl with
    | none =>
      rw [hp] at hy
      have := ih y hy
      exact ⟨this.1, by omega⟩
    | some x =>
      rw [hp] at hy
      have hx := (sv_p_lt hO nl x hp).1
      cases hb : sv_f nl nf O 0 m none with
      | none =>
        rw [hb] at hy
        obtain rfl := Option.some.inj hy
        exact ⟨hx, by dsimp only; omega⟩
      | some z =>
        rw [hb] at hy
        have := ih z hb
        dsimp only at hy
        split at hy
        · obtain rfl := Option.some.inj hy
          exact ⟨this.1, by omega⟩
        · obtain rfl := Option.some.inj hy
          exact ⟨hx, by dsimp only; omega⟩
end
/-- how far off, as a number -/
def of_n (T : Tx) (R : Nat → Int32) (w h : Nat) : Nat → Nat → Nat := fun l f => if f < t_nf T then (of_v T R l f w h).toNatClampNeg else 0
theorem of_nI {T : Tx} (hT : TW T) {R : Nat → Int32} {l f w h : Nat} (hf : f < t_nf T) (hw : w * h ≤ 48) : of_v T R l f w h = nI (of_n T R w h l f) := by
  obtain ⟨n, hn, e⟩ := of_r hT (r := R) (l := l) (f := f) (w := w) (h := h) hf hw
  unfold of_n
  rw [if_pos hf, e, nI_clamp (by omega)]
theorem of_le {T : Tx} (hT : TW T) {R : Nat → Int32} {w h : Nat} (hw : w * h ≤ 48) : ∀ l f, of_n T R w h l f ≤ 4752 := by
  intro l f
  unfold of_n
  split
  · rename_i hf
    obtain ⟨n, hn, e⟩ := of_r hT (r := R) (l := l) (f := f) (w := w) (h := h) hf hw
    rw [e, nI_clamp (by omega)]
    exact hn
  · exact Nat.zero_le _
def f_serve (T : Tx) (R : Nat → Int32) (w h i : Int32) : Int32 := if (ir w 1 9 && (ir h 1 7 && (decide (mI 1 ≤ i) && decide (i ≤ nI (t_nl T) - nI 1)))) = true then
  (match ff (fun l => decide (t_lw T l < w.toNatClampNeg)) 0 (t_nl T) with
    | some _ => mI 1
    | none => if t_nf T < t_nl T then mI 2 else match sv_f (t_nl T) (t_nf T) (of_n T R w.toNatClampNeg h.toNatClampNeg) 0 (6 ^ t_nl T) none with
      | none => nI 0
      | some y => if i = mI 1 then nI y.1 else nI (sv_d (t_nl T) y.2 i.toNatClampNeg)) else mI 1
theorem im_T {i : Int32} {n : Nat} (hn : n < 1000) (h : (decide (mI 1 ≤ i) && decide (i ≤ nI n - nI 1)) = true) : i = mI 1 ∨ ∃ j : Nat, j < n ∧ i = nI j := by
  rw [Bool.and_eq_true, decide_eq_true_eq, decide_eq_true_eq, nI_lt_sub (by omega), Int32.le_iff_toInt_le, Int32.lt_iff_toInt_lt, mI_toInt (by decide), nI_toInt (by omega)] at h
  by_cases h0 : i < 0
  · left
    apply Int32.toInt_inj.mp
    rw [mI_toInt (by decide)]
    rw [Int32.lt_iff_toInt_lt] at h0
    have e : (0 : Int32).toInt = 0 := rfl
    omega
  · right
    obtain ⟨j, hj, rfl⟩ := nI_of h0
    rw [nI_toInt hj] at h
    exact ⟨j, by omega, rfl⟩
