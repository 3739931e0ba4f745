/-! the reference: what reading a term changes -/
section
variable {c0 c : Nat} {s s' s2 : tw_S}
def EF (c0 : Nat) (s s' : tw_S) : Prop := (∀ j, ¬ (j = 11 ∨ j = 12 ∨ j = 13 ∨ j = 14 ∨ j = 42 ∨ j = 46) → s'.1 j = s.1 j) ∧ (∀ j, ¬ (j = 43 ∨ j = 44 ∨ j = 45) → s'.2.1 j = s.2.1 j) ∧ (∀ i, i < c0 ∨ 420 * (c0 / 420 + 1) ≤ i → s'.2.1 43 i = s.2.1 43 i ∧ s'.2.1 44 i = s.2.1 44 i) ∧ s'.2.2 = s.2.2
theorem EF_id : EF c0 s s := ⟨fun _ _ => rfl, fun _ _ => rfl, fun _ _ => ⟨rfl, rfl⟩, rfl⟩
theorem EF_tr (h1 : EF c0 s s') (h2 : EF c0 s' s2) : EF c0 s s2 := ⟨fun j hj => (h2.1 j hj).trans (h1.1 j hj), fun j hj => (h2.2.1 j hj).trans (h1.2.1 j hj), fun i hi => ⟨(h2.2.2.1 i hi).1.trans (h1.2.2.1 i hi).1, (h2.2.2.1 i hi).2.trans (h1.2.2.1 i hi).2⟩, h2.2.2.2.trans h1.2.2.2⟩
theorem EF_i {j : Nat} {v : Int32} (hj : j = 11 ∨ j = 12 ∨ j = 13 ∨ j = 14 ∨ j = 42 ∨ j = 46) : EF c0 s (tw_i s j v) := ⟨fun i hi => by rw [tw_i1, if_neg (fun e => hi (by rw [e]; exact hj))], fun _ _ => rfl, fun _ _ => ⟨rfl, rfl⟩, rfl⟩
theorem EF_w {f : Nat → Int32} : EF c0 s (tw_a s 45 f) := ⟨fun _ _ => rfl, fun i hi => by rw [tw_a2, if_neg (by omega)], fun _ _ => ⟨rfl, rfl⟩, rfl⟩
theorem EF_e {k : Nat} {v : Int32} (hc : c0 ≤ c) (hc2 : c < 420 * (c0 / 420 + 1)) : EF c0 s (emS s c k v) := by
  refine ⟨fun j hj => ?_, fun j hj => ?_, fun i hi => ⟨?_, ?_⟩, rfl⟩
  · show (if j = 42 then _ else s.1 j) = _
    rw [if_neg (by omega)]
  · show (if j = 44 then _ else if j = 43 then _ else s.2.1 j) = _
    rw [if_neg (by omega), if_neg (by omega)]
  · show upd (s.2.1 43) c (nI k) i = _
    exact pk_un (by omega)
  · show upd (s.2.1 44) c v i = _
    exact pk_un (by omega)
theorem EF_f {k : Nat} {w : Int32} : EF c0 s (flS s k w) := EF_tr (EF_i (j := 13) (by omega)) (EF_i (j := 14) (by omega))
theorem EF_co : ∀ (l : List Nat) (s : tw_S) (c n : Nat), c0 ≤ c → c + l.length ≤ 420 * (c0 / 420 + 1) → EF c0 s (coS s c n l) := by
  intro l
  induction l with
  | nil => intro s c n _ _; exact EF_id
  | cons k l ih => intro s c n hc hc2; rw [List.length_cons] at hc2; exact EF_tr (EF_i (j := 46) (by omega)) (EF_tr (EF_e hc (by omega)) (ih _ _ _ (by omega) (by omega)))
/-- code put behind code -/
theorem SG_e {a : Nat} {cd : Cd} {k : Nat} {v : Int32} (h : SG s a cd) (hc : c = a + cd.length) : SG (emS s c k v) a (cd ++ [(k, v)]) := by
  intro j e he
  by_cases hj : j < cd.length
  · rw [List.getElem?_append_left hj] at he
    obtain ⟨h1, h2⟩ := h j e he
    exact ⟨(pk_un (by omega)).trans h1, (pk_un (by omega)).trans h2⟩
  · rw [List.getElem?_append_right (by omega)] at he
    have hj2 : j - cd.length = 0 := by
      cases hz : j - cd.length with
      | zero => rfl
      | succ z => rw [hz] at he; cases he
    rw [hj2] at he
    obtain rfl := Option.some.inj he
    have : a + j = c := by omega
    rw [this]
    exact ⟨pk_us, pk_us⟩
theorem coS_1 : ∀ (l : List Nat) (s : tw_S) (c n : Nat), (∀ j, j ≠ 42 → j ≠ 46 → (coS s c n l).1 j = s.1 j) ∧ (s.1 42 = nI c → (coS s c n l).1 42 = nI (c + l.length)) ∧ (s.1 46 = nI n → (coS s c n l).1 46 = nI (n - l.length)) ∧ (coS s c n l).2.1 45 = s.2.1 45 := by
  intro l
  induction l with
  | nil => intro s c n; exact ⟨fun _ _ _ => rfl, fun h => h, fun h => h, rfl⟩
  | cons k l ih =>
    intro s c n
    obtain ⟨h1, h2, h3, h4⟩ := ih (emS (tw_i s 46 (nI (n - 1))) c (okd k) (nI 0)) (c + 1) (n - 1)
    refine ⟨fun j a b => (h1 j a b).trans ?_, fun _ => (h2 rfl).trans ?_, fun _ => (h3 rfl).trans ?_, h4⟩
    · show (if j = 42 then _ else if j = 46 then _ else s.1 j) = _
      rw [if_neg a, if_neg b]
    · rw [List.length_cons, show c + 1 + l.length = c + (l.length + 1) by omega]
    · rw [List.length_cons, show n - 1 - l.length = n - (l.length + 1) by omega]
theorem SG_co {a : Nat} : ∀ (l : List Nat) (s : tw_S) (c n : Nat) (cd : Cd), SG s a cd → c = a + cd.length → SG (coS s c n l) a (cd ++ l.map fun k => (okd k, nI 0)) := by
  intro l
  induction l with
  | nil => intro s c n cd h _; rw [List.map_nil, List.append_nil]; exact h
  | cons k l ih =>
    intro s c n cd h hc
    have := ih (emS (tw_i s 46 (nI (n - 1))) c (okd k) (nI 0)) (c + 1) (n - 1) (cd ++ [(okd k, nI 0)]) (SG_e (s := tw_i s 46 (nI (n - 1))) h hc) (by simp; omega)
    rw [List.append_assoc] at this
    exact this
end
