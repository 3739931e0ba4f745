/-! terms: where they end -/
section
variable {K V : Nat → Nat}
theorem ps_i {t u : Nat} {f : Nat → Pr} {c : Cd} (h : ps t f = .inr (u, c)) : t ≠ 400 ∧ f (t + 1) = .inr (u, c) := by
  unfold ps at h
  split at h
  · cases h
  · rename_i e; exact ⟨e, h⟩
theorem pbd_i {r : Pr} {f : Nat → Cd → Pr} {u : Nat} {c : Cd} (h : pbd r f = .inr (u, c)) : ∃ w e, r = .inr (w, e) ∧ f w e = .inr (u, c) := by
  cases r with
  | inl e => cases h
  | inr x => exact ⟨x.1, x.2, rfl, h⟩
/-- no sign of the same rank behind it -/
theorem px_e3 : ∀ f t op acc u c, px K V f 3 t op acc = .inr (u, c) → K u ≠ 10 ∧ K u ≠ 15 := by
  intro f
  induction f with
  | zero => intro t op acc u c h; cases h
  | succ f ih =>
    intro t op acc u c h
    unfold px at h
    rw [if_neg (by decide), if_neg (by decide), if_neg (by decide), if_pos rfl] at h
    split at h
    · obtain ⟨_, h⟩ := ps_i h
      obtain ⟨w, e, _, h⟩ := pbd_i h
      exact ih _ _ _ _ _ h
    · rename_i hk
      obtain ⟨rfl, rfl⟩ := Prod.mk.inj (Sum.inr.inj h)
      omega
theorem px_e1 {f t op : Nat} {acc c : Cd} {u : Nat} (h : px K V f 1 t op acc = .inr (u, c)) : K u ≠ 10 ∧ K u ≠ 15 := by
  cases f with
  | zero => cases h
  | succ f =>
    unfold px at h
    rw [if_neg (by decide), if_pos rfl] at h
    obtain ⟨w, e, _, h⟩ := pbd_i h
    exact px_e3 _ _ _ _ _ _ h
theorem px_e4 : ∀ f t op acc u c, K t ≠ 10 ∧ K t ≠ 15 → px K V f 4 t op acc = .inr (u, c) → (K u ≠ 10 ∧ K u ≠ 15) ∧ K u ≠ 8 ∧ K u ≠ 9 := by
  intro f
  induction f with
  | zero => intro t op acc u c _ h; cases h
  | succ f ih =>
    intro t op acc u c ht h
    unfold px at h
    rw [if_neg (by decide), if_neg (by decide), if_neg (by decide), if_neg (by decide)] at h
    split at h
    · obtain ⟨_, h⟩ := ps_i h
      obtain ⟨w, e, h1, h⟩ := pbd_i h
      exact ih _ _ _ _ _ (px_e1 h1) h
    · rename_i hk
      obtain ⟨rfl, rfl⟩ := Prod.mk.inj (Sum.inr.inj h)
      exact ⟨ht, by omega⟩
theorem px_e2 {f t op : Nat} {acc c : Cd} {u : Nat} (h : px K V f 2 t op acc = .inr (u, c)) : (K u ≠ 10 ∧ K u ≠ 15) ∧ K u ≠ 8 ∧ K u ≠ 9 := by
  cases f with
  | zero => cases h
  | succ f =>
    unfold px at h
    rw [if_neg (by decide), if_neg (by decide), if_pos rfl] at h
    obtain ⟨w, e, h1, h⟩ := pbd_i h
    exact px_e4 _ _ _ _ _ _ (px_e1 h1) h
end
