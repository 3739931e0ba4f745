/-! more depth does no harm -/
theorem jv_run_call {c1 c2 : Nat → List Value → jv_H → Option jv_R} {mi : Nat} (hc : ∀ y as h r, c1 y as h = some r → c2 y as h = some r) : ∀ (F pc : Nat) (lc : jv_L) (st : List Value) (h : jv_H) (r : jv_R), jv_run c1 mi F pc lc st h = some r → jv_run c2 mi F pc lc st h = some r := by
  intro F
  induction F with
  | zero => intro pc lc st h r e; cases e
  | succ F ih =>
    intro pc lc st h r e
    change jv_body c1 mi (jv_run c1 mi F) pc lc st h = some r at e
    change jv_body c2 mi (jv_run c2 mi F) pc lc st h = some r
    unfold jv_body at e ⊢
    split at e
    · cases e
    next c hs => exact ih _ _ _ _ _ e
    next c hs =>
      obtain ⟨q, hq, e⟩ := Option.bind_eq_some_iff.mp e
      rw [hc _ _ _ _ hq]
      obtain ⟨q1, q2⟩ := q
      cases q1 with
      | inl v => exact ih _ _ _ _ _ e
      | inr v =>
        change (match jv_catch mi pc with | none => some (.inr v, q2) | some hp => jv_run c1 mi F hp lc [.ref v] q2) = some r at e
        change (match jv_catch mi pc with | none => some (.inr v, q2) | some hp => jv_run c2 mi F hp lc [.ref v] q2) = some r
        split at e
        · exact e
        · exact ih _ _ _ _ _ e
    next c hs => exact e
theorem jv_cd_up {d : Nat} : ∀ {mi : Nat} {as : List Value} {h : jv_H} {r : jv_R}, jv_cd d mi as h = some r → jv_cd (d + 1) mi as h = some r := by
  induction d with
  | zero => intro mi as h r e; cases e
  | succ d ih =>
    intro mi as h r e
    rw [jv_cd_succ] at e ⊢
    split at e
    next hl =>
      rw [if_pos hl]
      rw [jv_ev_iff] at e ⊢
      obtain ⟨F, hF⟩ := e
      exact ⟨F, jv_run_call (fun y as h r q => ih q) F _ _ _ _ _ hF⟩
    next => cases e
theorem jv_cd_le {d e : Nat} (hde : d ≤ e) {mi : Nat} {as : List Value} {h : jv_H} {r : jv_R} (hr : jv_cd d mi as h = some r) : jv_cd e mi as h = some r := by
  obtain ⟨k, rfl⟩ := Nat.le.dest hde
  induction k with
  | zero => exact hr
  | succ k ih => exact jv_cd_up (ih (Nat.le_add_right _ _))
