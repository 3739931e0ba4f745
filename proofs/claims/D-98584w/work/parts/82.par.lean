/-! terms: plain -/
/-- a fault: its number, its token; or where it ends, the code -/
abbrev Pr : Type := (Nat × Nat) ⊕ (Nat × Cd)
def okd (k : Nat) : Nat := if k = 8 then 2 else if k = 9 then 3 else if k = 10 then 4 else 5
def pbd (r : Pr) (f : Nat → Cd → Pr) : Pr := match r with
  | .inl e => .inl e
  | .inr x => f x.1 x.2
/-- on to the next token -/
def ps (t : Nat) (f : Nat → Pr) : Pr := if t = 400 then .inl (2, t) else f (t + 1)
/-- what is read: 0 a unit, 1 a part, 2 a sum, 3 the rest of a part, 4 the rest of a sum; tokens' sorts, values -/
def px (K V : Nat → Nat) : Nat → Nat → Nat → Nat → Cd → Pr
  | 0, _, _, _, _ => .inl (9, 0)
  | f + 1, m, t, op, acc =>
    if m = 0 then
      (if K t = 2 then ps t fun u => .inr (u, [(0, nI (V t))])
      else if 32 ≤ K t ∧ K t ≤ 40 then ps t fun u => .inr (u, [(1, nI (K t - 32))])
      else if K t = 6 then (if op = 6 then .inl (2, t) else ps t fun u => pbd (px K V f 2 u (op + 1) []) fun w cd => if K w = 7 then ps w fun x => .inr (x, cd) else .inl (1, w))
      else .inl (1, t))
    else if m = 1 then pbd (px K V f 0 t op []) fun u a => px K V f 3 u op a
    else if m = 2 then pbd (px K V f 1 t op []) fun u a => px K V f 4 u op a
    else if m = 3 then (if K t = 10 ∨ K t = 15 then ps t fun u => pbd (px K V f 0 u op []) fun w c => px K V f 3 w op (acc ++ c ++ [(okd (K t), nI 0)]) else .inr (t, acc))
    else (if K t = 8 ∨ K t = 9 then ps t fun u => pbd (px K V f 1 u op []) fun w c => px K V f 4 w op (acc ++ c ++ [(okd (K t), nI 0)]) else .inr (t, acc))
/-- what is known of an answer -/
def pk (r : Pr) (t t1 z : Nat) : Prop := match r with
  | .inl e => (e.1 = 1 ∨ e.1 = 2) ∧ t ≤ e.2 ∧ e.2 ≤ 400
  | .inr x => t1 ≤ x.1 ∧ x.1 ≤ 400 ∧ WC x.2 ∧ x.2.length + z ≤ x.1
theorem okd_r {k : Nat} : 2 ≤ okd k ∧ okd k ≤ 5 := by
  unfold okd
  repeat' split
  all_goals decide
section
variable {K V : Nat → Nat}
theorem pk_ps {t a t1 z : Nat} {f : Nat → Pr} (ht : t ≤ 400) (ha : a ≤ t) (h : t < 400 → pk (f (t + 1)) a t1 z) : pk (ps t f) a t1 z := by
  unfold ps
  split
  · exact ⟨Or.inr rfl, ha, ht⟩
  · exact h (by omega)
theorem pk_bd {r : Pr} {f : Nat → Cd → Pr} {a b t1 u1 z y : Nat} (h : pk r a t1 z) (hb : b ≤ a) (hf : ∀ u c, t1 ≤ u → u ≤ 400 → WC c → c.length + z ≤ u → pk (f u c) b u1 y) : pk (pbd r f) b u1 y := by
  cases r with
  | inl e => exact ⟨h.1, by have := h.2.1; omega, h.2.2⟩
  | inr x => exact hf x.1 x.2 h.1 h.2.1 h.2.2.1 h.2.2.2
theorem pk_wk {r : Pr} {a b t1 u1 z y : Nat} (h : pk r a t1 z) (hb : b ≤ a) (hu : u1 ≤ t1) (hy : y ≤ z) : pk r b u1 y := by
  cases r with
  | inl e => exact ⟨h.1, by have := h.2.1; omega, h.2.2⟩
  | inr x => exact ⟨by have := h.1; omega, h.2.1, h.2.2.1, by have := h.2.2.2; omega⟩
theorem px_k : ∀ f t op acc, t ≤ 400 → (4 * (401 - t) < f + 0 → pk (px K V f 0 t op acc) t (t + 1) t) ∧ (4 * (401 - t) + 1 < f → pk (px K V f 1 t op acc) t (t + 1) t) ∧ (4 * (401 - t) + 2 < f → pk (px K V f 2 t op acc) t (t + 1) t) ∧ (∀ z, 4 * (401 - t) + 1 < f → WC acc → acc.length + z ≤ t → pk (px K V f 3 t op acc) t t z) ∧ (∀ z, 4 * (401 - t) + 1 < f → WC acc → acc.length + z ≤ t → pk (px K V f 4 t op acc) t t z) := by
  intro f
  induction f with
  | zero => intro t op acc ht; exact ⟨fun h => by omega, fun h => by omega, fun h => by omega, fun z h => by omega, fun z h => by omega⟩
  | succ f ih =>
    intro t op acc ht
    refine ⟨fun hf => ?_, fun hf => ?_, fun hf => ?_, fun z hf hw hz => ?_, fun z hf hw hz => ?_⟩
    · unfold px
      rw [if_pos rfl]
      split
      · exact pk_ps ht (Nat.le_refl _) fun h => ⟨Nat.le_refl _, by omega, WC_int, by simp; omega⟩
      · split
        · rename_i hk
          exact pk_ps ht (Nat.le_refl _) fun h => ⟨Nat.le_refl _, by omega, WC_var (by omega), by simp; omega⟩
        · split
          · split
            · exact ⟨Or.inr rfl, Nat.le_refl _, ht⟩
            · refine pk_ps ht (Nat.le_refl _) fun h => pk_bd ((ih (t + 1) (op + 1) [] (by omega)).2.2.1 (by omega)) (by omega) fun u c h1 h2 h3 h4 => ?_
              split
              · refine pk_ps h2 (by omega) fun h5 => ⟨by dsimp only; omega, by dsimp only; omega, h3, by dsimp only; omega⟩
              · exact ⟨Or.inl rfl, by dsimp only; omega, h2⟩
          · exact ⟨Or.inl rfl, Nat.le_refl _, ht⟩
    · unfold px
      rw [if_neg (by decide), if_pos rfl]
      refine pk_bd ((ih t op [] ht).1 (by omega)) (Nat.le_refl _) fun u c h1 h2 h3 h4 => ?_
      exact pk_wk ((ih u op c h2).2.2.2.1 t (by omega) h3 h4) (by omega) (by omega) (Nat.le_refl _)
    · unfold px
      rw [if_neg (by decide), if_neg (by decide), if_pos rfl]
      refine pk_bd ((ih t op [] ht).2.1 (by omega)) (Nat.le_refl _) fun u c h1 h2 h3 h4 => ?_
      exact pk_wk ((ih u op c h2).2.2.2.2 t (by omega) h3 h4) (by omega) (by omega) (Nat.le_refl _)
    · unfold px
      rw [if_neg (by decide), if_neg (by decide), if_neg (by decide), if_pos rfl]
      split
      · refine pk_ps ht (Nat.le_refl _) fun h => pk_bd ((ih (t + 1) op [] (by omega)).1 (by omega)) (by omega) fun u c h1 h2 h3 h4 => ?_
        refine pk_wk ((ih u op _ h2).2.2.2.1 z (by omega) (WC_join hw h3 okd_r (by rw [List.length_append]; omega)) (by simp; omega)) (by omega) (by omega) (Nat.le_refl _)
      · exact ⟨Nat.le_refl _, ht, hw, hz⟩
    · unfold px
      rw [if_neg (by decide), if_neg (by decide), if_neg (by decide), if_neg (by decide)]
      split
      · refine pk_ps ht (Nat.le_refl _) fun h => pk_bd ((ih (t + 1) op [] (by omega)).2.1 (by omega)) (by omega) fun u c h1 h2 h3 h4 => ?_
        refine pk_wk ((ih u op _ h2).2.2.2.2 z (by omega) (WC_join hw h3 okd_r (by rw [List.length_append]; omega)) (by simp; omega)) (by omega) (by omega) (Nat.le_refl _)
      · exact ⟨Nat.le_refl _, ht, hw, hz⟩
end
