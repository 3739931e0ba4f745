/-! a land and its row: printed by gen_lr.py -/
/-- an order of a loom -/
def LO (s : rg_S) (r : Nat → Int32) (l : Nat) : Prop := (r (52 + l) = nI 0 ∧ s.2 6 l = mI 2 ∧ s.2 7 l = mI 2 ∧ s.2 8 l = mI 2 ∧ s.2 9 l = mI 2) ∨ (r (52 + l) ≠ nI 0 ∧ s.2 6 l = r (52 + l) ∧ s.2 7 l = r (56 + l) ∧ s.2 8 l = r (60 + l) ∧ s.2 9 l = r (64 + l))
def LR (s : rg_S) (r : Nat → Int32) : Prop := (∀ i < 48, s.2 0 i = r (0 + i)) ∧ (∀ i < 6, s.2 1 i = r (76 + i)) ∧ (∀ i < 6, s.2 2 i = r (82 + i)) ∧ (∀ i < 4, s.2 3 i = r (48 + i)) ∧ (∀ i < 4, s.2 4 i = r (68 + i)) ∧ (∀ i < 4, s.2 5 i = r (72 + i)) ∧ (∀ i < 4, LO s r i) ∧ s.1 0 = r 88 ∧ s.1 1 = r 89
/-- what is asked aside -/
def lk (s : rg_S) (v : Nat → Int32) (b : Int32) : rg_S := ra (ri s 3 b) 10 v
theorem lo_cong {s s' : rg_S} {r r' : Nat → Int32} {l : Nat} (h : LO s r l) (h6 : s'.2 6 l = s.2 6 l) (h7 : s'.2 7 l = s.2 7 l) (h8 : s'.2 8 l = s.2 8 l) (h9 : s'.2 9 l = s.2 9 l) (r1 : r' (52 + l) = r (52 + l)) (r2 : r' (56 + l) = r (56 + l)) (r3 : r' (60 + l) = r (60 + l)) (r4 : r' (64 + l) = r (64 + l)) : LO s' r' l := by
  unfold LO at h ⊢
  rw [h6, h7, h8, h9, r1, r2, r3, r4]
  exact h
section
variable {s : rg_S} {r : Nat → Int32} {v w x y : Int32} {f : Nat → Int32} {k n : Nat}
theorem lr_0 (h : LR s r) {c : Nat} (hc : c < 48) : s.2 0 c = r c := by
  have := h.1 c hc
  rwa [Nat.zero_add] at this
theorem ra_ra {g : Nat → Int32} : ra (ra s k f) k g = ra s k g := by
  unfold ra
  refine Prod.ext rfl (funext fun i => ?_)
  by_cases h : i = k <;> simp [h]
theorem ra_ri : ri (ra s k f) n v = ra (ri s n v) k f := rfl
theorem lk_id : lk s (s.2 10) (s.1 3) = s := by
  unfold lk ra ri
  refine Prod.ext (funext fun i => ?_) (funext fun i => ?_)
  · by_cases h : i = 3
    · subst h; simp
    · simp [h]
  · by_cases h : i = 10
    · subst h; simp
    · simp [h]
theorem lk_lk {g : Nat → Int32} : lk (lk s f v) g w = lk s g w := by
  unfold lk ra ri
  refine Prod.ext (funext fun i => ?_) (funext fun i => ?_)
  · by_cases h : i = 3 <;> simp [h]
  · by_cases h : i = 10 <;> simp [h]
theorem lk1 {i : Nat} (h : i ≠ 3) : (lk s f v).1 i = s.1 i := by unfold lk; rw [ra1, ri1, if_neg h]
theorem lk2 {i : Nat} (h : i ≠ 10) : (lk s f v).2 i = s.2 i := by unfold lk; rw [ra2, if_neg h, ri2]
theorem lr_a0 (h : LR s r) (hn : n < 48) : LR (ra s 0 (upd (s.2 0) n v)) (upd r (0 + n) v) := by
  obtain ⟨h1, h2, h3, h4, h5, h6, h7, h8, h9⟩ := h
  refine ⟨fun i hi => ?_, fun i hi => ?_, fun i hi => ?_, fun i hi => ?_, fun i hi => ?_, fun i hi => ?_, fun i hi => lo_cong (h7 i hi) rfl rfl rfl rfl (pk_un (by omega)) (pk_un (by omega)) (pk_un (by omega)) (pk_un (by omega)), ?_, ?_⟩
  · show upd (s.2 0) n v i = upd r (0 + n) v (0 + i)
    by_cases e : i = n
    · subst e; rw [pk_us, pk_us]
    · rw [pk_un e, pk_un (by omega)]; exact h1 i hi
  · show s.2 1 i = _
    rw [pk_un (by omega), h2 i hi]
  · show s.2 2 i = _
    rw [pk_un (by omega), h3 i hi]
  · show s.2 3 i = _
    rw [pk_un (by omega), h4 i hi]
  · show s.2 4 i = _
    rw [pk_un (by omega), h5 i hi]
  · show s.2 5 i = _
    rw [pk_un (by omega), h6 i hi]
  · show s.1 0 = _
    rw [pk_un (by omega), h8]
  · show s.1 1 = _
    rw [pk_un (by omega), h9]
theorem lr_a1 (h : LR s r) (hn : n < 6) : LR (ra s 1 (upd (s.2 1) n v)) (upd r (76 + n) v) := by
  obtain ⟨h1, h2, h3, h4, h5, h6, h7, h8, h9⟩ := h
  refine ⟨fun i hi => ?_, fun i hi => ?_, fun i hi => ?_, fun i hi => ?_, fun i hi => ?_, fun i hi => ?_, fun i hi => lo_cong (h7 i hi) rfl rfl rfl rfl (pk_un (by omega)) (pk_un (by omega)) (pk_un (by omega)) (pk_un (by omega)), ?_, ?_⟩
  · show s.2 0 i = _
    rw [pk_un (by omega), h1 i hi]
  · show upd (s.2 1) n v i = upd r (76 + n) v (76 + i)
    by_cases e : i = n
    · subst e; rw [pk_us, pk_us]
    · rw [pk_un e, pk_un (by omega)]; exact h2 i hi
  · show s.2 2 i = _
    rw [pk_un (by omega), h3 i hi]
  · show s.2 3 i = _
    rw [pk_un (by omega), h4 i hi]
  · show s.2 4 i = _
    rw [pk_un (by omega), h5 i hi]
  · show s.2 5 i = _
    rw [pk_un (by omega), h6 i hi]
  · show s.1 0 = _
    rw [pk_un (by omega), h8]
  · show s.1 1 = _
    rw [pk_un (by omega), h9]
theorem lr_a2 (h : LR s r) (hn : n < 6) : LR (ra s 2 (upd (s.2 2) n v)) (upd r (82 + n) v) := by
  obtain ⟨h1, h2, h3, h4, h5, h6, h7, h8, h9⟩ := h
  refine ⟨fun i hi => ?_, fun i hi => ?_, fun i hi => ?_, fun i hi => ?_, fun i hi => ?_, fun i hi => ?_, fun i hi => lo_cong (h7 i hi) rfl rfl rfl rfl (pk_un (by omega)) (pk_un (by omega)) (pk_un (by omega)) (pk_un (by omega)), ?_, ?_⟩
  · show s.2 0 i = _
    rw [pk_un (by omega), h1 i hi]
  · show s.2 1 i = _
    rw [pk_un (by omega), h2 i hi]
  · show upd (s.2 2) n v i = upd r (82 + n) v (82 + i)
    by_cases e : i = n
    · subst e; rw [pk_us, pk_us]
    · rw [pk_un e, pk_un (by omega)]; exact h3 i hi
  · show s.2 3 i = _
    rw [pk_un (by omega), h4 i hi]
  · show s.2 4 i = _
    rw [pk_un (by omega), h5 i hi]
  · show s.2 5 i = _
    rw [pk_un (by omega), h6 i hi]
  · show s.1 0 = _
    rw [pk_un (by omega), h8]
  · show s.1 1 = _
    rw [pk_un (by omega), h9]
theorem lr_a3 (h : LR s r) (hn : n < 4) : LR (ra s 3 (upd (s.2 3) n v)) (upd r (48 + n) v) := by
  obtain ⟨h1, h2, h3, h4, h5, h6, h7, h8, h9⟩ := h
  refine ⟨fun i hi => ?_, fun i hi => ?_, fun i hi => ?_, fun i hi => ?_, fun i hi => ?_, fun i hi => ?_, fun i hi => lo_cong (h7 i hi) rfl rfl rfl rfl (pk_un (by omega)) (pk_un (by omega)) (pk_un (by omega)) (pk_un (by omega)), ?_, ?_⟩
  · show s.2 0 i = _
    rw [pk_un (by omega), h1 i hi]
  · show s.2 1 i = _
    rw [pk_un (by omega), h2 i hi]
  · show s.2 2 i = _
    rw [pk_un (by omega), h3 i hi]
  · show upd (s.2 3) n v i = upd r (48 + n) v (48 + i)
    by_cases e : i = n
    · subst e; rw [pk_us, pk_us]
    · rw [pk_un e, pk_un (by omega)]; exact h4 i hi
  · show s.2 4 i = _
    rw [pk_un (by omega), h5 i hi]
  · show s.2 5 i = _
    rw [pk_un (by omega), h6 i hi]
  · show s.1 0 = _
    rw [pk_un (by omega), h8]
  · show s.1 1 = _
    rw [pk_un (by omega), h9]
theorem lr_a4 (h : LR s r) (hn : n < 4) : LR (ra s 4 (upd (s.2 4) n v)) (upd r (68 + n) v) := by
  obtain ⟨h1, h2, h3, h4, h5, h6, h7, h8, h9⟩ := h
  refine ⟨fun i hi => ?_, fun i hi => ?_, fun i hi => ?_, fun i hi => ?_, fun i hi => ?_, fun i hi => ?_, fun i hi => lo_cong (h7 i hi) rfl rfl rfl rfl (pk_un (by omega)) (pk_un (by omega)) (pk_un (by omega)) (pk_un (by omega)), ?_, ?_⟩
  · show s.2 0 i = _
    rw [pk_un (by omega), h1 i hi]
  · show s.2 1 i = _
    rw [pk_un (by omega), h2 i hi]
  · show s.2 2 i = _
    rw [pk_un (by omega), h3 i hi]
  · show s.2 3 i = _
    rw [pk_un (by omega), h4 i hi]
  · show upd (s.2 4) n v i = upd r (68 + n) v (68 + i)
    by_cases e : i = n
    · subst e; rw [pk_us, pk_us]
    · rw [pk_un e, pk_un (by omega)]; exact h5 i hi
  · show s.2 5 i = _
    rw [pk_un (by omega), h6 i hi]
  · show s.1 0 = _
    rw [pk_un (by omega), h8]
  · show s.1 1 = _
    rw [pk_un (by omega), h9]
theorem lr_a5 (h : LR s r) (hn : n < 4) : LR (ra s 5 (upd (s.2 5) n v)) (upd r (72 + n) v) := by
  obtain ⟨h1, h2, h3, h4, h5, h6, h7, h8, h9⟩ := h
  refine ⟨fun i hi => ?_, fun i hi => ?_, fun i hi => ?_, fun i hi => ?_, fun i hi => ?_, fun i hi => ?_, fun i hi => lo_cong (h7 i hi) rfl rfl rfl rfl (pk_un (by omega)) (pk_un (by omega)) (pk_un (by omega)) (pk_un (by omega)), ?_, ?_⟩
  · show s.2 0 i = _
    rw [pk_un (by omega), h1 i hi]
  · show s.2 1 i = _
    rw [pk_un (by omega), h2 i hi]
  · show s.2 2 i = _
    rw [pk_un (by omega), h3 i hi]
  · show s.2 3 i = _
    rw [pk_un (by omega), h4 i hi]
  · show s.2 4 i = _
    rw [pk_un (by omega), h5 i hi]
  · show upd (s.2 5) n v i = upd r (72 + n) v (72 + i)
    by_cases e : i = n
    · subst e; rw [pk_us, pk_us]
    · rw [pk_un e, pk_un (by omega)]; exact h6 i hi
  · show s.1 0 = _
    rw [pk_un (by omega), h8]
  · show s.1 1 = _
    rw [pk_un (by omega), h9]
theorem lr_i0 (h : LR s r) : LR (ri s 0 v) (upd r 88 v) := by
  obtain ⟨h1, h2, h3, h4, h5, h6, h7, h8, h9⟩ := h
  refine ⟨fun i hi => ?_, fun i hi => ?_, fun i hi => ?_, fun i hi => ?_, fun i hi => ?_, fun i hi => ?_, fun i hi => lo_cong (h7 i hi) rfl rfl rfl rfl (pk_un (by omega)) (pk_un (by omega)) (pk_un (by omega)) (pk_un (by omega)), ?_, ?_⟩
  · show s.2 0 i = _
    rw [pk_un (by omega), h1 i hi]
  · show s.2 1 i = _
    rw [pk_un (by omega), h2 i hi]
  · show s.2 2 i = _
    rw [pk_un (by omega), h3 i hi]
  · show s.2 3 i = _
    rw [pk_un (by omega), h4 i hi]
  · show s.2 4 i = _
    rw [pk_un (by omega), h5 i hi]
  · show s.2 5 i = _
    rw [pk_un (by omega), h6 i hi]
  · rw [pk_us]; rfl
  · show s.1 1 = _
    rw [pk_un (by omega), h9]
theorem lr_i1 (h : LR s r) : LR (ri s 1 v) (upd r 89 v) := by
  obtain ⟨h1, h2, h3, h4, h5, h6, h7, h8, h9⟩ := h
  refine ⟨fun i hi => ?_, fun i hi => ?_, fun i hi => ?_, fun i hi => ?_, fun i hi => ?_, fun i hi => ?_, fun i hi => lo_cong (h7 i hi) rfl rfl rfl rfl (pk_un (by omega)) (pk_un (by omega)) (pk_un (by omega)) (pk_un (by omega)), ?_, ?_⟩
  · show s.2 0 i = _
    rw [pk_un (by omega), h1 i hi]
  · show s.2 1 i = _
    rw [pk_un (by omega), h2 i hi]
  · show s.2 2 i = _
    rw [pk_un (by omega), h3 i hi]
  · show s.2 3 i = _
    rw [pk_un (by omega), h4 i hi]
  · show s.2 4 i = _
    rw [pk_un (by omega), h5 i hi]
  · show s.2 5 i = _
    rw [pk_un (by omega), h6 i hi]
  · show s.1 0 = _
    rw [pk_un (by omega), h8]
  · rw [pk_us]; rfl
theorem lr_90 (h : LR s r) : LR s (upd r 90 v) := by
  obtain ⟨h1, h2, h3, h4, h5, h6, h7, h8, h9⟩ := h
  refine ⟨fun i hi => ?_, fun i hi => ?_, fun i hi => ?_, fun i hi => ?_, fun i hi => ?_, fun i hi => ?_, fun i hi => lo_cong (h7 i hi) rfl rfl rfl rfl (pk_un (by omega)) (pk_un (by omega)) (pk_un (by omega)) (pk_un (by omega)), ?_, ?_⟩
  · show s.2 0 i = _
    rw [pk_un (by omega), h1 i hi]
  · show s.2 1 i = _
    rw [pk_un (by omega), h2 i hi]
  · show s.2 2 i = _
    rw [pk_un (by omega), h3 i hi]
  · show s.2 3 i = _
    rw [pk_un (by omega), h4 i hi]
  · show s.2 4 i = _
    rw [pk_un (by omega), h5 i hi]
  · show s.2 5 i = _
    rw [pk_un (by omega), h6 i hi]
  · show s.1 0 = _
    rw [pk_un (by omega), h8]
  · show s.1 1 = _
    rw [pk_un (by omega), h9]
theorem lr_i2 (h : LR s r) : LR (ri s 2 v) r := h
theorem lr_i3 (h : LR s r) : LR (ri s 3 v) r := h
theorem lr_v (h : LR s r) : LR (ra s 10 f) r := h
theorem lr_k (h : LR s r) : LR (lk s f v) r := h
theorem lr_w (h : LR s r) (hn : n < 48) : LR (ra s 0 (upd (s.2 0) n v)) (upd r n v) := by
  have := lr_a0 (v := v) h hn
  rwa [Nat.zero_add] at this
/-- an order is given -/
theorem lr_ord (h : LR s r) (hn : n < 4) (hv : v ≠ nI 0) : LR (ra (ra (ra (ra s 6 (upd (s.2 6) n v)) 7 (upd (s.2 7) n w)) 8 (upd (s.2 8) n x)) 9 (upd (s.2 9) n y)) (upd (upd (upd (upd r (52 + n) v) (56 + n) w) (60 + n) x) (64 + n) y) := by
  obtain ⟨h1, h2, h3, h4, h5, h6, h7, h8, h9⟩ := h
  refine ⟨fun i hi => ?_, fun i hi => ?_, fun i hi => ?_, fun i hi => ?_, fun i hi => ?_, fun i hi => ?_, fun i hi => ?_, ?_, ?_⟩
  · rw [pk_un (by omega), pk_un (by omega), pk_un (by omega), pk_un (by omega)]; exact h1 i hi
  · rw [pk_un (by omega), pk_un (by omega), pk_un (by omega), pk_un (by omega)]; exact h2 i hi
  · rw [pk_un (by omega), pk_un (by omega), pk_un (by omega), pk_un (by omega)]; exact h3 i hi
  · rw [pk_un (by omega), pk_un (by omega), pk_un (by omega), pk_un (by omega)]; exact h4 i hi
  · rw [pk_un (by omega), pk_un (by omega), pk_un (by omega), pk_un (by omega)]; exact h5 i hi
  · rw [pk_un (by omega), pk_un (by omega), pk_un (by omega), pk_un (by omega)]; exact h6 i hi
  · by_cases e : i = n
    · subst e
      refine Or.inr ⟨?_, ?_, ?_, ?_, ?_⟩
      · rw [pk_un (by omega), pk_un (by omega), pk_un (by omega), pk_us]; exact hv
      · show upd (s.2 6) i v i = _
        rw [pk_us, pk_un (by omega), pk_un (by omega), pk_un (by omega), pk_us]
      · show upd (s.2 7) i w i = _
        rw [pk_us, pk_un (by omega), pk_un (by omega), pk_us]
      · show upd (s.2 8) i x i = _
        rw [pk_us, pk_un (by omega), pk_us]
      · show upd (s.2 9) i y i = _
        rw [pk_us, pk_us]
    · exact lo_cong (h7 i hi) (pk_un e) (pk_un e) (pk_un e) (pk_un e) (by rw [pk_un (by omega), pk_un (by omega), pk_un (by omega), pk_un (by omega)]) (by rw [pk_un (by omega), pk_un (by omega), pk_un (by omega), pk_un (by omega)]) (by rw [pk_un (by omega), pk_un (by omega), pk_un (by omega), pk_un (by omega)]) (by rw [pk_un (by omega), pk_un (by omega), pk_un (by omega), pk_un (by omega)])
  · rw [pk_un (by omega), pk_un (by omega), pk_un (by omega), pk_un (by omega)]; exact h8
  · rw [pk_un (by omega), pk_un (by omega), pk_un (by omega), pk_un (by omega)]; exact h9
/-- an order is taken back -/
theorem lr_stop (h : LR s r) (hn : n < 4) : LR (ra (ra (ra (ra s 6 (upd (s.2 6) n (mI 2))) 7 (upd (s.2 7) n (mI 2))) 8 (upd (s.2 8) n (mI 2))) 9 (upd (s.2 9) n (mI 2))) (upd (upd (upd (upd r (52 + n) (nI 0)) (56 + n) (nI 0)) (60 + n) (nI 0)) (64 + n) (nI 0)) := by
  obtain ⟨h1, h2, h3, h4, h5, h6, h7, h8, h9⟩ := h
  refine ⟨fun i hi => ?_, fun i hi => ?_, fun i hi => ?_, fun i hi => ?_, fun i hi => ?_, fun i hi => ?_, fun i hi => ?_, ?_, ?_⟩
  · rw [pk_un (by omega), pk_un (by omega), pk_un (by omega), pk_un (by omega)]; exact h1 i hi
  · rw [pk_un (by omega), pk_un (by omega), pk_un (by omega), pk_un (by omega)]; exact h2 i hi
  · rw [pk_un (by omega), pk_un (by omega), pk_un (by omega), pk_un (by omega)]; exact h3 i hi
  · rw [pk_un (by omega), pk_un (by omega), pk_un (by omega), pk_un (by omega)]; exact h4 i hi
  · rw [pk_un (by omega), pk_un (by omega), pk_un (by omega), pk_un (by omega)]; exact h5 i hi
  · rw [pk_un (by omega), pk_un (by omega), pk_un (by omega), pk_un (by omega)]; exact h6 i hi
  · by_cases e : i = n
    · subst e
      refine Or.inl ⟨?_, pk_us, pk_us, pk_us, pk_us⟩
      rw [pk_un (by omega), pk_un (by omega), pk_un (by omega), pk_us]
    · exact lo_cong (h7 i hi) (pk_un e) (pk_un e) (pk_un e) (pk_un e) (by rw [pk_un (by omega), pk_un (by omega), pk_un (by omega), pk_un (by omega)]) (by rw [pk_un (by omega), pk_un (by omega), pk_un (by omega), pk_un (by omega)]) (by rw [pk_un (by omega), pk_un (by omega), pk_un (by omega), pk_un (by omega)]) (by rw [pk_un (by omega), pk_un (by omega), pk_un (by omega), pk_un (by omega)])
  · rw [pk_un (by omega), pk_un (by omega), pk_un (by omega), pk_un (by omega)]; exact h8
  · rw [pk_un (by omega), pk_un (by omega), pk_un (by omega), pk_un (by omega)]; exact h9
end
