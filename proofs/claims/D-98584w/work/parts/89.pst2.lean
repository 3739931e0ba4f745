/-! what a text tells: it is well-made -/
theorem it_or {P : Nat → Bool} : ∀ {n : Nat}, it (fun k a => a || P k) n false = true ↔ ∃ k, k < n ∧ P k = true := by
  intro n
  induction n with
  | zero => exact ⟨fun h => (by cases h), fun ⟨k, hk, _⟩ => absurd hk (Nat.not_lt_zero _)⟩
  | succ n ih =>
    rw [it_s, Bool.or_eq_true, ih]
    constructor
    · rintro (⟨k, hk, h⟩ | h)
      · exact ⟨k, by omega, h⟩
      · exact ⟨n, by omega, h⟩
    · rintro ⟨k, hk, h⟩
      by_cases e : k = n
      · subst e; exact Or.inr h
      · exact Or.inl ⟨k, by omega, h⟩
theorem it_orF {P : Nat → Bool} {n : Nat} (h : ¬ it (fun k a => a || P k) n false = true) (k : Nat) (hk : k < n) : P k = false := by
  cases e : P k with
  | false => rfl
  | true => exact absurd (it_or.mpr ⟨k, hk, e⟩) h
/-- the code of letters -/
def cn (l : Nat → Nat) (n : Nat) : Nat := it (fun i a => 27 * a + (l i - 96)) n 0
/-- what tokens are like -/
def EN (K V F N L : Nat → Nat) (R : Nat → Nat → Nat) : Prop := (∀ i, K i ≤ 40) ∧ (∀ i j, i < j → RC K j → F i < F j) ∧ (∀ i, F i ≤ 2000) ∧ (∀ i, K i = 2 → V i ≤ 9999) ∧ (∀ i, N i < 2 ^ 60) ∧ ∀ i, K i = 1 → 1 ≤ L i ∧ L i ≤ 8 ∧ (∀ k < L i, 97 ≤ R i k ∧ R i k ≤ 122) ∧ N i = cn (R i) (L i)
/-- numbers in their bounds -/
def WD (T : Tx) : Prop := (∀ l < t_nl T, 1 ≤ t_lw T l ∧ t_lw T l ≤ 8) ∧ (∀ c < 48, t_on T c = true → t_fd T c = mI 2 ∨ ∃ f : Nat, f < 6 ∧ t_fd T c = nI f) ∧ ∀ f < t_nf T, ∃ n : Nat, n ≤ 99 ∧ t_nd T f = nI n
def WX (S : Sx) (t : Nat) : Prop := (t_r S.1 ≤ 6 ∧ t_w S.1 ≤ 8 ∧ t_nf S.1 ≤ 6 ∧ t_nl S.1 ≤ 4) ∧ S.2.1.length = t_nf S.1 + t_nl S.1 ∧ (∀ x ∈ S.2.1, x < 2 ^ 60) ∧ (S.2.2.1 ≤ 9 ∧ (S.2.2.1 ≠ 0 → S.2.2.2 < t)) ∧ (∀ k < 3, ∀ L, t_law S.1 k = some L → WL L) ∧ (S.2.2.1 = 0 → WD S.1)
section
variable {K V F N L : Nat → Nat} {R : Nat → Nat → Nat} {t u : Nat} {S : Sx} {T : Tx} {w w' : Wt} {nm : List Nat}
/-- how the worst grows -/
def GW (w w' : Wt) (u : Nat) : Prop := (w'.1 = 0 → w.1 = 0) ∧ (w.1 ≤ 9 → w'.1 ≤ 9) ∧ ((w.1 ≠ 0 → w.2 < u) → (w'.1 ≠ 0 → w'.2 < u))
theorem GW_id : GW w w u := ⟨id, id, id⟩
theorem GW_w {n : Nat} (hn : n ≠ 0) (h9 : n ≤ 9) (ht : t < u) : GW w (wt w n t) u := ⟨fun h => absurd h (wt_0 hn), fun h => wt_9 h h9, fun h _ => wt_t h ht⟩
theorem GW_tr {w2 : Wt} (h1 : GW w w' u) (h2 : GW w' w2 u) : GW w w2 u := ⟨fun h => h1.1 (h2.1 h), fun h => h2.2.1 (h1.2.1 h), fun h => h2.2.2 (h1.2.2 h)⟩
theorem WX_w (h : WX (T, nm, w) t) (hg : GW w w' u) (hu : t ≤ u) : w'.1 ≤ 9 ∧ (w'.1 ≠ 0 → w'.2 < u) := by
  obtain ⟨_, _, _, ⟨h1, h2⟩, _⟩ := h
  exact ⟨hg.2.1 h1, hg.2.2 fun h => Nat.lt_of_lt_of_le (h2 h) hu⟩
/-- only ints from 0 to 2 change -/
theorem WX_I {k : Nat} {v : Int32} (h : WX (T, nm, w) t) (hk : k < 3) (hg : GW w w' u) (hu : t ≤ u) : WX (tI T k v, nm, w') u := by
  obtain ⟨h1, h2, h3, h4, h5, h6⟩ := id h
  refine ⟨h1, h2, h3, WX_w h hg hu, h5, fun h0 => ?_⟩
  obtain ⟨d1, d2, d3⟩ := h6 (hg.1 h0)
  refine ⟨d1, fun c hc hon => ?_, fun f hf => ?_⟩
  · show (if 40 + c = k then v else T.2.1 (40 + c)) = mI 2 ∨ ∃ f : Nat, f < 6 ∧ (if 40 + c = k then v else T.2.1 (40 + c)) = nI f
    rw [if_neg (by omega)]
    exact d2 c hc hon
  · show ∃ n : Nat, n ≤ 99 ∧ (if 10 + f = k then v else T.2.1 (10 + f)) = nI n
    rw [if_neg (by omega)]
    exact d3 f hf
theorem WX_L {k : Nat} {l : Lw} (h : WX (T, nm, w) t) (hl : WL l) (hu : t ≤ u) : WX (tL T k l, nm, w) u := by
  obtain ⟨h1, h2, h3, h4, h5, h6⟩ := id h
  refine ⟨h1, h2, h3, WX_w h GW_id hu, fun j hj l' hl' => ?_, h6⟩
  change (if j = k then some l else T.2.2 j) = some l' at hl'
  split at hl'
  · rw [← Option.some.inj hl']; exact hl
  · exact h5 j hj l' hl'
theorem WX_F {a b x : Nat} (h : WX (T, nm, w) t) (hn : t_nf T ≠ 6) (hg : GW w w' u) (hu : t ≤ u) (ha : w'.1 = 0 → a ≤ 99) (hx : x < 2 ^ 60) : WX (fdT T a b, nm ++ [x], w') u := by
  obtain ⟨⟨a1, a2, a3, a4⟩, h2, h3, h4, h5, h6⟩ := id h
  dsimp only at a1 a2 a3 a4 h2 h3 h4 h5 h6
  refine ⟨⟨a1, a2, by show t_nf T + 1 ≤ 6; omega, a4⟩, ?_, fun y hy => ?_, WX_w h hg hu, h5, fun h0 => ?_⟩
  · show (nm ++ [x]).length = t_nf T + 1 + t_nl T
    rw [List.length_append, h2]
    simp
    omega
  · rcases List.mem_append.mp hy with hy | hy
    · exact h3 y hy
    · rw [List.mem_singleton] at hy; rw [hy]; exact hx
  · obtain ⟨d1, d2, d3⟩ := h6 (hg.1 h0)
    refine ⟨fun l hl => ?_, fun c hc hon => ?_, fun f hf => ?_⟩
    · show 1 ≤ (if 4 + l = 2 then t_nf T + 1 else T.1 (4 + l)) ∧ (if 4 + l = 2 then t_nf T + 1 else T.1 (4 + l)) ≤ 8
      rw [if_neg (by omega)]
      exact d1 l hl
    · show (if 40 + c = 20 + t_nf T then nI b else if 40 + c = 10 + t_nf T then nI a else T.2.1 (40 + c)) = mI 2 ∨ ∃ f : Nat, f < 6 ∧ (if 40 + c = 20 + t_nf T then nI b else if 40 + c = 10 + t_nf T then nI a else T.2.1 (40 + c)) = nI f
      rw [if_neg (by omega), if_neg (by omega)]
      exact d2 c hc hon
    · change f < t_nf T + 1 at hf
      show ∃ n : Nat, n ≤ 99 ∧ (if 10 + f = 20 + t_nf T then nI b else if 10 + f = 10 + t_nf T then nI a else T.2.1 (10 + f)) = nI n
      rw [if_neg (by omega)]
      by_cases e : f = t_nf T
      · rw [if_pos (by omega)]
        exact ⟨a, ha h0, rfl⟩
      · rw [if_neg (by omega)]
        exact d3 f (by omega)
theorem WX_M {a b x : Nat} (h : WX (T, nm, w) t) (hn : t_nl T ≠ 4) (hg : GW w w' u) (hu : t ≤ u) (ha : w'.1 = 0 → 1 ≤ a ∧ a ≤ 8) (hx : x < 2 ^ 60) : WX (lmT T a b, nm ++ [x], w') u := by
  obtain ⟨⟨a1, a2, a3, a4⟩, h2, h3, h4, h5, h6⟩ := id h
  dsimp only at a1 a2 a3 a4 h2 h3 h4 h5 h6
  have e0 : t_r (lmT T a b) = t_r T := by
    show (if 0 = 3 then t_nl T + 1 else if 0 = 4 + t_nl T then a else T.1 0) = _
    rw [if_neg (by decide), if_neg (by omega)]; rfl
  have e1 : t_w (lmT T a b) = t_w T := by
    show (if 1 = 3 then t_nl T + 1 else if 1 = 4 + t_nl T then a else T.1 1) = _
    rw [if_neg (by decide), if_neg (by omega)]; rfl
  have e2 : t_nf (lmT T a b) = t_nf T := by
    show (if 2 = 3 then t_nl T + 1 else if 2 = 4 + t_nl T then a else T.1 2) = _
    rw [if_neg (by decide), if_neg (by omega)]; rfl
  have e3 : t_nl (lmT T a b) = t_nl T + 1 := rfl
  unfold WX
  dsimp only
  rw [e0, e1, e2, e3]
  refine ⟨⟨a1, a2, a3, by omega⟩, ?_, fun y hy => ?_, WX_w h hg hu, h5, fun h0 => ?_⟩
  · rw [List.length_append, h2]
    simp
    omega
  · rcases List.mem_append.mp hy with hy | hy
    · exact h3 y hy
    · rw [List.mem_singleton] at hy; rw [hy]; exact hx
  · obtain ⟨d1, d2, d3⟩ := h6 (hg.1 h0)
    refine ⟨fun l hl => ?_, fun c hc hon => ?_, fun f hf => ?_⟩
    · rw [e3] at hl
      show 1 ≤ (if 4 + l = 3 then t_nl T + 1 else if 4 + l = 4 + t_nl T then a else T.1 (4 + l)) ∧ (if 4 + l = 3 then t_nl T + 1 else if 4 + l = 4 + t_nl T then a else T.1 (4 + l)) ≤ 8
      rw [if_neg (by omega)]
      by_cases e : l = t_nl T
      · rw [if_pos (by omega)]
        exact ha h0
      · rw [if_neg (by omega)]
        exact d1 l (by omega)
    · have hon' : t_on T c = true := by
        unfold t_on at hon ⊢
        rw [e0, e1] at hon
        exact hon
      show (if 40 + c = 30 + t_nl T then nI b else T.2.1 (40 + c)) = mI 2 ∨ ∃ f : Nat, f < 6 ∧ (if 40 + c = 30 + t_nl T then nI b else T.2.1 (40 + c)) = nI f
      rw [if_neg (by omega)]
      exact d2 c hc hon'
    · rw [e2] at hf
      show ∃ n : Nat, n ≤ 99 ∧ (if 10 + f = 30 + t_nl T then nI b else T.2.1 (10 + f)) = nI n
      rw [if_neg (by omega)]
      exact d3 f hf
theorem lcv_g {c : Nat} (h : lbd c = false) (hc : 97 ≤ c) : lcv c = mI 2 ∨ ∃ f : Nat, f < 6 ∧ lcv c = nI f := by
  unfold lcv
  by_cases e : c ≤ 102
  · rw [if_pos e]
    exact Or.inr ⟨c - 97, by omega, rfl⟩
  · rw [if_neg e]
    exact Or.inl rfl
theorem WX_R {n : Nat} {l : Nat → Nat} (h : WX (T, nm, w) t) (hr : t_r T ≠ 6) (hu : t < u) (hn : n ≤ 8) (hl : ∀ k < n, 97 ≤ l k ∧ l k ≤ 122) (hg : GW w w' u) (hb : w'.1 = 0 → rwB T n l = false) : WX (rwT T n l, nm, w') u := by
  obtain ⟨⟨a1, a2, a3, a4⟩, h2, h3, h4, h5, h6⟩ := id h
  dsimp only at a1 a2 a3 a4 h2 h3 h4 h5 h6
  have e1 : t_w (rwT T n l) = rwW T n := rfl
  have hw8 : rwW T n ≤ 8 := by unfold rwW; split <;> omega
  refine ⟨⟨by show t_r T + 1 ≤ 6; omega, hw8, a3, a4⟩, h2, h3, WX_w h hg (by omega), h5, fun h0 => ?_⟩
  obtain ⟨d1, d2, d3⟩ := h6 (hg.1 h0)
  have hb := hb h0
  unfold rwB at hb
  rw [Bool.or_eq_false_iff] at hb
  have hnw : n = rwW T n := by simpa using hb.1
  have hlb := it_orF (P := fun k => lbd (l k)) (n := n) (by
    have := hb.2
    unfold lba at this
    rw [this]
    exact Bool.false_ne_true)
  refine ⟨fun j hj => ?_, fun c hc hon => ?_, fun f hf => ?_⟩
  · show 1 ≤ (if 4 + j = 0 then t_r T + 1 else if 4 + j = 1 then rwW T n else T.1 (4 + j)) ∧ (if 4 + j = 0 then t_r T + 1 else if 4 + j = 1 then rwW T n else T.1 (4 + j)) ≤ 8
    rw [if_neg (by omega), if_neg (by omega)]
    exact d1 j hj
  · show (if 40 + 8 * t_r T ≤ 40 + c ∧ 40 + c < 40 + 8 * t_r T + n then lcv (l (40 + c - (40 + 8 * t_r T))) else T.2.1 (40 + c)) = mI 2 ∨ ∃ f : Nat, f < 6 ∧ (if 40 + 8 * t_r T ≤ 40 + c ∧ 40 + c < 40 + 8 * t_r T + n then lcv (l (40 + c - (40 + 8 * t_r T))) else T.2.1 (40 + c)) = nI f
    change (decide (c % 8 < rwW T n) && decide (c / 8 < t_r T + 1)) = true at hon
    rw [Bool.and_eq_true, decide_eq_true_eq, decide_eq_true_eq] at hon
    by_cases e : c / 8 = t_r T
    · rw [if_pos (by omega)]
      have hk : 40 + c - (40 + 8 * t_r T) < n := by omega
      exact lcv_g (hlb _ hk) (hl _ hk).1
    · rw [if_neg (by omega)]
      refine d2 c hc ?_
      unfold t_on
      rw [Bool.and_eq_true, decide_eq_true_eq, decide_eq_true_eq]
      have : rwW T n = t_w T := if_neg (by omega)
      omega
  · show ∃ n' : Nat, n' ≤ 99 ∧ (if 40 + 8 * t_r T ≤ 10 + f ∧ 10 + f < 40 + 8 * t_r T + n then lcv (l (10 + f - (40 + 8 * t_r T))) else T.2.1 (10 + f)) = nI n'
    change f < t_nf T at hf
    rw [if_neg (by omega)]
    exact d3 f hf
theorem GW_n {t : Nat} {a lo hi : Nat} (h : (w' = w ∧ lo ≤ a ∧ a ≤ hi) ∨ w' = wt w 5 t) (ht : t < u) : GW w w' u ∧ (w'.1 = 0 → lo ≤ a ∧ a ≤ hi) := by
  rcases h with ⟨rfl, h1, h2⟩ | rfl
  · exact ⟨GW_id, fun _ => ⟨h1, h2⟩⟩
  · exact ⟨GW_w (by decide) (by decide) ht, fun h => absurd h (wt_0 (by decide))⟩
theorem GW_m {n : Nat} (ht : t < u) : GW w (if n ∈ nm then wt w 3 t else w) u := by
  split
  · exact GW_w (by decide) (by decide) ht
  · exact GW_id
theorem qk_One (hE : EN K V F N L R) (ht : RC K t) (h : WX S t) (h0 : K t ≠ 0) : qk (K := K) (fun u S' => WX S' u) t (pOne K V N L R t S) := by
  obtain ⟨T, nm, w⟩ := S
  obtain ⟨_, _, _, _, e5, e6⟩ := hE
  unfold pOne
  dsimp only
  split
  · split
    · exact ⟨Or.inr rfl, ht⟩
    · rename_i hr
      refine qk_p ht (by omega) (Nat.le_refl _) fun _ r1 => qk_m r1 (by decide) (by omega) fun k1 _ r2 => qk_m r2 (by decide) (by omega) fun k2 _ r3 => ⟨?_, by dsimp only; omega, r3⟩
      obtain ⟨g1, g2, g3, g4⟩ := e6 _ k1
      refine WX_R h hr (by omega) g2 g3 ?_ ?_
      · split
        · exact GW_w (by decide) (by decide) (by omega)
        · exact GW_id
      · split
        · intro hz; exact absurd hz (wt_0 (by decide))
        · rename_i hz
          intro _
          simpa using hz
  · split
    · split
      · exact ⟨Or.inr rfl, ht⟩
      · rename_i hr
        refine qk_p ht (by omega) (Nat.le_refl _) fun _ r1 => qk_m r1 (by decide) (by omega) fun k1 _ r2 => qk_n r2 (by omega) fun k2 _ r3 w2 hw2 => qk_n r3 (by omega) fun k3 _ r4 w3 hw3 => qk_m r4 (by decide) (by omega) fun k4 _ r5 => ⟨?_, by dsimp only; omega, r5⟩
        have q2 := GW_n (u := t + 1 + 1 + 1 + 1 + 1) hw2 (by omega)
        have q3 := GW_n (u := t + 1 + 1 + 1 + 1 + 1) hw3 (by omega)
        exact WX_F h hr (GW_tr (GW_tr (GW_m (by omega)) q2.1) q3.1) (by omega) (fun hz => (q2.2 (q3.1.1 hz)).2) (e5 _)
    · split
      · split
        · exact ⟨Or.inr rfl, ht⟩
        · rename_i hr
          refine qk_p ht (by omega) (Nat.le_refl _) fun _ r1 => qk_m r1 (by decide) (by omega) fun k1 _ r2 => qk_n r2 (by omega) fun k2 _ r3 w2 hw2 => qk_n r3 (by omega) fun k3 _ r4 w3 hw3 => qk_m r4 (by decide) (by omega) fun k4 _ r5 => ⟨?_, by dsimp only; omega, r5⟩
          have q2 := GW_n (u := t + 1 + 1 + 1 + 1 + 1) hw2 (by omega)
          have q3 := GW_n (u := t + 1 + 1 + 1 + 1 + 1) hw3 (by omega)
          exact WX_M h hr (GW_tr (GW_tr (GW_m (by omega)) q2.1) q3.1) (by omega) (fun hz => q2.2 (q3.1.1 hz)) (e5 _)
      · split
        · refine qk_p ht (by omega) (Nat.le_refl _) fun _ r1 => qk_n r1 (by omega) fun k1 _ r2 w2 hw2 => qk_m r2 (by decide) (by omega) fun k2 _ r3 => ⟨?_, by dsimp only; omega, r3⟩
          exact WX_I h (by decide) (GW_n hw2 (by omega)).1 (by omega)
        · split
          · refine qk_p ht (by omega) (Nat.le_refl _) fun _ r1 => qk_n r1 (by omega) fun k1 _ r2 w2 hw2 => qk_m r2 (by decide) (by omega) fun k2 _ r3 => ⟨?_, by dsimp only; omega, r3⟩
            exact WX_I h (by decide) (GW_n hw2 (by omega)).1 (by omega)
          · split
            · refine qk_p ht (by omega) (Nat.le_refl _) fun _ r1 => qk_n r1 (by omega) fun k1 _ r2 w2 hw2 => qk_m r2 (by decide) (by omega) fun k2 _ r3 => ⟨?_, by dsimp only; omega, r3⟩
              exact WX_I h (by decide) (GW_n hw2 (by omega)).1 (by omega)
            · split
              · refine qk_p ht (by omega) (Nat.le_refl _) fun _ r1 => qk_m r1 (by decide) (by omega) fun k1 _ r2 => qk_b (qk_If 4 _ [] r2 (by decide) fun x hx => absurd hx (List.not_mem_nil)) fun t3 l hl g3 r3 => qk_m r3 (by decide) (by omega) fun k2 _ r4 => ⟨?_, by dsimp only; omega, r4⟩
                exact WX_L h hl (by omega)
              · exact ⟨Or.inl rfl, ht⟩
/-- all is told: where it ends -/
theorem qk_All (hE : EN K V F N L R) : ∀ f t S, RC K t → WX S t → 401 < f + t → match pAll K V N L R f t S with
    | .inl e => (e.1 = 1 ∨ e.1 = 2) ∧ RC K e.2
    | .inr x => WX x.2 x.1 ∧ RC K x.1 ∧ K x.1 = 0 := by
  intro f
  induction f with
  | zero => intro t S ht _ hf; have := ht.1; omega
  | succ f ih =>
    intro t S ht hS hf
    unfold pAll
    by_cases h0 : K t = 0
    · rw [if_pos h0]
      exact ⟨hS, ht, h0⟩
    · rw [if_neg h0]
      have g := qk_One hE ht hS h0
      generalize pOne K V N L R t S = r at g ⊢
      cases r with
      | inl e => exact g
      | inr x => exact ih x.1 x.2 g.2.2 g.1 (by have := g.2.1; omega)
theorem WX_0 : WX (T0, [], (0, 0)) 0 := ⟨⟨by decide, by decide, by decide, by decide⟩, rfl, fun x hx => absurd hx (List.not_mem_nil), ⟨by decide, fun h => absurd rfl h⟩, fun k _ L h => (by cases h), fun _ => ⟨fun l hl => absurd hl (Nat.not_lt_zero _), fun c _ h => (by
  change (decide (c % 8 < 0) && decide (c / 8 < 0)) = true at h
  simp at h), fun f hf => absurd hf (Nat.not_lt_zero _)⟩⟩
theorem pRd_k (hE : EN K V F N L R) : match pRd K V N L R with
    | .inl e => 1 ≤ e.1 ∧ e.1 ≤ 9
    | .inr T => TW T := by
  have g := qk_All hE 500 0 (T0, [], (0, 0)) ⟨Nat.zero_le _, fun k hk => absurd hk (Nat.not_lt_zero _)⟩ WX_0 (by decide)
  unfold pRd pEnd
  generalize pAll K V N L R 500 0 (T0, [], (0, 0)) = r at g ⊢
  cases r with
  | inl e => dsimp only at g ⊢; omega
  | inr x =>
    obtain ⟨⟨⟨a1, a2, a3, a4⟩, h2, h3, ⟨h4, _⟩, h5, h6⟩, _, _⟩ := g
    dsimp only
    split
    · rename_i r e hh
      split at hh
      · rename_i hw
        obtain rfl := Sum.inl.inj hh
        omega
      · split at hh
        · obtain rfl := Sum.inl.inj hh
          exact ⟨(by decide : 1 ≤ 6), (by decide : 6 ≤ 9)⟩
        · cases hh
    · rename_i r T hh
      split at hh
      · cases hh
      · rename_i hw
        split at hh
        · cases hh
        · rename_i hu
          obtain rfl := Sum.inr.inj hh
          obtain ⟨d1, d2, d3⟩ := h6 (by omega)
          refine ⟨a1, a2, a3, a4, d1, fun c hc hon => ?_, d3, h5⟩
          have := it_orF (P := fun c => t_on x.2.1 c && decide (nI (t_nf x.2.1) ≤ t_fd x.2.1 c)) hu c hc
          rw [hon, Bool.true_and, decide_eq_false_iff_not] at this
          rcases d2 c hc hon with h | ⟨f, hf, h⟩
          · exact Or.inl h
          · refine Or.inr ⟨f, ?_, h⟩
            rw [h, nI_leI (by omega) (by omega)] at this
            omega
end
