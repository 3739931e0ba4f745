/-! what a text tells: plain -/
/-- a fault (number, token); or where it ends, what it made -/
abbrev Pa (α : Type) : Type := (Nat × Nat) ⊕ (Nat × α)
def qb {α β : Type} (r : Pa α) (f : Nat → α → Pa β) : Pa β := match r with
  | .inl e => .inl e
  | .inr x => f x.1 x.2
def qp {α : Type} (t : Nat) (f : Nat → Pa α) : Pa α := if t = 400 then .inl (2, t) else f (t + 1)
def qm {α : Type} (K : Nat → Nat) (k t : Nat) (f : Nat → Pa α) : Pa α := if K t = k then qp t f else .inl (1, t)
/-- the worst so far (0: none), its token -/
abbrev Wt : Type := Nat × Nat
def wt (w : Wt) (n t : Nat) : Wt := if w.1 ≠ 0 ∧ (w.2 < t ∨ (w.2 = t ∧ w.1 ≤ n)) then w else (n, t)
theorem wt_i {w : Wt} {n t : Nat} : wt (wt w n t) n t = wt w n t := by
  unfold wt
  by_cases h : w.1 ≠ 0 ∧ (w.2 < t ∨ (w.2 = t ∧ w.1 ≤ n))
  · rw [if_pos h, if_pos h]
  · rw [if_neg h]
    split <;> rfl
theorem wt_0 {w : Wt} {n t : Nat} (hn : n ≠ 0) : (wt w n t).1 ≠ 0 := by
  unfold wt
  split
  · rename_i h; exact h.1
  · exact hn
theorem wt_t {w : Wt} {n t u : Nat} (h : w.1 ≠ 0 → w.2 < u) (ht : t < u) : (wt w n t).2 < u := by
  unfold wt
  split
  · rename_i hw; exact h hw.1
  · exact ht
theorem wt_9 {w : Wt} {n t : Nat} (h : w.1 ≤ 9) (hn : n ≤ 9) : (wt w n t).1 ≤ 9 := by
  unfold wt
  split
  · exact h
  · exact hn
def qn {α : Type} (K V : Nat → Nat) (lo hi t : Nat) (w : Wt) (f : Nat → Wt → Pa α) : Pa α := if K t = 2 then qp t fun u => f u (if V t < lo ∨ hi < V t then wt w 5 t else w) else .inl (1, t)
def tN (T : Tx) (k n : Nat) : Tx := (fun i => if i = k then n else T.1 i, T.2)
def tI (T : Tx) (k : Nat) (v : Int32) : Tx := (T.1, fun i => if i = k then v else T.2.1 i, T.2.2)
def tL (T : Tx) (k : Nat) (L : Lw) : Tx := (T.1, T.2.1, fun i => if i = k then some L else T.2.2 i)
/-- a letter that isn't one of a row; what a letter says -/
def lbd (c : Nat) : Bool := !(decide (c = 111) || decide (c ≤ 102))
def lcv (c : Nat) : Int32 := if c ≤ 102 then nI (c - 97) else mI 2
def lba (l : Nat → Nat) (n : Nat) : Bool := it (fun k a => a || lbd (l k)) n false
/-- a row is told: its length, its letters -/
def rwW (T : Tx) (n : Nat) : Nat := if t_r T = 0 then n else t_w T
def rwT (T : Tx) (n : Nat) (l : Nat → Nat) : Tx := (fun i => if i = 0 then t_r T + 1 else if i = 1 then rwW T n else T.1 i, fun i => if 40 + 8 * t_r T ≤ i ∧ i < 40 + 8 * t_r T + n then lcv (l (i - (40 + 8 * t_r T))) else T.2.1 i, T.2.2)
def rwB (T : Tx) (n : Nat) (l : Nat → Nat) : Bool := !decide (n = rwW T n) || lba l n
def fdT (T : Tx) (a b : Nat) : Tx := tN (tI (tI T (10 + t_nf T) (nI a)) (20 + t_nf T) (nI b)) 2 (t_nf T + 1)
def lmT (T : Tx) (a b : Nat) : Tx := tN (tN (tI T (30 + t_nl T) (nI b)) (4 + t_nl T) a) 3 (t_nl T + 1)
/-- ifs of a law, at most so many more -/
def pIf (K V : Nat → Nat) : Nat → Nat → List (Cd × Cd × Cd) → Pa Lw
  | 0, t, acc => if K t = 29 then .inl (2, t) else qb (pT K V t) fun u c => .inr (u, (acc, c))
  | n + 1, t, acc => if K t = 29 then qp t fun t1 => qb (pT K V t1) fun t2 a => qm K 13 t2 fun t3 => qb (pT K V t3) fun t4 b => qm K 30 t4 fun t5 => qb (pT K V t5) fun t6 c => qm K 31 t6 fun t7 => pIf K V n t7 (acc ++ [(a, b, c)])
    else qb (pT K V t) fun u c => .inr (u, (acc, c))
/-- the text so far, names, the worst -/
abbrev Sx : Type := Tx × List Nat × Wt
/-- one thing is told. N codes of names, L lengths, R letters -/
def pOne (K V N L : Nat → Nat) (R : Nat → Nat → Nat) (t : Nat) (S : Sx) : Pa Sx :=
  if K t = 20 then (if t_r S.1 = 6 then .inl (2, t) else qp t fun t1 => qm K 1 t1 fun t2 => qm K 4 t2 fun t3 => .inr (t3, (rwT S.1 (L t1) (R t1), S.2.1, if rwB S.1 (L t1) (R t1) = true then wt S.2.2 6 t1 else S.2.2)))
  else if K t = 21 then (if t_nf S.1 = 6 then .inl (2, t) else qp t fun t1 => qm K 1 t1 fun t2 => qn K V 0 99 t2 (if N t1 ∈ S.2.1 then wt S.2.2 3 t1 else S.2.2) fun t3 w => qn K V 0 999 t3 w fun t4 w => qm K 4 t4 fun t5 => .inr (t5, (fdT S.1 (V t2) (V t3), S.2.1 ++ [N t1], w)))
  else if K t = 22 then (if t_nl S.1 = 4 then .inl (2, t) else qp t fun t1 => qm K 1 t1 fun t2 => qn K V 1 8 t2 (if N t1 ∈ S.2.1 then wt S.2.2 3 t1 else S.2.2) fun t3 w => qn K V 0 99 t3 w fun t4 w => qm K 4 t4 fun t5 => .inr (t5, (lmT S.1 (V t2) (V t3), S.2.1 ++ [N t1], w)))
  else if K t = 26 then qp t fun t1 => qn K V 0 9999 t1 S.2.2 fun t2 w => qm K 4 t2 fun t3 => .inr (t3, (tI S.1 0 (nI (V t1)), S.2.1, w))
  else if K t = 27 then qp t fun t1 => qn K V 0 100 t1 S.2.2 fun t2 w => qm K 4 t2 fun t3 => .inr (t3, (tI S.1 1 (nI (V t1)), S.2.1, w))
  else if K t = 28 then qp t fun t1 => qn K V 0 9999 t1 S.2.2 fun t2 w => qm K 4 t2 fun t3 => .inr (t3, (tI S.1 2 (nI (V t1)), S.2.1, w))
  else if 23 ≤ K t ∧ K t ≤ 25 then qp t fun t1 => qm K 5 t1 fun t2 => qb (pIf K V 4 t2 []) fun t3 l => qm K 4 t3 fun t4 => .inr (t4, (tL S.1 (K t - 23) l, S.2.1, S.2.2))
  else .inl (1, t)
/-- all is told -/
def pAll (K V N L : Nat → Nat) (R : Nat → Nat → Nat) : Nat → Nat → Sx → Pa Sx
  | 0, _, _ => .inl (9, 0)
  | f + 1, t, S => if K t = 0 then .inr (t, S) else qb (pOne K V N L R t S) fun u S => pAll K V N L R f u S
/-- cells whose field isn't told -/
def unT (T : Tx) : Bool := it (fun c a => a || (t_on T c && decide (nI (t_nf T) ≤ t_fd T c))) 48 false
def T0 : Tx := (fun _ => 0, fun i => if i = 0 then nI 100 else nI 0, fun _ => none)
/-- what reading tells: a fault, or the text -/
def pEnd (r : Pa Sx) : (Nat × Nat) ⊕ Tx := match r with
  | .inl e => .inl e
  | .inr x => if x.2.2.2.1 ≠ 0 then .inl x.2.2.2 else if unT x.2.1 = true then .inl (6, x.1) else .inr x.2.1
def pRd (K V N L : Nat → Nat) (R : Nat → Nat → Nat) : (Nat × Nat) ⊕ Tx := pEnd (pAll K V N L R 500 0 (T0, [], (0, 0)))
/-! what is known of it -/
section
variable {K V N L : Nat → Nat} {R : Nat → Nat → Nat} {α β : Type}
/-- a fault is one of a token not beyond 400; or what is made is good -/
def qk (P : Nat → α → Prop) (t : Nat) (r : Pa α) : Prop := match r with
  | .inl e => (e.1 = 1 ∨ e.1 = 2) ∧ RC K e.2
  | .inr x => P x.1 x.2 ∧ t < x.1 ∧ RC K x.1
theorem qk_p {P : Nat → α → Prop} {t a : Nat} {f : Nat → Pa α} (ht : RC K t) (h0 : K t ≠ 0) (ha : a ≤ t) (h : t < 400 → RC K (t + 1) → qk (K := K) P a (f (t + 1))) : qk (K := K) P a (qp t f) := by
  unfold qp
  have := ht.1
  split
  · exact ⟨Or.inr rfl, ht⟩
  · exact h (by omega) (RC_s ht (by assumption) h0)
theorem qk_m {P : Nat → α → Prop} {t a k : Nat} {f : Nat → Pa α} (ht : RC K t) (hk : k ≠ 0) (ha : a ≤ t) (h : K t = k → t < 400 → RC K (t + 1) → qk (K := K) P a (f (t + 1))) : qk (K := K) P a (qm K k t f) := by
  unfold qm
  split
  · rename_i e; exact qk_p ht (by omega) ha fun h1 h2 => h e h1 h2
  · exact ⟨Or.inl rfl, ht⟩
theorem qk_b {P : Nat → α → Prop} {Q : Nat → β → Prop} {a b : Nat} {r : Pa α} {f : Nat → α → Pa β} (h : qk (K := K) P a r) (hf : ∀ u x, P u x → a < u → RC K u → qk (K := K) Q b (f u x)) : qk (K := K) Q b (qb r f) := by
  cases r with
  | inl e => exact h
  | inr x => exact hf x.1 x.2 h.1 h.2.1 h.2.2
theorem qk_n {P : Nat → α → Prop} {t a lo hi : Nat} {w : Wt} {f : Nat → Wt → Pa α} (ht : RC K t) (ha : a ≤ t) (h : K t = 2 → t < 400 → RC K (t + 1) → ∀ w', (w' = w ∧ lo ≤ V t ∧ V t ≤ hi) ∨ w' = wt w 5 t → qk (K := K) P a (f (t + 1) w')) : qk (K := K) P a (qn K V lo hi t w f) := by
  unfold qn
  split
  · rename_i e
    refine qk_p ht (by omega) ha fun h1 h2 => h e h1 h2 _ ?_
    split
    · exact Or.inr rfl
    · exact Or.inl ⟨rfl, by omega⟩
  · exact ⟨Or.inl rfl, ht⟩
/-- terms pass no end -/
def pkR (K : Nat → Nat) (r : Pr) : Prop := match r with
  | .inl e => e.1 = 9 ∨ RC K e.2
  | .inr x => RC K x.1
theorem pkR_ps {t : Nat} {f : Nat → Pr} (ht : RC K t) (h0 : K t ≠ 0) (h : RC K (t + 1) → pkR K (f (t + 1))) : pkR K (ps t f) := by
  unfold ps
  split
  · exact Or.inr ht
  · exact h (RC_s ht (by assumption) h0)
theorem pkR_bd {r : Pr} {f : Nat → Cd → Pr} (h : pkR K r) (hf : ∀ u c, RC K u → pkR K (f u c)) : pkR K (pbd r f) := by
  cases r with
  | inl e => exact h
  | inr x => exact hf x.1 x.2 h
theorem px_R : ∀ f m t op acc, RC K t → pkR K (px K V f m t op acc) := by
  intro f
  induction f with
  | zero => intro m t op acc _; exact Or.inl rfl
  | succ f ih =>
    intro m t op acc ht
    unfold px
    split
    · split
      · exact pkR_ps ht (by omega) fun h => h
      · split
        · exact pkR_ps ht (by omega) fun h => h
        · split
          · split
            · exact Or.inr ht
            · refine pkR_ps ht (by omega) fun h => pkR_bd (ih _ _ _ _ h) fun u c hu => ?_
              split
              · exact pkR_ps hu (by omega) fun h => h
              · exact Or.inr hu
          · exact Or.inr ht
    · split
      · exact pkR_bd (ih _ _ _ _ ht) fun u c hu => ih _ _ _ _ hu
      · split
        · exact pkR_bd (ih _ _ _ _ ht) fun u c hu => ih _ _ _ _ hu
        · split
          · split
            · exact pkR_ps ht (by omega) fun h => pkR_bd (ih _ _ _ _ h) fun u c hu => ih _ _ _ _ hu
            · exact ht
          · split
            · exact pkR_ps ht (by omega) fun h => pkR_bd (ih _ _ _ _ h) fun u c hu => ih _ _ _ _ hu
            · exact ht
theorem qk_T {t : Nat} (ht : RC K t) : qk (K := K) (fun _ c => WC c) t (pT K V t) := by
  have h1 := pT_k (K := K) (V := V) ht.1
  have h2 := px_R (K := K) (V := V) 2000 2 t 0 [] ht
  change pkR K (pT K V t) at h2
  generalize pT K V t = r at h1 h2 ⊢
  cases r with
  | inl e =>
    refine ⟨h1.1, ?_⟩
    rcases h2 with h2 | h2
    · exact absurd h1.1 (by omega)
    · exact h2
  | inr x => exact ⟨h1.2.2.1, by have := h1.1; omega, h2⟩
theorem qk_w {P Q : Nat → α → Prop} {t a : Nat} {r : Pa α} (h : qk (K := K) P t r) (ha : a ≤ t) (hPQ : ∀ u x, P u x → Q u x) : qk (K := K) Q a r := by
  cases r with
  | inl e => exact h
  | inr x => exact ⟨hPQ _ _ h.1, by have := h.2.1; omega, h.2.2⟩
theorem qk_If : ∀ n t acc, RC K t → acc.length + n ≤ 4 → (∀ x ∈ acc, WC x.1 ∧ WC x.2.1 ∧ WC x.2.2) → qk (K := K) (fun _ l => WL l) t (pIf K V n t acc) := by
  intro n
  induction n with
  | zero =>
    intro t acc ht hl ha
    unfold pIf
    split
    · exact ⟨Or.inr rfl, ht⟩
    · exact qk_b (qk_T ht) fun u c hc h1 h2 => ⟨⟨by dsimp only; omega, ha, hc⟩, h1, h2⟩
  | succ n ih =>
    intro t acc ht hl ha
    unfold pIf
    split
    · refine qk_p ht (by omega) (Nat.le_refl _) fun _ r1 => qk_b (qk_T r1) fun t2 a w2 g2 r2 => qk_m r2 (by decide) (by omega) fun _ _ r3 => qk_b (qk_T r3) fun t4 b w4 g4 r4 => qk_m r4 (by decide) (by omega) fun _ _ r5 => qk_b (qk_T r5) fun t6 c w6 g6 r6 => qk_m r6 (by decide) (by omega) fun _ _ r7 => ?_
      refine qk_w (ih _ _ r7 (by rw [List.length_append]; simp; omega) fun x hx => ?_) (by omega) fun _ _ h => h
      rcases List.mem_append.mp hx with hx | hx
      · exact ha x hx
      · rw [List.mem_singleton] at hx; rw [hx]; exact ⟨w2, w4, w6⟩
    · exact qk_b (qk_T ht) fun u c hc h1 h2 => ⟨⟨by dsimp only; omega, ha, hc⟩, h1, h2⟩
end
