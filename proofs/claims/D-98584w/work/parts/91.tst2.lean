/-! the reference: what is told, a side -/
def blk (k : Nat) : Nat := if k = 24 then 48 else if k = 26 ∨ k = 27 then 6 else if k = 29 ∨ k = 30 then 4 else if k = 34 ∨ k = 35 then 3 else if 37 ≤ k ∧ k ≤ 41 then 130 else if k = 43 ∨ k = 44 then 420 else 1
/-- numbers that reading changes -/
def ch (j : Nat) : Prop := j = 11 ∨ j = 12 ∨ j = 13 ∨ j = 14 ∨ j = 15 ∨ j = 16 ∨ j = 20 ∨ j = 36 ∨ j = 42 ∨ j = 46
/-- only this side changes -/
def FX (sd : Nat) (s s' : tw_S) : Prop := (∀ j, ¬ ch j → s'.1 j = s.1 j) ∧ (∀ j, ¬ (22 ≤ j ∧ j ≤ 45) → s'.2.1 j = s.2.1 j) ∧ (∀ k, 22 ≤ k → k ≤ 44 → ∀ i, ¬ (blk k * sd ≤ i ∧ i < blk k * sd + blk k) → s'.2.1 k i = s.2.1 k i) ∧ ∀ j, j ≠ 21 → s'.2.2 j = s.2.2 j
section
variable {sd : Nat} {s s' s2 : tw_S}
theorem FX_id : FX sd s s := ⟨fun _ _ => rfl, fun _ _ => rfl, fun _ _ _ _ _ => rfl, fun _ _ => rfl⟩
theorem FX_tr (h1 : FX sd s s') (h2 : FX sd s' s2) : FX sd s s2 := ⟨fun j hj => (h2.1 j hj).trans (h1.1 j hj), fun j hj => (h2.2.1 j hj).trans (h1.2.1 j hj), fun k a b i hi => (h2.2.2.1 k a b i hi).trans (h1.2.2.1 k a b i hi), fun j hj => (h2.2.2.2 j hj).trans (h1.2.2.2 j hj)⟩
theorem FX_FZ (h : FZ s s') : FX sd s s' := ⟨fun j hj => h.1 j (fun e => hj (by unfold ch; omega)), fun j _ => by rw [h.2], fun k _ _ i _ => by rw [h.2], fun j _ => by rw [h.2]⟩
theorem FX_EF {c : Nat} (h : EF c s s') (hc : 420 * sd ≤ c ∧ c < 420 * sd + 420) : FX sd s s' := by
  refine ⟨fun j hj => h.1 j (fun e => hj (by unfold ch; omega)), fun j hj => h.2.1 j (by omega), fun k h1 h2 i hi => ?_, fun j _ => by rw [h.2.2.2]⟩
  by_cases e : k = 43
  · subst e
    change ¬ (420 * sd ≤ i ∧ i < 420 * sd + 420) at hi
    exact (h.2.2.1 i (by omega)).1
  · by_cases e2 : k = 44
    · subst e2
      change ¬ (420 * sd ≤ i ∧ i < 420 * sd + 420) at hi
      exact (h.2.2.1 i (by omega)).2
    · rw [h.2.1 k (by omega)]
theorem FX_i {j : Nat} {v : Int32} (hj : ch j) : FX sd s (tw_i s j v) := ⟨fun i hi => by rw [tw_i1, if_neg (fun e => hi (by rw [e]; exact hj))], fun _ _ => rfl, fun _ _ _ _ _ => rfl, fun _ _ => rfl⟩
theorem FX_a {k i : Nat} {v : Int32} (h1 : 22 ≤ k) (h2 : k ≤ 44) (hi : blk k * sd ≤ i ∧ i < blk k * sd + blk k) : FX sd s (tw_a s k (upd (s.2.1 k) i v)) := by
  refine ⟨fun _ _ => rfl, fun j hj => by rw [tw_a2, if_neg (by omega)], fun j _ _ n hn => ?_, fun _ _ => rfl⟩
  rw [tw_a2]
  by_cases e : j = k
  · subst e
    rw [if_pos rfl]
    exact pk_un (fun e => hn (by rw [e]; exact hi))
  · rw [if_neg e]
theorem FX_l {x : Nat → Int64} : FX sd s (tw_l s 21 x) := ⟨fun _ _ => rfl, fun _ _ => rfl, fun _ _ _ _ _ => rfl, fun j hj => by rw [tw_l3, if_neg hj]⟩
theorem FX_nm {nm : List Nat} {x : Int64} : FX sd s (nmS s nm x) := FX_tr FX_l (FX_i (j := 20) (by unfold ch; omega))
theorem TE_FX {K V F N : Nat → Nat} (h : TE s K V F N) (hf : FX sd s s') : TE s' K V F N := TE_c h (hf.2.1 5 (by decide)) (hf.2.1 6 (by decide)) (hf.2.1 7 (by decide)) (hf.2.2.2 8 (by decide))
/-- the other side stays -/
theorem TV_FX {lv : Nat} {T : Tx} (h : FX sd s s') (hs : lv + sd = 1) (hT : TW T) (ht : TV s lv T) : TV s' lv T := by
  obtain ⟨a1, a2, a3, a4, a5, a6, a7, a8, a9, a10, a11, a12, a13⟩ := ht
  obtain ⟨b1, b2, b3, b4, _⟩ := hT
  have f := h.2.2.1
  refine ⟨a1, (h.1 18 (by unfold ch; omega)).trans a2, (f 22 (by decide) (by decide) _ (by show ¬ (1 * sd ≤ lv ∧ lv < 1 * sd + 1); omega)).trans a3, (f 23 (by decide) (by decide) _ (by show ¬ (1 * sd ≤ lv ∧ lv < 1 * sd + 1); omega)).trans a4, (f 25 (by decide) (by decide) _ (by show ¬ (1 * sd ≤ lv ∧ lv < 1 * sd + 1); omega)).trans a5, (f 28 (by decide) (by decide) _ (by show ¬ (1 * sd ≤ lv ∧ lv < 1 * sd + 1); omega)).trans a6, fun c hc hon => (f 24 (by decide) (by decide) _ (by show ¬ (48 * sd ≤ _ ∧ _ < 48 * sd + 48); omega)).trans (a7 c hc hon), fun k hk => ⟨(f 26 (by decide) (by decide) _ (by show ¬ (6 * sd ≤ _ ∧ _ < 6 * sd + 6); omega)).trans (a8 k hk).1, (f 27 (by decide) (by decide) _ (by show ¬ (6 * sd ≤ _ ∧ _ < 6 * sd + 6); omega)).trans (a8 k hk).2⟩, fun k hk => ⟨(f 29 (by decide) (by decide) _ (by show ¬ (4 * sd ≤ _ ∧ _ < 4 * sd + 4); omega)).trans (a9 k hk).1, (f 30 (by decide) (by decide) _ (by show ¬ (4 * sd ≤ _ ∧ _ < 4 * sd + 4); omega)).trans (a9 k hk).2⟩, (f 31 (by decide) (by decide) _ (by show ¬ (1 * sd ≤ lv ∧ lv < 1 * sd + 1); omega)).trans a10, (f 32 (by decide) (by decide) _ (by show ¬ (1 * sd ≤ lv ∧ lv < 1 * sd + 1); omega)).trans a11, (f 33 (by decide) (by decide) _ (by show ¬ (1 * sd ≤ lv ∧ lv < 1 * sd + 1); omega)).trans a12, fun k hk => ?_⟩
  have hAG : AG lv s s' := by
    refine ⟨fun j h1 h2 b hb1 hb2 => f j (by omega) (by omega) b ?_, fun j hj c hc1 hc2 => f j (by omega) (by omega) c ?_⟩
    · have : blk j = 130 := by unfold blk; rw [if_neg (by omega), if_neg (by omega), if_neg (by omega), if_neg (by omega), if_pos (by omega)]
      rw [this]; omega
    · have : blk j = 420 := by unfold blk; rw [if_neg (by omega), if_neg (by omega), if_neg (by omega), if_neg (by omega), if_neg (by omega), if_pos (by omega)]
      rw [this]; omega
  have g34 := f 34 (by decide) (by decide) (3 * lv + k) (by show ¬ (3 * sd ≤ _ ∧ _ < 3 * sd + 3); omega)
  have g35 := f 35 (by decide) (by decide) (3 * lv + k) (by show ¬ (3 * sd ≤ _ ∧ _ < 3 * sd + 3); omega)
  have := a13 k hk
  cases hL : t_law T k with
  | none =>
    rw [hL] at this
    obtain ⟨a, h1, h2, h3⟩ := this
    exact ⟨a, h1, g34.trans h2, g35.trans h3⟩
  | some L =>
    rw [hL] at this
    obtain ⟨a, h2, h3, h4⟩ := this
    exact ⟨a, g34.trans h2, g35.trans h3, fun s2 h5 => h4 s2 (AG_tr hAG h5)⟩
end
/-- branches and code up to here are the same -/
def AB (sd b c : Nat) (s s' : tw_S) : Prop := (∀ k, 37 ≤ k → k ≤ 41 → ∀ i, 130 * sd ≤ i → i < b → s'.2.1 k i = s.2.1 k i) ∧ ∀ k, k = 43 ∨ k = 44 → ∀ i, 420 * sd ≤ i → i < c → s'.2.1 k i = s.2.1 k i
/-- a law of this side -/
def LQ (s : tw_S) (sd b c k : Nat) : Option Lw → Prop
  | none => ∃ a : Nat, a < 2 ^ 31 ∧ s.2.1 34 (3 * sd + k) = nI a ∧ s.2.1 35 (3 * sd + k) = nI a
  | some L => ∃ a : Nat, s.2.1 34 (3 * sd + k) = nI a ∧ s.2.1 35 (3 * sd + k) = nI (a + L.1.length + 1) ∧ ∀ s', AB sd b c s s' → LE s' a L
/-- what this side tells so far -/
def TP (s : tw_S) (sd : Nat) (T : Tx) (w : Wt) (b c : Nat) : Prop := s.1 19 = nI sd ∧ s.2.1 22 sd = nI (t_r T) ∧ s.2.1 23 sd = nI (t_w T) ∧ s.2.1 25 sd = nI (t_nf T) ∧ s.2.1 28 sd = nI (t_nl T) ∧ (w.1 = 0 → ∀ c < 48, t_on T c = true → s.2.1 24 (48 * sd + c) = t_fd T c) ∧ (∀ f < t_nf T, s.2.1 26 (6 * sd + f) = t_nd T f ∧ s.2.1 27 (6 * sd + f) = t_dr T f) ∧ (∀ l < t_nl T, s.2.1 29 (4 * sd + l) = nI (t_lw T l) ∧ s.2.1 30 (4 * sd + l) = t_pk T l) ∧ s.2.1 31 sd = t_st T ∧ s.2.1 32 sd = t_gu T ∧ s.2.1 33 sd = t_se T ∧ ∀ k < 3, LQ s sd b c k (t_law T k)
section
variable {sd b c b' c' : Nat} {s s' s2 : tw_S} {T : Tx} {w w' : Wt}
theorem AB_id : AB sd b c s s := ⟨fun _ _ _ _ _ _ => rfl, fun _ _ _ _ _ => rfl⟩
theorem AB_tr (h1 : AB sd b c s s') (h2 : AB sd b c s' s2) : AB sd b c s s2 := ⟨fun k a b c e f => (h2.1 k a b c e f).trans (h1.1 k a b c e f), fun k a c e f => (h2.2 k a c e f).trans (h1.2 k a c e f)⟩
theorem AB_le (h : AB sd b' c' s s') (hb : b ≤ b') (hc : c ≤ c') : AB sd b c s s' := ⟨fun k h1 h2 i a1 a2 => h.1 k h1 h2 i a1 (by omega), fun k h1 i a1 a2 => h.2 k h1 i a1 (by omega)⟩
theorem AB_e (h : ∀ k, 37 ≤ k → k ≤ 44 → s'.2.1 k = s.2.1 k) : AB sd b c s s' := ⟨fun k h1 h2 i _ _ => by rw [h k h1 (by omega)], fun k h1 i _ _ => by rw [h k (by omega) (by omega)]⟩
theorem AB_EF {c0 : Nat} (h : EF c0 s s') : AB sd b c0 s s' := ⟨fun k h1 h2 i _ _ => by rw [h.2.1 k (by omega)], fun k h1 i _ hi => by
  rcases h1 with rfl | rfl
  · exact (h.2.2.1 i (Or.inl hi)).1
  · exact (h.2.2.1 i (Or.inl hi)).2⟩
theorem LQ_c {k : Nat} {o : Option Lw} (h34 : s'.2.1 34 = s.2.1 34) (h35 : s'.2.1 35 = s.2.1 35) (hA : AB sd b c s s') (hb : b ≤ b') (hc : c ≤ c') (h : LQ s sd b c k o) : LQ s' sd b' c' k o := by
  cases o with
  | none =>
    unfold LQ at h ⊢
    rw [h34, h35]
    exact h
  | some L =>
    obtain ⟨a, h1, h2, h3⟩ := h
    exact ⟨a, by rw [h34]; exact h1, by rw [h35]; exact h2, fun s2 h4 => h3 s2 (AB_tr hA (AB_le h4 hb hc))⟩
theorem TP_c (h19 : s'.1 19 = s.1 19) (he : ∀ k, 22 ≤ k → k ≤ 35 → s'.2.1 k = s.2.1 k) (hA : AB sd b c s s') (hb : b ≤ b') (hc : c ≤ c') (hw : w'.1 = 0 → w.1 = 0) (h : TP s sd T w b c) : TP s' sd T w' b' c' := by
  obtain ⟨a1, a2, a3, a4, a5, a6, a7, a8, a9, a10, a11, a12⟩ := h
  unfold TP
  rw [h19, he 22 (by decide) (by decide), he 23 (by decide) (by decide), he 24 (by decide) (by decide), he 25 (by decide) (by decide), he 26 (by decide) (by decide), he 27 (by decide) (by decide), he 28 (by decide) (by decide), he 29 (by decide) (by decide), he 30 (by decide) (by decide), he 31 (by decide) (by decide), he 32 (by decide) (by decide), he 33 (by decide) (by decide)]
  exact ⟨a1, a2, a3, a4, a5, fun h => a6 (hw h), a7, a8, a9, a10, a11, fun k hk => LQ_c (he 34 (by decide) (by decide)) (he 35 (by decide) (by decide)) hA hb hc (a12 k hk)⟩
/-- a store, gusts, a seed -/
theorem TP_I {k : Nat} {v : Int32} (hk : k < 3) (h : TP s sd T w b c) : TP (tw_a s (31 + k) (upd (s.2.1 (31 + k)) sd v)) sd (tI T k v) w b c := by
  obtain ⟨a1, a2, a3, a4, a5, a6, a7, a8, a9, a10, a11, a12⟩ := h
  have e : ∀ j, j ≠ 31 + k → (tw_a s (31 + k) (upd (s.2.1 (31 + k)) sd v)).2.1 j = s.2.1 j := fun j hj => by rw [tw_a2, if_neg hj]
  have e2 : ∀ j, j ≠ k → (tI T k v).2.1 j = T.2.1 j := fun j hj => if_neg hj
  have hLP : ∀ j < 3, LQ (tw_a s (31 + k) (upd (s.2.1 (31 + k)) sd v)) sd b c j (t_law (tI T k v) j) := fun j hj => LQ_c (e 34 (by omega)) (e 35 (by omega)) (AB_e fun i h1 h2 => e i (by omega)) (Nat.le_refl _) (Nat.le_refl _) (a12 j hj)
  refine ⟨a1, (congrFun (e 22 (by omega)) _).trans a2, (congrFun (e 23 (by omega)) _).trans a3, (congrFun (e 25 (by omega)) _).trans a4, (congrFun (e 28 (by omega)) _).trans a5, fun h c hc hon => (congrFun (e 24 (by omega)) _).trans ((a6 h c hc hon).trans (e2 (40 + c) (by omega)).symm), fun f hf => ⟨(congrFun (e 26 (by omega)) _).trans ((a7 f hf).1.trans (e2 (10 + f) (by omega)).symm), (congrFun (e 27 (by omega)) _).trans ((a7 f hf).2.trans (e2 (20 + f) (by omega)).symm)⟩, fun l hl => ⟨(congrFun (e 29 (by omega)) _).trans (a8 l hl).1, (congrFun (e 30 (by omega)) _).trans ((a8 l hl).2.trans (e2 (30 + l) (by omega)).symm)⟩, ?_, ?_, ?_, hLP⟩
  · by_cases h : k = 0
    · subst h; exact pk_us
    · exact (congrFun (e 31 (by omega)) _).trans (a9.trans (e2 0 (by omega)).symm)
  · by_cases h : k = 1
    · subst h; exact pk_us
    · exact (congrFun (e 32 (by omega)) _).trans (a10.trans (e2 1 (by omega)).symm)
  · by_cases h : k = 2
    · subst h; exact pk_us
    · exact (congrFun (e 33 (by omega)) _).trans (a11.trans (e2 2 (by omega)).symm)
/-- a field -/
theorem TP_F {x y : Nat} (hn : t_nf T < 6) (h : TP s sd T w b c) (h19 : s'.1 19 = s.1 19) (h25 : s'.2.1 25 = upd (s.2.1 25) sd (nI (t_nf T + 1))) (h26 : s'.2.1 26 = upd (s.2.1 26) (6 * sd + t_nf T) (nI x)) (h27 : s'.2.1 27 = upd (s.2.1 27) (6 * sd + t_nf T) (nI y)) (e : ∀ j, 22 ≤ j → j ≤ 44 → ¬ (j = 25 ∨ j = 26 ∨ j = 27) → s'.2.1 j = s.2.1 j) (hw : w'.1 = 0 → w.1 = 0) : TP s' sd (fdT T x y) w' b c := by
  obtain ⟨a1, a2, a3, a4, a5, a6, a7, a8, a9, a10, a11, a12⟩ := h
  have e2 : ∀ j, j ≠ 10 + t_nf T → j ≠ 20 + t_nf T → (fdT T x y).2.1 j = T.2.1 j := fun j h1 h2 => by
    show (if j = 20 + t_nf T then nI y else if j = 10 + t_nf T then nI x else T.2.1 j) = _
    rw [if_neg h2, if_neg h1]
  refine ⟨h19.trans a1, (congrFun (e 22 (by omega) (by omega) (by omega)) _).trans a2, (congrFun (e 23 (by omega) (by omega) (by omega)) _).trans a3, by rw [h25]; exact pk_us, (congrFun (e 28 (by omega) (by omega) (by omega)) _).trans a5, fun h c hc hon => (congrFun (e 24 (by omega) (by omega) (by omega)) _).trans ((a6 (hw h) c hc hon).trans (e2 (40 + c) (by omega) (by omega)).symm), fun f hf => ?_, fun l hl => ⟨(congrFun (e 29 (by omega) (by omega) (by omega)) _).trans ((a8 l hl).1.trans ?_), (congrFun (e 30 (by omega) (by omega) (by omega)) _).trans ((a8 l hl).2.trans ?_)⟩, (congrFun (e 31 (by omega) (by omega) (by omega)) _).trans (a9.trans (e2 0 (by omega) (by omega)).symm), (congrFun (e 32 (by omega) (by omega) (by omega)) _).trans (a10.trans (e2 1 (by omega) (by omega)).symm), (congrFun (e 33 (by omega) (by omega) (by omega)) _).trans (a11.trans (e2 2 (by omega) (by omega)).symm), fun k hk => LQ_c (e 34 (by omega) (by omega) (by omega)) (e 35 (by omega) (by omega) (by omega)) (AB_e fun i h1 h2 => e i (by omega) (by omega) (by omega)) (Nat.le_refl _) (Nat.le_refl _) (a12 k hk)⟩
  · change f < t_nf T + 1 at hf
    rw [h26, h27]
    by_cases h : f = t_nf T
    · subst h
      rw [pk_us, pk_us]
      refine ⟨?_, ?_⟩
      · show nI x = if 10 + t_nf T = 20 + t_nf T then nI y else if 10 + t_nf T = 10 + t_nf T then nI x else T.2.1 (10 + t_nf T)
        rw [if_neg (by omega), if_pos rfl]
      · show nI y = if 20 + t_nf T = 20 + t_nf T then nI y else (if 20 + t_nf T = 10 + t_nf T then nI x else T.2.1 (20 + t_nf T))
        rw [if_pos rfl]
    · rw [pk_un (by omega), pk_un (by omega)]
      obtain ⟨g1, g2⟩ := a7 f (by omega)
      exact ⟨g1.trans (e2 (10 + f) (by omega) (by omega)).symm, g2.trans (e2 (20 + f) (by omega) (by omega)).symm⟩
  · show nI (T.1 (4 + l)) = nI (if 4 + l = 2 then t_nf T + 1 else T.1 (4 + l))
    rw [if_neg (by omega)]
  · exact (e2 (30 + l) (by omega) (by omega)).symm
/-- a loom -/
theorem TP_M {x y : Nat} (hn : t_nl T < 4) (h : TP s sd T w b c) (h19 : s'.1 19 = s.1 19) (h28 : s'.2.1 28 = upd (s.2.1 28) sd (nI (t_nl T + 1))) (h29 : s'.2.1 29 = upd (s.2.1 29) (4 * sd + t_nl T) (nI x)) (h30 : s'.2.1 30 = upd (s.2.1 30) (4 * sd + t_nl T) (nI y)) (e : ∀ j, 22 ≤ j → j ≤ 44 → ¬ (j = 28 ∨ j = 29 ∨ j = 30) → s'.2.1 j = s.2.1 j) (hw : w'.1 = 0 → w.1 = 0) (hnf : t_nf T ≤ 6) : TP s' sd (lmT T x y) w' b c := by
  obtain ⟨a1, a2, a3, a4, a5, a6, a7, a8, a9, a10, a11, a12⟩ := h
  have e2 : ∀ j, j ≠ 30 + t_nl T → (lmT T x y).2.1 j = T.2.1 j := fun j h1 => if_neg h1
  have e0 : ∀ j, j < 3 → (lmT T x y).1 j = T.1 j := fun j hj => by
    show (if j = 3 then t_nl T + 1 else if j = 4 + t_nl T then x else T.1 j) = _
    rw [if_neg (by omega), if_neg (by omega)]
  have hon' : ∀ c, t_on (lmT T x y) c = t_on T c := fun c => by
    unfold t_on t_w t_r
    rw [e0 0 (by decide), e0 1 (by decide)]
  refine ⟨h19.trans a1, (congrFun (e 22 (by omega) (by omega) (by omega)) _).trans (a2.trans (congrArg nI (e0 0 (by decide)).symm)), (congrFun (e 23 (by omega) (by omega) (by omega)) _).trans (a3.trans (congrArg nI (e0 1 (by decide)).symm)), (congrFun (e 25 (by omega) (by omega) (by omega)) _).trans (a4.trans (congrArg nI (e0 2 (by decide)).symm)), by rw [h28]; exact pk_us, fun h c hc hon => (congrFun (e 24 (by omega) (by omega) (by omega)) _).trans ((a6 (hw h) c hc (by rw [← hon' c]; exact hon)).trans (e2 (40 + c) (by omega)).symm), fun f hf => ?_, fun l hl => ?_, (congrFun (e 31 (by omega) (by omega) (by omega)) _).trans (a9.trans (e2 0 (by omega)).symm), (congrFun (e 32 (by omega) (by omega) (by omega)) _).trans (a10.trans (e2 1 (by omega)).symm), (congrFun (e 33 (by omega) (by omega) (by omega)) _).trans (a11.trans (e2 2 (by omega)).symm), fun k hk => LQ_c (e 34 (by omega) (by omega) (by omega)) (e 35 (by omega) (by omega) (by omega)) (AB_e fun i h1 h2 => e i (by omega) (by omega) (by omega)) (Nat.le_refl _) (Nat.le_refl _) (a12 k hk)⟩
  · have hf : f < t_nf T := by
      unfold t_nf at hf ⊢
      rw [e0 2 (by decide)] at hf
      exact hf
    exact ⟨(congrFun (e 26 (by omega) (by omega) (by omega)) _).trans ((a7 f hf).1.trans (e2 (10 + f) (by omega)).symm), (congrFun (e 27 (by omega) (by omega) (by omega)) _).trans ((a7 f hf).2.trans (e2 (20 + f) (by omega)).symm)⟩
  · change l < t_nl T + 1 at hl
    rw [h29, h30]
    by_cases h : l = t_nl T
    · subst h
      rw [pk_us, pk_us]
      refine ⟨?_, ?_⟩
      · show nI x = nI (if 4 + t_nl T = 3 then t_nl T + 1 else if 4 + t_nl T = 4 + t_nl T then x else T.1 (4 + t_nl T))
        rw [if_neg (by omega), if_pos rfl]
      · show nI y = if 30 + t_nl T = 30 + t_nl T then nI y else T.2.1 (30 + t_nl T)
        rw [if_pos rfl]
    · rw [pk_un (by omega), pk_un (by omega)]
      obtain ⟨g1, g2⟩ := a8 l (by omega)
      refine ⟨g1.trans ?_, g2.trans (e2 (30 + l) (by omega)).symm⟩
      show nI (T.1 (4 + l)) = nI (if 4 + l = 3 then t_nl T + 1 else if 4 + l = 4 + t_nl T then x else T.1 (4 + l))
      rw [if_neg (by omega), if_neg (by omega)]
end
/-- while a text is told -/
def PI (s : tw_S) (K V F N : Nat → Nat) (sd t : Nat) (S : Sx) : Prop := ZQ s K F (.inr (t, S.2.2)) ∧ TE s K V F N ∧ NQ s S.2.1 ∧ sd < 2 ∧ ∃ b c, s.1 36 = nI b ∧ s.1 42 = nI c ∧ (130 * sd ≤ b ∧ 4 * b ≤ 520 * sd + t) ∧ (420 * sd ≤ c ∧ c ≤ 420 * sd + t) ∧ TP s sd S.1 S.2.2 b c
def PO (s : tw_S) (K V F N : Nat → Nat) (sd : Nat) (r : Pa Sx) : Prop := match r with
  | .inl e => ZQ s K F (.inl e)
  | .inr x => PI s K V F N sd x.1 x.2
/-! chains of helpers as plain ones -/
section
variable {K V N : Nat → Nat} {α : Type} {H : Zs → Pa α} {t : Nat} {w : Wt}
theorem hp_p {G : Nat → Pa α} (h0 : ∀ e, H (.inl e) = .inl e) (h1 : G (t + 1) = H (.inr (t + 1, w))) : qp t G = H (zgo (.inr (t, w))) := by
  unfold qp zgo
  dsimp only
  split
  · rw [h0]
  · rw [h1]
theorem hp_m {k : Nat} {G : Nat → Pa α} (h0 : ∀ e, H (.inl e) = .inl e) (h1 : G (t + 1) = H (.inr (t + 1, w))) : qm K k t G = H (zmu K k (.inr (t, w))) := by
  unfold qm zmu
  dsimp only
  split
  · exact hp_p h0 h1
  · rw [h0]
theorem hp_n {lo hi : Nat} {G : Nat → Wt → Pa α} (h0 : ∀ e, H (.inl e) = .inl e) (h1 : ∀ w, G (t + 1) w = H (.inr (t + 1, w))) : qn K V lo hi t w G = H (zbd K V lo hi (.inr (t, w))) := by
  unfold qn zbd
  dsimp only
  split
  · exact hp_p h0 (h1 _)
  · rw [h0]
theorem hp_nm {nm : List Nat} {G : Nat → Pa α} (h0 : ∀ e, H (.inl e) = .inl e) (h1 : G (t + 1) = H (.inr (t + 1, if N t ∈ nm then wt w 3 t else w))) : qm K 1 t G = H (znm K N nm t w) := by
  have g : qm K 1 t G = (fun z : Zs => H (match z with | .inl e => .inl e | .inr x => .inr (x.1, if N t ∈ nm then wt w 3 t else w))) (zmu K 1 (.inr (t, w))) := hp_m (H := fun z : Zs => H (match z with | .inl e => .inl e | .inr x => .inr (x.1, if N t ∈ nm then wt w 3 t else w))) (fun e => h0 e) h1
  rw [g]
  rfl
theorem zgo_r {x y : Nat × Wt} (h : zgo (.inr x) = .inr y) : y = (x.1 + 1, x.2) ∧ x.1 ≠ 400 := by
  unfold zgo at h
  dsimp only at h
  split at h
  · cases h
  · exact ⟨(Sum.inr.inj h).symm, by assumption⟩
theorem zmu_i {k : Nat} {z : Zs} {y : Nat × Wt} (h : zmu K k z = .inr y) : ∃ x, z = .inr x ∧ y = (x.1 + 1, x.2) ∧ K x.1 = k ∧ x.1 ≠ 400 := by
  cases z with
  | inl e => cases h
  | inr x => exact ⟨x, rfl, zmu_r h⟩
theorem zbd_i {lo hi : Nat} {z : Zs} {y : Nat × Wt} (h : zbd K V lo hi z = .inr y) : ∃ x, z = .inr x ∧ y = (x.1 + 1, if V x.1 < lo ∨ hi < V x.1 then wt x.2 5 x.1 else x.2) ∧ K x.1 = 2 ∧ x.1 ≠ 400 ∧ zbv K V lo z = V x.1 := by
  cases z with
  | inl e => cases h
  | inr x =>
    unfold zbd at h
    dsimp only at h
    split at h
    · rename_i hk
      obtain ⟨h1, h2⟩ := zgo_r h
      exact ⟨x, rfl, h1, hk, h2, if_pos hk⟩
    · cases h
theorem zgo_i {z : Zs} {y : Nat × Wt} (h : zgo z = .inr y) : ∃ x, z = .inr x ∧ y = (x.1 + 1, x.2) ∧ x.1 ≠ 400 := by
  cases z with
  | inl e => cases h
  | inr x => exact ⟨x, rfl, zgo_r h⟩
end
