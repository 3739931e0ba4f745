/-! the reference: what is scratch -/
def imp (k : Nat) : Bool := decide (k = 1) || decide (22 ≤ k ∧ k ≤ 44) || decide (k = 50) || decide (k = 54) || decide (k = 66) || decide (k = 67) || decide (k = 70) || decide (k = 71)
/-- what stands is the same -/
def SC (s s' : tw_S) : Prop := (s'.1 2 = s.1 2 ∧ s'.1 17 = s.1 17 ∧ s'.1 18 = s.1 18 ∧ s'.1 53 = s.1 53 ∧ s'.1 65 = s.1 65) ∧ (∀ k, imp k = true → s'.2.1 k = s.2.1 k) ∧ s'.2.2 9 = s.2.2 9 ∧ RZ (s'.2.1 51)
section
variable {s s' s'' : tw_S} {r f : Nat → Int32} {lo v : Int32} {j : Jk} {k lv : Nat} {T : Tx}
theorem SC_refl (h : RZ (s.2.1 51)) : SC s s := ⟨⟨rfl, rfl, rfl, rfl, rfl⟩, fun _ _ => rfl, rfl, h⟩
theorem SC_trans (h1 : SC s s') (h2 : SC s' s'') : SC s s'' := by
  obtain ⟨⟨a1, a2, a3, a4, a5⟩, a6, a7, a8⟩ := h1
  obtain ⟨⟨b1, b2, b3, b4, b5⟩, b6, b7, b8⟩ := h2
  exact ⟨⟨b1.trans a1, b2.trans a2, b3.trans a3, b4.trans a4, b5.trans a5⟩, fun k hk => (b6 k hk).trans (a6 k hk), b7.trans a7, b8⟩
theorem SC_w (h : RZ r) : SC s (tw_w s r lo j) := by
  refine ⟨⟨rfl, rfl, rfl, rfl, rfl⟩, fun k hk => ?_, rfl, h⟩
  unfold tw_w
  dsimp only
  rw [if_neg (fun e => by subst e; exact absurd hk (by decide)), if_neg (fun e => by subst e; exact absurd hk (by decide)), if_neg (fun e => by subst e; exact absurd hk (by decide))]
theorem SC_i (h : SC s s') (h1 : k ≠ 2) (h2 : k ≠ 17) (h3 : k ≠ 18) (h4 : k ≠ 53) (h5 : k ≠ 65) : SC s (tw_i s' k v) := by
  obtain ⟨⟨a1, a2, a3, a4, a5⟩, a6, a7, a8⟩ := h
  refine ⟨⟨?_, ?_, ?_, ?_, ?_⟩, a6, a7, a8⟩
  · rw [tw_i1, if_neg (Ne.symm h1)]; exact a1
  · rw [tw_i1, if_neg (Ne.symm h2)]; exact a2
  · rw [tw_i1, if_neg (Ne.symm h3)]; exact a3
  · rw [tw_i1, if_neg (Ne.symm h4)]; exact a4
  · rw [tw_i1, if_neg (Ne.symm h5)]; exact a5
theorem SC_a (h : SC s s') (h1 : imp k = false) (h2 : k ≠ 51) : SC s (tw_a s' k f) := by
  obtain ⟨a1, a6, a7, a8⟩ := h
  refine ⟨a1, fun i hi => ?_, a7, ?_⟩
  · rw [tw_a2, if_neg (fun e => by subst e; rw [h1] at hi; cases hi)]
    exact a6 i hi
  · rw [tw_a2, if_neg (Ne.symm h2)]; exact a8
theorem ww_i (h1 : k ≠ 52) (h2 : k ≠ 49) : tw_i (tw_w s r lo j) k v = tw_w (tw_i s k v) r lo j := by
  unfold tw_i tw_w
  refine Prod.ext (funext fun i => ?_) rfl
  dsimp only
  by_cases e : i = k
  · subst e; simp [h1, h2]
  · simp [e]
theorem ww_a (h1 : k ≠ 51) (h2 : k ≠ 47) (h3 : k ≠ 48) : tw_a (tw_w s r lo j) k f = tw_w (tw_a s k f) r lo j := by
  unfold tw_a tw_w
  refine Prod.ext rfl (Prod.ext (funext fun i => ?_) rfl)
  dsimp only
  by_cases e : i = k
  · subst e; simp [h1, h2, h3]
  · simp [e]
theorem ww_w {r' : Nat → Int32} {lo' : Int32} {j' : Jk} : tw_w (tw_w s r lo j) r' lo' j' = tw_w s r' lo' j' := by
  unfold tw_w
  refine Prod.ext (funext fun i => ?_) (Prod.ext (funext fun i => ?_) rfl)
  · dsimp only
    by_cases h : i = 52
    · simp [h]
    · by_cases h : i = 49 <;> simp [*]
  · dsimp only
    by_cases h : i = 51
    · simp [h]
    · by_cases h : i = 47
      · simp [h]
      · by_cases h : i = 48 <;> simp [*]
theorem LT_c (e : ∀ k, 22 ≤ k → k ≤ 44 → s'.2.1 k = s.2.1 k) {o : Option Lw} (h : LT s lv k o) : LT s' lv k o := by
  cases o with
  | none =>
    unfold LT at h ⊢
    rw [e 34 (by decide) (by decide), e 35 (by decide) (by decide)]
    exact h
  | some L =>
    obtain ⟨a, h34, h35, hle⟩ := h
    refine ⟨a, by rw [e 34 (by decide) (by decide)]; exact h34, by rw [e 35 (by decide) (by decide)]; exact h35, fun s2 h2 => hle s2 (AG_tr ⟨fun k h1 h2 b _ _ => by rw [e k (by omega) (by omega)], fun k h1 c _ _ => by rw [e k (by omega) (by omega)]⟩ h2)⟩
theorem TV_c (h18 : s'.1 18 = s.1 18) (e : ∀ k, 22 ≤ k → k ≤ 44 → s'.2.1 k = s.2.1 k) (ht : TV s lv T) : TV s' lv T := by
  obtain ⟨a1, a2, a3, a4, a5, a6, a7, a8, a9, a10, a11, a12, a13⟩ := ht
  unfold TV
  rw [h18, e 22 (by decide) (by decide), e 23 (by decide) (by decide), e 24 (by decide) (by decide), e 25 (by decide) (by decide), e 26 (by decide) (by decide), e 27 (by decide) (by decide), e 28 (by decide) (by decide), e 29 (by decide) (by decide), e 30 (by decide) (by decide), e 31 (by decide) (by decide), e 32 (by decide) (by decide), e 33 (by decide) (by decide)]
  exact ⟨a1, a2, a3, a4, a5, a6, a7, a8, a9, a10, a11, a12, fun k hk => LT_c e (a13 k hk)⟩
theorem imp_t (h1 : 22 ≤ k) (h2 : k ≤ 44) : imp k = true := by simp [imp, h1, h2]
theorem TV_SC (h : SC s s') (ht : TV s lv T) : TV s' lv T := TV_c h.1.2.2.1 (fun k h1 h2 => h.2.1 k (imp_t h1 h2)) ht
theorem tw_aa {f g : Nat → Int32} : tw_a (tw_a s k f) k g = tw_a s k g := by
  unfold tw_a
  refine Prod.ext rfl (Prod.ext (funext fun i => ?_) rfl)
  by_cases h : i = k <;> simp [h]
theorem tw_ai : tw_a s k (s.2.1 k) = s := by
  unfold tw_a
  refine Prod.ext rfl (Prod.ext (funext fun i => ?_) rfl)
  by_cases h : i = k
  · subst h; simp
  · simp [h]
theorem tw_ii {x y : Int32} : tw_i (tw_i s k x) k y = tw_i s k y := by
  unfold tw_i
  refine Prod.ext (funext fun i => ?_) rfl
  by_cases h : i = k <;> simp [h]
theorem tw_id {x : Int32} (h : s.1 k = x) : tw_i s k x = s := by
  unfold tw_i
  refine Prod.ext (funext fun i => ?_) rfl
  by_cases e : i = k
  · subst e; simp [h]
  · simp [e]
/-- two fields, 62 ahead of 63 -/
theorem tw_iw {x y z : Int32} : tw_i (tw_i (tw_i (tw_i s 62 x) 63 y) 62 z) 63 v = tw_i (tw_i s 62 z) 63 v := by
  unfold tw_i
  refine Prod.ext (funext fun i => ?_) rfl
  dsimp only
  by_cases h : i = 63
  · simp [h]
  · by_cases h2 : i = 62 <;> simp [h, h2]
/-- arrays are written ahead of ints -/
theorem tw_ci {n : Nat} {x : Int32} : tw_a (tw_i s n x) k f = tw_i (tw_a s k f) n x := rfl
end
/-! rows end at 92 -/
theorem RZ_u {r : Nat → Int32} {k : Nat} {v : Int32} (h : RZ r) (hk : k < 92) : RZ (upd r k v) := fun i hi => by rw [pk_un (by omega)]; exact h i hi
theorem fl_r_Z {T : Tx} (hT : TW T) {r : Nat → Int32} {l w h x y : Nat} (hl : l < 4) (hr : RZ r) : RZ (fl_r T r l w h x y) := by
  have h1 : RZ (fl_a T r l w h x y).1 := it_ind (P := fun st : Fs => RZ st.1) hr fun k _ st hst => by
    obtain ⟨t1, t2, _⟩ := hT
    unfold fl_s
    split
    · exact hst
    · split
      · exact hst
      · dsimp only
        split
        · rename_i hc
          exact RZ_u (RZ_u hst (by decide)) (by omega)
        · exact RZ_u hst (by decide)
  unfold fl_r fl_e
  have h2 := RZ_u (v := r (48 + l) + nI h) h1 (k := 48 + l) (by omega)
  have h3 := RZ_u (v := upd (fl_a T r l w h x y).1 (48 + l) (r (48 + l) + nI h) (68 + l) + (fl_a T r l w h x y).2.1) h2 (k := 68 + l) (by omega)
  refine RZ_u ?_ (by decide)
  split
  · exact RZ_u h3 (by omega)
  · exact h3
theorem day_Z {T : Tx} {lo : Int32} (hT : TW T) {r : Nat → Int32} (hr : RZ r) : RZ (day T lo r) := by
  unfold day d4
  refine RZ_u (RZ_u (it_ind (P := RZ) (it_ind (P := RZ) (it_ind (P := RZ) hr fun l hl r h => ?_) fun c hc r h => ?_) fun c hc r h => ?_) (by decide)) (by decide)
  · unfold d1_s
    split
    · exact h
    · exact fl_r_Z hT (by have := hT.2.2.2.1; omega) h
  · unfold d2_s
    cases hon : t_on T c with
    | false => exact h
    | true =>
      rw [if_pos rfl]
      have key : nI 0 ≤ t_fd T c → (t_fd T c).toNatClampNeg < 6 := fun h0 => by
        obtain ⟨f, hf, e⟩ := r_lk_f hT hc hon h0
        rw [e, nI_clamp (by omega)]
        exact hf
      have k1 : r_lk T r c = true → (t_fd T c).toNatClampNeg < 6 := fun h1 => key (by simp [r_lk] at h1; exact h1.1)
      have k2 : r_fl T r c = true → (t_fd T c).toNatClampNeg < 6 := fun h1 => key (by simp [r_fl] at h1; exact h1.1)
      dsimp only
      split
      · rename_i h2
        have := k2 h2
        refine RZ_u ?_ (by omega)
        split
        · exact RZ_u h (by omega)
        · exact h
      · split
        · rename_i h1
          have := k1 h1
          exact RZ_u h (by omega)
        · exact h
  · unfold d3_s
    split
    · exact RZ_u h (by omega)
    · exact h
theorem days_Z {T : Tx} {lo : Int32} {n : Nat} (hT : TW T) {r : Nat → Int32} (hr : RZ r) : RZ (days T lo n r) := it_ind (P := RZ) hr fun _ _ r h => day_Z hT h
