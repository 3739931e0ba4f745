/-! what stands stays well-made: plain -/
theorem RS_u {r : Nat → Int32} {k : Nat} {v : Int32} (h : RS r) (hk : k < 68 ∨ (71 < k ∧ k ≠ 90)) : RS (upd r k v) := by
  unfold RS at h ⊢
  rw [pk_un (by omega), pk_un (by omega), pk_un (by omega), pk_un (by omega), pk_un (by omega)]
  exact h
theorem i_ac {a b c d e : Int32} : a + b + c + d + e = a + e + b + c + d ∧ a + b + c + d + e = a + (b + e) + c + d ∧ a + b + c + d + e = a + b + (c + e) + d ∧ a + b + c + d + e = a + b + c + (d + e) := by
  refine ⟨?_, ?_, ?_, ?_⟩ <;> ac_rfl
theorem fl_a_pk {T : Tx} (hT : TW T) {r : Nat → Int32} {l w h x y : Nat} {i : Nat} (hi : 48 ≤ i) (h88 : i ≠ 88) : (fl_a T r l w h x y).1 i = r i := it_ind (P := fun st : Fs => st.1 i = r i) rfl fun k _ st hst => by rw [fl_s_pk hT hi h88, hst]
theorem fl_r_S {T : Tx} (hT : TW T) {r : Nat → Int32} {l w h x y : Nat} (hl : l < 4) (hr : RS r) : RS (fl_r T r l w h x y) := by
  have p := fun i h1 h2 => fl_a_pk (l := l) (w := w) (h := h) (x := x) (y := y) (r := r) hT (i := i) h1 h2
  unfold fl_r fl_e RS
  generalize fl_a T r l w h x y = st at p ⊢
  obtain ⟨sr, ss, sb⟩ := st
  dsimp only at p ⊢
  have q0 := p 68 (by decide) (by decide)
  have q1 := p 69 (by decide) (by decide)
  have q2 := p 70 (by decide) (by decide)
  have q3 := p 71 (by decide) (by decide)
  have q4 := p 90 (by decide) (by decide)
  have key : ∀ c : Nat → Int32, (∀ i, i = 68 ∨ i = 69 ∨ i = 70 ∨ i = 71 → c i = if i = 68 + l then r i + ss else r i) → c 90 = r 90 → upd c 90 (c 90 + ss) 90 = upd c 90 (c 90 + ss) 68 + upd c 90 (c 90 + ss) 69 + upd c 90 (c 90 + ss) 70 + upd c 90 (c 90 + ss) 71 := by
    intro c h1 h2
    rw [pk_us, pk_un (by decide), pk_un (by decide), pk_un (by decide), pk_un (by decide), h2, hr, h1 68 (by omega), h1 69 (by omega), h1 70 (by omega), h1 71 (by omega)]
    obtain ⟨e1, e2, e3, e4⟩ := i_ac (a := r 68) (b := r 69) (c := r 70) (d := r 71) (e := ss)
    rcases (show l = 0 ∨ l = 1 ∨ l = 2 ∨ l = 3 by omega) with e | e | e | e <;> subst e <;> simp only [Nat.reduceAdd, Nat.reduceEqDiff, if_true, if_false]
    · exact e1
    · exact e2
    · exact e3
    · exact e4
  refine key _ (fun i hi => ?_) ?_
  · split
    · rw [pk_un (by omega)]
      by_cases e : i = 68 + l
      · rw [if_pos e, e, pk_us, pk_un (by omega), p (68 + l) (by omega) (by omega)]
      · rw [if_neg e, pk_un e, pk_un (by omega), p i (by omega) (by omega)]
    · by_cases e : i = 68 + l
      · rw [if_pos e, e, pk_us, pk_un (by omega), p (68 + l) (by omega) (by omega)]
      · rw [if_neg e, pk_un e, pk_un (by omega), p i (by omega) (by omega)]
  · split
    · rw [pk_un (by omega), pk_un (by omega), pk_un (by omega), q4]
    · rw [pk_un (by omega), pk_un (by omega), q4]
theorem fl_r_I {T : Tx} (hT : TW T) {r : Nat → Int32} {l w h x y : Nat} (hl : l < 4) (hr : RI r) : RI (fl_r T r l w h x y) := ⟨fl_r_W hT hl hr.1, fl_r_Z hT hl hr.2.1, fl_r_S hT hl hr.2.2⟩
theorem day_S {T : Tx} {lo : Int32} (hT : TW T) {r : Nat → Int32} (hr : RS r) : RS (day T lo r) := by
  unfold day d4
  refine RS_u (RS_u (it_ind (P := RS) (it_ind (P := RS) (it_ind (P := RS) hr fun l hl r h => ?_) fun c hc r h => ?_) fun c hc r h => ?_) (by omega)) (by omega)
  · unfold d1_s
    split
    · exact h
    · exact fl_r_S hT (by have := hT.2.2.2.1; omega) h
  · unfold d2_s
    cases hon : t_on T c with
    | false => exact h
    | true =>
      rw [if_pos rfl]
      have key : nI 0 ≤ t_fd T c → (t_fd T c).toNatClampNeg < 6 := fun h0 => by
        obtain ⟨f, hf, e⟩ := r_lk_f hT hc hon h0
        rw [e, nI_clamp (by omega)]
        exact hf
      have k1 : r_lk T r c = true → (t_fd T c).toNatClampNeg < 6 := fun h1 => key (by simp [r_lk] at h1; exact h1.1)
      have k2 : r_fl T r c = true → (t_fd T c).toNatClampNeg < 6 := fun h1 => key (by simp [r_fl] at h1; exact h1.1)
      dsimp only
      split
      · rename_i h2
        have := k2 h2
        refine RS_u ?_ (by omega)
        split
        · exact RS_u h (by omega)
        · exact h
      · split
        · rename_i h1
          have := k1 h1
          exact RS_u h (by omega)
        · exact h
  · unfold d3_s
    split
    · exact RS_u h (by omega)
    · exact h
theorem days_I {T : Tx} {lo : Int32} {n : Nat} (hT : TW T) {r : Nat → Int32} (hr : RI r) : RI (days T lo n r) := ⟨days_W hT hr.1, days_Z hT hr.2.1, it_ind (P := RS) hr.2.2 fun _ _ r h => day_S hT h⟩
theorem RW_ord {r : Nat → Int32} {l w h x y : Nat} (hr : RW r) (hl : l < 4) (hw : 1 ≤ w ∧ w ≤ 8) (hh : 1 ≤ h ∧ h ≤ 6) (hx : x < 8) (hy : y < 6) : RW (upd (upd (upd (upd r (52 + l) (nI w)) (56 + l) (nI h)) (60 + l) (nI x)) (64 + l) (nI y)) := by
  refine ⟨fun c hc => ?_, fun i hi => ?_⟩
  · rw [pk_un (by omega), pk_un (by omega), pk_un (by omega), pk_un (by omega)]; exact hr.1 c hc
  · by_cases e : i = l
    · subst e
      refine Or.inr ⟨w, h, x, y, hw, hh, hx, hy, ?_, ?_, ?_, ?_⟩
      · rw [pk_un (by omega), pk_un (by omega), pk_un (by omega), pk_us]
      · rw [pk_un (by omega), pk_un (by omega), pk_us]
      · rw [pk_un (by omega), pk_us]
      · rw [pk_us]
    · have := hr.2 i hi
      unfold OW at this ⊢
      simp (disch := omega) only [pk_un]
      exact this
theorem RW_stop {r : Nat → Int32} {l : Nat} (hr : RW r) (hl : l < 4) : RW (upd (upd (upd (upd r (52 + l) (nI 0)) (56 + l) (nI 0)) (60 + l) (nI 0)) (64 + l) (nI 0)) := by
  refine ⟨fun c hc => ?_, fun i hi => ?_⟩
  · rw [pk_un (by omega), pk_un (by omega), pk_un (by omega), pk_un (by omega)]; exact hr.1 c hc
  · by_cases e : i = l
    · subst e
      refine Or.inl ?_
      rw [pk_un (by omega), pk_un (by omega), pk_un (by omega), pk_us]
    · have := hr.2 i hi
      unfold OW at this ⊢
      simp (disch := omega) only [pk_un]
      exact this
theorem bg_I {T : Tx} (hT : TW T) : RI (bg_r T) := by
  have hnl := hT.2.2.2.1
  refine ⟨⟨fun c hc => ⟨0, by omega, ?_⟩, fun l hl => Or.inl ?_⟩, fun i hi => ?_, ?_⟩
  · unfold bg_r; rw [if_neg (by omega), if_neg (by omega)]
  · unfold bg_r; rw [if_neg (by omega), if_neg (by omega)]
  · unfold bg_r; rw [if_neg (by omega), if_neg (by omega)]
  · unfold RS bg_r
    rw [if_neg (by omega), if_neg (by omega), if_neg (by omega), if_neg (by omega), if_neg (by omega), if_neg (by omega), if_neg (by omega), if_neg (by omega), if_neg (by omega), if_neg (by omega)]
    rfl
section
variable {A : Ab}
theorem AW_kp {r : Nat → Int32} (hA : AW A) (hr : RI r) : AW (kp A r) := by
  obtain ⟨c1, c2, c3, c4, c5, c6, c7, c8⟩ := hA
  refine ⟨c1, hr, ?_, fun i hi => ?_, fun i hi => ?_, c6, fun i hi => ?_, c8⟩
  · show (if A.2.2.1 0 = 30 then 30 else A.2.2.1 0 + 1) ≤ 30
    split <;> omega
  · have hi : i < if A.2.2.1 0 = 30 then 30 else A.2.2.1 0 + 1 := hi
    show RI (if 1 + i = 0 then r else if A.2.2.1 0 = 30 then (if 1 ≤ 1 + i ∧ 1 + i < 30 then A.2.1 (1 + i + 1) else if 1 + i = 30 then A.2.1 0 else A.2.1 (1 + i)) else if 1 + i = 1 + A.2.2.1 0 then A.2.1 0 else A.2.1 (1 + i))
    rw [if_neg (by omega)]
    by_cases h30 : A.2.2.1 0 = 30
    · rw [if_pos h30] at hi ⊢
      split
      · rw [show 1 + i + 1 = 1 + (i + 1) by omega]
        exact c4 (i + 1) (by omega)
      · rw [if_pos (by omega)]; exact c2
    · rw [if_neg h30] at hi ⊢
      split
      · exact c2
      · exact c4 i (by omega)
  · rw [kp_n (by omega), kp_k c3 (by omega)]
    exact c5 i hi
  · rw [kp_k c3 (by omega), kp_k c3 (by omega)]
    exact c7 i hi
theorem AW_fr {A' : Ab} (hA : AW A) (hF : FR A A') (h4 : A'.2.2.1 4 ≤ 20) (h7 : ∀ i < A'.2.2.1 4, ∃ c w : Nat, c < 48 ∧ w ≤ 999 ∧ A'.2.1 50 i = nI c ∧ A'.2.1 51 i = nI w) (h5 : A'.2.2.1 5 ≤ 2000) : AW A' := by
  obtain ⟨c1, c2, c3, c4, c5, c6, c7, c8⟩ := hA
  obtain ⟨f1, f2, f3, f4⟩ := hF
  unfold AW
  rw [f1, f2 0 (by omega), f3 0 (by omega)]
  refine ⟨c1, c2, c3, fun i hi => ?_, fun i hi => ?_, h4, h7, h5⟩
  · rw [f2 (1 + i) (by omega)]; exact c4 i hi
  · rw [f3 (1 + i) (by omega), f2 (40 + i) (by omega)]; exact c5 i hi
theorem AW_order (hA : AW A) {l w h x y : Int32} : AW (o_order A l w h x y).2 := by
  unfold o_order
  split
  · rename_i hv
    rw [Bool.and_eq_true, Bool.and_eq_true] at hv
    obtain ⟨l, w, h, rfl, rfl, rfl, hl, hw, hh, hwl⟩ := ip_T hA.1 hv.1
    obtain ⟨x, y, rfl, rfl, hx, hy, hx8, hy6, hc, hon⟩ := ic_T hA.1 hv.2.1
    have t4 := hA.1.2.2.2.1
    rw [nI_clamp (by omega)]
    exact AW_kp hA ⟨RW_ord hA.2.1.1 (by omega) hw hh hx8 hy6, RZ_u (RZ_u (RZ_u (RZ_u hA.2.1.2.1 (by omega)) (by omega)) (by omega)) (by omega), RS_u (RS_u (RS_u (RS_u hA.2.1.2.2 (by omega)) (by omega)) (by omega)) (by omega)⟩
  · exact hA
theorem AW_stop (hA : AW A) {l : Int32} : AW (o_stop A l).2 := by
  unfold o_stop
  split
  · rename_i hv
    rw [Bool.and_eq_true] at hv
    have t4 := hA.1.2.2.2.1
    obtain ⟨l, rfl, _, hl⟩ := ir_T (by omega) (by decide) hv.1
    rw [nI_clamp (by omega)]
    exact AW_kp hA ⟨RW_stop hA.2.1.1 (by omega), RZ_u (RZ_u (RZ_u (RZ_u hA.2.1.2.1 (by omega)) (by omega)) (by omega)) (by omega), RS_u (RS_u (RS_u (RS_u hA.2.1.2.2 (by omega)) (by omega)) (by omega)) (by omega)⟩
  · exact hA
theorem AW_fall (hA : AW A) {l w h x y : Int32} : AW (o_fall A l w h x y).2 := by
  unfold o_fall
  split
  · rename_i hv
    rw [Bool.and_eq_true] at hv
    have t4 := hA.1.2.2.2.1
    obtain ⟨l, w, h, rfl, rfl, rfl, hl, hw, hh, hwl⟩ := ip_T hA.1 hv.1
    rw [nI_clamp (show l < 2 ^ 31 by omega)]
    exact AW_kp hA (fl_r_I hA.1 (by omega) hA.2.1)
  · exact hA
theorem AW_turn (hA : AW A) {l n : Int32} : AW (o_turn A l n).2 := by
  unfold o_turn
  split
  · rename_i hv
    rw [Bool.and_eq_true] at hv
    have t4 := hA.1.2.2.2.1
    obtain ⟨l, rfl, _, hl⟩ := ir_T (by omega) (by decide) hv.1
    rw [nI_clamp (by omega)]
    exact AW_kp hA ⟨RW_u hA.2.1.1 (by omega) (by omega), RZ_u hA.2.1.2.1 (by omega), RS_u hA.2.1.2.2 (by omega)⟩
  · exact hA
theorem AW_days (hA : AW A) {n : Int32} : AW (o_days A n).2 := by
  unfold o_days
  split
  · split
    · exact hA
    · exact AW_kp hA (days_I hA.1 hA.2.1)
  · exact hA
theorem AW_undo (hA : AW A) : AW (o_undo A).2 := by
  unfold o_undo
  split
  · exact hA
  · rename_i h0
    obtain ⟨c1, c2, c3, c4, c5, c6, c7, c8⟩ := hA
    obtain ⟨u, hu⟩ : ∃ u, A.2.2.1 0 = u + 1 := ⟨A.2.2.1 0 - 1, by omega⟩
    refine ⟨c1, ?_, ?_, fun i hi => ?_, fun i hi => ?_, c6, c7, c8⟩
    · show RI (A.2.1 (A.2.2.1 0))
      rw [hu, Nat.add_comm]
      exact c4 u (by omega)
    · show A.2.2.1 0 - 1 ≤ 30
      omega
    · have hi : i < A.2.2.1 0 - 1 := hi
      show RI (if 1 + i = 0 then A.2.1 (A.2.2.1 0) else A.2.1 (1 + i))
      rw [if_neg (by omega)]
      exact c4 i (by omega)
    · show (if 1 + i = 0 then A.2.2.1 0 - 1 else A.2.2.1 (1 + i)) ≤ 1 ∧ ((if 1 + i = 0 then A.2.2.1 0 - 1 else A.2.2.1 (1 + i)) = 1 → RI (if 40 + i = 0 then A.2.1 (A.2.2.1 0) else A.2.1 (40 + i)))
      rw [if_neg (by omega), if_neg (by omega)]
      exact c5 i hi
theorem AW_forget (hA : AW A) : AW (o_forget A).2 := AW_fr hA (FR_n (by decide)) (Nat.zero_le _) (fun i hi => absurd hi (Nat.not_lt_zero _)) hA.2.2.2.2.2.2.2
theorem AW_tell (hA : AW A) {x y w : Int32} : AW (o_tell A x y w).2 := by
  unfold o_tell
  split
  · rename_i hv
    rw [Bool.and_eq_true, Bool.and_eq_true] at hv
    have c6 := hA.2.2.2.2.2.1
    have c7 := hA.2.2.2.2.2.2.1
    obtain ⟨x, y, rfl, rfl, hx, hy, hx8, hy6, hc, hon⟩ := ic_T hA.1 hv.2.1
    obtain ⟨w, rfl, _, hw⟩ := ir_T (by decide) (by decide) hv.2.2
    have h20 : A.2.2.1 4 ≠ 20 := by simpa using hv.1
    rw [nI_clamp (by omega), nI_clamp (by omega)]
    refine AW_fr hA (FR_rn (FR_r (FR_r FR_0 (by decide)) (by decide)) (by decide)) ?_ (fun i hi => ?_) hA.2.2.2.2.2.2.2
    · show A.2.2.1 4 + 1 ≤ 20
      omega
    · have hi : i < A.2.2.1 4 + 1 := hi
      show ∃ c w' : Nat, c < 48 ∧ w' ≤ 999 ∧ upd (A.2.1 50) (A.2.2.1 4) (nI (8 * y + x)) i = nI c ∧ upd (A.2.1 51) (A.2.2.1 4) (nI w) i = nI w'
      by_cases e : i = A.2.2.1 4
      · exact ⟨8 * y + x, w, hc, by omega, by rw [e, pk_us], by rw [e, pk_us]⟩
      · rw [pk_un e, pk_un e]
        exact c7 i (by omega)
  · exact hA
theorem AW_hold (hA : AW A) {s : Int32} : AW (o_hold A s).2 := by
  unfold o_hold
  split
  · rename_i hv
    obtain ⟨c1, c2, c3, c4, c5, c6, c7, c8⟩ := hA
    obtain ⟨x, rfl, _, hx⟩ := ir_T (by decide) (by decide) hv
    rw [nI_clamp (by omega)]
    have n0 : (if 0 = 1 + x then 1 else A.2.2.1 0) = A.2.2.1 0 := if_neg (by omega)
    have n4 : (if 4 = 1 + x then 1 else A.2.2.1 4) = A.2.2.1 4 := if_neg (by omega)
    have n5 : (if 5 = 1 + x then 1 else A.2.2.1 5) = A.2.2.1 5 := if_neg (by omega)
    refine ⟨c1, ?_, ?_, ?_, fun i hi => ?_, ?_, ?_, ?_⟩
    · show RI (if 0 = 40 + x then A.2.1 0 else A.2.1 0)
      rw [if_neg (by omega)]; exact c2
    · show (if 0 = 1 + x then 1 else A.2.2.1 0) ≤ 30
      rw [n0]; exact c3
    · show ∀ i < (if 0 = 1 + x then 1 else A.2.2.1 0), RI (if 1 + i = 40 + x then A.2.1 0 else A.2.1 (1 + i))
      rw [n0]
      intro i hi
      rw [if_neg (by omega)]
      exact c4 i hi
    · show (if 1 + i = 1 + x then 1 else A.2.2.1 (1 + i)) ≤ 1 ∧ ((if 1 + i = 1 + x then 1 else A.2.2.1 (1 + i)) = 1 → RI (if 40 + i = 40 + x then A.2.1 0 else A.2.1 (40 + i)))
      by_cases e : i = x
      · subst e
        rw [if_pos rfl, if_pos rfl]
        exact ⟨Nat.le_refl _, fun _ => c2⟩
      · rw [if_neg (by omega), if_neg (by omega)]
        exact c5 i hi
    · show (if 4 = 1 + x then 1 else A.2.2.1 4) ≤ 20
      rw [n4]; exact c6
    · show ∀ i < (if 4 = 1 + x then 1 else A.2.2.1 4), ∃ c w : Nat, c < 48 ∧ w ≤ 999 ∧ (if 50 = 40 + x then A.2.1 0 else A.2.1 50) i = nI c ∧ (if 51 = 40 + x then A.2.1 0 else A.2.1 51) i = nI w
      rw [n4, if_neg (by omega), if_neg (by omega)]; exact c7
    · show (if 5 = 1 + x then 1 else A.2.2.1 5) ≤ 2000
      rw [n5]; exact c8
  · exact hA
theorem AW_restore (hA : AW A) {s : Int32} : AW (o_restore A s).2 := by
  unfold o_restore
  split
  · rename_i hv
    rw [Bool.and_eq_true] at hv
    obtain ⟨c1, c2, c3, c4, c5, c6, c7, c8⟩ := hA
    obtain ⟨x, rfl, _, hx⟩ := ir_T (by decide) (by decide) hv.1
    rw [nI_clamp (by omega)] at hv ⊢
    have h1 : A.2.2.1 (1 + x) = 1 := by simpa using hv.2
    refine ⟨c1, (c5 x hx).2 h1, Nat.zero_le _, fun i hi => absurd hi (Nat.not_lt_zero _), fun i hi => ?_, c6, c7, c8⟩
    show (if 1 + i = 0 then 0 else A.2.2.1 (1 + i)) ≤ 1 ∧ ((if 1 + i = 0 then 0 else A.2.2.1 (1 + i)) = 1 → RI (if 40 + i = 0 then A.2.1 (40 + x) else A.2.1 (40 + i)))
    rw [if_neg (by omega), if_neg (by omega)]
    exact c5 i hi
  · exact hA
theorem AW_feed (hA : AW A) {a b c d e : Int32} : AW (o_feed A a b c d e).2 := by
  unfold o_feed
  split
  · exact hA
  · refine AW_fr hA (FR_rn (FR_r FR_0 (by decide)) (by decide)) hA.2.2.2.2.2.1 hA.2.2.2.2.2.2.1 ?_
    show A.2.2.1 5 + 20 ≤ 2000
    omega
theorem AW_back (hA : AW A) {n : Int32} : AW (o_back A n).2 := by
  unfold o_back
  split
  · refine AW_fr hA (FR_n (by decide)) hA.2.2.2.2.2.1 hA.2.2.2.2.2.2.1 ?_
    have c8 := hA.2.2.2.2.2.2.2
    show A.2.2.1 5 - n.toNatClampNeg ≤ 2000
    omega
  · exact hA
end
