/-! what stands, as a row: what falls, what a day brings -/
def mixd (h v : Int32) : Int32 := ((h ^^^ v) * nI 1103515245 + nI 12345) ^^^ (((h ^^^ v) * nI 1103515245 + nI 12345).toUInt32 >>> ((nI 15).toUInt32 &&& Int32.toUInt32 (nI 31))).toInt32
def lotd (lo which : Int32) : Int32 := ((mixd (mixd lo (nI 75)) which).toUInt32 >>> ((nI 1).toUInt32 &&& Int32.toUInt32 (nI 31))).toInt32 - ((mixd (mixd lo (nI 75)) which).toUInt32 >>> ((nI 1).toUInt32 &&& Int32.toUInt32 (nI 31))).toInt32 / nI 100 * nI 100
def r_nd (T : Tx) (c : Nat) : Int32 := if t_fd T c < nI 0 then nI 0 else t_nd T (t_fd T c).toNatClampNeg
def r_dr (T : Tx) (c : Nat) : Int32 := if t_fd T c < nI 0 then nI 0 else t_dr T (t_fd T c).toNatClampNeg
def r_lk (T : Tx) (r : Nat → Int32) (c : Nat) : Bool := decide (nI 0 ≤ t_fd T c) && decide (r c < r_nd T c)
def r_fl (T : Tx) (r : Nat → Int32) (c : Nat) : Bool := decide (nI 0 ≤ t_fd T c) && decide (r_dr T c < r c)
/-- at most -/
def cl (m x : Int32) : Int32 := if m < x then m else x
abbrev Fs : Type := (Nat → Int32) × Int32 × Bool
/-- one thread falls -/
def fl_s (T : Tx) (l w x y : Nat) (pk : Int32) (k : Nat) (st : Fs) : Fs :=
  if st.2.2 = true then st else if st.1 88 < th T l (k % w) (pk + nI (k / w)) then (st.1, st.2.1, true) else
  (if x + k % w < t_w T ∧ y + k / w < t_r T then upd (upd st.1 88 (st.1 88 - th T l (k % w) (pk + nI (k / w)))) (8 * (y + k / w) + (x + k % w)) (cl (nI 999) (st.1 (8 * (y + k / w) + (x + k % w)) + th T l (k % w) (pk + nI (k / w)))) else upd st.1 88 (st.1 88 - th T l (k % w) (pk + nI (k / w))), st.2.1 + th T l (k % w) (pk + nI (k / w)), false)
def fl_a (T : Tx) (r : Nat → Int32) (l w h x y : Nat) : Fs := it (fl_s T l w x y (r (48 + l))) (w * h) (r, nI 0, false)
/-- behind a fall -/
def fl_e (r0 : Nat → Int32) (l h : Nat) (st : Fs) : Nat → Int32 :=
  let a := upd st.1 (48 + l) (r0 (48 + l) + nI h)
  let b := upd a (68 + l) (a (68 + l) + st.2.1)
  let c := if st.2.2 = true then upd b (72 + l) (b (72 + l) + nI 1) else b
  upd c 90 (c 90 + st.2.1)
def fl_r (T : Tx) (r : Nat → Int32) (l w h x y : Nat) : Nat → Int32 := fl_e r l h (fl_a T r l w h x y)
def fl_v (T : Tx) (r : Nat → Int32) (l w h x y : Nat) : Int32 := (fl_a T r l w h x y).2.1
/-- a day: what falls by orders -/
def d1_s (T : Tx) (lo : Int32) (l : Nat) (r : Nat → Int32) : Nat → Int32 := if r (52 + l) = nI 0 then r else fl_r T r l (r (52 + l)).toNatClampNeg (r (56 + l)).toNatClampNeg ((r (60 + l)).toNatClampNeg + (if lotd lo (nI 8 * r 89 + nI l) < t_gu T then 1 else 0)) (r (64 + l)).toNatClampNeg
def d2_s (T : Tx) (c : Nat) (r : Nat → Int32) : Nat → Int32 := if t_on T c = true then
  let a := if r_lk T r c = true then upd r (76 + (t_fd T c).toNatClampNeg) (r (76 + (t_fd T c).toNatClampNeg) + nI 1) else r
  if r_fl T r c = true then upd a (82 + (t_fd T c).toNatClampNeg) (a (82 + (t_fd T c).toNatClampNeg) + nI 1) else a else r
def dr_v (T : Tx) (r : Nat → Int32) (c : Nat) : Int32 := ak T 1 (nI 1) (nI 99) (vr [nI 0, nI 0, nI 0, r c, r_nd T c, r_dr T c, r 89, nI 0, nI 0])
def d3_s (T : Tx) (c : Nat) (r : Nat → Int32) : Nat → Int32 := if t_on T c = true then upd r c (if dr_v T r c < r c then r c - dr_v T r c else nI 0) else r
def ga_v (T : Tx) (r : Nat → Int32) : Int32 := ak T 2 (nI 0) (nI 999) (vr [nI 0, nI 0, nI 0, nI 0, nI 0, nI 0, r 89, nI 0, nI 0])
def d4 (T : Tx) (r : Nat → Int32) : Nat → Int32 := upd (upd r 88 (cl (nI 9999) (r 88 + ga_v T r))) 89 (r 89 + nI 1)
def day (T : Tx) (lo : Int32) (r : Nat → Int32) : Nat → Int32 := d4 T (it (d3_s T) 48 (it (d2_s T) 48 (it (d1_s T lo) (t_nl T) r)))
def days (T : Tx) (lo : Int32) (n : Nat) (r : Nat → Int32) : Nat → Int32 := it (fun _ r => day T lo r) n r
/-- a well-made row -/
def OW (r : Nat → Int32) (l : Nat) : Prop := r (52 + l) = nI 0 ∨ ∃ w h x y : Nat, (1 ≤ w ∧ w ≤ 8) ∧ (1 ≤ h ∧ h ≤ 6) ∧ x < 8 ∧ y < 6 ∧ r (52 + l) = nI w ∧ r (56 + l) = nI h ∧ r (60 + l) = nI x ∧ r (64 + l) = nI y
def RW (r : Nat → Int32) : Prop := (∀ c < 48, ∃ n : Nat, n ≤ 999 ∧ r c = nI n) ∧ ∀ l < 4, OW r l
theorem RW_u {r : Nat → Int32} {k : Nat} {v : Int32} (h : RW r) (hk : 48 ≤ k) (h2 : k < 52 ∨ 68 ≤ k) : RW (upd r k v) := by
  refine ⟨fun c hc => ?_, fun l hl => ?_⟩
  · rw [pk_un (by omega)]; exact h.1 c hc
  · have := h.2 l hl
    unfold OW at this ⊢
    rw [pk_un (by omega), pk_un (by omega), pk_un (by omega), pk_un (by omega)]
    exact this
theorem RW_c {r : Nat → Int32} {k n : Nat} (h : RW r) (hk : k < 48) (hn : n ≤ 999) : RW (upd r k (nI n)) := by
  refine ⟨fun c hc => ?_, fun l hl => ?_⟩
  · by_cases e : c = k
    · subst e; rw [pk_us]; exact ⟨n, hn, rfl⟩
    · rw [pk_un e]; exact h.1 c hc
  · have := h.2 l hl
    unfold OW at this ⊢
    rw [pk_un (by omega), pk_un (by omega), pk_un (by omega), pk_un (by omega)]
    exact this
theorem th_r {T : Tx} {l w : Nat} {a : Int32} : ∃ n : Nat, n ≤ 9 ∧ th T l w a = nI n := ak_r (by decide) (by decide)
theorem cl_r {m a : Nat} (hm : m < 2 ^ 31) (ha : a < 2 ^ 31) : cl (nI m) (nI a) = nI (min m a) := by
  unfold cl
  by_cases h : m < a
  · rw [if_pos ((nI_ltI hm ha).mpr h), Nat.min_eq_left (by omega)]
  · rw [if_neg (fun e => h ((nI_ltI hm ha).mp e)), Nat.min_eq_right (by omega)]
theorem fl_s_W {T : Tx} (hT : TW T) {l w x y : Nat} {pk : Int32} {k : Nat} {st : Fs} (h : RW st.1) : RW (fl_s T l w x y pk k st).1 := by
  obtain ⟨t1, t2, _⟩ := hT
  unfold fl_s
  split
  · exact h
  · split
    · exact h
    · dsimp only
      split
      · rename_i hc
        obtain ⟨n, hn, e⟩ := th_r (T := T) (l := l) (w := k % w) (a := pk + nI (k / w))
        obtain ⟨m, hm, e2⟩ := h.1 (8 * (y + k / w) + (x + k % w)) (by omega)
        rw [e, e2, nI_add, cl_r (by omega) (by omega)]
        exact RW_c (RW_u h (by omega) (by omega)) (by omega) (by omega)
      · exact RW_u h (by omega) (by omega)
theorem fl_r_W {T : Tx} (hT : TW T) {r : Nat → Int32} {l w h x y : Nat} (hl : l < 4) (hr : RW r) : RW (fl_r T r l w h x y) := by
  have h1 : RW (fl_a T r l w h x y).1 := it_ind (P := fun st : Fs => RW st.1) hr fun k _ st hst => fl_s_W hT hst
  unfold fl_r fl_e
  have h2 := RW_u (v := r (48 + l) + nI h) h1 (k := 48 + l) (by omega) (by omega)
  have h3 := RW_u (v := upd (fl_a T r l w h x y).1 (48 + l) (r (48 + l) + nI h) (68 + l) + (fl_a T r l w h x y).2.1) h2 (k := 68 + l) (by omega) (by omega)
  refine RW_u ?_ (by omega) (by omega)
  split
  · exact RW_u h3 (by omega) (by omega)
  · exact h3
theorem d1_W {T : Tx} {lo : Int32} (hT : TW T) {r : Nat → Int32} (hr : RW r) : RW (it (d1_s T lo) (t_nl T) r) := it_ind (P := RW) hr fun l hl r hr => by
  unfold d1_s
  split
  · exact hr
  · exact fl_r_W hT (by have := hT.2.2.2.1; omega) hr
theorem d2_s_W {T : Tx} (hT : TW T) {r : Nat → Int32} {c : Nat} (hr : RW r) : RW (d2_s T c r) := by
  unfold d2_s
  have h1 : ∀ {r : Nat → Int32} {k : Nat} {v : Int32}, RW r → 68 ≤ k → RW (upd r k v) := fun h hk => RW_u h (by omega) (by omega)
  split
  · dsimp only
    split
    · split
      · exact h1 (h1 hr (by omega)) (by omega)
      · exact h1 hr (by omega)
    · split
      · exact h1 hr (by omega)
      · exact hr
  · exact hr
theorem d3_s_W {T : Tx} {r : Nat → Int32} {c : Nat} (hc : c < 48) (hr : RW r) : RW (d3_s T c r) := by
  unfold d3_s
  split
  · obtain ⟨n, hn, e⟩ := hr.1 c hc
    obtain ⟨m, hm, e2⟩ : ∃ n : Nat, n ≤ 99 ∧ dr_v T r c = nI n := ak_r (by decide) (by decide)
    rw [e, e2]
    split
    · rename_i h
      rw [nI_ltI (by omega) (by omega)] at h
      rw [pk_sub (by omega)]
      exact RW_c hr hc (by omega)
    · exact RW_c hr hc (by omega)
  · exact hr
theorem day_W {T : Tx} {lo : Int32} (hT : TW T) {r : Nat → Int32} (hr : RW r) : RW (day T lo r) := by
  unfold day d4
  exact RW_u (RW_u (it_ind (P := RW) (it_ind (P := RW) (d1_W hT hr) fun c _ r h => d2_s_W hT h) fun c hc r h => d3_s_W hc h) (by omega) (by omega)) (by omega) (by omega)
theorem days_W {T : Tx} {lo : Int32} {n : Nat} (hT : TW T) {r : Nat → Int32} (hr : RW r) : RW (days T lo n r) := it_ind (P := RW) hr fun _ _ r h => day_W hT h
/-- beyond its end a row is nought -/
def RZ (r : Nat → Int32) : Prop := ∀ i, 92 ≤ i → r i = nI 0
