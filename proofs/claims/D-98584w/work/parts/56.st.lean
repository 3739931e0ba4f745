/-! what the public methods answer: plain -/
/-- from lo on, below n -/
def ir (x : Int32) (lo n : Nat) : Bool := decide (nI lo ≤ x) && decide (x < nI n)
theorem nI_lt_sub {x : Int32} {w : Nat} (hw : w < 2 ^ 30) : (x ≤ nI w - nI 1) = (x < nI w) := by
  apply propext
  rw [Int32.le_iff_toInt_le, Int32.lt_iff_toInt_lt, pk_sub_toInt hw (by decide), nI_toInt (by omega)]
  omega
theorem nI_le_lt {x : Int32} {w : Nat} (hw : w + 1 < 2 ^ 31) : (x ≤ nI w) = (x < nI (w + 1)) := by
  apply propext
  rw [Int32.le_iff_toInt_le, Int32.lt_iff_toInt_lt, nI_toInt (by omega), nI_toInt hw]
  omega
theorem ir_T {x : Int32} {lo n : Nat} (hn : n < 2 ^ 31) (hl : lo < 2 ^ 31) (h : ir x lo n = true) : ∃ k : Nat, x = nI k ∧ lo ≤ k ∧ k < n := by
  unfold ir at h
  rw [Bool.and_eq_true, decide_eq_true_eq, decide_eq_true_eq] at h
  have h0 : ¬ x < 0 := fun h0 => by
    have := h.1
    rw [Int32.le_iff_toInt_le, nI_toInt hl] at this
    rw [Int32.lt_iff_toInt_lt] at h0
    have e : (0 : Int32).toInt = 0 := rfl
    omega
  obtain ⟨k, hk, rfl⟩ := nI_of h0
  rw [nI_leI hl hk, nI_ltI hk hn] at h
  exact ⟨k, rfl, h.1, h.2⟩
theorem ir_n {k lo n : Nat} (hk : k < 2 ^ 31) (hn : n < 2 ^ 31) (hl : lo < 2 ^ 31) : ir (nI k) lo n = (decide (lo ≤ k) && decide (k < n)) := by
  unfold ir
  simp only [nI_leI hl hk, nI_ltI hk hn]
theorem ir_Y {k lo n : Nat} (h1 : lo ≤ k) (h2 : k < n) (hn : n < 2 ^ 31) : ir (nI k) lo n = true := by
  rw [ir_n (by omega) hn (by omega)]
  simp [h1, h2]
/-- whether a piece, a cell -/
def ip (T : Tx) (l w h : Int32) : Bool := ir l 0 (t_nl T) && (ir w 1 (t_lw T l.toNatClampNeg + 1) && ir h 1 7)
def ic (T : Tx) (x y : Int32) : Bool := ir x 0 (t_w T) && ir y 0 (t_r T)
theorem ip_T {T : Tx} (hT : TW T) {l w h : Int32} (hv : ip T l w h = true) : ∃ l0 w0 h0 : Nat, l = nI l0 ∧ w = nI w0 ∧ h = nI h0 ∧ l0 < t_nl T ∧ (1 ≤ w0 ∧ w0 ≤ 8) ∧ (1 ≤ h0 ∧ h0 ≤ 6) ∧ w0 ≤ t_lw T l0 := by
  obtain ⟨t1, t2, t3, t4, t5, _⟩ := hT
  unfold ip at hv
  rw [Bool.and_eq_true, Bool.and_eq_true] at hv
  obtain ⟨l0, rfl, _, hl⟩ := ir_T (by omega) (by decide) hv.1
  rw [nI_clamp (by omega)] at hv
  have := t5 l0 hl
  obtain ⟨w0, rfl, hw1, hw2⟩ := ir_T (by omega) (by decide) hv.2.1
  obtain ⟨h0, rfl, hh1, hh2⟩ := ir_T (by decide) (by decide) hv.2.2
  exact ⟨l0, w0, h0, rfl, rfl, rfl, hl, ⟨hw1, by omega⟩, ⟨hh1, by omega⟩, by omega⟩
theorem ic_T {T : Tx} (hT : TW T) {x y : Int32} (hv : ic T x y = true) : ∃ x0 y0 : Nat, x = nI x0 ∧ y = nI y0 ∧ x0 < t_w T ∧ y0 < t_r T ∧ x0 < 8 ∧ y0 < 6 ∧ 8 * y0 + x0 < 48 ∧ t_on T (8 * y0 + x0) = true := by
  obtain ⟨t1, t2, _⟩ := hT
  unfold ic at hv
  rw [Bool.and_eq_true] at hv
  obtain ⟨x0, rfl, _, hx⟩ := ir_T (by omega) (by decide) hv.1
  obtain ⟨y0, rfl, _, hy⟩ := ir_T (by omega) (by decide) hv.2
  refine ⟨x0, y0, rfl, rfl, hx, hy, by omega, by omega, by omega, ?_⟩
  unfold t_on
  rw [show (8 * y0 + x0) % 8 = x0 by omega, show (8 * y0 + x0) / 8 = y0 by omega]
  simp [hx, hy]
/-- one cell asked -/
def v_cell (T : Tx) (r : Nat → Int32) (c : Nat) (w : Int32) : Int32 := if w = nI 0 then t_fd T c else if w = nI 1 then r c else if w = nI 2 then b2i (r_lk T r c) else if w = nI 3 then b2i (r_fl T r c) else mI 1
def f_cell (T : Tx) (r : Nat → Int32) (x y w : Int32) : Int32 := if ic T x y = true then v_cell T r (8 * y.toNatClampNeg + x.toNatClampNeg) w else mI 1
/-- cells of a field, their water, their need -/
def cn_s (T : Tx) (f : Nat) (c : Nat) (a : Int32) : Int32 := if t_on T c = true then (if t_fd T c = nI f then a + nI 1 else a) else a
def cn_a (T : Tx) (f : Nat) : Int32 := it (cn_s T f) 48 (nI 0)
def wt_s (T : Tx) (r : Nat → Int32) (f : Nat) (c : Nat) (a : Int32) : Int32 := if t_on T c = true then (if t_fd T c = nI f then a + r c else a) else a
def wt_a (T : Tx) (r : Nat → Int32) (f : Nat) : Int32 := it (wt_s T r f) 48 (nI 0)
def nd_s (T : Tx) (f : Nat) (c : Nat) (a : Int32) : Int32 := if t_on T c = true then (if t_fd T c = nI f then a + r_nd T c else a) else a
def nd_a (T : Tx) (f : Nat) : Int32 := it (nd_s T f) 48 (nI 0)
theorem nd_cn {T : Tx} {f : Nat} (hf : f < 2 ^ 31) : nd_a T f = cn_a T f * t_nd T f := by
  unfold nd_a cn_a
  generalize 48 = n
  induction n with
  | zero =>
    show nI 0 = nI 0 * _
    exact (Int32.zero_mul).symm
  | succ n ih =>
    rw [it_s, it_s]
    unfold nd_s cn_s
    split
    · split
      · rename_i h
        rw [Int32.add_mul]
        have e : it (nd_s T f) n (nI 0) = it (cn_s T f) n (nI 0) * t_nd T f := ih
        rw [show (it (fun c a => if t_on T c = true then if t_fd T c = nI f then a + r_nd T c else a else a) n (nI 0)) = it (cn_s T f) n (nI 0) * t_nd T f from e]
        have e2 : r_nd T n = nI 1 * t_nd T f := by
          unfold r_nd
          rw [h, if_neg (fun h => by rw [nI_ltI hf (by decide)] at h; omega), nI_clamp hf]
          exact (Int32.one_mul _).symm
        rw [e2]
        rfl
      · exact ih
    · exact ih
def v_field (T : Tx) (r : Nat → Int32) (f : Nat) (w : Int32) : Int32 := if w = nI 0 then cn_a T f else if w = nI 1 then wt_a T r f else if w = nI 2 then r (76 + f) else if w = nI 3 then r (82 + f) else if w = nI 4 then nd_a T f else mI 1
def f_field (T : Tx) (r : Nat → Int32) (f w : Int32) : Int32 := if ir f 0 (t_nf T) = true then v_field T r f.toNatClampNeg w else mI 1
def v_loom (T : Tx) (r : Nat → Int32) (l : Nat) (w : Int32) : Int32 := if w = nI 0 then nI (t_lw T l) else if w = nI 1 then r (48 + l) else if w = nI 2 then (if r (52 + l) = nI 0 then mI 2 else r (52 + l)) else if w = nI 3 then (if r (52 + l) = nI 0 then mI 2 else r (56 + l)) else if w = nI 4 then (if r (52 + l) = nI 0 then mI 2 else r (60 + l)) else if w = nI 5 then (if r (52 + l) = nI 0 then mI 2 else r (64 + l)) else if w = nI 6 then r (68 + l) else if w = nI 7 then r (72 + l) else mI 1
def f_loom (T : Tx) (r : Nat → Int32) (l w : Int32) : Int32 := if ir l 0 (t_nl T) = true then v_loom T r l.toNatClampNeg w else mI 1
def f_thread (T : Tx) (l w k : Int32) : Int32 := if (ir l 0 (t_nl T) && (ir w 0 (t_lw T l.toNatClampNeg) && ir k 0 10000)) = true then th T l.toNatClampNeg w.toNatClampNeg k else mI 1
/-- what a piece holds -/
def hd_a (T : Tx) (r : Nat → Int32) (l w h : Nat) : Int32 := it (fun k a => a + th T l (k % w) (r (48 + l) + nI (k / w))) (w * h) (nI 0)
def hn_a (T : Tx) (r : Nat → Int32) (l w h : Nat) : Int32 := it (fun k a => if th T l (k % w) (r (48 + l) + nI (k / w)) = nI 0 then a + nI 1 else a) (w * h) (nI 0)
def f_holds (T : Tx) (r : Nat → Int32) (l w h : Int32) (none : Bool) : Int32 := if ip T l w h = true then (if none = true then hn_a T r l.toNatClampNeg w.toNatClampNeg h.toNatClampNeg else hd_a T r l.toNatClampNeg w.toNatClampNeg h.toNatClampNeg) else mI 1
/-- a row of cloth as bits -/
def co_s (T : Tx) (r : Nat → Int32) (l k c : Nat) (a : Int32) : Int32 := if nI 0 < th T l c (r (48 + l) + nI k) then a ||| nI 1 <<< (nI c &&& nI 31) else a
def co_a (T : Tx) (r : Nat → Int32) (l w k : Nat) : Int32 := it (co_s T r l k) w (nI 0)
def fst (o : Option Nat) : Int32 := match o with
  | some i => nI i
  | none => mI 2
def f_comes (T : Tx) (r : Nat → Int32) (l w b : Int32) : Int32 := if (ir l 0 (t_nl T) && ir w 1 (t_lw T l.toNatClampNeg + 1)) = true then (if (decide (nI 0 ≤ b) && decide (b ≤ nI 1 <<< (w &&& nI 31) - nI 1)) = true then fst (ff (fun k => decide (co_a T r l.toNatClampNeg w.toNatClampNeg k = b)) 0 201) else mI 1) else mI 1
/-- whether cloth comes round, whether two agree -/
def rn_i (T : Tx) (r : Nat → Int32) (l n k : Nat) : Option Nat := ff (fun c => !decide (th T l c (r (48 + l) + nI k) = th T l c (r (48 + l) + nI k + nI n))) 0 (t_lw T l)
def rn_b (T : Tx) (r : Nat → Int32) (l n : Nat) : Bool := (ff (fun k => (rn_i T r l n k).isSome) 0 48).isNone
def f_round (T : Tx) (r : Nat → Int32) (l : Int32) : Int32 := if ir l 0 (t_nl T) = true then fst (ff (fun k => rn_b T r l.toNatClampNeg k) 1 99) else mI 1
def ag_b (T : Tx) (r : Nat → Int32) (l o k : Nat) : Bool := (ff (fun c => !decide (th T l c (r (48 + l) + nI k) = th T o c (r (48 + o) + nI k))) 0 (min (t_lw T l) (t_lw T o))).isNone
def f_agree (T : Tx) (r : Nat → Int32) (l o : Int32) : Int32 := if (ir l 0 (t_nl T) && (ir o 0 (t_nl T) && !decide (l = o))) = true then fst (ff (fun k => ag_b T r l.toNatClampNeg o.toNatClampNeg k) 0 201) else mI 1
/-- where a piece falls best: what is gained; the best so far -/
def gn_s (T : Tx) (r r' : Nat → Int32) (c : Nat) (a : Int32) : Int32 := if t_on T c = true then
  let b := if r_lk T r c = true ∧ r_lk T r' c = false then a + nI 1 else a
  if r_fl T r' c = true ∧ r_fl T r c = false then b - nI 1 else b else a
def gn_a (T : Tx) (r r' : Nat → Int32) : Int32 := it (gn_s T r r') 48 (nI 0)
abbrev Wb : Type := Option (Int32 × Nat × Nat)
def wh_s (T : Tx) (r : Nat → Int32) (l w h y x : Nat) (b : Wb) : Wb := match b with
  | none => some (gn_a T r (fl_r T r l w h x y), x, y)
  | some m => if gn_a T r (fl_r T r l w h x y) ≤ m.1 then some m else some (gn_a T r (fl_r T r l w h x y), x, y)
def wh_a (T : Tx) (r : Nat → Int32) (l w h : Nat) : Wb := it (fun y b => it (wh_s T r l w h y) (t_w T + 1 - w) b) (t_r T + 1 - h) none
def f_where (T : Tx) (r : Nat → Int32) (l w h k : Int32) : Int32 := if (ip T l w h && ir k 0 3) = true then (match wh_a T r l.toNatClampNeg w.toNatClampNeg h.toNatClampNeg with
  | none => mI 1000
  | some m => if k = nI 0 then m.1 else if k = nI 1 then nI m.2.1 else nI m.2.2) else mI 1000
/-- days ahead -/
def f_then (T : Tx) (r : Nat → Int32) (x y n : Int32) : Int32 := if (ic T x y && ir n 0 61) = true then days T (t_se T) n.toNatClampNeg r (8 * y.toNatClampNeg + x.toNatClampNeg) else mI 1
def mr_a (a b : Nat → Int32) (i : Nat) : Int32 := it (fun k x => x + (a (i + k) - b (i + k))) 6 (nI 0)
def f_all (T : Tx) (r : Nat → Int32) (n k : Int32) : Int32 := if (ir n 0 61 && ir k 0 3) = true then (if k = nI 2 then days T (t_se T) n.toNatClampNeg r 88 else if k = nI 0 then mr_a (days T (t_se T) n.toNatClampNeg r) r 76 else mr_a (days T (t_se T) n.toNatClampNeg r) r 82) else mI 1
/-- the wettest cell -/
def wm_s (T : Tx) (r : Nat → Int32) (c : Nat) (b : Option Nat) : Option Nat := if t_on T c = true then (match b with
  | none => some c
  | some m => if r m < r c then some c else some m) else b
def f_wettest (T : Tx) (r : Nat → Int32) (n k : Int32) : Int32 := if (ir n 0 61 && ir k 0 3) = true then (match it (wm_s T (days T (t_se T) n.toNatClampNeg r)) 48 none with
  | none => mI 2
  | some m => if k = nI 0 then days T (t_se T) n.toNatClampNeg r m else if k = nI 1 then nI (m % 8) else nI (m / 8)) else mI 1
def dy_s (T : Tx) (r : Nat → Int32) (c : Nat) (a : Int32) : Int32 := if t_on T c = true then (if r c = nI 0 then a + nI 1 else a) else a
def f_dry (T : Tx) (r : Nat → Int32) (n : Int32) : Int32 := if ir n 0 61 = true then it (dy_s T (days T (t_se T) n.toNatClampNeg r)) 48 (nI 0) else mI 1
def f_empty (T : Tx) (r : Nat → Int32) : Int32 := fst (ff (fun k => decide (days T (t_se T) k r 88 = nI 0)) 0 201)
def f_year (T : Tx) (r : Nat → Int32) (n s : Int32) : Int32 := if (ir n 0 61 && ir s 1 21) = true then it (fun k a => a + mr_a (days T (t_se T + nI k) n.toNatClampNeg r) r 76) s.toNatClampNeg (nI 0) else mI 1
/-- how far a loom is off a field -/
def ab (x : Int32) : Int32 := if x < nI 0 then -x else x
def of_v (T : Tx) (r : Nat → Int32) (l f w h : Nat) : Int32 := ab (hd_a T r l w h - nd_a T f)
def su_s (T : Tx) (r : Nat → Int32) (f w h l : Nat) (b : Option Nat) : Option Nat := if w ≤ t_lw T l then (match b with
  | none => some l
  | some m => if of_v T r l f w h < of_v T r m f w h then some l else some m) else b
def f_suits (T : Tx) (r : Nat → Int32) (f w h : Int32) : Int32 := if (ir f 0 (t_nf T) && (ir w 1 9 && ir h 1 7)) = true then fst (it (su_s T r f.toNatClampNeg w.toNatClampNeg h.toNatClampNeg) (t_nl T) none) else mI 1
def nw_s (T : Tx) (r : Nat → Int32) (f : Nat) (b : Bool) (c : Nat) (a : Int32) : Int32 := if t_on T c = true then (if t_fd T c = nI f then (if (if b = true then r_fl T r c else r_lk T r c) = true then a + nI 1 else a) else a) else a
def f_now (T : Tx) (r : Nat → Int32) (f : Int32) (b : Bool) : Int32 := if ir f 0 (t_nf T) = true then it (nw_s T r f.toNatClampNeg b) 48 (nI 0) else mI 1
/-- which piece fell: how wet a cell is by a way -/
def wy_v (T : Tx) (r : Nat → Int32) (l w h x y c : Nat) : Int32 := if x ≤ c % 8 ∧ c % 8 < x + w ∧ y ≤ c / 8 ∧ c / 8 < y + h then th T l (c % 8 - x) (r (48 + l) + nI (c / 8 - y)) else nI 0
def wy_b (T : Tx) (r tc tw : Nat → Int32) (k w h l y x : Nat) : Bool := decide (l < t_nl T) && (decide (w ≤ t_lw T l) && (decide (x + w ≤ t_w T) && (decide (y + h ≤ t_r T) && (ff (fun i => !decide (wy_v T r l w h x y (tc i).toNatClampNeg = tw i)) 0 k).isNone)))
/-- the ways, 64 for the loom, 8 for the row -/
def ws_b (T : Tx) (r tc tw : Nat → Int32) (k w h n : Nat) : Bool := wy_b T r tc tw k w h (n / 64) (n / 8 % 8) (n % 8)
/-- how many ways lie below -/
def wc (T : Tx) (r tc tw : Nat → Int32) (k w h n : Nat) : Nat := it (fun m a => if ws_b T r tc tw k w h m = true then a + 1 else a) n 0
def ak_b (nt : Nat) (k w h : Int32) : Bool := ir k 0 (nt + 1) && (ir w 1 9 && ir h 1 7)
def wy_c (n : Nat) : Int32 := nI (100 * (n / 64) + 10 * (n / 8 % 8) + n % 8)
def wi (T : Tx) (r tc tw : Nat → Int32) (k w h : Nat) (i : Int32) : Option Nat := ff (fun n => ws_b T r tc tw k w h n && decide (nI (wc T r tc tw k w h n) = i)) 0 256
def f_fell (T : Tx) (r tc tw : Nat → Int32) (nt : Nat) (k w h i : Int32) : Int32 := if (ak_b nt k w h && !decide (i < mI 1)) = true then (match wi T r tc tw k.toNatClampNeg w.toNatClampNeg h.toNatClampNeg i with
  | none => if i = mI 1 then nI (wc T r tc tw k.toNatClampNeg w.toNatClampNeg h.toNatClampNeg 256) else mI 1
  | some n => wy_c n) else mI 1
/-- in how many ways of those below n a cell is so wet; the most -/
def wk_n (T : Tx) (r tc tw : Nat → Int32) (k w h c v n : Nat) : Nat := it (fun m a => if ws_b T r tc tw k w h m = true ∧ wy_v T r (m / 64) w h (m % 8) (m / 8 % 8) c = nI v then a + 1 else a) n 0
def wk_m (T : Tx) (r tc tw : Nat → Int32) (k w h c : Nat) : Nat := it (fun v a => max a (wk_n T r tc tw k w h c v 256)) 10 0
def lo_s (T : Tx) (r tc tw : Nat → Int32) (k w h : Nat) (c : Nat) (b : Option Nat) : Option Nat := if t_on T c = true then (match b with
  | none => some c
  | some m => if wk_m T r tc tw k w h c < wk_m T r tc tw k w h m then some c else some m) else b
def f_look (T : Tx) (r tc tw : Nat → Int32) (nt : Nat) (k w h : Int32) : Int32 := if ak_b nt k w h = true then (match it (lo_s T r tc tw k.toNatClampNeg w.toNatClampNeg h.toNatClampNeg) 48 none with
  | none => mI 2
  | some m => nI (10 * (m / 8) + m % 8)) else mI 1
/-! what stands, as one: the text; rows (0 what stands, 1.. what was kept, 40.. slots, 50 51 told cells and waters, 60 the tape); numbers (0 kept, 1.. held, 4 told, 5 taped); the place -/
abbrev Ab : Type := Tx × (Nat → Nat → Int32) × (Nat → Nat) × Int32
def aR (A : Ab) (k : Nat) (f : Nat → Int32) : Ab := (A.1, fun i => if i = k then f else A.2.1 i, A.2.2)
def aN (A : Ab) (k n : Nat) : Ab := (A.1, A.2.1, fun i => if i = k then n else A.2.2.1 i, A.2.2.2)
def kp (A : Ab) (r : Nat → Int32) : Ab := (A.1, fun k => if k = 0 then r else if A.2.2.1 0 = 30 then (if 1 ≤ k ∧ k < 30 then A.2.1 (k + 1) else if k = 30 then A.2.1 0 else A.2.1 k) else if k = 1 + A.2.2.1 0 then A.2.1 0 else A.2.1 k, fun i => if i = 0 then (if A.2.2.1 0 = 30 then 30 else A.2.2.1 0 + 1) else A.2.2.1 i, A.2.2.2)
/-- all that was woven is the looms' -/
def RS (r : Nat → Int32) : Prop := r 90 = r 68 + r 69 + r 70 + r 71
def RI (r : Nat → Int32) : Prop := RW r ∧ RZ r ∧ RS r
def AW (A : Ab) : Prop := TW A.1 ∧ RI (A.2.1 0) ∧ A.2.2.1 0 ≤ 30 ∧ (∀ i < A.2.2.1 0, RI (A.2.1 (1 + i))) ∧ (∀ i < 3, A.2.2.1 (1 + i) ≤ 1 ∧ (A.2.2.1 (1 + i) = 1 → RI (A.2.1 (40 + i)))) ∧ A.2.2.1 4 ≤ 20 ∧ (∀ i < A.2.2.1 4, ∃ c w : Nat, c < 48 ∧ w ≤ 999 ∧ A.2.1 50 i = nI c ∧ A.2.1 51 i = nI w) ∧ A.2.2.1 5 ≤ 2000
def o_order (A : Ab) (l w h x y : Int32) : Int32 × Ab := if (ip A.1 l w h && (ic A.1 x y && !decide (A.2.1 0 (52 + l.toNatClampNeg) = w ∧ A.2.1 0 (56 + l.toNatClampNeg) = h ∧ A.2.1 0 (60 + l.toNatClampNeg) = x ∧ A.2.1 0 (64 + l.toNatClampNeg) = y))) = true then (nI 1, kp A (upd (upd (upd (upd (A.2.1 0) (52 + l.toNatClampNeg) w) (56 + l.toNatClampNeg) h) (60 + l.toNatClampNeg) x) (64 + l.toNatClampNeg) y)) else (nI 0, A)
def o_stop (A : Ab) (l : Int32) : Int32 × Ab := if (ir l 0 (t_nl A.1) && !decide (A.2.1 0 (52 + l.toNatClampNeg) = nI 0)) = true then (nI 1, kp A (upd (upd (upd (upd (A.2.1 0) (52 + l.toNatClampNeg) (nI 0)) (56 + l.toNatClampNeg) (nI 0)) (60 + l.toNatClampNeg) (nI 0)) (64 + l.toNatClampNeg) (nI 0))) else (nI 0, A)
def o_fall (A : Ab) (l w h x y : Int32) : Int32 × Ab := if (ip A.1 l w h && ic A.1 x y) = true then (fl_v A.1 (A.2.1 0) l.toNatClampNeg w.toNatClampNeg h.toNatClampNeg x.toNatClampNeg y.toNatClampNeg, kp A (fl_r A.1 (A.2.1 0) l.toNatClampNeg w.toNatClampNeg h.toNatClampNeg x.toNatClampNeg y.toNatClampNeg)) else (mI 1, A)
def o_turn (A : Ab) (l n : Int32) : Int32 × Ab := if (ir l 0 (t_nl A.1) && ir n 1 100) = true then (A.2.1 0 (48 + l.toNatClampNeg) + n, kp A (upd (A.2.1 0) (48 + l.toNatClampNeg) (A.2.1 0 (48 + l.toNatClampNeg) + n))) else (mI 1, A)
def o_days (A : Ab) (n : Int32) : Int32 × Ab := if ir n 0 31 = true then (if n = nI 0 then (A.2.1 0 89, A) else (days A.1 (t_se A.1) n.toNatClampNeg (A.2.1 0) 89, kp A (days A.1 (t_se A.1) n.toNatClampNeg (A.2.1 0)))) else (mI 1, A)
def o_undo (A : Ab) : Int32 × Ab := if A.2.2.1 0 = 0 then (nI 0, A) else (nI 1, aN (aR A 0 (A.2.1 (A.2.2.1 0))) 0 (A.2.2.1 0 - 1))
def o_tell (A : Ab) (x y w : Int32) : Int32 × Ab := if (!decide (A.2.2.1 4 = 20) && (ic A.1 x y && ir w 0 1000)) = true then (nI (A.2.2.1 4), aN (aR (aR A 50 (upd (A.2.1 50) (A.2.2.1 4) (nI (8 * y.toNatClampNeg + x.toNatClampNeg)))) 51 (upd (A.2.1 51) (A.2.2.1 4) w)) 4 (A.2.2.1 4 + 1)) else (mI 1, A)
def o_forget (A : Ab) : Int32 × Ab := (nI (A.2.2.1 4), aN A 4 0)
def o_hold (A : Ab) (s : Int32) : Int32 × Ab := if ir s 0 3 = true then (nI 1, aN (aR A (40 + s.toNatClampNeg) (A.2.1 0)) (1 + s.toNatClampNeg) 1) else (nI 0, A)
def o_restore (A : Ab) (s : Int32) : Int32 × Ab := if (ir s 0 3 && decide (A.2.2.1 (1 + s.toNatClampNeg) = 1)) = true then (nI 1, aN (aR A 0 (A.2.1 (40 + s.toNatClampNeg))) 0 0) else (nI 0, A)
def sm (f : Nat → Int32) (n : Nat) : Int32 := it (fun k a => a + f k) n (nI 0)
def o_count (A : Ab) (w : Int32) : Int32 := if w = nI 0 then nI (t_w A.1) else if w = nI 1 then nI (t_r A.1) else if w = nI 2 then nI (t_nf A.1) else if w = nI 3 then nI (t_nl A.1) else if w = nI 4 then A.2.1 0 89 else if w = nI 5 then A.2.1 0 88 else if w = nI 6 then sm (A.2.1 0) 48 else if w = nI 7 then A.2.1 0 90 else if w = nI 8 then nI (A.2.2.1 5) else if w = nI 9 then nI (A.2.2.1 0) else if w = nI 10 then nI (A.2.2.1 4) else if w = nI 11 then nI (A.2.2.1 1 + A.2.2.1 2 + A.2.2.1 3) else if w = nI 12 then sm (fun k => A.2.1 0 (76 + k)) 6 else if w = nI 13 then sm (fun k => A.2.1 0 (82 + k)) 6 else mI 1
/-- bytes of an int, the first one highest -/
def byt (v : Int32) (k : Nat) : Int32 := (v >>> (nI (24 - 8 * k) &&& nI 31)).toInt8.toInt32
def o_feed (A : Ab) (a b c d e : Int32) : Int32 × Ab := if 2000 < A.2.2.1 5 + 20 then (mI 1, A) else (nI (A.2.2.1 5 + 20), aN (aR A 60 (fun i => if i < A.2.2.1 5 then A.2.1 60 i else byt ([a, b, c, d, e].getD ((i - A.2.2.1 5) / 4) 0) ((i - A.2.2.1 5) % 4))) 5 (A.2.2.1 5 + 20))
def o_back (A : Ab) (n : Int32) : Int32 × Ab := if ir n 0 (A.2.2.1 5 + 1) = true then (nI (A.2.2.1 5 - n.toNatClampNeg), aN A 5 (A.2.2.1 5 - n.toNatClampNeg)) else (mI 1, A)
/-- codes of the words -/
def kyl : List Nat := [13550, 3369766, 247549, 332717941, 2486773, 2737082764, 10502465, 4147840, 377761, 249, 399641, 107681, 379948, 453940, 321581, 12257559, 7542361, 67273975, 2968, 12387257, 459383]
def kyf : Nat → Int64 := fun i => Int64.ofNat (kyl.getD i 0)
