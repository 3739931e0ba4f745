/-! the reference as a state: printed by gen_tw.py. ints by the field's place; arrays of ints; arrays of longs -/
abbrev tw_S : Type := (Nat → Int32) × (Nat → Nat → Int32) × (Nat → Nat → Int64)
def tw_f (s : tw_S) : List Value := [.int (s.1 0), .ref 590, .int (s.1 2), .ref 591, .int (s.1 4), .ref 592, .ref 593, .ref 594, .ref 595, .ref 596, .int (s.1 10), .int (s.1 11), .int (s.1 12), .int (s.1 13), .int (s.1 14), .int (s.1 15), .int (s.1 16), .int (s.1 17), .int (s.1 18), .int (s.1 19), .int (s.1 20), .ref 597, .ref 598, .ref 599, .ref 600, .ref 601, .ref 602, .ref 603, .ref 604, .ref 605, .ref 606, .ref 607, .ref 608, .ref 609, .ref 610, .ref 611, .int (s.1 36), .ref 612, .ref 613, .ref 614, .ref 615, .ref 616, .int (s.1 42), .ref 617, .ref 618, .ref 619, .int (s.1 46), .ref 620, .ref 621, .int (s.1 49), .ref 622, .ref 623, .int (s.1 52), .int (s.1 53), .ref 624, .int (s.1 55), .int (s.1 56), .ref 625, .ref 626, .ref 627, .ref 628, .int (s.1 61), .int (s.1 62), .int (s.1 63), .ref 629, .int (s.1 65), .ref 630, .ref 631, .ref 632, .ref 633, .ref 634, .ref 635]
def tw_c (s : tw_S) : List jv_C := [.inr (0, tw_f s), .inl (1, 2000, .inl (s.2.1 1)), .inl (1, 2000, .inl (s.2.1 3)), .inl (0, 403, .inl (s.2.1 5)), .inl (0, 403, .inl (s.2.1 6)), .inl (0, 403, .inl (s.2.1 7)), .inl (4, 403, .inr (.inl (s.2.2 8))), .inl (4, 21, .inr (.inl (s.2.2 9))), .inl (4, 10, .inr (.inl (s.2.2 21))), .inl (0, 2, .inl (s.2.1 22)), .inl (0, 2, .inl (s.2.1 23)), .inl (0, 96, .inl (s.2.1 24)), .inl (0, 2, .inl (s.2.1 25)), .inl (0, 12, .inl (s.2.1 26)), .inl (0, 12, .inl (s.2.1 27)), .inl (0, 2, .inl (s.2.1 28)), .inl (0, 8, .inl (s.2.1 29)), .inl (0, 8, .inl (s.2.1 30)), .inl (0, 2, .inl (s.2.1 31)), .inl (0, 2, .inl (s.2.1 32)), .inl (0, 2, .inl (s.2.1 33)), .inl (0, 6, .inl (s.2.1 34)), .inl (0, 6, .inl (s.2.1 35)), .inl (2, 260, .inl (s.2.1 37)), .inl (0, 260, .inl (s.2.1 38)), .inl (0, 260, .inl (s.2.1 39)), .inl (0, 260, .inl (s.2.1 40)), .inl (0, 260, .inl (s.2.1 41)), .inl (0, 840, .inl (s.2.1 43)), .inl (0, 840, .inl (s.2.1 44)), .inl (0, 64, .inl (s.2.1 45)), .inl (0, 9, .inl (s.2.1 47)), .inl (0, 400, .inl (s.2.1 48)), .inl (0, 92, .inl (s.2.1 50)), .inl (0, 92, .inl (s.2.1 51)), .inl (0, 2760, .inl (s.2.1 54)), .inl (0, 4, .inl (s.2.1 57)), .inl (0, 4, .inl (s.2.1 58)), .inl (0, 4, .inl (s.2.1 59)), .inl (0, 24, .inl (s.2.1 60)), .inl (0, 24, .inl (s.2.1 64)), .inl (0, 20, .inl (s.2.1 66)), .inl (0, 20, .inl (s.2.1 67)), .inl (2, 256, .inl (s.2.1 68)), .inl (0, 10, .inl (s.2.1 69)), .inl (2, 3, .inl (s.2.1 70)), .inl (0, 276, .inl (s.2.1 71))]
/-- the heap: what lies ahead, the reference, what lies behind -/
def tw_h (p : jv_H) (s : tw_S) (q : jv_H) : jv_H := p ++ (tw_c s ++ q)
def tw_i (s : tw_S) (k : Nat) (v : Int32) : tw_S := (fun j => if j = k then v else s.1 j, s.2)
def tw_a (s : tw_S) (k : Nat) (f : Nat → Int32) : tw_S := (s.1, fun j => if j = k then f else s.2.1 j, s.2.2)
def tw_l (s : tw_S) (k : Nat) (f : Nat → Int64) : tw_S := (s.1, s.2.1, fun j => if j = k then f else s.2.2 j)
theorem tw_i1 {s : tw_S} {k j : Nat} {v : Int32} : (tw_i s k v).1 j = if j = k then v else s.1 j := rfl
theorem tw_i2 {s : tw_S} {k : Nat} {v : Int32} : (tw_i s k v).2 = s.2 := rfl
theorem tw_a1 {s : tw_S} {k : Nat} {f : Nat → Int32} : (tw_a s k f).1 = s.1 := rfl
theorem tw_a2 {s : tw_S} {k j : Nat} {f : Nat → Int32} : (tw_a s k f).2.1 j = if j = k then f else s.2.1 j := rfl
theorem tw_a3 {s : tw_S} {k : Nat} {f : Nat → Int32} : (tw_a s k f).2.2 = s.2.2 := rfl
theorem tw_l1 {s : tw_S} {k : Nat} {f : Nat → Int64} : (tw_l s k f).1 = s.1 := rfl
theorem tw_l2 {s : tw_S} {k : Nat} {f : Nat → Int64} : (tw_l s k f).2.1 = s.2.1 := rfl
theorem tw_l3 {s : tw_S} {k j : Nat} {f : Nat → Int64} : (tw_l s k f).2.2 j = if j = k then f else s.2.2 j := rfl
theorem tw_at {p q : jv_H} {s : tw_S} (hp : p.length = 589) (j : Nat) {c : jv_C} (hc : (tw_c s)[j]? = some c) : (tw_h p s q)[589 + j]? = some c := by
  unfold tw_h
  rw [List.getElem?_append_right (by omega), hp, Nat.add_sub_cancel_left, List.getElem?_append_left]
  · exact hc
  · exact (List.getElem?_eq_some_iff.mp hc).1
theorem tw_st {p q : jv_H} {s s' : tw_S} (hp : p.length = 589) (j : Nat) {c : jv_C} (hj : j < 47) (hc : (tw_c s).set j c = tw_c s') : (tw_h p s q).set (589 + j) c = tw_h p s' q := by
  unfold tw_h
  rw [List.set_append_right _ _ (by omega), hp, Nat.add_sub_cancel_left, List.set_append_left _ _ (show j < (tw_c s).length from hj), hc]
theorem jv_gf_at {h : jv_H} {a ci k : Nat} {ty : FieldType} {fs : List Value} {v : Value} {F : List (Nat × Nat × FieldType)} (hc : h[a]? = some (.inr (ci, fs))) (hF : F.lookup ci = some (k, ty)) (hv : fs[k]? = some v) : jv_gf h a F = some v := by
  unfold jv_gf
  rw [hc]
  dsimp only
  rw [hF]
  exact hv
theorem jv_pf_at {h : jv_H} {a ci k : Nat} {ty : FieldType} {fs : List Value} {v : Value} {F : List (Nat × Nat × FieldType)} (hc : h[a]? = some (.inr (ci, fs))) (hF : F.lookup ci = some (k, ty)) (ha : jt_off ≤ a) (hk : k < fs.length) (hn : narrow ty v = v) (hf : fits ty v = true) : jv_pf h a F v = some (h.set a (.inr (ci, fs.set k v))) := by
  unfold jv_pf
  rw [hc]
  dsimp only
  rw [hF]
  exact if_pos ⟨ha, hk, hn, hf⟩
theorem jv_ig_at {h : jv_H} {a tc n t u : Nat} {f : Nat → Int32} {i : Int32} (hc : h[a]? = some (.inl (tc, n, .inl f))) (ht : tc = t ∨ tc = u) : jv_ig h a t u i = if i < 0 ∨ n ≤ i.toNatClampNeg then none else some (f i.toNatClampNeg) := by
  unfold jv_ig
  rw [hc]
  dsimp only
  by_cases hi : i < 0 ∨ n ≤ i.toNatClampNeg
  · rw [if_pos hi, if_neg (fun q => q.2 hi)]
  · rw [if_neg hi, if_pos ⟨ht, hi⟩]
theorem jv_lg_at {h : jv_H} {a n : Nat} {f : Nat → Int64} {i : Int32} (hc : h[a]? = some (.inl (4, n, .inr (.inl f)))) : jv_lg h a i = if i < 0 ∨ n ≤ i.toNatClampNeg then none else some (f i.toNatClampNeg) := by
  unfold jv_lg
  rw [hc]
  dsimp only
  by_cases hi : i < 0 ∨ n ≤ i.toNatClampNeg
  · rw [if_pos hi, if_neg (fun q => q.2 hi)]
  · rw [if_neg hi, if_pos ⟨rfl, hi⟩]
theorem jv_ip_at {h : jv_H} {a tc n t u : Nat} {f : Nat → Int32} {i x : Int32} (hc : h[a]? = some (.inl (tc, n, .inl f))) (ht : tc = t ∨ tc = u) (ha : jt_off ≤ a) : jv_ip h a t u i x = if i < 0 ∨ n ≤ i.toNatClampNeg then none else some (h.set a (.inl (tc, n, .inl (upd f i.toNatClampNeg (jv_nar tc x))))) := by
  unfold jv_ip
  rw [hc]
  dsimp only
  by_cases hi : i < 0 ∨ n ≤ i.toNatClampNeg
  · rw [if_pos hi, if_neg (fun q => q.2.2 hi)]
  · rw [if_neg hi, if_pos ⟨ha, ht, hi⟩]
theorem jv_lp_at {h : jv_H} {a n : Nat} {f : Nat → Int64} {i : Int32} {x : Int64} (hc : h[a]? = some (.inl (4, n, .inr (.inl f)))) (ha : jt_off ≤ a) : jv_lp h a i x = if i < 0 ∨ n ≤ i.toNatClampNeg then none else some (h.set a (.inl (4, n, .inr (.inl (vp_updL f i.toNatClampNeg x))))) := by
  unfold jv_lp
  rw [hc]
  dsimp only
  by_cases hi : i < 0 ∨ n ≤ i.toNatClampNeg
  · rw [if_pos hi, if_neg (fun q => q.2.2 hi)]
  · rw [if_neg hi, if_pos ⟨ha, rfl, hi⟩]
section
variable {p q : jv_H} {s : tw_S} {i x v : Int32} {xl : Int64} (hp : p.length = 589)
theorem tw_rc {V : List (Nat × Nat)} (hp : p.length = 589) : jv_rc (tw_h p s q) 589 V = V.lookup 0 := by
  unfold jv_rc
  rw [tw_at hp 0 rfl]
theorem tg_0 (hp : p.length = 589) : jv_gf (tw_h p s q) 589 [(0, 0, .int)] = some (.int (s.1 0)) := jv_gf_at (tw_at hp 0 rfl) rfl rfl
theorem tp_0 (hp : p.length = 589) : jv_pf (tw_h p s q) 589 [(0, 0, .int)] (.int v) = some (tw_h p (tw_i s 0 v) q) := by
  rw [jv_pf_at (tw_at hp 0 rfl) rfl (by decide) (Nat.le_of_ble_eq_true rfl) rfl rfl]
  exact congrArg some (tw_st hp 0 (by decide) rfl)
theorem tg_1 (hp : p.length = 589) : jv_gf (tw_h p s q) 589 [(0, 1, .array .byte)] = some (.ref 590) := jv_gf_at (tw_at hp 0 rfl) rfl rfl
theorem tg_2 (hp : p.length = 589) : jv_gf (tw_h p s q) 589 [(0, 2, .int)] = some (.int (s.1 2)) := jv_gf_at (tw_at hp 0 rfl) rfl rfl
theorem tp_2 (hp : p.length = 589) : jv_pf (tw_h p s q) 589 [(0, 2, .int)] (.int v) = some (tw_h p (tw_i s 2 v) q) := by
  rw [jv_pf_at (tw_at hp 0 rfl) rfl (by decide) (Nat.le_of_ble_eq_true rfl) rfl rfl]
  exact congrArg some (tw_st hp 0 (by decide) rfl)
theorem tg_3 (hp : p.length = 589) : jv_gf (tw_h p s q) 589 [(0, 3, .array .byte)] = some (.ref 591) := jv_gf_at (tw_at hp 0 rfl) rfl rfl
theorem tg_4 (hp : p.length = 589) : jv_gf (tw_h p s q) 589 [(0, 4, .int)] = some (.int (s.1 4)) := jv_gf_at (tw_at hp 0 rfl) rfl rfl
theorem tp_4 (hp : p.length = 589) : jv_pf (tw_h p s q) 589 [(0, 4, .int)] (.int v) = some (tw_h p (tw_i s 4 v) q) := by
  rw [jv_pf_at (tw_at hp 0 rfl) rfl (by decide) (Nat.le_of_ble_eq_true rfl) rfl rfl]
  exact congrArg some (tw_st hp 0 (by decide) rfl)
theorem tg_5 (hp : p.length = 589) : jv_gf (tw_h p s q) 589 [(0, 5, .array .int)] = some (.ref 592) := jv_gf_at (tw_at hp 0 rfl) rfl rfl
theorem tg_6 (hp : p.length = 589) : jv_gf (tw_h p s q) 589 [(0, 6, .array .int)] = some (.ref 593) := jv_gf_at (tw_at hp 0 rfl) rfl rfl
theorem tg_7 (hp : p.length = 589) : jv_gf (tw_h p s q) 589 [(0, 7, .array .int)] = some (.ref 594) := jv_gf_at (tw_at hp 0 rfl) rfl rfl
theorem tg_8 (hp : p.length = 589) : jv_gf (tw_h p s q) 589 [(0, 8, .array .long)] = some (.ref 595) := jv_gf_at (tw_at hp 0 rfl) rfl rfl
theorem tg_9 (hp : p.length = 589) : jv_gf (tw_h p s q) 589 [(0, 9, .array .long)] = some (.ref 596) := jv_gf_at (tw_at hp 0 rfl) rfl rfl
theorem tg_10 (hp : p.length = 589) : jv_gf (tw_h p s q) 589 [(0, 10, .int)] = some (.int (s.1 10)) := jv_gf_at (tw_at hp 0 rfl) rfl rfl
theorem tp_10 (hp : p.length = 589) : jv_pf (tw_h p s q) 589 [(0, 10, .int)] (.int v) = some (tw_h p (tw_i s 10 v) q) := by
  rw [jv_pf_at (tw_at hp 0 rfl) rfl (by decide) (Nat.le_of_ble_eq_true rfl) rfl rfl]
  exact congrArg some (tw_st hp 0 (by decide) rfl)
theorem tg_11 (hp : p.length = 589) : jv_gf (tw_h p s q) 589 [(0, 11, .int)] = some (.int (s.1 11)) := jv_gf_at (tw_at hp 0 rfl) rfl rfl
theorem tp_11 (hp : p.length = 589) : jv_pf (tw_h p s q) 589 [(0, 11, .int)] (.int v) = some (tw_h p (tw_i s 11 v) q) := by
  rw [jv_pf_at (tw_at hp 0 rfl) rfl (by decide) (Nat.le_of_ble_eq_true rfl) rfl rfl]
  exact congrArg some (tw_st hp 0 (by decide) rfl)
theorem tg_12 (hp : p.length = 589) : jv_gf (tw_h p s q) 589 [(0, 12, .int)] = some (.int (s.1 12)) := jv_gf_at (tw_at hp 0 rfl) rfl rfl
theorem tp_12 (hp : p.length = 589) : jv_pf (tw_h p s q) 589 [(0, 12, .int)] (.int v) = some (tw_h p (tw_i s 12 v) q) := by
  rw [jv_pf_at (tw_at hp 0 rfl) rfl (by decide) (Nat.le_of_ble_eq_true rfl) rfl rfl]
  exact congrArg some (tw_st hp 0 (by decide) rfl)
theorem tg_13 (hp : p.length = 589) : jv_gf (tw_h p s q) 589 [(0, 13, .int)] = some (.int (s.1 13)) := jv_gf_at (tw_at hp 0 rfl) rfl rfl
theorem tp_13 (hp : p.length = 589) : jv_pf (tw_h p s q) 589 [(0, 13, .int)] (.int v) = some (tw_h p (tw_i s 13 v) q) := by
  rw [jv_pf_at (tw_at hp 0 rfl) rfl (by decide) (Nat.le_of_ble_eq_true rfl) rfl rfl]
  exact congrArg some (tw_st hp 0 (by decide) rfl)
theorem tg_14 (hp : p.length = 589) : jv_gf (tw_h p s q) 589 [(0, 14, .int)] = some (.int (s.1 14)) := jv_gf_at (tw_at hp 0 rfl) rfl rfl
theorem tp_14 (hp : p.length = 589) : jv_pf (tw_h p s q) 589 [(0, 14, .int)] (.int v) = some (tw_h p (tw_i s 14 v) q) := by
  rw [jv_pf_at (tw_at hp 0 rfl) rfl (by decide) (Nat.le_of_ble_eq_true rfl) rfl rfl]
  exact congrArg some (tw_st hp 0 (by decide) rfl)
theorem tg_15 (hp : p.length = 589) : jv_gf (tw_h p s q) 589 [(0, 15, .int)] = some (.int (s.1 15)) := jv_gf_at (tw_at hp 0 rfl) rfl rfl
theorem tp_15 (hp : p.length = 589) : jv_pf (tw_h p s q) 589 [(0, 15, .int)] (.int v) = some (tw_h p (tw_i s 15 v) q) := by
  rw [jv_pf_at (tw_at hp 0 rfl) rfl (by decide) (Nat.le_of_ble_eq_true rfl) rfl rfl]
  exact congrArg some (tw_st hp 0 (by decide) rfl)
theorem tg_16 (hp : p.length = 589) : jv_gf (tw_h p s q) 589 [(0, 16, .int)] = some (.int (s.1 16)) := jv_gf_at (tw_at hp 0 rfl) rfl rfl
theorem tp_16 (hp : p.length = 589) : jv_pf (tw_h p s q) 589 [(0, 16, .int)] (.int v) = some (tw_h p (tw_i s 16 v) q) := by
  rw [jv_pf_at (tw_at hp 0 rfl) rfl (by decide) (Nat.le_of_ble_eq_true rfl) rfl rfl]
  exact congrArg some (tw_st hp 0 (by decide) rfl)
theorem tg_17 (hp : p.length = 589) : jv_gf (tw_h p s q) 589 [(0, 17, .int)] = some (.int (s.1 17)) := jv_gf_at (tw_at hp 0 rfl) rfl rfl
theorem tp_17 (hp : p.length = 589) : jv_pf (tw_h p s q) 589 [(0, 17, .int)] (.int v) = some (tw_h p (tw_i s 17 v) q) := by
  rw [jv_pf_at (tw_at hp 0 rfl) rfl (by decide) (Nat.le_of_ble_eq_true rfl) rfl rfl]
  exact congrArg some (tw_st hp 0 (by decide) rfl)
theorem tg_18 (hp : p.length = 589) : jv_gf (tw_h p s q) 589 [(0, 18, .int)] = some (.int (s.1 18)) := jv_gf_at (tw_at hp 0 rfl) rfl rfl
theorem tp_18 (hp : p.length = 589) : jv_pf (tw_h p s q) 589 [(0, 18, .int)] (.int v) = some (tw_h p (tw_i s 18 v) q) := by
  rw [jv_pf_at (tw_at hp 0 rfl) rfl (by decide) (Nat.le_of_ble_eq_true rfl) rfl rfl]
  exact congrArg some (tw_st hp 0 (by decide) rfl)
theorem tg_19 (hp : p.length = 589) : jv_gf (tw_h p s q) 589 [(0, 19, .int)] = some (.int (s.1 19)) := jv_gf_at (tw_at hp 0 rfl) rfl rfl
theorem tp_19 (hp : p.length = 589) : jv_pf (tw_h p s q) 589 [(0, 19, .int)] (.int v) = some (tw_h p (tw_i s 19 v) q) := by
  rw [jv_pf_at (tw_at hp 0 rfl) rfl (by decide) (Nat.le_of_ble_eq_true rfl) rfl rfl]
  exact congrArg some (tw_st hp 0 (by decide) rfl)
theorem tg_20 (hp : p.length = 589) : jv_gf (tw_h p s q) 589 [(0, 20, .int)] = some (.int (s.1 20)) := jv_gf_at (tw_at hp 0 rfl) rfl rfl
theorem tp_20 (hp : p.length = 589) : jv_pf (tw_h p s q) 589 [(0, 20, .int)] (.int v) = some (tw_h p (tw_i s 20 v) q) := by
  rw [jv_pf_at (tw_at hp 0 rfl) rfl (by decide) (Nat.le_of_ble_eq_true rfl) rfl rfl]
  exact congrArg some (tw_st hp 0 (by decide) rfl)
theorem tg_21 (hp : p.length = 589) : jv_gf (tw_h p s q) 589 [(0, 21, .array .long)] = some (.ref 597) := jv_gf_at (tw_at hp 0 rfl) rfl rfl
theorem tg_22 (hp : p.length = 589) : jv_gf (tw_h p s q) 589 [(0, 22, .array .int)] = some (.ref 598) := jv_gf_at (tw_at hp 0 rfl) rfl rfl
theorem tg_23 (hp : p.length = 589) : jv_gf (tw_h p s q) 589 [(0, 23, .array .int)] = some (.ref 599) := jv_gf_at (tw_at hp 0 rfl) rfl rfl
theorem tg_24 (hp : p.length = 589) : jv_gf (tw_h p s q) 589 [(0, 24, .array .int)] = some (.ref 600) := jv_gf_at (tw_at hp 0 rfl) rfl rfl
theorem tg_25 (hp : p.length = 589) : jv_gf (tw_h p s q) 589 [(0, 25, .array .int)] = some (.ref 601) := jv_gf_at (tw_at hp 0 rfl) rfl rfl
theorem tg_26 (hp : p.length = 589) : jv_gf (tw_h p s q) 589 [(0, 26, .array .int)] = some (.ref 602) := jv_gf_at (tw_at hp 0 rfl) rfl rfl
theorem tg_27 (hp : p.length = 589) : jv_gf (tw_h p s q) 589 [(0, 27, .array .int)] = some (.ref 603) := jv_gf_at (tw_at hp 0 rfl) rfl rfl
theorem tg_28 (hp : p.length = 589) : jv_gf (tw_h p s q) 589 [(0, 28, .array .int)] = some (.ref 604) := jv_gf_at (tw_at hp 0 rfl) rfl rfl
theorem tg_29 (hp : p.length = 589) : jv_gf (tw_h p s q) 589 [(0, 29, .array .int)] = some (.ref 605) := jv_gf_at (tw_at hp 0 rfl) rfl rfl
theorem tg_30 (hp : p.length = 589) : jv_gf (tw_h p s q) 589 [(0, 30, .array .int)] = some (.ref 606) := jv_gf_at (tw_at hp 0 rfl) rfl rfl
theorem tg_31 (hp : p.length = 589) : jv_gf (tw_h p s q) 589 [(0, 31, .array .int)] = some (.ref 607) := jv_gf_at (tw_at hp 0 rfl) rfl rfl
theorem tg_32 (hp : p.length = 589) : jv_gf (tw_h p s q) 589 [(0, 32, .array .int)] = some (.ref 608) := jv_gf_at (tw_at hp 0 rfl) rfl rfl
theorem tg_33 (hp : p.length = 589) : jv_gf (tw_h p s q) 589 [(0, 33, .array .int)] = some (.ref 609) := jv_gf_at (tw_at hp 0 rfl) rfl rfl
theorem tg_34 (hp : p.length = 589) : jv_gf (tw_h p s q) 589 [(0, 34, .array .int)] = some (.ref 610) := jv_gf_at (tw_at hp 0 rfl) rfl rfl
theorem tg_35 (hp : p.length = 589) : jv_gf (tw_h p s q) 589 [(0, 35, .array .int)] = some (.ref 611) := jv_gf_at (tw_at hp 0 rfl) rfl rfl
theorem tg_36 (hp : p.length = 589) : jv_gf (tw_h p s q) 589 [(0, 36, .int)] = some (.int (s.1 36)) := jv_gf_at (tw_at hp 0 rfl) rfl rfl
theorem tp_36 (hp : p.length = 589) : jv_pf (tw_h p s q) 589 [(0, 36, .int)] (.int v) = some (tw_h p (tw_i s 36 v) q) := by
  rw [jv_pf_at (tw_at hp 0 rfl) rfl (by decide) (Nat.le_of_ble_eq_true rfl) rfl rfl]
  exact congrArg some (tw_st hp 0 (by decide) rfl)
theorem tg_37 (hp : p.length = 589) : jv_gf (tw_h p s q) 589 [(0, 37, .array .boolean)] = some (.ref 612) := jv_gf_at (tw_at hp 0 rfl) rfl rfl
theorem tg_38 (hp : p.length = 589) : jv_gf (tw_h p s q) 589 [(0, 38, .array .int)] = some (.ref 613) := jv_gf_at (tw_at hp 0 rfl) rfl rfl
theorem tg_39 (hp : p.length = 589) : jv_gf (tw_h p s q) 589 [(0, 39, .array .int)] = some (.ref 614) := jv_gf_at (tw_at hp 0 rfl) rfl rfl
theorem tg_40 (hp : p.length = 589) : jv_gf (tw_h p s q) 589 [(0, 40, .array .int)] = some (.ref 615) := jv_gf_at (tw_at hp 0 rfl) rfl rfl
theorem tg_41 (hp : p.length = 589) : jv_gf (tw_h p s q) 589 [(0, 41, .array .int)] = some (.ref 616) := jv_gf_at (tw_at hp 0 rfl) rfl rfl
theorem tg_42 (hp : p.length = 589) : jv_gf (tw_h p s q) 589 [(0, 42, .int)] = some (.int (s.1 42)) := jv_gf_at (tw_at hp 0 rfl) rfl rfl
theorem tp_42 (hp : p.length = 589) : jv_pf (tw_h p s q) 589 [(0, 42, .int)] (.int v) = some (tw_h p (tw_i s 42 v) q) := by
  rw [jv_pf_at (tw_at hp 0 rfl) rfl (by decide) (Nat.le_of_ble_eq_true rfl) rfl rfl]
  exact congrArg some (tw_st hp 0 (by decide) rfl)
theorem tg_43 (hp : p.length = 589) : jv_gf (tw_h p s q) 589 [(0, 43, .array .int)] = some (.ref 617) := jv_gf_at (tw_at hp 0 rfl) rfl rfl
theorem tg_44 (hp : p.length = 589) : jv_gf (tw_h p s q) 589 [(0, 44, .array .int)] = some (.ref 618) := jv_gf_at (tw_at hp 0 rfl) rfl rfl
theorem tg_45 (hp : p.length = 589) : jv_gf (tw_h p s q) 589 [(0, 45, .array .int)] = some (.ref 619) := jv_gf_at (tw_at hp 0 rfl) rfl rfl
theorem tg_46 (hp : p.length = 589) : jv_gf (tw_h p s q) 589 [(0, 46, .int)] = some (.int (s.1 46)) := jv_gf_at (tw_at hp 0 rfl) rfl rfl
theorem tp_46 (hp : p.length = 589) : jv_pf (tw_h p s q) 589 [(0, 46, .int)] (.int v) = some (tw_h p (tw_i s 46 v) q) := by
  rw [jv_pf_at (tw_at hp 0 rfl) rfl (by decide) (Nat.le_of_ble_eq_true rfl) rfl rfl]
  exact congrArg some (tw_st hp 0 (by decide) rfl)
theorem tg_47 (hp : p.length = 589) : jv_gf (tw_h p s q) 589 [(0, 47, .array .int)] = some (.ref 620) := jv_gf_at (tw_at hp 0 rfl) rfl rfl
theorem tg_48 (hp : p.length = 589) : jv_gf (tw_h p s q) 589 [(0, 48, .array .int)] = some (.ref 621) := jv_gf_at (tw_at hp 0 rfl) rfl rfl
theorem tg_49 (hp : p.length = 589) : jv_gf (tw_h p s q) 589 [(0, 49, .boolean)] = some (.int (s.1 49)) := jv_gf_at (tw_at hp 0 rfl) rfl rfl
theorem tp_49 (hp : p.length = 589) (hv : v = 0 ∨ v = 1) : jv_pf (tw_h p s q) 589 [(0, 49, .boolean)] (.int v) = some (tw_h p (tw_i s 49 v) q) := by
  rw [jv_pf_at (tw_at hp 0 rfl) rfl (by decide) (Nat.le_of_ble_eq_true rfl) (by rcases hv with rfl | rfl <;> rfl) (by rcases hv with rfl | rfl <;> rfl)]
  exact congrArg some (tw_st hp 0 (by decide) rfl)
theorem tg_50 (hp : p.length = 589) : jv_gf (tw_h p s q) 589 [(0, 50, .array .int)] = some (.ref 622) := jv_gf_at (tw_at hp 0 rfl) rfl rfl
theorem tg_51 (hp : p.length = 589) : jv_gf (tw_h p s q) 589 [(0, 51, .array .int)] = some (.ref 623) := jv_gf_at (tw_at hp 0 rfl) rfl rfl
theorem tg_52 (hp : p.length = 589) : jv_gf (tw_h p s q) 589 [(0, 52, .int)] = some (.int (s.1 52)) := jv_gf_at (tw_at hp 0 rfl) rfl rfl
theorem tp_52 (hp : p.length = 589) : jv_pf (tw_h p s q) 589 [(0, 52, .int)] (.int v) = some (tw_h p (tw_i s 52 v) q) := by
  rw [jv_pf_at (tw_at hp 0 rfl) rfl (by decide) (Nat.le_of_ble_eq_true rfl) rfl rfl]
  exact congrArg some (tw_st hp 0 (by decide) rfl)
theorem tg_53 (hp : p.length = 589) : jv_gf (tw_h p s q) 589 [(0, 53, .int)] = some (.int (s.1 53)) := jv_gf_at (tw_at hp 0 rfl) rfl rfl
theorem tp_53 (hp : p.length = 589) : jv_pf (tw_h p s q) 589 [(0, 53, .int)] (.int v) = some (tw_h p (tw_i s 53 v) q) := by
  rw [jv_pf_at (tw_at hp 0 rfl) rfl (by decide) (Nat.le_of_ble_eq_true rfl) rfl rfl]
  exact congrArg some (tw_st hp 0 (by decide) rfl)
theorem tg_54 (hp : p.length = 589) : jv_gf (tw_h p s q) 589 [(0, 54, .array .int)] = some (.ref 624) := jv_gf_at (tw_at hp 0 rfl) rfl rfl
theorem tg_55 (hp : p.length = 589) : jv_gf (tw_h p s q) 589 [(0, 55, .int)] = some (.int (s.1 55)) := jv_gf_at (tw_at hp 0 rfl) rfl rfl
theorem tp_55 (hp : p.length = 589) : jv_pf (tw_h p s q) 589 [(0, 55, .int)] (.int v) = some (tw_h p (tw_i s 55 v) q) := by
  rw [jv_pf_at (tw_at hp 0 rfl) rfl (by decide) (Nat.le_of_ble_eq_true rfl) rfl rfl]
  exact congrArg some (tw_st hp 0 (by decide) rfl)
theorem tg_56 (hp : p.length = 589) : jv_gf (tw_h p s q) 589 [(0, 56, .int)] = some (.int (s.1 56)) := jv_gf_at (tw_at hp 0 rfl) rfl rfl
theorem tp_56 (hp : p.length = 589) : jv_pf (tw_h p s q) 589 [(0, 56, .int)] (.int v) = some (tw_h p (tw_i s 56 v) q) := by
  rw [jv_pf_at (tw_at hp 0 rfl) rfl (by decide) (Nat.le_of_ble_eq_true rfl) rfl rfl]
  exact congrArg some (tw_st hp 0 (by decide) rfl)
theorem tg_57 (hp : p.length = 589) : jv_gf (tw_h p s q) 589 [(0, 57, .array .int)] = some (.ref 625) := jv_gf_at (tw_at hp 0 rfl) rfl rfl
theorem tg_58 (hp : p.length = 589) : jv_gf (tw_h p s q) 589 [(0, 58, .array .int)] = some (.ref 626) := jv_gf_at (tw_at hp 0 rfl) rfl rfl
theorem tg_59 (hp : p.length = 589) : jv_gf (tw_h p s q) 589 [(0, 59, .array .int)] = some (.ref 627) := jv_gf_at (tw_at hp 0 rfl) rfl rfl
theorem tg_60 (hp : p.length = 589) : jv_gf (tw_h p s q) 589 [(0, 60, .array .int)] = some (.ref 628) := jv_gf_at (tw_at hp 0 rfl) rfl rfl
theorem tg_61 (hp : p.length = 589) : jv_gf (tw_h p s q) 589 [(0, 61, .int)] = some (.int (s.1 61)) := jv_gf_at (tw_at hp 0 rfl) rfl rfl
theorem tp_61 (hp : p.length = 589) : jv_pf (tw_h p s q) 589 [(0, 61, .int)] (.int v) = some (tw_h p (tw_i s 61 v) q) := by
  rw [jv_pf_at (tw_at hp 0 rfl) rfl (by decide) (Nat.le_of_ble_eq_true rfl) rfl rfl]
  exact congrArg some (tw_st hp 0 (by decide) rfl)
theorem tg_62 (hp : p.length = 589) : jv_gf (tw_h p s q) 589 [(0, 62, .int)] = some (.int (s.1 62)) := jv_gf_at (tw_at hp 0 rfl) rfl rfl
theorem tp_62 (hp : p.length = 589) : jv_pf (tw_h p s q) 589 [(0, 62, .int)] (.int v) = some (tw_h p (tw_i s 62 v) q) := by
  rw [jv_pf_at (tw_at hp 0 rfl) rfl (by decide) (Nat.le_of_ble_eq_true rfl) rfl rfl]
  exact congrArg some (tw_st hp 0 (by decide) rfl)
theorem tg_63 (hp : p.length = 589) : jv_gf (tw_h p s q) 589 [(0, 63, .int)] = some (.int (s.1 63)) := jv_gf_at (tw_at hp 0 rfl) rfl rfl
theorem tp_63 (hp : p.length = 589) : jv_pf (tw_h p s q) 589 [(0, 63, .int)] (.int v) = some (tw_h p (tw_i s 63 v) q) := by
  rw [jv_pf_at (tw_at hp 0 rfl) rfl (by decide) (Nat.le_of_ble_eq_true rfl) rfl rfl]
  exact congrArg some (tw_st hp 0 (by decide) rfl)
theorem tg_64 (hp : p.length = 589) : jv_gf (tw_h p s q) 589 [(0, 64, .array .int)] = some (.ref 629) := jv_gf_at (tw_at hp 0 rfl) rfl rfl
theorem tg_65 (hp : p.length = 589) : jv_gf (tw_h p s q) 589 [(0, 65, .int)] = some (.int (s.1 65)) := jv_gf_at (tw_at hp 0 rfl) rfl rfl
theorem tp_65 (hp : p.length = 589) : jv_pf (tw_h p s q) 589 [(0, 65, .int)] (.int v) = some (tw_h p (tw_i s 65 v) q) := by
  rw [jv_pf_at (tw_at hp 0 rfl) rfl (by decide) (Nat.le_of_ble_eq_true rfl) rfl rfl]
  exact congrArg some (tw_st hp 0 (by decide) rfl)
theorem tg_66 (hp : p.length = 589) : jv_gf (tw_h p s q) 589 [(0, 66, .array .int)] = some (.ref 630) := jv_gf_at (tw_at hp 0 rfl) rfl rfl
theorem tg_67 (hp : p.length = 589) : jv_gf (tw_h p s q) 589 [(0, 67, .array .int)] = some (.ref 631) := jv_gf_at (tw_at hp 0 rfl) rfl rfl
theorem tg_68 (hp : p.length = 589) : jv_gf (tw_h p s q) 589 [(0, 68, .array .boolean)] = some (.ref 632) := jv_gf_at (tw_at hp 0 rfl) rfl rfl
theorem tg_69 (hp : p.length = 589) : jv_gf (tw_h p s q) 589 [(0, 69, .array .int)] = some (.ref 633) := jv_gf_at (tw_at hp 0 rfl) rfl rfl
theorem tg_70 (hp : p.length = 589) : jv_gf (tw_h p s q) 589 [(0, 70, .array .boolean)] = some (.ref 634) := jv_gf_at (tw_at hp 0 rfl) rfl rfl
theorem tg_71 (hp : p.length = 589) : jv_gf (tw_h p s q) 589 [(0, 71, .array .int)] = some (.ref 635) := jv_gf_at (tw_at hp 0 rfl) rfl rfl
theorem tr_1 (hp : p.length = 589) : jv_ig (tw_h p s q) 590 1 2 i = if i < 0 ∨ 2000 ≤ i.toNatClampNeg then none else some (s.2.1 1 i.toNatClampNeg) := jv_ig_at (tw_at hp 1 rfl) (Or.inl rfl)
theorem tu_1 (hp : p.length = 589) : jv_ip (tw_h p s q) 590 1 2 i x = if i < 0 ∨ 2000 ≤ i.toNatClampNeg then none else some (tw_h p (tw_a s 1 (upd (s.2.1 1) i.toNatClampNeg (vp_nar .byte x))) q) := by
  rw [jv_ip_at (tw_at hp 1 rfl) (Or.inl rfl) (by decide), show jv_nar 1 x = (vp_nar .byte x) from rfl, show (tw_h p s q).set (589 + 1) (.inl (1, 2000, .inl (upd (s.2.1 1) i.toNatClampNeg (vp_nar .byte x)))) = tw_h p (tw_a s 1 (upd (s.2.1 1) i.toNatClampNeg (vp_nar .byte x))) q from tw_st hp 1 (by decide) rfl]
theorem tr_3 (hp : p.length = 589) : jv_ig (tw_h p s q) 591 1 2 i = if i < 0 ∨ 2000 ≤ i.toNatClampNeg then none else some (s.2.1 3 i.toNatClampNeg) := jv_ig_at (tw_at hp 2 rfl) (Or.inl rfl)
theorem tu_3 (hp : p.length = 589) : jv_ip (tw_h p s q) 591 1 2 i x = if i < 0 ∨ 2000 ≤ i.toNatClampNeg then none else some (tw_h p (tw_a s 3 (upd (s.2.1 3) i.toNatClampNeg (vp_nar .byte x))) q) := by
  rw [jv_ip_at (tw_at hp 2 rfl) (Or.inl rfl) (by decide), show jv_nar 1 x = (vp_nar .byte x) from rfl, show (tw_h p s q).set (589 + 2) (.inl (1, 2000, .inl (upd (s.2.1 3) i.toNatClampNeg (vp_nar .byte x)))) = tw_h p (tw_a s 3 (upd (s.2.1 3) i.toNatClampNeg (vp_nar .byte x))) q from tw_st hp 2 (by decide) rfl]
theorem tr_5 (hp : p.length = 589) : jv_ig (tw_h p s q) 592 0 0 i = if i < 0 ∨ 403 ≤ i.toNatClampNeg then none else some (s.2.1 5 i.toNatClampNeg) := jv_ig_at (tw_at hp 3 rfl) (Or.inl rfl)
theorem tu_5 (hp : p.length = 589) : jv_ip (tw_h p s q) 592 0 0 i x = if i < 0 ∨ 403 ≤ i.toNatClampNeg then none else some (tw_h p (tw_a s 5 (upd (s.2.1 5) i.toNatClampNeg x)) q) := by
  rw [jv_ip_at (tw_at hp 3 rfl) (Or.inl rfl) (by decide), show jv_nar 0 x = x from rfl, show (tw_h p s q).set (589 + 3) (.inl (0, 403, .inl (upd (s.2.1 5) i.toNatClampNeg x))) = tw_h p (tw_a s 5 (upd (s.2.1 5) i.toNatClampNeg x)) q from tw_st hp 3 (by decide) rfl]
theorem tr_6 (hp : p.length = 589) : jv_ig (tw_h p s q) 593 0 0 i = if i < 0 ∨ 403 ≤ i.toNatClampNeg then none else some (s.2.1 6 i.toNatClampNeg) := jv_ig_at (tw_at hp 4 rfl) (Or.inl rfl)
theorem tu_6 (hp : p.length = 589) : jv_ip (tw_h p s q) 593 0 0 i x = if i < 0 ∨ 403 ≤ i.toNatClampNeg then none else some (tw_h p (tw_a s 6 (upd (s.2.1 6) i.toNatClampNeg x)) q) := by
  rw [jv_ip_at (tw_at hp 4 rfl) (Or.inl rfl) (by decide), show jv_nar 0 x = x from rfl, show (tw_h p s q).set (589 + 4) (.inl (0, 403, .inl (upd (s.2.1 6) i.toNatClampNeg x))) = tw_h p (tw_a s 6 (upd (s.2.1 6) i.toNatClampNeg x)) q from tw_st hp 4 (by decide) rfl]
theorem tr_7 (hp : p.length = 589) : jv_ig (tw_h p s q) 594 0 0 i = if i < 0 ∨ 403 ≤ i.toNatClampNeg then none else some (s.2.1 7 i.toNatClampNeg) := jv_ig_at (tw_at hp 5 rfl) (Or.inl rfl)
theorem tu_7 (hp : p.length = 589) : jv_ip (tw_h p s q) 594 0 0 i x = if i < 0 ∨ 403 ≤ i.toNatClampNeg then none else some (tw_h p (tw_a s 7 (upd (s.2.1 7) i.toNatClampNeg x)) q) := by
  rw [jv_ip_at (tw_at hp 5 rfl) (Or.inl rfl) (by decide), show jv_nar 0 x = x from rfl, show (tw_h p s q).set (589 + 5) (.inl (0, 403, .inl (upd (s.2.1 7) i.toNatClampNeg x))) = tw_h p (tw_a s 7 (upd (s.2.1 7) i.toNatClampNeg x)) q from tw_st hp 5 (by decide) rfl]
theorem tr_8 (hp : p.length = 589) : jv_lg (tw_h p s q) 595 i = if i < 0 ∨ 403 ≤ i.toNatClampNeg then none else some (s.2.2 8 i.toNatClampNeg) := jv_lg_at (tw_at hp 6 rfl)
theorem tu_8 (hp : p.length = 589) : jv_lp (tw_h p s q) 595 i xl = if i < 0 ∨ 403 ≤ i.toNatClampNeg then none else some (tw_h p (tw_l s 8 (vp_updL (s.2.2 8) i.toNatClampNeg xl)) q) := by
  rw [jv_lp_at (tw_at hp 6 rfl) (by decide), show (tw_h p s q).set (589 + 6) (.inl (4, 403, .inr (.inl (vp_updL (s.2.2 8) i.toNatClampNeg xl)))) = tw_h p (tw_l s 8 (vp_updL (s.2.2 8) i.toNatClampNeg xl)) q from tw_st hp 6 (by decide) rfl]
theorem tr_9 (hp : p.length = 589) : jv_lg (tw_h p s q) 596 i = if i < 0 ∨ 21 ≤ i.toNatClampNeg then none else some (s.2.2 9 i.toNatClampNeg) := jv_lg_at (tw_at hp 7 rfl)
theorem tu_9 (hp : p.length = 589) : jv_lp (tw_h p s q) 596 i xl = if i < 0 ∨ 21 ≤ i.toNatClampNeg then none else some (tw_h p (tw_l s 9 (vp_updL (s.2.2 9) i.toNatClampNeg xl)) q) := by
  rw [jv_lp_at (tw_at hp 7 rfl) (by decide), show (tw_h p s q).set (589 + 7) (.inl (4, 21, .inr (.inl (vp_updL (s.2.2 9) i.toNatClampNeg xl)))) = tw_h p (tw_l s 9 (vp_updL (s.2.2 9) i.toNatClampNeg xl)) q from tw_st hp 7 (by decide) rfl]
theorem tr_21 (hp : p.length = 589) : jv_lg (tw_h p s q) 597 i = if i < 0 ∨ 10 ≤ i.toNatClampNeg then none else some (s.2.2 21 i.toNatClampNeg) := jv_lg_at (tw_at hp 8 rfl)
theorem tu_21 (hp : p.length = 589) : jv_lp (tw_h p s q) 597 i xl = if i < 0 ∨ 10 ≤ i.toNatClampNeg then none else some (tw_h p (tw_l s 21 (vp_updL (s.2.2 21) i.toNatClampNeg xl)) q) := by
  rw [jv_lp_at (tw_at hp 8 rfl) (by decide), show (tw_h p s q).set (589 + 8) (.inl (4, 10, .inr (.inl (vp_updL (s.2.2 21) i.toNatClampNeg xl)))) = tw_h p (tw_l s 21 (vp_updL (s.2.2 21) i.toNatClampNeg xl)) q from tw_st hp 8 (by decide) rfl]
theorem tr_22 (hp : p.length = 589) : jv_ig (tw_h p s q) 598 0 0 i = if i < 0 ∨ 2 ≤ i.toNatClampNeg then none else some (s.2.1 22 i.toNatClampNeg) := jv_ig_at (tw_at hp 9 rfl) (Or.inl rfl)
theorem tu_22 (hp : p.length = 589) : jv_ip (tw_h p s q) 598 0 0 i x = if i < 0 ∨ 2 ≤ i.toNatClampNeg then none else some (tw_h p (tw_a s 22 (upd (s.2.1 22) i.toNatClampNeg x)) q) := by
  rw [jv_ip_at (tw_at hp 9 rfl) (Or.inl rfl) (by decide), show jv_nar 0 x = x from rfl, show (tw_h p s q).set (589 + 9) (.inl (0, 2, .inl (upd (s.2.1 22) i.toNatClampNeg x))) = tw_h p (tw_a s 22 (upd (s.2.1 22) i.toNatClampNeg x)) q from tw_st hp 9 (by decide) rfl]
theorem tr_23 (hp : p.length = 589) : jv_ig (tw_h p s q) 599 0 0 i = if i < 0 ∨ 2 ≤ i.toNatClampNeg then none else some (s.2.1 23 i.toNatClampNeg) := jv_ig_at (tw_at hp 10 rfl) (Or.inl rfl)
theorem tu_23 (hp : p.length = 589) : jv_ip (tw_h p s q) 599 0 0 i x = if i < 0 ∨ 2 ≤ i.toNatClampNeg then none else some (tw_h p (tw_a s 23 (upd (s.2.1 23) i.toNatClampNeg x)) q) := by
  rw [jv_ip_at (tw_at hp 10 rfl) (Or.inl rfl) (by decide), show jv_nar 0 x = x from rfl, show (tw_h p s q).set (589 + 10) (.inl (0, 2, .inl (upd (s.2.1 23) i.toNatClampNeg x))) = tw_h p (tw_a s 23 (upd (s.2.1 23) i.toNatClampNeg x)) q from tw_st hp 10 (by decide) rfl]
theorem tr_24 (hp : p.length = 589) : jv_ig (tw_h p s q) 600 0 0 i = if i < 0 ∨ 96 ≤ i.toNatClampNeg then none else some (s.2.1 24 i.toNatClampNeg) := jv_ig_at (tw_at hp 11 rfl) (Or.inl rfl)
theorem tu_24 (hp : p.length = 589) : jv_ip (tw_h p s q) 600 0 0 i x = if i < 0 ∨ 96 ≤ i.toNatClampNeg then none else some (tw_h p (tw_a s 24 (upd (s.2.1 24) i.toNatClampNeg x)) q) := by
  rw [jv_ip_at (tw_at hp 11 rfl) (Or.inl rfl) (by decide), show jv_nar 0 x = x from rfl, show (tw_h p s q).set (589 + 11) (.inl (0, 96, .inl (upd (s.2.1 24) i.toNatClampNeg x))) = tw_h p (tw_a s 24 (upd (s.2.1 24) i.toNatClampNeg x)) q from tw_st hp 11 (by decide) rfl]
theorem tr_25 (hp : p.length = 589) : jv_ig (tw_h p s q) 601 0 0 i = if i < 0 ∨ 2 ≤ i.toNatClampNeg then none else some (s.2.1 25 i.toNatClampNeg) := jv_ig_at (tw_at hp 12 rfl) (Or.inl rfl)
theorem tu_25 (hp : p.length = 589) : jv_ip (tw_h p s q) 601 0 0 i x = if i < 0 ∨ 2 ≤ i.toNatClampNeg then none else some (tw_h p (tw_a s 25 (upd (s.2.1 25) i.toNatClampNeg x)) q) := by
  rw [jv_ip_at (tw_at hp 12 rfl) (Or.inl rfl) (by decide), show jv_nar 0 x = x from rfl, show (tw_h p s q).set (589 + 12) (.inl (0, 2, .inl (upd (s.2.1 25) i.toNatClampNeg x))) = tw_h p (tw_a s 25 (upd (s.2.1 25) i.toNatClampNeg x)) q from tw_st hp 12 (by decide) rfl]
theorem tr_26 (hp : p.length = 589) : jv_ig (tw_h p s q) 602 0 0 i = if i < 0 ∨ 12 ≤ i.toNatClampNeg then none else some (s.2.1 26 i.toNatClampNeg) := jv_ig_at (tw_at hp 13 rfl) (Or.inl rfl)
theorem tu_26 (hp : p.length = 589) : jv_ip (tw_h p s q) 602 0 0 i x = if i < 0 ∨ 12 ≤ i.toNatClampNeg then none else some (tw_h p (tw_a s 26 (upd (s.2.1 26) i.toNatClampNeg x)) q) := by
  rw [jv_ip_at (tw_at hp 13 rfl) (Or.inl rfl) (by decide), show jv_nar 0 x = x from rfl, show (tw_h p s q).set (589 + 13) (.inl (0, 12, .inl (upd (s.2.1 26) i.toNatClampNeg x))) = tw_h p (tw_a s 26 (upd (s.2.1 26) i.toNatClampNeg x)) q from tw_st hp 13 (by decide) rfl]
theorem tr_27 (hp : p.length = 589) : jv_ig (tw_h p s q) 603 0 0 i = if i < 0 ∨ 12 ≤ i.toNatClampNeg then none else some (s.2.1 27 i.toNatClampNeg) := jv_ig_at (tw_at hp 14 rfl) (Or.inl rfl)
theorem tu_27 (hp : p.length = 589) : jv_ip (tw_h p s q) 603 0 0 i x = if i < 0 ∨ 12 ≤ i.toNatClampNeg then none else some (tw_h p (tw_a s 27 (upd (s.2.1 27) i.toNatClampNeg x)) q) := by
  rw [jv_ip_at (tw_at hp 14 rfl) (Or.inl rfl) (by decide), show jv_nar 0 x = x from rfl, show (tw_h p s q).set (589 + 14) (.inl (0, 12, .inl (upd (s.2.1 27) i.toNatClampNeg x))) = tw_h p (tw_a s 27 (upd (s.2.1 27) i.toNatClampNeg x)) q from tw_st hp 14 (by decide) rfl]
theorem tr_28 (hp : p.length = 589) : jv_ig (tw_h p s q) 604 0 0 i = if i < 0 ∨ 2 ≤ i.toNatClampNeg then none else some (s.2.1 28 i.toNatClampNeg) := jv_ig_at (tw_at hp 15 rfl) (Or.inl rfl)
theorem tu_28 (hp : p.length = 589) : jv_ip (tw_h p s q) 604 0 0 i x = if i < 0 ∨ 2 ≤ i.toNatClampNeg then none else some (tw_h p (tw_a s 28 (upd (s.2.1 28) i.toNatClampNeg x)) q) := by
  rw [jv_ip_at (tw_at hp 15 rfl) (Or.inl rfl) (by decide), show jv_nar 0 x = x from rfl, show (tw_h p s q).set (589 + 15) (.inl (0, 2, .inl (upd (s.2.1 28) i.toNatClampNeg x))) = tw_h p (tw_a s 28 (upd (s.2.1 28) i.toNatClampNeg x)) q from tw_st hp 15 (by decide) rfl]
theorem tr_29 (hp : p.length = 589) : jv_ig (tw_h p s q) 605 0 0 i = if i < 0 ∨ 8 ≤ i.toNatClampNeg then none else some (s.2.1 29 i.toNatClampNeg) := jv_ig_at (tw_at hp 16 rfl) (Or.inl rfl)
theorem tu_29 (hp : p.length = 589) : jv_ip (tw_h p s q) 605 0 0 i x = if i < 0 ∨ 8 ≤ i.toNatClampNeg then none else some (tw_h p (tw_a s 29 (upd (s.2.1 29) i.toNatClampNeg x)) q) := by
  rw [jv_ip_at (tw_at hp 16 rfl) (Or.inl rfl) (by decide), show jv_nar 0 x = x from rfl, show (tw_h p s q).set (589 + 16) (.inl (0, 8, .inl (upd (s.2.1 29) i.toNatClampNeg x))) = tw_h p (tw_a s 29 (upd (s.2.1 29) i.toNatClampNeg x)) q from tw_st hp 16 (by decide) rfl]
theorem tr_30 (hp : p.length = 589) : jv_ig (tw_h p s q) 606 0 0 i = if i < 0 ∨ 8 ≤ i.toNatClampNeg then none else some (s.2.1 30 i.toNatClampNeg) := jv_ig_at (tw_at hp 17 rfl) (Or.inl rfl)
theorem tu_30 (hp : p.length = 589) : jv_ip (tw_h p s q) 606 0 0 i x = if i < 0 ∨ 8 ≤ i.toNatClampNeg then none else some (tw_h p (tw_a s 30 (upd (s.2.1 30) i.toNatClampNeg x)) q) := by
  rw [jv_ip_at (tw_at hp 17 rfl) (Or.inl rfl) (by decide), show jv_nar 0 x = x from rfl, show (tw_h p s q).set (589 + 17) (.inl (0, 8, .inl (upd (s.2.1 30) i.toNatClampNeg x))) = tw_h p (tw_a s 30 (upd (s.2.1 30) i.toNatClampNeg x)) q from tw_st hp 17 (by decide) rfl]
theorem tr_31 (hp : p.length = 589) : jv_ig (tw_h p s q) 607 0 0 i = if i < 0 ∨ 2 ≤ i.toNatClampNeg then none else some (s.2.1 31 i.toNatClampNeg) := jv_ig_at (tw_at hp 18 rfl) (Or.inl rfl)
theorem tu_31 (hp : p.length = 589) : jv_ip (tw_h p s q) 607 0 0 i x = if i < 0 ∨ 2 ≤ i.toNatClampNeg then none else some (tw_h p (tw_a s 31 (upd (s.2.1 31) i.toNatClampNeg x)) q) := by
  rw [jv_ip_at (tw_at hp 18 rfl) (Or.inl rfl) (by decide), show jv_nar 0 x = x from rfl, show (tw_h p s q).set (589 + 18) (.inl (0, 2, .inl (upd (s.2.1 31) i.toNatClampNeg x))) = tw_h p (tw_a s 31 (upd (s.2.1 31) i.toNatClampNeg x)) q from tw_st hp 18 (by decide) rfl]
theorem tr_32 (hp : p.length = 589) : jv_ig (tw_h p s q) 608 0 0 i = if i < 0 ∨ 2 ≤ i.toNatClampNeg then none else some (s.2.1 32 i.toNatClampNeg) := jv_ig_at (tw_at hp 19 rfl) (Or.inl rfl)
theorem tu_32 (hp : p.length = 589) : jv_ip (tw_h p s q) 608 0 0 i x = if i < 0 ∨ 2 ≤ i.toNatClampNeg then none else some (tw_h p (tw_a s 32 (upd (s.2.1 32) i.toNatClampNeg x)) q) := by
  rw [jv_ip_at (tw_at hp 19 rfl) (Or.inl rfl) (by decide), show jv_nar 0 x = x from rfl, show (tw_h p s q).set (589 + 19) (.inl (0, 2, .inl (upd (s.2.1 32) i.toNatClampNeg x))) = tw_h p (tw_a s 32 (upd (s.2.1 32) i.toNatClampNeg x)) q from tw_st hp 19 (by decide) rfl]
theorem tr_33 (hp : p.length = 589) : jv_ig (tw_h p s q) 609 0 0 i = if i < 0 ∨ 2 ≤ i.toNatClampNeg then none else some (s.2.1 33 i.toNatClampNeg) := jv_ig_at (tw_at hp 20 rfl) (Or.inl rfl)
theorem tu_33 (hp : p.length = 589) : jv_ip (tw_h p s q) 609 0 0 i x = if i < 0 ∨ 2 ≤ i.toNatClampNeg then none else some (tw_h p (tw_a s 33 (upd (s.2.1 33) i.toNatClampNeg x)) q) := by
  rw [jv_ip_at (tw_at hp 20 rfl) (Or.inl rfl) (by decide), show jv_nar 0 x = x from rfl, show (tw_h p s q).set (589 + 20) (.inl (0, 2, .inl (upd (s.2.1 33) i.toNatClampNeg x))) = tw_h p (tw_a s 33 (upd (s.2.1 33) i.toNatClampNeg x)) q from tw_st hp 20 (by decide) rfl]
theorem tr_34 (hp : p.length = 589) : jv_ig (tw_h p s q) 610 0 0 i = if i < 0 ∨ 6 ≤ i.toNatClampNeg then none else some (s.2.1 34 i.toNatClampNeg) := jv_ig_at (tw_at hp 21 rfl) (Or.inl rfl)
theorem tu_34 (hp : p.length = 589) : jv_ip (tw_h p s q) 610 0 0 i x = if i < 0 ∨ 6 ≤ i.toNatClampNeg then none else some (tw_h p (tw_a s 34 (upd (s.2.1 34) i.toNatClampNeg x)) q) := by
  rw [jv_ip_at (tw_at hp 21 rfl) (Or.inl rfl) (by decide), show jv_nar 0 x = x from rfl, show (tw_h p s q).set (589 + 21) (.inl (0, 6, .inl (upd (s.2.1 34) i.toNatClampNeg x))) = tw_h p (tw_a s 34 (upd (s.2.1 34) i.toNatClampNeg x)) q from tw_st hp 21 (by decide) rfl]
theorem tr_35 (hp : p.length = 589) : jv_ig (tw_h p s q) 611 0 0 i = if i < 0 ∨ 6 ≤ i.toNatClampNeg then none else some (s.2.1 35 i.toNatClampNeg) := jv_ig_at (tw_at hp 22 rfl) (Or.inl rfl)
theorem tu_35 (hp : p.length = 589) : jv_ip (tw_h p s q) 611 0 0 i x = if i < 0 ∨ 6 ≤ i.toNatClampNeg then none else some (tw_h p (tw_a s 35 (upd (s.2.1 35) i.toNatClampNeg x)) q) := by
  rw [jv_ip_at (tw_at hp 22 rfl) (Or.inl rfl) (by decide), show jv_nar 0 x = x from rfl, show (tw_h p s q).set (589 + 22) (.inl (0, 6, .inl (upd (s.2.1 35) i.toNatClampNeg x))) = tw_h p (tw_a s 35 (upd (s.2.1 35) i.toNatClampNeg x)) q from tw_st hp 22 (by decide) rfl]
theorem tr_37 (hp : p.length = 589) : jv_ig (tw_h p s q) 612 1 2 i = if i < 0 ∨ 260 ≤ i.toNatClampNeg then none else some (s.2.1 37 i.toNatClampNeg) := jv_ig_at (tw_at hp 23 rfl) (Or.inr rfl)
theorem tu_37 (hp : p.length = 589) : jv_ip (tw_h p s q) 612 1 2 i x = if i < 0 ∨ 260 ≤ i.toNatClampNeg then none else some (tw_h p (tw_a s 37 (upd (s.2.1 37) i.toNatClampNeg (vp_nar .boolean x))) q) := by
  rw [jv_ip_at (tw_at hp 23 rfl) (Or.inr rfl) (by decide), show jv_nar 2 x = (vp_nar .boolean x) from rfl, show (tw_h p s q).set (589 + 23) (.inl (2, 260, .inl (upd (s.2.1 37) i.toNatClampNeg (vp_nar .boolean x)))) = tw_h p (tw_a s 37 (upd (s.2.1 37) i.toNatClampNeg (vp_nar .boolean x))) q from tw_st hp 23 (by decide) rfl]
theorem tr_38 (hp : p.length = 589) : jv_ig (tw_h p s q) 613 0 0 i = if i < 0 ∨ 260 ≤ i.toNatClampNeg then none else some (s.2.1 38 i.toNatClampNeg) := jv_ig_at (tw_at hp 24 rfl) (Or.inl rfl)
theorem tu_38 (hp : p.length = 589) : jv_ip (tw_h p s q) 613 0 0 i x = if i < 0 ∨ 260 ≤ i.toNatClampNeg then none else some (tw_h p (tw_a s 38 (upd (s.2.1 38) i.toNatClampNeg x)) q) := by
  rw [jv_ip_at (tw_at hp 24 rfl) (Or.inl rfl) (by decide), show jv_nar 0 x = x from rfl, show (tw_h p s q).set (589 + 24) (.inl (0, 260, .inl (upd (s.2.1 38) i.toNatClampNeg x))) = tw_h p (tw_a s 38 (upd (s.2.1 38) i.toNatClampNeg x)) q from tw_st hp 24 (by decide) rfl]
theorem tr_39 (hp : p.length = 589) : jv_ig (tw_h p s q) 614 0 0 i = if i < 0 ∨ 260 ≤ i.toNatClampNeg then none else some (s.2.1 39 i.toNatClampNeg) := jv_ig_at (tw_at hp 25 rfl) (Or.inl rfl)
theorem tu_39 (hp : p.length = 589) : jv_ip (tw_h p s q) 614 0 0 i x = if i < 0 ∨ 260 ≤ i.toNatClampNeg then none else some (tw_h p (tw_a s 39 (upd (s.2.1 39) i.toNatClampNeg x)) q) := by
  rw [jv_ip_at (tw_at hp 25 rfl) (Or.inl rfl) (by decide), show jv_nar 0 x = x from rfl, show (tw_h p s q).set (589 + 25) (.inl (0, 260, .inl (upd (s.2.1 39) i.toNatClampNeg x))) = tw_h p (tw_a s 39 (upd (s.2.1 39) i.toNatClampNeg x)) q from tw_st hp 25 (by decide) rfl]
theorem tr_40 (hp : p.length = 589) : jv_ig (tw_h p s q) 615 0 0 i = if i < 0 ∨ 260 ≤ i.toNatClampNeg then none else some (s.2.1 40 i.toNatClampNeg) := jv_ig_at (tw_at hp 26 rfl) (Or.inl rfl)
theorem tu_40 (hp : p.length = 589) : jv_ip (tw_h p s q) 615 0 0 i x = if i < 0 ∨ 260 ≤ i.toNatClampNeg then none else some (tw_h p (tw_a s 40 (upd (s.2.1 40) i.toNatClampNeg x)) q) := by
  rw [jv_ip_at (tw_at hp 26 rfl) (Or.inl rfl) (by decide), show jv_nar 0 x = x from rfl, show (tw_h p s q).set (589 + 26) (.inl (0, 260, .inl (upd (s.2.1 40) i.toNatClampNeg x))) = tw_h p (tw_a s 40 (upd (s.2.1 40) i.toNatClampNeg x)) q from tw_st hp 26 (by decide) rfl]
theorem tr_41 (hp : p.length = 589) : jv_ig (tw_h p s q) 616 0 0 i = if i < 0 ∨ 260 ≤ i.toNatClampNeg then none else some (s.2.1 41 i.toNatClampNeg) := jv_ig_at (tw_at hp 27 rfl) (Or.inl rfl)
theorem tu_41 (hp : p.length = 589) : jv_ip (tw_h p s q) 616 0 0 i x = if i < 0 ∨ 260 ≤ i.toNatClampNeg then none else some (tw_h p (tw_a s 41 (upd (s.2.1 41) i.toNatClampNeg x)) q) := by
  rw [jv_ip_at (tw_at hp 27 rfl) (Or.inl rfl) (by decide), show jv_nar 0 x = x from rfl, show (tw_h p s q).set (589 + 27) (.inl (0, 260, .inl (upd (s.2.1 41) i.toNatClampNeg x))) = tw_h p (tw_a s 41 (upd (s.2.1 41) i.toNatClampNeg x)) q from tw_st hp 27 (by decide) rfl]
theorem tr_43 (hp : p.length = 589) : jv_ig (tw_h p s q) 617 0 0 i = if i < 0 ∨ 840 ≤ i.toNatClampNeg then none else some (s.2.1 43 i.toNatClampNeg) := jv_ig_at (tw_at hp 28 rfl) (Or.inl rfl)
theorem tu_43 (hp : p.length = 589) : jv_ip (tw_h p s q) 617 0 0 i x = if i < 0 ∨ 840 ≤ i.toNatClampNeg then none else some (tw_h p (tw_a s 43 (upd (s.2.1 43) i.toNatClampNeg x)) q) := by
  rw [jv_ip_at (tw_at hp 28 rfl) (Or.inl rfl) (by decide), show jv_nar 0 x = x from rfl, show (tw_h p s q).set (589 + 28) (.inl (0, 840, .inl (upd (s.2.1 43) i.toNatClampNeg x))) = tw_h p (tw_a s 43 (upd (s.2.1 43) i.toNatClampNeg x)) q from tw_st hp 28 (by decide) rfl]
theorem tr_44 (hp : p.length = 589) : jv_ig (tw_h p s q) 618 0 0 i = if i < 0 ∨ 840 ≤ i.toNatClampNeg then none else some (s.2.1 44 i.toNatClampNeg) := jv_ig_at (tw_at hp 29 rfl) (Or.inl rfl)
theorem tu_44 (hp : p.length = 589) : jv_ip (tw_h p s q) 618 0 0 i x = if i < 0 ∨ 840 ≤ i.toNatClampNeg then none else some (tw_h p (tw_a s 44 (upd (s.2.1 44) i.toNatClampNeg x)) q) := by
  rw [jv_ip_at (tw_at hp 29 rfl) (Or.inl rfl) (by decide), show jv_nar 0 x = x from rfl, show (tw_h p s q).set (589 + 29) (.inl (0, 840, .inl (upd (s.2.1 44) i.toNatClampNeg x))) = tw_h p (tw_a s 44 (upd (s.2.1 44) i.toNatClampNeg x)) q from tw_st hp 29 (by decide) rfl]
theorem tr_45 (hp : p.length = 589) : jv_ig (tw_h p s q) 619 0 0 i = if i < 0 ∨ 64 ≤ i.toNatClampNeg then none else some (s.2.1 45 i.toNatClampNeg) := jv_ig_at (tw_at hp 30 rfl) (Or.inl rfl)
theorem tu_45 (hp : p.length = 589) : jv_ip (tw_h p s q) 619 0 0 i x = if i < 0 ∨ 64 ≤ i.toNatClampNeg then none else some (tw_h p (tw_a s 45 (upd (s.2.1 45) i.toNatClampNeg x)) q) := by
  rw [jv_ip_at (tw_at hp 30 rfl) (Or.inl rfl) (by decide), show jv_nar 0 x = x from rfl, show (tw_h p s q).set (589 + 30) (.inl (0, 64, .inl (upd (s.2.1 45) i.toNatClampNeg x))) = tw_h p (tw_a s 45 (upd (s.2.1 45) i.toNatClampNeg x)) q from tw_st hp 30 (by decide) rfl]
theorem tr_47 (hp : p.length = 589) : jv_ig (tw_h p s q) 620 0 0 i = if i < 0 ∨ 9 ≤ i.toNatClampNeg then none else some (s.2.1 47 i.toNatClampNeg) := jv_ig_at (tw_at hp 31 rfl) (Or.inl rfl)
theorem tu_47 (hp : p.length = 589) : jv_ip (tw_h p s q) 620 0 0 i x = if i < 0 ∨ 9 ≤ i.toNatClampNeg then none else some (tw_h p (tw_a s 47 (upd (s.2.1 47) i.toNatClampNeg x)) q) := by
  rw [jv_ip_at (tw_at hp 31 rfl) (Or.inl rfl) (by decide), show jv_nar 0 x = x from rfl, show (tw_h p s q).set (589 + 31) (.inl (0, 9, .inl (upd (s.2.1 47) i.toNatClampNeg x))) = tw_h p (tw_a s 47 (upd (s.2.1 47) i.toNatClampNeg x)) q from tw_st hp 31 (by decide) rfl]
theorem tr_48 (hp : p.length = 589) : jv_ig (tw_h p s q) 621 0 0 i = if i < 0 ∨ 400 ≤ i.toNatClampNeg then none else some (s.2.1 48 i.toNatClampNeg) := jv_ig_at (tw_at hp 32 rfl) (Or.inl rfl)
theorem tu_48 (hp : p.length = 589) : jv_ip (tw_h p s q) 621 0 0 i x = if i < 0 ∨ 400 ≤ i.toNatClampNeg then none else some (tw_h p (tw_a s 48 (upd (s.2.1 48) i.toNatClampNeg x)) q) := by
  rw [jv_ip_at (tw_at hp 32 rfl) (Or.inl rfl) (by decide), show jv_nar 0 x = x from rfl, show (tw_h p s q).set (589 + 32) (.inl (0, 400, .inl (upd (s.2.1 48) i.toNatClampNeg x))) = tw_h p (tw_a s 48 (upd (s.2.1 48) i.toNatClampNeg x)) q from tw_st hp 32 (by decide) rfl]
theorem tr_50 (hp : p.length = 589) : jv_ig (tw_h p s q) 622 0 0 i = if i < 0 ∨ 92 ≤ i.toNatClampNeg then none else some (s.2.1 50 i.toNatClampNeg) := jv_ig_at (tw_at hp 33 rfl) (Or.inl rfl)
theorem tu_50 (hp : p.length = 589) : jv_ip (tw_h p s q) 622 0 0 i x = if i < 0 ∨ 92 ≤ i.toNatClampNeg then none else some (tw_h p (tw_a s 50 (upd (s.2.1 50) i.toNatClampNeg x)) q) := by
  rw [jv_ip_at (tw_at hp 33 rfl) (Or.inl rfl) (by decide), show jv_nar 0 x = x from rfl, show (tw_h p s q).set (589 + 33) (.inl (0, 92, .inl (upd (s.2.1 50) i.toNatClampNeg x))) = tw_h p (tw_a s 50 (upd (s.2.1 50) i.toNatClampNeg x)) q from tw_st hp 33 (by decide) rfl]
theorem tr_51 (hp : p.length = 589) : jv_ig (tw_h p s q) 623 0 0 i = if i < 0 ∨ 92 ≤ i.toNatClampNeg then none else some (s.2.1 51 i.toNatClampNeg) := jv_ig_at (tw_at hp 34 rfl) (Or.inl rfl)
theorem tu_51 (hp : p.length = 589) : jv_ip (tw_h p s q) 623 0 0 i x = if i < 0 ∨ 92 ≤ i.toNatClampNeg then none else some (tw_h p (tw_a s 51 (upd (s.2.1 51) i.toNatClampNeg x)) q) := by
  rw [jv_ip_at (tw_at hp 34 rfl) (Or.inl rfl) (by decide), show jv_nar 0 x = x from rfl, show (tw_h p s q).set (589 + 34) (.inl (0, 92, .inl (upd (s.2.1 51) i.toNatClampNeg x))) = tw_h p (tw_a s 51 (upd (s.2.1 51) i.toNatClampNeg x)) q from tw_st hp 34 (by decide) rfl]
theorem tr_54 (hp : p.length = 589) : jv_ig (tw_h p s q) 624 0 0 i = if i < 0 ∨ 2760 ≤ i.toNatClampNeg then none else some (s.2.1 54 i.toNatClampNeg) := jv_ig_at (tw_at hp 35 rfl) (Or.inl rfl)
theorem tu_54 (hp : p.length = 589) : jv_ip (tw_h p s q) 624 0 0 i x = if i < 0 ∨ 2760 ≤ i.toNatClampNeg then none else some (tw_h p (tw_a s 54 (upd (s.2.1 54) i.toNatClampNeg x)) q) := by
  rw [jv_ip_at (tw_at hp 35 rfl) (Or.inl rfl) (by decide), show jv_nar 0 x = x from rfl, show (tw_h p s q).set (589 + 35) (.inl (0, 2760, .inl (upd (s.2.1 54) i.toNatClampNeg x))) = tw_h p (tw_a s 54 (upd (s.2.1 54) i.toNatClampNeg x)) q from tw_st hp 35 (by decide) rfl]
theorem tr_57 (hp : p.length = 589) : jv_ig (tw_h p s q) 625 0 0 i = if i < 0 ∨ 4 ≤ i.toNatClampNeg then none else some (s.2.1 57 i.toNatClampNeg) := jv_ig_at (tw_at hp 36 rfl) (Or.inl rfl)
theorem tu_57 (hp : p.length = 589) : jv_ip (tw_h p s q) 625 0 0 i x = if i < 0 ∨ 4 ≤ i.toNatClampNeg then none else some (tw_h p (tw_a s 57 (upd (s.2.1 57) i.toNatClampNeg x)) q) := by
  rw [jv_ip_at (tw_at hp 36 rfl) (Or.inl rfl) (by decide), show jv_nar 0 x = x from rfl, show (tw_h p s q).set (589 + 36) (.inl (0, 4, .inl (upd (s.2.1 57) i.toNatClampNeg x))) = tw_h p (tw_a s 57 (upd (s.2.1 57) i.toNatClampNeg x)) q from tw_st hp 36 (by decide) rfl]
theorem tr_58 (hp : p.length = 589) : jv_ig (tw_h p s q) 626 0 0 i = if i < 0 ∨ 4 ≤ i.toNatClampNeg then none else some (s.2.1 58 i.toNatClampNeg) := jv_ig_at (tw_at hp 37 rfl) (Or.inl rfl)
theorem tu_58 (hp : p.length = 589) : jv_ip (tw_h p s q) 626 0 0 i x = if i < 0 ∨ 4 ≤ i.toNatClampNeg then none else some (tw_h p (tw_a s 58 (upd (s.2.1 58) i.toNatClampNeg x)) q) := by
  rw [jv_ip_at (tw_at hp 37 rfl) (Or.inl rfl) (by decide), show jv_nar 0 x = x from rfl, show (tw_h p s q).set (589 + 37) (.inl (0, 4, .inl (upd (s.2.1 58) i.toNatClampNeg x))) = tw_h p (tw_a s 58 (upd (s.2.1 58) i.toNatClampNeg x)) q from tw_st hp 37 (by decide) rfl]
theorem tr_59 (hp : p.length = 589) : jv_ig (tw_h p s q) 627 0 0 i = if i < 0 ∨ 4 ≤ i.toNatClampNeg then none else some (s.2.1 59 i.toNatClampNeg) := jv_ig_at (tw_at hp 38 rfl) (Or.inl rfl)
theorem tu_59 (hp : p.length = 589) : jv_ip (tw_h p s q) 627 0 0 i x = if i < 0 ∨ 4 ≤ i.toNatClampNeg then none else some (tw_h p (tw_a s 59 (upd (s.2.1 59) i.toNatClampNeg x)) q) := by
  rw [jv_ip_at (tw_at hp 38 rfl) (Or.inl rfl) (by decide), show jv_nar 0 x = x from rfl, show (tw_h p s q).set (589 + 38) (.inl (0, 4, .inl (upd (s.2.1 59) i.toNatClampNeg x))) = tw_h p (tw_a s 59 (upd (s.2.1 59) i.toNatClampNeg x)) q from tw_st hp 38 (by decide) rfl]
theorem tr_60 (hp : p.length = 589) : jv_ig (tw_h p s q) 628 0 0 i = if i < 0 ∨ 24 ≤ i.toNatClampNeg then none else some (s.2.1 60 i.toNatClampNeg) := jv_ig_at (tw_at hp 39 rfl) (Or.inl rfl)
theorem tu_60 (hp : p.length = 589) : jv_ip (tw_h p s q) 628 0 0 i x = if i < 0 ∨ 24 ≤ i.toNatClampNeg then none else some (tw_h p (tw_a s 60 (upd (s.2.1 60) i.toNatClampNeg x)) q) := by
  rw [jv_ip_at (tw_at hp 39 rfl) (Or.inl rfl) (by decide), show jv_nar 0 x = x from rfl, show (tw_h p s q).set (589 + 39) (.inl (0, 24, .inl (upd (s.2.1 60) i.toNatClampNeg x))) = tw_h p (tw_a s 60 (upd (s.2.1 60) i.toNatClampNeg x)) q from tw_st hp 39 (by decide) rfl]
theorem tr_64 (hp : p.length = 589) : jv_ig (tw_h p s q) 629 0 0 i = if i < 0 ∨ 24 ≤ i.toNatClampNeg then none else some (s.2.1 64 i.toNatClampNeg) := jv_ig_at (tw_at hp 40 rfl) (Or.inl rfl)
theorem tu_64 (hp : p.length = 589) : jv_ip (tw_h p s q) 629 0 0 i x = if i < 0 ∨ 24 ≤ i.toNatClampNeg then none else some (tw_h p (tw_a s 64 (upd (s.2.1 64) i.toNatClampNeg x)) q) := by
  rw [jv_ip_at (tw_at hp 40 rfl) (Or.inl rfl) (by decide), show jv_nar 0 x = x from rfl, show (tw_h p s q).set (589 + 40) (.inl (0, 24, .inl (upd (s.2.1 64) i.toNatClampNeg x))) = tw_h p (tw_a s 64 (upd (s.2.1 64) i.toNatClampNeg x)) q from tw_st hp 40 (by decide) rfl]
theorem tr_66 (hp : p.length = 589) : jv_ig (tw_h p s q) 630 0 0 i = if i < 0 ∨ 20 ≤ i.toNatClampNeg then none else some (s.2.1 66 i.toNatClampNeg) := jv_ig_at (tw_at hp 41 rfl) (Or.inl rfl)
theorem tu_66 (hp : p.length = 589) : jv_ip (tw_h p s q) 630 0 0 i x = if i < 0 ∨ 20 ≤ i.toNatClampNeg then none else some (tw_h p (tw_a s 66 (upd (s.2.1 66) i.toNatClampNeg x)) q) := by
  rw [jv_ip_at (tw_at hp 41 rfl) (Or.inl rfl) (by decide), show jv_nar 0 x = x from rfl, show (tw_h p s q).set (589 + 41) (.inl (0, 20, .inl (upd (s.2.1 66) i.toNatClampNeg x))) = tw_h p (tw_a s 66 (upd (s.2.1 66) i.toNatClampNeg x)) q from tw_st hp 41 (by decide) rfl]
theorem tr_67 (hp : p.length = 589) : jv_ig (tw_h p s q) 631 0 0 i = if i < 0 ∨ 20 ≤ i.toNatClampNeg then none else some (s.2.1 67 i.toNatClampNeg) := jv_ig_at (tw_at hp 42 rfl) (Or.inl rfl)
theorem tu_67 (hp : p.length = 589) : jv_ip (tw_h p s q) 631 0 0 i x = if i < 0 ∨ 20 ≤ i.toNatClampNeg then none else some (tw_h p (tw_a s 67 (upd (s.2.1 67) i.toNatClampNeg x)) q) := by
  rw [jv_ip_at (tw_at hp 42 rfl) (Or.inl rfl) (by decide), show jv_nar 0 x = x from rfl, show (tw_h p s q).set (589 + 42) (.inl (0, 20, .inl (upd (s.2.1 67) i.toNatClampNeg x))) = tw_h p (tw_a s 67 (upd (s.2.1 67) i.toNatClampNeg x)) q from tw_st hp 42 (by decide) rfl]
theorem tr_68 (hp : p.length = 589) : jv_ig (tw_h p s q) 632 1 2 i = if i < 0 ∨ 256 ≤ i.toNatClampNeg then none else some (s.2.1 68 i.toNatClampNeg) := jv_ig_at (tw_at hp 43 rfl) (Or.inr rfl)
theorem tu_68 (hp : p.length = 589) : jv_ip (tw_h p s q) 632 1 2 i x = if i < 0 ∨ 256 ≤ i.toNatClampNeg then none else some (tw_h p (tw_a s 68 (upd (s.2.1 68) i.toNatClampNeg (vp_nar .boolean x))) q) := by
  rw [jv_ip_at (tw_at hp 43 rfl) (Or.inr rfl) (by decide), show jv_nar 2 x = (vp_nar .boolean x) from rfl, show (tw_h p s q).set (589 + 43) (.inl (2, 256, .inl (upd (s.2.1 68) i.toNatClampNeg (vp_nar .boolean x)))) = tw_h p (tw_a s 68 (upd (s.2.1 68) i.toNatClampNeg (vp_nar .boolean x))) q from tw_st hp 43 (by decide) rfl]
theorem tr_69 (hp : p.length = 589) : jv_ig (tw_h p s q) 633 0 0 i = if i < 0 ∨ 10 ≤ i.toNatClampNeg then none else some (s.2.1 69 i.toNatClampNeg) := jv_ig_at (tw_at hp 44 rfl) (Or.inl rfl)
theorem tu_69 (hp : p.length = 589) : jv_ip (tw_h p s q) 633 0 0 i x = if i < 0 ∨ 10 ≤ i.toNatClampNeg then none else some (tw_h p (tw_a s 69 (upd (s.2.1 69) i.toNatClampNeg x)) q) := by
  rw [jv_ip_at (tw_at hp 44 rfl) (Or.inl rfl) (by decide), show jv_nar 0 x = x from rfl, show (tw_h p s q).set (589 + 44) (.inl (0, 10, .inl (upd (s.2.1 69) i.toNatClampNeg x))) = tw_h p (tw_a s 69 (upd (s.2.1 69) i.toNatClampNeg x)) q from tw_st hp 44 (by decide) rfl]
theorem tr_70 (hp : p.length = 589) : jv_ig (tw_h p s q) 634 1 2 i = if i < 0 ∨ 3 ≤ i.toNatClampNeg then none else some (s.2.1 70 i.toNatClampNeg) := jv_ig_at (tw_at hp 45 rfl) (Or.inr rfl)
theorem tu_70 (hp : p.length = 589) : jv_ip (tw_h p s q) 634 1 2 i x = if i < 0 ∨ 3 ≤ i.toNatClampNeg then none else some (tw_h p (tw_a s 70 (upd (s.2.1 70) i.toNatClampNeg (vp_nar .boolean x))) q) := by
  rw [jv_ip_at (tw_at hp 45 rfl) (Or.inr rfl) (by decide), show jv_nar 2 x = (vp_nar .boolean x) from rfl, show (tw_h p s q).set (589 + 45) (.inl (2, 3, .inl (upd (s.2.1 70) i.toNatClampNeg (vp_nar .boolean x)))) = tw_h p (tw_a s 70 (upd (s.2.1 70) i.toNatClampNeg (vp_nar .boolean x))) q from tw_st hp 45 (by decide) rfl]
theorem tr_71 (hp : p.length = 589) : jv_ig (tw_h p s q) 635 0 0 i = if i < 0 ∨ 276 ≤ i.toNatClampNeg then none else some (s.2.1 71 i.toNatClampNeg) := jv_ig_at (tw_at hp 46 rfl) (Or.inl rfl)
theorem tu_71 (hp : p.length = 589) : jv_ip (tw_h p s q) 635 0 0 i x = if i < 0 ∨ 276 ≤ i.toNatClampNeg then none else some (tw_h p (tw_a s 71 (upd (s.2.1 71) i.toNatClampNeg x)) q) := by
  rw [jv_ip_at (tw_at hp 46 rfl) (Or.inl rfl) (by decide), show jv_nar 0 x = x from rfl, show (tw_h p s q).set (589 + 46) (.inl (0, 276, .inl (upd (s.2.1 71) i.toNatClampNeg x))) = tw_h p (tw_a s 71 (upd (s.2.1 71) i.toNatClampNeg x)) q from tw_st hp 46 (by decide) rfl]
end
