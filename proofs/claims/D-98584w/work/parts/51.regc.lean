/-! the component as a state: printed by gen_cm.py. ints; arrays of ints; lands; the text; the parser's text -/
set_option maxRecDepth 100000
abbrev cm_S : Type := (Nat → Int32) × (Nat → Nat → Int32) × (Nat → rg_S) × Nat × Value
def cs_i (c : cm_S) (k : Nat) (v : Int32) : cm_S := (fun j => if j = k then v else c.1 j, c.2)
def cs_a (c : cm_S) (k : Nat) (f : Nat → Int32) : cm_S := (c.1, fun j => if j = k then f else c.2.1 j, c.2.2)
def cs_L (c : cm_S) (k : Nat) (s : rg_S) : cm_S := (c.1, c.2.1, fun j => if j = k then s else c.2.2.1 j, c.2.2.2)
def cs_x (c : cm_S) (t : Nat) : cm_S := (c.1, c.2.1, c.2.2.1, t, c.2.2.2.2)
def cs_y (c : cm_S) (v : Value) : cm_S := (c.1, c.2.1, c.2.2.1, c.2.2.2.1, v)
theorem ci1 {c : cm_S} {k j : Nat} {v : Int32} : (cs_i c k v).1 j = if j = k then v else c.1 j := rfl
theorem ci2 {c : cm_S} {k : Nat} {v : Int32} : (cs_i c k v).2 = c.2 := rfl
theorem ca1 {c : cm_S} {k : Nat} {f : Nat → Int32} : (cs_a c k f).1 = c.1 := rfl
theorem ca2 {c : cm_S} {k j : Nat} {f : Nat → Int32} : (cs_a c k f).2.1 j = if j = k then f else c.2.1 j := rfl
theorem ca3 {c : cm_S} {k : Nat} {f : Nat → Int32} : (cs_a c k f).2.2 = c.2.2 := rfl
theorem cL1 {c : cm_S} {k : Nat} {s : rg_S} : (cs_L c k s).1 = c.1 := rfl
theorem cL2 {c : cm_S} {k : Nat} {s : rg_S} : (cs_L c k s).2.1 = c.2.1 := rfl
theorem cL3 {c : cm_S} {k j : Nat} {s : rg_S} : (cs_L c k s).2.2.1 j = if j = k then s else c.2.2.1 j := rfl
theorem cL4 {c : cm_S} {k : Nat} {s : rg_S} : (cs_L c k s).2.2.2 = c.2.2.2 := rfl
theorem cx1 {c : cm_S} {t : Nat} : (cs_x c t).1 = c.1 := rfl
theorem cx2 {c : cm_S} {t : Nat} : (cs_x c t).2.1 = c.2.1 := rfl
theorem cx3 {c : cm_S} {t : Nat} : (cs_x c t).2.2.1 = c.2.2.1 := rfl
theorem cx4 {c : cm_S} {t : Nat} : (cs_x c t).2.2.2 = (t, c.2.2.2.2) := rfl
theorem cy1 {c : cm_S} {v : Value} : (cs_y c v).1 = c.1 := rfl
theorem cy2 {c : cm_S} {v : Value} : (cs_y c v).2.1 = c.2.1 := rfl
theorem cy3 {c : cm_S} {v : Value} : (cs_y c v).2.2.1 = c.2.2.1 := rfl
theorem cy4 {c : cm_S} {v : Value} : (cs_y c v).2.2.2 = (c.2.2.2.1, v) := rfl
/-- where words, kept lands, slots, parts, rows lie -/
def cm_wf : Nat → Option Nat := fun i => if i < 21 then some (2 + i) else none
def cm_pf : Nat → Option Nat := fun i => if i < 30 then some (199 + 13 * i) else none
def cm_sf : Nat → Option Nat := fun i => if i < 3 then some (93 + 13 * i) else none
def cm_qf : Nat → Option Nat := fun i => if i < 4 then some (133 + i) else none
def cm_uf : Nat → Option Nat := fun i => if i < 5 then some (141 + i) else none
def cm_vf : Nat → Option Nat := fun i => if i < 48 then some (151 + i) else none
/-- where a land lies: 0 what stands, 1 what is tried, 2.. slots, 5.. what was kept -/
def la (i : Nat) : Nat := if i < 2 then 65 + 13 * i else if i < 5 then 67 + 13 * i else 134 + 13 * i
theorem la0 : la 0 = 65 := rfl
theorem la1 : la 1 = 78 := rfl
def cm_b (c : cm_S) : List jv_C := [.inr (1, [.ref 51, .ref 52, .ref 59, .ref c.2.2.2.1, .int (c.1 4), .int (c.1 5), .int (c.1 6), .ref (la 0), .ref (la 1), .ref 91, .ref 92, .ref 132, .ref 137, .ref 138, .ref 139, .ref 140, .int (c.1 16), .int (c.1 17), .ref 146, .ref 147, .int (c.1 20), .int (c.1 21), .ref 148, .ref 149, .ref 150]), .inr (2, [.null, .null, .null, .ref 1, .null, .int 0, .int (c.1 30), .int (c.1 31)]), .inr (3, [.ref 53, .ref 54, .int (c.1 40), .ref 55, .ref 56, .ref 57, .ref 58, .int (c.1 41)]), .inl (5, 21, .inr (.inr (.inr (.inr cm_wf)))), .inl (1, 2000, .inl (c.2.1 0)), .inl (1, 2001, .inl (c.2.1 1)), .inl (3, 2001, .inl (c.2.1 2)), .inl (3, 2001, .inl (c.2.1 3)), .inl (3, 2001, .inl (c.2.1 4)), .inr (4, [.ref 52, .ref 51, c.2.2.2.2, .int (c.1 50), .int (c.1 51), .int (c.1 52), .int (c.1 53)]), .inr (5, [.ref 61, .ref 62, .ref 63, .ref 64, .int (nI 0), .int (nI 0), .int (nI 100), .int (nI 0), .int (nI 0)]), .inl (0, 48, .inl (fun _ => 0)), .inr (18, [.int 0, .ref 45, .int 0]), .inr (18, [.int 0, .ref 45, .int 0]), .inl (7, 3, .inr (.inr (.inr (.inr (fun _ => none))))), .inr (9999, []), .inr (9999, []), .inr (9999, []), .inr (9999, []), .inr (9999, []), .inr (9999, []), .inr (9999, []), .inr (9999, []), .inr (9999, []), .inr (9999, []), .inr (9999, []), .inr (9999, []), .inr (9999, []), .inr (9999, []), .inr (9999, []), .inr (9999, []), .inr (9999, []), .inr (9999, []), .inr (9999, []), .inr (9999, []), .inr (9999, []), .inr (9999, []), .inr (9999, []), .inr (9999, []), .inr (9999, []), .inr (9999, []), .inl (9, 30, .inr (.inr (.inr (.inr cm_pf)))), .inl (9, 3, .inr (.inr (.inr (.inr cm_sf)))), .inr (9999, []), .inr (9999, []), .inr (9999, []), .inr (9999, []), .inr (9999, []), .inr (9999, []), .inr (9999, []), .inr (9999, []), .inr (9999, []), .inr (9999, []), .inr (9999, []), .inr (9999, []), .inr (9999, []), .inr (9999, []), .inr (9999, []), .inr (9999, []), .inr (9999, []), .inr (9999, []), .inr (9999, []), .inr (9999, []), .inr (9999, []), .inr (9999, []), .inr (9999, []), .inr (9999, []), .inr (9999, []), .inr (9999, []), .inr (9999, []), .inr (9999, []), .inr (9999, []), .inr (9999, []), .inr (9999, []), .inr (9999, []), .inr (9999, []), .inr (9999, []), .inr (9999, []), .inr (9999, []), .inr (9999, []), .inr (9999, []), .inr (9999, []), .inl (10, 4, .inr (.inr (.inr (.inr cm_qf)))), .inr (8, []), .inr (9, []), .inr (10, []), .inr (11, []), .inl (2, 3, .inl (c.2.1 5)), .inl (0, 4, .inl (c.2.1 6)), .inl (0, 4, .inl (c.2.1 7)), .inl (11, 5, .inr (.inr (.inr (.inr cm_uf)))), .inr (9999, []), .inr (9999, []), .inr (9999, []), .inr (9999, []), .inr (9999, []), .inl (0, 4, .inl (c.2.1 8)), .inl (0, 4, .inl (c.2.1 9)), .inl (0, 20, .inl (c.2.1 16)), .inl (0, 20, .inl (c.2.1 17)), .inl (11, 48, .inr (.inr (.inr (.inr cm_vf))))]
def cm_dd : jv_C := .inr (9999, [])
def cm_f (c : cm_S) (k : Nat) : jv_C := if 149 ≤ k then (ld_c (199 + 13 * ((k - 149) / 13)) (c.2.2.1 (5 + (k - 149) / 13))).getD ((k - 149) % 13) cm_dd
  else if 101 ≤ k then .inl (0, 10, .inl (c.2.1 (20 + (k - 101))))
  else if 91 ≤ k ∧ k < 96 then .inl (0, 8, .inl (c.2.1 (10 + (k - 91))))
  else if 43 ≤ k ∧ k < 82 then (ld_c (93 + 13 * ((k - 43) / 13)) (c.2.2.1 (2 + (k - 43) / 13))).getD ((k - 43) % 13) cm_dd
  else if 15 ≤ k ∧ k < 41 then (ld_c (65 + 13 * ((k - 15) / 13)) (c.2.2.1 ((k - 15) / 13))).getD ((k - 15) % 13) cm_dd
  else (cm_b c).getD k cm_dd
def cm_c (c : cm_S) : List jv_C := (List.range 539).map (cm_f c)
/-- the heap: what is old, the component, what lies behind -/
def cm_h (o : jv_H) (c : cm_S) (r : jv_H) : jv_H := o ++ (cm_c c ++ r)
theorem cm_cl {c : cm_S} : (cm_c c).length = 539 := by unfold cm_c; rw [List.length_map, List.length_range]
theorem cm_len {o r : jv_H} {c : cm_S} : (cm_h o c r).length = o.length + 539 + r.length := by
  unfold cm_h
  rw [List.length_append, List.length_append, cm_cl]
  omega
section
variable {o r : jv_H} {c c9 : cm_S} {i x v : Int32} {vv : Value}
theorem cm_at {a k : Nat} (ho : o.length = 50) (hk : k < 539) (ha : a = 50 + k) : (cm_h o c r)[a]? = some (cm_f c k) := by
  subst ha
  unfold cm_h
  rw [List.getElem?_append_right (by omega), ho, Nat.add_sub_cancel_left, List.getElem?_append_left (by rw [cm_cl]; omega)]
  unfold cm_c
  rw [List.getElem?_map, List.getElem?_range hk]
  rfl
theorem cm_lo {a : Nat} (ho : o.length = 50) (ha : a < 50) : (cm_h o c r)[a]? = o[a]? := by
  unfold cm_h
  rw [List.getElem?_append_left (by omega)]
theorem cm_hi {k : Nat} (ho : o.length = 50) : (cm_h o c r)[589 + k]? = r[k]? := by
  unfold cm_h
  rw [List.getElem?_append_right (by omega), ho, List.getElem?_append_right (by rw [cm_cl]; omega), cm_cl]
  congr 1
  omega
theorem cm_ext {h : jv_H} (ho : o.length = 50) (hl : h.length = 589 + r.length) (h1 : ∀ a < 50, h[a]? = o[a]?) (h2 : ∀ k < 539, h[50 + k]? = some (cm_f c k)) (h3 : ∀ k, h[589 + k]? = r[k]?) : h = cm_h o c r := by
  refine List.ext_getElem? fun a => ?_
  by_cases ha : a < 50
  · rw [h1 a ha, cm_lo ho ha]
  · by_cases hb : a < 589
    · obtain ⟨k, rfl⟩ : ∃ k, a = 50 + k := ⟨a - 50, by omega⟩
      rw [h2 k (by omega), cm_at ho (by omega) rfl]
    · obtain ⟨k, rfl⟩ : ∃ k, a = 589 + k := ⟨a - 589, by omega⟩
      rw [h3 k, cm_hi ho]
theorem cm_set {a k : Nat} {w : jv_C} (ho : o.length = 50) (hk : k < 539) (ha : a = 50 + k) (hw : cm_f c9 k = w) (hn : ∀ j < 539, j ≠ k → cm_f c9 j = cm_f c j) : (cm_h o c r).set a w = cm_h o c9 r := by
  subst ha
  refine cm_ext ho (by rw [List.length_set, cm_len, ho]) (fun a ha => ?_) (fun j hj => ?_) fun j => ?_
  · rw [List.getElem?_set_ne (by omega), cm_lo ho ha]
  · by_cases e : j = k
    · subst e
      rw [List.getElem?_set_self (by rw [cm_len]; omega), hw]
    · rw [List.getElem?_set_ne (by omega), cm_at ho hj rfl, hn j hj e]
  · rw [List.getElem?_set_ne (by omega), cm_hi ho]
theorem cm_fb {k : Nat} (h1 : k < 101) (h2 : k < 15 ∨ 41 ≤ k) (h3 : k < 43 ∨ 82 ≤ k) (h4 : k < 91 ∨ 96 ≤ k) : cm_f c k = (cm_b c).getD k cm_dd := by
  unfold cm_f
  rw [if_neg (by omega), if_neg (by omega), if_neg (by omega), if_neg (by omega), if_neg (by omega)]
theorem cm_ft (h1 : c9.2.2.1 = c.2.2.1) (h2 : ∀ j, (10 ≤ j ∧ j < 15) ∨ 20 ≤ j → c9.2.1 j = c.2.1 j) {k : Nat} {w : jv_C} (hb : cm_b c9 = (cm_b c).set k w) (j : Nat) (hj : j ≠ k) : cm_f c9 j = cm_f c j := by
  unfold cm_f
  rw [h1]
  by_cases a1 : 149 ≤ j
  · rw [if_pos a1, if_pos a1]
  rw [if_neg a1, if_neg a1]
  by_cases a2 : 101 ≤ j
  · rw [if_pos a2, if_pos a2, h2 _ (by omega)]
  rw [if_neg a2, if_neg a2]
  by_cases a3 : 91 ≤ j ∧ j < 96
  · rw [if_pos a3, if_pos a3, h2 _ (by omega)]
  rw [if_neg a3, if_neg a3]
  by_cases a4 : 43 ≤ j ∧ j < 82
  · rw [if_pos a4, if_pos a4]
  rw [if_neg a4, if_neg a4]
  by_cases a5 : 15 ≤ j ∧ j < 41
  · rw [if_pos a5, if_pos a5]
  rw [if_neg a5, if_neg a5, hb, List.getD_eq_getElem?_getD, List.getElem?_set_ne (by omega), ← List.getD_eq_getElem?_getD]
/-- a fixed cell is written -/
theorem cm_w {a k : Nat} {w : jv_C} (ho : o.length = 50) (ha : a = 50 + k) (h1 : k < 101) (h2 : k < 15 ∨ 41 ≤ k) (h3 : k < 43 ∨ 82 ≤ k) (h4 : k < 91 ∨ 96 ≤ k) (e1 : c9.2.2.1 = c.2.2.1) (e2 : ∀ j, (10 ≤ j ∧ j < 15) ∨ 20 ≤ j → c9.2.1 j = c.2.1 j) (hb : cm_b c9 = (cm_b c).set k w) : (cm_h o c r).set a w = cm_h o c9 r := by
  refine cm_set ho (by omega) ha ?_ fun j _ hj => cm_ft e1 e2 hb j hj
  rw [cm_fb h1 h2 h3 h4, hb, List.getD_eq_getElem?_getD, List.getElem?_set_self (show k < (cm_b c).length from h1)]
  rfl
theorem cm_r {a k : Nat} {w : jv_C} (ho : o.length = 50) (ha : a = 50 + k) (h1 : k < 101) (h2 : k < 15 ∨ 41 ≤ k) (h3 : k < 43 ∨ 82 ≤ k) (h4 : k < 91 ∨ 96 ≤ k) (hw : (cm_b c)[k]? = some w) : (cm_h o c r)[a]? = some w := by
  rw [cm_at ho (by omega) ha, cm_fb h1 h2 h3 h4, List.getD_eq_getElem?_getD, hw]
  rfl
theorem cr_50 {V : List (Nat × Nat)} (ho : o.length = 50) : jv_rc (cm_h o c r) 50 V = V.lookup 1 := by
  unfold jv_rc
  rw [cm_r (c := c) (r := r) ho (k := 0) rfl (by decide) (by decide) (by decide) (by decide) rfl]
theorem cc_50 (ho : o.length = 50) : jv_cls (cm_h o c r) 50 = some 1 := by
  unfold jv_cls
  rw [cm_r (c := c) (r := r) ho (k := 0) rfl (by decide) (by decide) (by decide) (by decide) rfl]
theorem cg_50_0 (ho : o.length = 50) : jv_gf (cm_h o c r) 50 [(1, 0, .object "RainLoom$Fault")] = some (.ref 51) := jv_gf_at (cm_r (c := c) (r := r) ho (k := 0) rfl (by decide) (by decide) (by decide) (by decide) rfl) rfl rfl
theorem cg_50_1 (ho : o.length = 50) : jv_gf (cm_h o c r) 50 [(1, 1, .object "RainLoom$Tokens")] = some (.ref 52) := jv_gf_at (cm_r (c := c) (r := r) ho (k := 0) rfl (by decide) (by decide) (by decide) (by decide) rfl) rfl rfl
theorem cg_50_2 (ho : o.length = 50) : jv_gf (cm_h o c r) 50 [(1, 2, .object "RainLoom$Parser")] = some (.ref 59) := jv_gf_at (cm_r (c := c) (r := r) ho (k := 0) rfl (by decide) (by decide) (by decide) (by decide) rfl) rfl rfl
theorem cg_50_3 (ho : o.length = 50) : jv_gf (cm_h o c r) 50 [(1, 3, .object "RainLoom$Text")] = some (.ref c.2.2.2.1) := jv_gf_at (cm_r (c := c) (r := r) ho (k := 0) rfl (by decide) (by decide) (by decide) (by decide) rfl) rfl rfl
theorem cp_50_3 {t : Nat} (ho : o.length = 50) : jv_pf (cm_h o c r) 50 [(1, 3, .object "RainLoom$Text")] (.ref t) = some (cm_h o (cs_x c t) r) := by
  rw [jv_pf_at (cm_r (c := c) (r := r) ho (k := 0) rfl (by decide) (by decide) (by decide) (by decide) rfl) rfl (by decide) (Nat.le_of_ble_eq_true rfl) rfl rfl]
  exact congrArg some (cm_w ho (k := 0) rfl (by decide) (by decide) (by decide) (by decide) rfl (fun _ _ => rfl) rfl)
theorem cg_50_4 (ho : o.length = 50) : jv_gf (cm_h o c r) 50 [(1, 4, .int)] = some (.int (c.1 4)) := jv_gf_at (cm_r (c := c) (r := r) ho (k := 0) rfl (by decide) (by decide) (by decide) (by decide) rfl) rfl rfl
theorem cp_50_4 (ho : o.length = 50) : jv_pf (cm_h o c r) 50 [(1, 4, .int)] (.int v) = some (cm_h o (cs_i c 4 v) r) := by
  rw [jv_pf_at (cm_r (c := c) (r := r) ho (k := 0) rfl (by decide) (by decide) (by decide) (by decide) rfl) rfl (by decide) (Nat.le_of_ble_eq_true rfl) rfl rfl]
  exact congrArg some (cm_w ho (k := 0) rfl (by decide) (by decide) (by decide) (by decide) rfl (fun _ _ => rfl) rfl)
theorem cg_50_5 (ho : o.length = 50) : jv_gf (cm_h o c r) 50 [(1, 5, .int)] = some (.int (c.1 5)) := jv_gf_at (cm_r (c := c) (r := r) ho (k := 0) rfl (by decide) (by decide) (by decide) (by decide) rfl) rfl rfl
theorem cp_50_5 (ho : o.length = 50) : jv_pf (cm_h o c r) 50 [(1, 5, .int)] (.int v) = some (cm_h o (cs_i c 5 v) r) := by
  rw [jv_pf_at (cm_r (c := c) (r := r) ho (k := 0) rfl (by decide) (by decide) (by decide) (by decide) rfl) rfl (by decide) (Nat.le_of_ble_eq_true rfl) rfl rfl]
  exact congrArg some (cm_w ho (k := 0) rfl (by decide) (by decide) (by decide) (by decide) rfl (fun _ _ => rfl) rfl)
theorem cg_50_6 (ho : o.length = 50) : jv_gf (cm_h o c r) 50 [(1, 6, .int)] = some (.int (c.1 6)) := jv_gf_at (cm_r (c := c) (r := r) ho (k := 0) rfl (by decide) (by decide) (by decide) (by decide) rfl) rfl rfl
theorem cp_50_6 (ho : o.length = 50) : jv_pf (cm_h o c r) 50 [(1, 6, .int)] (.int v) = some (cm_h o (cs_i c 6 v) r) := by
  rw [jv_pf_at (cm_r (c := c) (r := r) ho (k := 0) rfl (by decide) (by decide) (by decide) (by decide) rfl) rfl (by decide) (Nat.le_of_ble_eq_true rfl) rfl rfl]
  exact congrArg some (cm_w ho (k := 0) rfl (by decide) (by decide) (by decide) (by decide) rfl (fun _ _ => rfl) rfl)
theorem cg_50_7 (ho : o.length = 50) : jv_gf (cm_h o c r) 50 [(1, 7, .object "RainLoom$Land")] = some (.ref (la 0)) := jv_gf_at (cm_r (c := c) (r := r) ho (k := 0) rfl (by decide) (by decide) (by decide) (by decide) rfl) rfl rfl
theorem cg_50_8 (ho : o.length = 50) : jv_gf (cm_h o c r) 50 [(1, 8, .object "RainLoom$Land")] = some (.ref (la 1)) := jv_gf_at (cm_r (c := c) (r := r) ho (k := 0) rfl (by decide) (by decide) (by decide) (by decide) rfl) rfl rfl
theorem cg_50_9 (ho : o.length = 50) : jv_gf (cm_h o c r) 50 [(1, 9, .array (.object "RainLoom$Land"))] = some (.ref 91) := jv_gf_at (cm_r (c := c) (r := r) ho (k := 0) rfl (by decide) (by decide) (by decide) (by decide) rfl) rfl rfl
theorem cg_50_10 (ho : o.length = 50) : jv_gf (cm_h o c r) 50 [(1, 10, .array (.object "RainLoom$Land"))] = some (.ref 92) := jv_gf_at (cm_r (c := c) (r := r) ho (k := 0) rfl (by decide) (by decide) (by decide) (by decide) rfl) rfl rfl
theorem cg_50_11 (ho : o.length = 50) : jv_gf (cm_h o c r) 50 [(1, 11, .array (.object "RainLoom$Part"))] = some (.ref 132) := jv_gf_at (cm_r (c := c) (r := r) ho (k := 0) rfl (by decide) (by decide) (by decide) (by decide) rfl) rfl rfl
theorem cg_50_12 (ho : o.length = 50) : jv_gf (cm_h o c r) 50 [(1, 12, .array .boolean)] = some (.ref 137) := jv_gf_at (cm_r (c := c) (r := r) ho (k := 0) rfl (by decide) (by decide) (by decide) (by decide) rfl) rfl rfl
theorem cg_50_13 (ho : o.length = 50) : jv_gf (cm_h o c r) 50 [(1, 13, .array .int)] = some (.ref 138) := jv_gf_at (cm_r (c := c) (r := r) ho (k := 0) rfl (by decide) (by decide) (by decide) (by decide) rfl) rfl rfl
theorem cg_50_14 (ho : o.length = 50) : jv_gf (cm_h o c r) 50 [(1, 14, .array .int)] = some (.ref 139) := jv_gf_at (cm_r (c := c) (r := r) ho (k := 0) rfl (by decide) (by decide) (by decide) (by decide) rfl) rfl rfl
theorem cg_50_15 (ho : o.length = 50) : jv_gf (cm_h o c r) 50 [(1, 15, .array (.array .int))] = some (.ref 140) := jv_gf_at (cm_r (c := c) (r := r) ho (k := 0) rfl (by decide) (by decide) (by decide) (by decide) rfl) rfl rfl
theorem cg_50_16 (ho : o.length = 50) : jv_gf (cm_h o c r) 50 [(1, 16, .int)] = some (.int (c.1 16)) := jv_gf_at (cm_r (c := c) (r := r) ho (k := 0) rfl (by decide) (by decide) (by decide) (by decide) rfl) rfl rfl
theorem cp_50_16 (ho : o.length = 50) : jv_pf (cm_h o c r) 50 [(1, 16, .int)] (.int v) = some (cm_h o (cs_i c 16 v) r) := by
  rw [jv_pf_at (cm_r (c := c) (r := r) ho (k := 0) rfl (by decide) (by decide) (by decide) (by decide) rfl) rfl (by decide) (Nat.le_of_ble_eq_true rfl) rfl rfl]
  exact congrArg some (cm_w ho (k := 0) rfl (by decide) (by decide) (by decide) (by decide) rfl (fun _ _ => rfl) rfl)
theorem cg_50_17 (ho : o.length = 50) : jv_gf (cm_h o c r) 50 [(1, 17, .int)] = some (.int (c.1 17)) := jv_gf_at (cm_r (c := c) (r := r) ho (k := 0) rfl (by decide) (by decide) (by decide) (by decide) rfl) rfl rfl
theorem cp_50_17 (ho : o.length = 50) : jv_pf (cm_h o c r) 50 [(1, 17, .int)] (.int v) = some (cm_h o (cs_i c 17 v) r) := by
  rw [jv_pf_at (cm_r (c := c) (r := r) ho (k := 0) rfl (by decide) (by decide) (by decide) (by decide) rfl) rfl (by decide) (Nat.le_of_ble_eq_true rfl) rfl rfl]
  exact congrArg some (cm_w ho (k := 0) rfl (by decide) (by decide) (by decide) (by decide) rfl (fun _ _ => rfl) rfl)
theorem cg_50_18 (ho : o.length = 50) : jv_gf (cm_h o c r) 50 [(1, 18, .array .int)] = some (.ref 146) := jv_gf_at (cm_r (c := c) (r := r) ho (k := 0) rfl (by decide) (by decide) (by decide) (by decide) rfl) rfl rfl
theorem cg_50_19 (ho : o.length = 50) : jv_gf (cm_h o c r) 50 [(1, 19, .array .int)] = some (.ref 147) := jv_gf_at (cm_r (c := c) (r := r) ho (k := 0) rfl (by decide) (by decide) (by decide) (by decide) rfl) rfl rfl
theorem cg_50_20 (ho : o.length = 50) : jv_gf (cm_h o c r) 50 [(1, 20, .int)] = some (.int (c.1 20)) := jv_gf_at (cm_r (c := c) (r := r) ho (k := 0) rfl (by decide) (by decide) (by decide) (by decide) rfl) rfl rfl
theorem cp_50_20 (ho : o.length = 50) : jv_pf (cm_h o c r) 50 [(1, 20, .int)] (.int v) = some (cm_h o (cs_i c 20 v) r) := by
  rw [jv_pf_at (cm_r (c := c) (r := r) ho (k := 0) rfl (by decide) (by decide) (by decide) (by decide) rfl) rfl (by decide) (Nat.le_of_ble_eq_true rfl) rfl rfl]
  exact congrArg some (cm_w ho (k := 0) rfl (by decide) (by decide) (by decide) (by decide) rfl (fun _ _ => rfl) rfl)
theorem cg_50_21 (ho : o.length = 50) : jv_gf (cm_h o c r) 50 [(1, 21, .int)] = some (.int (c.1 21)) := jv_gf_at (cm_r (c := c) (r := r) ho (k := 0) rfl (by decide) (by decide) (by decide) (by decide) rfl) rfl rfl
theorem cp_50_21 (ho : o.length = 50) : jv_pf (cm_h o c r) 50 [(1, 21, .int)] (.int v) = some (cm_h o (cs_i c 21 v) r) := by
  rw [jv_pf_at (cm_r (c := c) (r := r) ho (k := 0) rfl (by decide) (by decide) (by decide) (by decide) rfl) rfl (by decide) (Nat.le_of_ble_eq_true rfl) rfl rfl]
  exact congrArg some (cm_w ho (k := 0) rfl (by decide) (by decide) (by decide) (by decide) rfl (fun _ _ => rfl) rfl)
theorem cg_50_22 (ho : o.length = 50) : jv_gf (cm_h o c r) 50 [(1, 22, .array .int)] = some (.ref 148) := jv_gf_at (cm_r (c := c) (r := r) ho (k := 0) rfl (by decide) (by decide) (by decide) (by decide) rfl) rfl rfl
theorem cg_50_23 (ho : o.length = 50) : jv_gf (cm_h o c r) 50 [(1, 23, .array .int)] = some (.ref 149) := jv_gf_at (cm_r (c := c) (r := r) ho (k := 0) rfl (by decide) (by decide) (by decide) (by decide) rfl) rfl rfl
theorem cg_50_24 (ho : o.length = 50) : jv_gf (cm_h o c r) 50 [(1, 24, .array (.array .int))] = some (.ref 150) := jv_gf_at (cm_r (c := c) (r := r) ho (k := 0) rfl (by decide) (by decide) (by decide) (by decide) rfl) rfl rfl
theorem cr_51 {V : List (Nat × Nat)} (ho : o.length = 50) : jv_rc (cm_h o c r) 51 V = V.lookup 2 := by
  unfold jv_rc
  rw [cm_r (c := c) (r := r) ho (k := 1) rfl (by decide) (by decide) (by decide) (by decide) rfl]
theorem cc_51 (ho : o.length = 50) : jv_cls (cm_h o c r) 51 = some 2 := by
  unfold jv_cls
  rw [cm_r (c := c) (r := r) ho (k := 1) rfl (by decide) (by decide) (by decide) (by decide) rfl]
theorem cg_51_0 (ho : o.length = 50) : jv_gf (cm_h o c r) 51 [(2, 0, .object "java/lang/Throwable")] = some (.null) := jv_gf_at (cm_r (c := c) (r := r) ho (k := 1) rfl (by decide) (by decide) (by decide) (by decide) rfl) rfl rfl
theorem cg_51_1 (ho : o.length = 50) : jv_gf (cm_h o c r) 51 [(2, 1, .array (.object "java/lang/StackTraceElement"))] = some (.null) := jv_gf_at (cm_r (c := c) (r := r) ho (k := 1) rfl (by decide) (by decide) (by decide) (by decide) rfl) rfl rfl
theorem cg_51_2 (ho : o.length = 50) : jv_gf (cm_h o c r) 51 [(2, 2, .object "java/util/List")] = some (.null) := jv_gf_at (cm_r (c := c) (r := r) ho (k := 1) rfl (by decide) (by decide) (by decide) (by decide) rfl) rfl rfl
theorem cg_51_3 (ho : o.length = 50) : jv_gf (cm_h o c r) 51 [(2, 3, .object "java/lang/String")] = some (.ref 1) := jv_gf_at (cm_r (c := c) (r := r) ho (k := 1) rfl (by decide) (by decide) (by decide) (by decide) rfl) rfl rfl
theorem cg_51_4 (ho : o.length = 50) : jv_gf (cm_h o c r) 51 [(2, 4, .object "java/lang/Object")] = some (.null) := jv_gf_at (cm_r (c := c) (r := r) ho (k := 1) rfl (by decide) (by decide) (by decide) (by decide) rfl) rfl rfl
theorem cg_51_5 (ho : o.length = 50) : jv_gf (cm_h o c r) 51 [(2, 5, .int)] = some (.int 0) := jv_gf_at (cm_r (c := c) (r := r) ho (k := 1) rfl (by decide) (by decide) (by decide) (by decide) rfl) rfl rfl
theorem cg_51_6 (ho : o.length = 50) : jv_gf (cm_h o c r) 51 [(2, 6, .int)] = some (.int (c.1 30)) := jv_gf_at (cm_r (c := c) (r := r) ho (k := 1) rfl (by decide) (by decide) (by decide) (by decide) rfl) rfl rfl
theorem cp_51_6 (ho : o.length = 50) : jv_pf (cm_h o c r) 51 [(2, 6, .int)] (.int v) = some (cm_h o (cs_i c 30 v) r) := by
  rw [jv_pf_at (cm_r (c := c) (r := r) ho (k := 1) rfl (by decide) (by decide) (by decide) (by decide) rfl) rfl (by decide) (Nat.le_of_ble_eq_true rfl) rfl rfl]
  exact congrArg some (cm_w ho (k := 1) rfl (by decide) (by decide) (by decide) (by decide) rfl (fun _ _ => rfl) rfl)
theorem cg_51_7 (ho : o.length = 50) : jv_gf (cm_h o c r) 51 [(2, 7, .int)] = some (.int (c.1 31)) := jv_gf_at (cm_r (c := c) (r := r) ho (k := 1) rfl (by decide) (by decide) (by decide) (by decide) rfl) rfl rfl
theorem cp_51_7 (ho : o.length = 50) : jv_pf (cm_h o c r) 51 [(2, 7, .int)] (.int v) = some (cm_h o (cs_i c 31 v) r) := by
  rw [jv_pf_at (cm_r (c := c) (r := r) ho (k := 1) rfl (by decide) (by decide) (by decide) (by decide) rfl) rfl (by decide) (Nat.le_of_ble_eq_true rfl) rfl rfl]
  exact congrArg some (cm_w ho (k := 1) rfl (by decide) (by decide) (by decide) (by decide) rfl (fun _ _ => rfl) rfl)
theorem cr_52 {V : List (Nat × Nat)} (ho : o.length = 50) : jv_rc (cm_h o c r) 52 V = V.lookup 3 := by
  unfold jv_rc
  rw [cm_r (c := c) (r := r) ho (k := 2) rfl (by decide) (by decide) (by decide) (by decide) rfl]
theorem cc_52 (ho : o.length = 50) : jv_cls (cm_h o c r) 52 = some 3 := by
  unfold jv_cls
  rw [cm_r (c := c) (r := r) ho (k := 2) rfl (by decide) (by decide) (by decide) (by decide) rfl]
theorem cg_52_0 (ho : o.length = 50) : jv_gf (cm_h o c r) 52 [(3, 0, .array (.object "java/lang/String"))] = some (.ref 53) := jv_gf_at (cm_r (c := c) (r := r) ho (k := 2) rfl (by decide) (by decide) (by decide) (by decide) rfl) rfl rfl
theorem cg_52_1 (ho : o.length = 50) : jv_gf (cm_h o c r) 52 [(3, 1, .array .byte)] = some (.ref 54) := jv_gf_at (cm_r (c := c) (r := r) ho (k := 2) rfl (by decide) (by decide) (by decide) (by decide) rfl) rfl rfl
theorem cg_52_2 (ho : o.length = 50) : jv_gf (cm_h o c r) 52 [(3, 2, .int)] = some (.int (c.1 40)) := jv_gf_at (cm_r (c := c) (r := r) ho (k := 2) rfl (by decide) (by decide) (by decide) (by decide) rfl) rfl rfl
theorem cp_52_2 (ho : o.length = 50) : jv_pf (cm_h o c r) 52 [(3, 2, .int)] (.int v) = some (cm_h o (cs_i c 40 v) r) := by
  rw [jv_pf_at (cm_r (c := c) (r := r) ho (k := 2) rfl (by decide) (by decide) (by decide) (by decide) rfl) rfl (by decide) (Nat.le_of_ble_eq_true rfl) rfl rfl]
  exact congrArg some (cm_w ho (k := 2) rfl (by decide) (by decide) (by decide) (by decide) rfl (fun _ _ => rfl) rfl)
theorem cg_52_3 (ho : o.length = 50) : jv_gf (cm_h o c r) 52 [(3, 3, .array .byte)] = some (.ref 55) := jv_gf_at (cm_r (c := c) (r := r) ho (k := 2) rfl (by decide) (by decide) (by decide) (by decide) rfl) rfl rfl
theorem cg_52_4 (ho : o.length = 50) : jv_gf (cm_h o c r) 52 [(3, 4, .array .short)] = some (.ref 56) := jv_gf_at (cm_r (c := c) (r := r) ho (k := 2) rfl (by decide) (by decide) (by decide) (by decide) rfl) rfl rfl
theorem cg_52_5 (ho : o.length = 50) : jv_gf (cm_h o c r) 52 [(3, 5, .array .short)] = some (.ref 57) := jv_gf_at (cm_r (c := c) (r := r) ho (k := 2) rfl (by decide) (by decide) (by decide) (by decide) rfl) rfl rfl
theorem cg_52_6 (ho : o.length = 50) : jv_gf (cm_h o c r) 52 [(3, 6, .array .short)] = some (.ref 58) := jv_gf_at (cm_r (c := c) (r := r) ho (k := 2) rfl (by decide) (by decide) (by decide) (by decide) rfl) rfl rfl
theorem cg_52_7 (ho : o.length = 50) : jv_gf (cm_h o c r) 52 [(3, 7, .int)] = some (.int (c.1 41)) := jv_gf_at (cm_r (c := c) (r := r) ho (k := 2) rfl (by decide) (by decide) (by decide) (by decide) rfl) rfl rfl
theorem cp_52_7 (ho : o.length = 50) : jv_pf (cm_h o c r) 52 [(3, 7, .int)] (.int v) = some (cm_h o (cs_i c 41 v) r) := by
  rw [jv_pf_at (cm_r (c := c) (r := r) ho (k := 2) rfl (by decide) (by decide) (by decide) (by decide) rfl) rfl (by decide) (Nat.le_of_ble_eq_true rfl) rfl rfl]
  exact congrArg some (cm_w ho (k := 2) rfl (by decide) (by decide) (by decide) (by decide) rfl (fun _ _ => rfl) rfl)
theorem cr_59 {V : List (Nat × Nat)} (ho : o.length = 50) : jv_rc (cm_h o c r) 59 V = V.lookup 4 := by
  unfold jv_rc
  rw [cm_r (c := c) (r := r) ho (k := 9) rfl (by decide) (by decide) (by decide) (by decide) rfl]
theorem cc_59 (ho : o.length = 50) : jv_cls (cm_h o c r) 59 = some 4 := by
  unfold jv_cls
  rw [cm_r (c := c) (r := r) ho (k := 9) rfl (by decide) (by decide) (by decide) (by decide) rfl]
theorem cg_59_0 (ho : o.length = 50) : jv_gf (cm_h o c r) 59 [(4, 0, .object "RainLoom$Tokens")] = some (.ref 52) := jv_gf_at (cm_r (c := c) (r := r) ho (k := 9) rfl (by decide) (by decide) (by decide) (by decide) rfl) rfl rfl
theorem cg_59_1 (ho : o.length = 50) : jv_gf (cm_h o c r) 59 [(4, 1, .object "RainLoom$Fault")] = some (.ref 51) := jv_gf_at (cm_r (c := c) (r := r) ho (k := 9) rfl (by decide) (by decide) (by decide) (by decide) rfl) rfl rfl
theorem cg_59_2 (ho : o.length = 50) : jv_gf (cm_h o c r) 59 [(4, 2, .object "RainLoom$Text")] = some (c.2.2.2.2) := jv_gf_at (cm_r (c := c) (r := r) ho (k := 9) rfl (by decide) (by decide) (by decide) (by decide) rfl) rfl rfl
theorem cp_59_2 {t : Nat} (ho : o.length = 50) : jv_pf (cm_h o c r) 59 [(4, 2, .object "RainLoom$Text")] (.ref t) = some (cm_h o (cs_y c (.ref t)) r) := by
  rw [jv_pf_at (cm_r (c := c) (r := r) ho (k := 9) rfl (by decide) (by decide) (by decide) (by decide) rfl) rfl (by decide) (Nat.le_of_ble_eq_true rfl) rfl rfl]
  exact congrArg some (cm_w ho (k := 9) rfl (by decide) (by decide) (by decide) (by decide) rfl (fun _ _ => rfl) rfl)
theorem cg_59_3 (ho : o.length = 50) : jv_gf (cm_h o c r) 59 [(4, 3, .int)] = some (.int (c.1 50)) := jv_gf_at (cm_r (c := c) (r := r) ho (k := 9) rfl (by decide) (by decide) (by decide) (by decide) rfl) rfl rfl
theorem cp_59_3 (ho : o.length = 50) : jv_pf (cm_h o c r) 59 [(4, 3, .int)] (.int v) = some (cm_h o (cs_i c 50 v) r) := by
  rw [jv_pf_at (cm_r (c := c) (r := r) ho (k := 9) rfl (by decide) (by decide) (by decide) (by decide) rfl) rfl (by decide) (Nat.le_of_ble_eq_true rfl) rfl rfl]
  exact congrArg some (cm_w ho (k := 9) rfl (by decide) (by decide) (by decide) (by decide) rfl (fun _ _ => rfl) rfl)
theorem cg_59_4 (ho : o.length = 50) : jv_gf (cm_h o c r) 59 [(4, 4, .int)] = some (.int (c.1 51)) := jv_gf_at (cm_r (c := c) (r := r) ho (k := 9) rfl (by decide) (by decide) (by decide) (by decide) rfl) rfl rfl
theorem cp_59_4 (ho : o.length = 50) : jv_pf (cm_h o c r) 59 [(4, 4, .int)] (.int v) = some (cm_h o (cs_i c 51 v) r) := by
  rw [jv_pf_at (cm_r (c := c) (r := r) ho (k := 9) rfl (by decide) (by decide) (by decide) (by decide) rfl) rfl (by decide) (Nat.le_of_ble_eq_true rfl) rfl rfl]
  exact congrArg some (cm_w ho (k := 9) rfl (by decide) (by decide) (by decide) (by decide) rfl (fun _ _ => rfl) rfl)
theorem cg_59_5 (ho : o.length = 50) : jv_gf (cm_h o c r) 59 [(4, 5, .int)] = some (.int (c.1 52)) := jv_gf_at (cm_r (c := c) (r := r) ho (k := 9) rfl (by decide) (by decide) (by decide) (by decide) rfl) rfl rfl
theorem cp_59_5 (ho : o.length = 50) : jv_pf (cm_h o c r) 59 [(4, 5, .int)] (.int v) = some (cm_h o (cs_i c 52 v) r) := by
  rw [jv_pf_at (cm_r (c := c) (r := r) ho (k := 9) rfl (by decide) (by decide) (by decide) (by decide) rfl) rfl (by decide) (Nat.le_of_ble_eq_true rfl) rfl rfl]
  exact congrArg some (cm_w ho (k := 9) rfl (by decide) (by decide) (by decide) (by decide) rfl (fun _ _ => rfl) rfl)
theorem cg_59_6 (ho : o.length = 50) : jv_gf (cm_h o c r) 59 [(4, 6, .int)] = some (.int (c.1 53)) := jv_gf_at (cm_r (c := c) (r := r) ho (k := 9) rfl (by decide) (by decide) (by decide) (by decide) rfl) rfl rfl
theorem cp_59_6 (ho : o.length = 50) : jv_pf (cm_h o c r) 59 [(4, 6, .int)] (.int v) = some (cm_h o (cs_i c 53 v) r) := by
  rw [jv_pf_at (cm_r (c := c) (r := r) ho (k := 9) rfl (by decide) (by decide) (by decide) (by decide) rfl) rfl (by decide) (Nat.le_of_ble_eq_true rfl) rfl rfl]
  exact congrArg some (cm_w ho (k := 9) rfl (by decide) (by decide) (by decide) (by decide) rfl (fun _ _ => rfl) rfl)
theorem cr_60 {V : List (Nat × Nat)} (ho : o.length = 50) : jv_rc (cm_h o c r) 60 V = V.lookup 5 := by
  unfold jv_rc
  rw [cm_r (c := c) (r := r) ho (k := 10) rfl (by decide) (by decide) (by decide) (by decide) rfl]
theorem cc_60 (ho : o.length = 50) : jv_cls (cm_h o c r) 60 = some 5 := by
  unfold jv_cls
  rw [cm_r (c := c) (r := r) ho (k := 10) rfl (by decide) (by decide) (by decide) (by decide) rfl]
theorem cg_60_0 (ho : o.length = 50) : jv_gf (cm_h o c r) 60 [(5, 0, .array .int)] = some (.ref 61) := jv_gf_at (cm_r (c := c) (r := r) ho (k := 10) rfl (by decide) (by decide) (by decide) (by decide) rfl) rfl rfl
theorem cg_60_1 (ho : o.length = 50) : jv_gf (cm_h o c r) 60 [(5, 1, .object "java/util/ArrayList")] = some (.ref 62) := jv_gf_at (cm_r (c := c) (r := r) ho (k := 10) rfl (by decide) (by decide) (by decide) (by decide) rfl) rfl rfl
theorem cg_60_2 (ho : o.length = 50) : jv_gf (cm_h o c r) 60 [(5, 2, .object "java/util/ArrayList")] = some (.ref 63) := jv_gf_at (cm_r (c := c) (r := r) ho (k := 10) rfl (by decide) (by decide) (by decide) (by decide) rfl) rfl rfl
theorem cg_60_3 (ho : o.length = 50) : jv_gf (cm_h o c r) 60 [(5, 3, .array (.object "RainLoom$Law"))] = some (.ref 64) := jv_gf_at (cm_r (c := c) (r := r) ho (k := 10) rfl (by decide) (by decide) (by decide) (by decide) rfl) rfl rfl
theorem cg_60_4 (ho : o.length = 50) : jv_gf (cm_h o c r) 60 [(5, 4, .int)] = some (.int (nI 0)) := jv_gf_at (cm_r (c := c) (r := r) ho (k := 10) rfl (by decide) (by decide) (by decide) (by decide) rfl) rfl rfl
theorem cg_60_5 (ho : o.length = 50) : jv_gf (cm_h o c r) 60 [(5, 5, .int)] = some (.int (nI 0)) := jv_gf_at (cm_r (c := c) (r := r) ho (k := 10) rfl (by decide) (by decide) (by decide) (by decide) rfl) rfl rfl
theorem cg_60_6 (ho : o.length = 50) : jv_gf (cm_h o c r) 60 [(5, 6, .int)] = some (.int (nI 100)) := jv_gf_at (cm_r (c := c) (r := r) ho (k := 10) rfl (by decide) (by decide) (by decide) (by decide) rfl) rfl rfl
theorem cg_60_7 (ho : o.length = 50) : jv_gf (cm_h o c r) 60 [(5, 7, .int)] = some (.int (nI 0)) := jv_gf_at (cm_r (c := c) (r := r) ho (k := 10) rfl (by decide) (by decide) (by decide) (by decide) rfl) rfl rfl
theorem cg_60_8 (ho : o.length = 50) : jv_gf (cm_h o c r) 60 [(5, 8, .int)] = some (.int (nI 0)) := jv_gf_at (cm_r (c := c) (r := r) ho (k := 10) rfl (by decide) (by decide) (by decide) (by decide) rfl) rfl rfl
theorem cr_133 {V : List (Nat × Nat)} (ho : o.length = 50) : jv_rc (cm_h o c r) 133 V = V.lookup 8 := by
  unfold jv_rc
  rw [cm_r (c := c) (r := r) ho (k := 83) rfl (by decide) (by decide) (by decide) (by decide) rfl]
theorem cc_133 (ho : o.length = 50) : jv_cls (cm_h o c r) 133 = some 8 := by
  unfold jv_cls
  rw [cm_r (c := c) (r := r) ho (k := 83) rfl (by decide) (by decide) (by decide) (by decide) rfl]
theorem cr_134 {V : List (Nat × Nat)} (ho : o.length = 50) : jv_rc (cm_h o c r) 134 V = V.lookup 9 := by
  unfold jv_rc
  rw [cm_r (c := c) (r := r) ho (k := 84) rfl (by decide) (by decide) (by decide) (by decide) rfl]
theorem cc_134 (ho : o.length = 50) : jv_cls (cm_h o c r) 134 = some 9 := by
  unfold jv_cls
  rw [cm_r (c := c) (r := r) ho (k := 84) rfl (by decide) (by decide) (by decide) (by decide) rfl]
theorem cr_135 {V : List (Nat × Nat)} (ho : o.length = 50) : jv_rc (cm_h o c r) 135 V = V.lookup 10 := by
  unfold jv_rc
  rw [cm_r (c := c) (r := r) ho (k := 85) rfl (by decide) (by decide) (by decide) (by decide) rfl]
theorem cc_135 (ho : o.length = 50) : jv_cls (cm_h o c r) 135 = some 10 := by
  unfold jv_cls
  rw [cm_r (c := c) (r := r) ho (k := 85) rfl (by decide) (by decide) (by decide) (by decide) rfl]
theorem cr_136 {V : List (Nat × Nat)} (ho : o.length = 50) : jv_rc (cm_h o c r) 136 V = V.lookup 11 := by
  unfold jv_rc
  rw [cm_r (c := c) (r := r) ho (k := 86) rfl (by decide) (by decide) (by decide) (by decide) rfl]
theorem cc_136 (ho : o.length = 50) : jv_cls (cm_h o c r) 136 = some 11 := by
  unfold jv_cls
  rw [cm_r (c := c) (r := r) ho (k := 86) rfl (by decide) (by decide) (by decide) (by decide) rfl]
theorem cl_54 (ho : o.length = 50) : jv_al (cm_h o c r) 54 = some 2000 := by
  unfold jv_al
  rw [cm_r (c := c) (r := r) ho (k := 4) rfl (by decide) (by decide) (by decide) (by decide) rfl]
  rfl
theorem ct_54 (ho : o.length = 50) : jv_ig (cm_h o c r) 54 1 2 i = if i < 0 ∨ 2000 ≤ i.toNatClampNeg then none else some (c.2.1 0 i.toNatClampNeg) := jv_ig_at (cm_r (c := c) (r := r) ho (k := 4) rfl (by decide) (by decide) (by decide) (by decide) rfl) (by decide)
theorem cw_54 (ho : o.length = 50) : jv_ip (cm_h o c r) 54 1 2 i x = if i < 0 ∨ 2000 ≤ i.toNatClampNeg then none else some (cm_h o (cs_a c 0 (upd (c.2.1 0) i.toNatClampNeg (jv_nar 1 x))) r) := by
  rw [jv_ip_at (cm_r (c := c) (r := r) ho (k := 4) rfl (by decide) (by decide) (by decide) (by decide) rfl) (by decide) (by decide)]
  split
  · rfl
  · exact congrArg some (cm_w ho (k := 4) rfl (by decide) (by decide) (by decide) (by decide) rfl (fun j hj => by rw [ca2, if_neg (by omega)]) rfl)
theorem cl_55 (ho : o.length = 50) : jv_al (cm_h o c r) 55 = some 2001 := by
  unfold jv_al
  rw [cm_r (c := c) (r := r) ho (k := 5) rfl (by decide) (by decide) (by decide) (by decide) rfl]
  rfl
theorem ct_55 (ho : o.length = 50) : jv_ig (cm_h o c r) 55 1 2 i = if i < 0 ∨ 2001 ≤ i.toNatClampNeg then none else some (c.2.1 1 i.toNatClampNeg) := jv_ig_at (cm_r (c := c) (r := r) ho (k := 5) rfl (by decide) (by decide) (by decide) (by decide) rfl) (by decide)
theorem cw_55 (ho : o.length = 50) : jv_ip (cm_h o c r) 55 1 2 i x = if i < 0 ∨ 2001 ≤ i.toNatClampNeg then none else some (cm_h o (cs_a c 1 (upd (c.2.1 1) i.toNatClampNeg (jv_nar 1 x))) r) := by
  rw [jv_ip_at (cm_r (c := c) (r := r) ho (k := 5) rfl (by decide) (by decide) (by decide) (by decide) rfl) (by decide) (by decide)]
  split
  · rfl
  · exact congrArg some (cm_w ho (k := 5) rfl (by decide) (by decide) (by decide) (by decide) rfl (fun j hj => by rw [ca2, if_neg (by omega)]) rfl)
theorem cl_56 (ho : o.length = 50) : jv_al (cm_h o c r) 56 = some 2001 := by
  unfold jv_al
  rw [cm_r (c := c) (r := r) ho (k := 6) rfl (by decide) (by decide) (by decide) (by decide) rfl]
  rfl
theorem ct_56 (ho : o.length = 50) : jv_ig (cm_h o c r) 56 3 3 i = if i < 0 ∨ 2001 ≤ i.toNatClampNeg then none else some (c.2.1 2 i.toNatClampNeg) := jv_ig_at (cm_r (c := c) (r := r) ho (k := 6) rfl (by decide) (by decide) (by decide) (by decide) rfl) (by decide)
theorem cw_56 (ho : o.length = 50) : jv_ip (cm_h o c r) 56 3 3 i x = if i < 0 ∨ 2001 ≤ i.toNatClampNeg then none else some (cm_h o (cs_a c 2 (upd (c.2.1 2) i.toNatClampNeg (jv_nar 3 x))) r) := by
  rw [jv_ip_at (cm_r (c := c) (r := r) ho (k := 6) rfl (by decide) (by decide) (by decide) (by decide) rfl) (by decide) (by decide)]
  split
  · rfl
  · exact congrArg some (cm_w ho (k := 6) rfl (by decide) (by decide) (by decide) (by decide) rfl (fun j hj => by rw [ca2, if_neg (by omega)]) rfl)
theorem cl_57 (ho : o.length = 50) : jv_al (cm_h o c r) 57 = some 2001 := by
  unfold jv_al
  rw [cm_r (c := c) (r := r) ho (k := 7) rfl (by decide) (by decide) (by decide) (by decide) rfl]
  rfl
theorem ct_57 (ho : o.length = 50) : jv_ig (cm_h o c r) 57 3 3 i = if i < 0 ∨ 2001 ≤ i.toNatClampNeg then none else some (c.2.1 3 i.toNatClampNeg) := jv_ig_at (cm_r (c := c) (r := r) ho (k := 7) rfl (by decide) (by decide) (by decide) (by decide) rfl) (by decide)
theorem cw_57 (ho : o.length = 50) : jv_ip (cm_h o c r) 57 3 3 i x = if i < 0 ∨ 2001 ≤ i.toNatClampNeg then none else some (cm_h o (cs_a c 3 (upd (c.2.1 3) i.toNatClampNeg (jv_nar 3 x))) r) := by
  rw [jv_ip_at (cm_r (c := c) (r := r) ho (k := 7) rfl (by decide) (by decide) (by decide) (by decide) rfl) (by decide) (by decide)]
  split
  · rfl
  · exact congrArg some (cm_w ho (k := 7) rfl (by decide) (by decide) (by decide) (by decide) rfl (fun j hj => by rw [ca2, if_neg (by omega)]) rfl)
theorem cl_58 (ho : o.length = 50) : jv_al (cm_h o c r) 58 = some 2001 := by
  unfold jv_al
  rw [cm_r (c := c) (r := r) ho (k := 8) rfl (by decide) (by decide) (by decide) (by decide) rfl]
  rfl
theorem ct_58 (ho : o.length = 50) : jv_ig (cm_h o c r) 58 3 3 i = if i < 0 ∨ 2001 ≤ i.toNatClampNeg then none else some (c.2.1 4 i.toNatClampNeg) := jv_ig_at (cm_r (c := c) (r := r) ho (k := 8) rfl (by decide) (by decide) (by decide) (by decide) rfl) (by decide)
theorem cw_58 (ho : o.length = 50) : jv_ip (cm_h o c r) 58 3 3 i x = if i < 0 ∨ 2001 ≤ i.toNatClampNeg then none else some (cm_h o (cs_a c 4 (upd (c.2.1 4) i.toNatClampNeg (jv_nar 3 x))) r) := by
  rw [jv_ip_at (cm_r (c := c) (r := r) ho (k := 8) rfl (by decide) (by decide) (by decide) (by decide) rfl) (by decide) (by decide)]
  split
  · rfl
  · exact congrArg some (cm_w ho (k := 8) rfl (by decide) (by decide) (by decide) (by decide) rfl (fun j hj => by rw [ca2, if_neg (by omega)]) rfl)
theorem cl_137 (ho : o.length = 50) : jv_al (cm_h o c r) 137 = some 3 := by
  unfold jv_al
  rw [cm_r (c := c) (r := r) ho (k := 87) rfl (by decide) (by decide) (by decide) (by decide) rfl]
  rfl
theorem ct_137 (ho : o.length = 50) : jv_ig (cm_h o c r) 137 1 2 i = if i < 0 ∨ 3 ≤ i.toNatClampNeg then none else some (c.2.1 5 i.toNatClampNeg) := jv_ig_at (cm_r (c := c) (r := r) ho (k := 87) rfl (by decide) (by decide) (by decide) (by decide) rfl) (by decide)
theorem cw_137 (ho : o.length = 50) : jv_ip (cm_h o c r) 137 1 2 i x = if i < 0 ∨ 3 ≤ i.toNatClampNeg then none else some (cm_h o (cs_a c 5 (upd (c.2.1 5) i.toNatClampNeg (jv_nar 2 x))) r) := by
  rw [jv_ip_at (cm_r (c := c) (r := r) ho (k := 87) rfl (by decide) (by decide) (by decide) (by decide) rfl) (by decide) (by decide)]
  split
  · rfl
  · exact congrArg some (cm_w ho (k := 87) rfl (by decide) (by decide) (by decide) (by decide) rfl (fun j hj => by rw [ca2, if_neg (by omega)]) rfl)
theorem cl_138 (ho : o.length = 50) : jv_al (cm_h o c r) 138 = some 4 := by
  unfold jv_al
  rw [cm_r (c := c) (r := r) ho (k := 88) rfl (by decide) (by decide) (by decide) (by decide) rfl]
  rfl
theorem ct_138 (ho : o.length = 50) : jv_ig (cm_h o c r) 138 0 0 i = if i < 0 ∨ 4 ≤ i.toNatClampNeg then none else some (c.2.1 6 i.toNatClampNeg) := jv_ig_at (cm_r (c := c) (r := r) ho (k := 88) rfl (by decide) (by decide) (by decide) (by decide) rfl) (by decide)
theorem cw_138 (ho : o.length = 50) : jv_ip (cm_h o c r) 138 0 0 i x = if i < 0 ∨ 4 ≤ i.toNatClampNeg then none else some (cm_h o (cs_a c 6 (upd (c.2.1 6) i.toNatClampNeg (jv_nar 0 x))) r) := by
  rw [jv_ip_at (cm_r (c := c) (r := r) ho (k := 88) rfl (by decide) (by decide) (by decide) (by decide) rfl) (by decide) (by decide)]
  split
  · rfl
  · exact congrArg some (cm_w ho (k := 88) rfl (by decide) (by decide) (by decide) (by decide) rfl (fun j hj => by rw [ca2, if_neg (by omega)]) rfl)
theorem cl_139 (ho : o.length = 50) : jv_al (cm_h o c r) 139 = some 4 := by
  unfold jv_al
  rw [cm_r (c := c) (r := r) ho (k := 89) rfl (by decide) (by decide) (by decide) (by decide) rfl]
  rfl
theorem ct_139 (ho : o.length = 50) : jv_ig (cm_h o c r) 139 0 0 i = if i < 0 ∨ 4 ≤ i.toNatClampNeg then none else some (c.2.1 7 i.toNatClampNeg) := jv_ig_at (cm_r (c := c) (r := r) ho (k := 89) rfl (by decide) (by decide) (by decide) (by decide) rfl) (by decide)
theorem cw_139 (ho : o.length = 50) : jv_ip (cm_h o c r) 139 0 0 i x = if i < 0 ∨ 4 ≤ i.toNatClampNeg then none else some (cm_h o (cs_a c 7 (upd (c.2.1 7) i.toNatClampNeg (jv_nar 0 x))) r) := by
  rw [jv_ip_at (cm_r (c := c) (r := r) ho (k := 89) rfl (by decide) (by decide) (by decide) (by decide) rfl) (by decide) (by decide)]
  split
  · rfl
  · exact congrArg some (cm_w ho (k := 89) rfl (by decide) (by decide) (by decide) (by decide) rfl (fun j hj => by rw [ca2, if_neg (by omega)]) rfl)
theorem cl_146 (ho : o.length = 50) : jv_al (cm_h o c r) 146 = some 4 := by
  unfold jv_al
  rw [cm_r (c := c) (r := r) ho (k := 96) rfl (by decide) (by decide) (by decide) (by decide) rfl]
  rfl
theorem ct_146 (ho : o.length = 50) : jv_ig (cm_h o c r) 146 0 0 i = if i < 0 ∨ 4 ≤ i.toNatClampNeg then none else some (c.2.1 8 i.toNatClampNeg) := jv_ig_at (cm_r (c := c) (r := r) ho (k := 96) rfl (by decide) (by decide) (by decide) (by decide) rfl) (by decide)
theorem cw_146 (ho : o.length = 50) : jv_ip (cm_h o c r) 146 0 0 i x = if i < 0 ∨ 4 ≤ i.toNatClampNeg then none else some (cm_h o (cs_a c 8 (upd (c.2.1 8) i.toNatClampNeg (jv_nar 0 x))) r) := by
  rw [jv_ip_at (cm_r (c := c) (r := r) ho (k := 96) rfl (by decide) (by decide) (by decide) (by decide) rfl) (by decide) (by decide)]
  split
  · rfl
  · exact congrArg some (cm_w ho (k := 96) rfl (by decide) (by decide) (by decide) (by decide) rfl (fun j hj => by rw [ca2, if_neg (by omega)]) rfl)
theorem cl_147 (ho : o.length = 50) : jv_al (cm_h o c r) 147 = some 4 := by
  unfold jv_al
  rw [cm_r (c := c) (r := r) ho (k := 97) rfl (by decide) (by decide) (by decide) (by decide) rfl]
  rfl
theorem ct_147 (ho : o.length = 50) : jv_ig (cm_h o c r) 147 0 0 i = if i < 0 ∨ 4 ≤ i.toNatClampNeg then none else some (c.2.1 9 i.toNatClampNeg) := jv_ig_at (cm_r (c := c) (r := r) ho (k := 97) rfl (by decide) (by decide) (by decide) (by decide) rfl) (by decide)
theorem cw_147 (ho : o.length = 50) : jv_ip (cm_h o c r) 147 0 0 i x = if i < 0 ∨ 4 ≤ i.toNatClampNeg then none else some (cm_h o (cs_a c 9 (upd (c.2.1 9) i.toNatClampNeg (jv_nar 0 x))) r) := by
  rw [jv_ip_at (cm_r (c := c) (r := r) ho (k := 97) rfl (by decide) (by decide) (by decide) (by decide) rfl) (by decide) (by decide)]
  split
  · rfl
  · exact congrArg some (cm_w ho (k := 97) rfl (by decide) (by decide) (by decide) (by decide) rfl (fun j hj => by rw [ca2, if_neg (by omega)]) rfl)
theorem cl_148 (ho : o.length = 50) : jv_al (cm_h o c r) 148 = some 20 := by
  unfold jv_al
  rw [cm_r (c := c) (r := r) ho (k := 98) rfl (by decide) (by decide) (by decide) (by decide) rfl]
  rfl
theorem ct_148 (ho : o.length = 50) : jv_ig (cm_h o c r) 148 0 0 i = if i < 0 ∨ 20 ≤ i.toNatClampNeg then none else some (c.2.1 16 i.toNatClampNeg) := jv_ig_at (cm_r (c := c) (r := r) ho (k := 98) rfl (by decide) (by decide) (by decide) (by decide) rfl) (by decide)
theorem cw_148 (ho : o.length = 50) : jv_ip (cm_h o c r) 148 0 0 i x = if i < 0 ∨ 20 ≤ i.toNatClampNeg then none else some (cm_h o (cs_a c 16 (upd (c.2.1 16) i.toNatClampNeg (jv_nar 0 x))) r) := by
  rw [jv_ip_at (cm_r (c := c) (r := r) ho (k := 98) rfl (by decide) (by decide) (by decide) (by decide) rfl) (by decide) (by decide)]
  split
  · rfl
  · exact congrArg some (cm_w ho (k := 98) rfl (by decide) (by decide) (by decide) (by decide) rfl (fun j hj => by rw [ca2, if_neg (by omega)]) rfl)
theorem cl_149 (ho : o.length = 50) : jv_al (cm_h o c r) 149 = some 20 := by
  unfold jv_al
  rw [cm_r (c := c) (r := r) ho (k := 99) rfl (by decide) (by decide) (by decide) (by decide) rfl]
  rfl
theorem ct_149 (ho : o.length = 50) : jv_ig (cm_h o c r) 149 0 0 i = if i < 0 ∨ 20 ≤ i.toNatClampNeg then none else some (c.2.1 17 i.toNatClampNeg) := jv_ig_at (cm_r (c := c) (r := r) ho (k := 99) rfl (by decide) (by decide) (by decide) (by decide) rfl) (by decide)
theorem cw_149 (ho : o.length = 50) : jv_ip (cm_h o c r) 149 0 0 i x = if i < 0 ∨ 20 ≤ i.toNatClampNeg then none else some (cm_h o (cs_a c 17 (upd (c.2.1 17) i.toNatClampNeg (jv_nar 0 x))) r) := by
  rw [jv_ip_at (cm_r (c := c) (r := r) ho (k := 99) rfl (by decide) (by decide) (by decide) (by decide) rfl) (by decide) (by decide)]
  split
  · rfl
  · exact congrArg some (cm_w ho (k := 99) rfl (by decide) (by decide) (by decide) (by decide) rfl (fun j hj => by rw [ca2, if_neg (by omega)]) rfl)
theorem cl_53 (ho : o.length = 50) : jv_al (cm_h o c r) 53 = some 21 := by
  unfold jv_al
  rw [cm_r (c := c) (r := r) ho (k := 3) rfl (by decide) (by decide) (by decide) (by decide) rfl]
  rfl
theorem ct_53 {n : Nat} (ho : o.length = 50) (hn : n < 21) : jv_rg (cm_h o c r) 53 (nI n) = some (.ref (2 + n)) := by
  unfold jv_rg
  rw [cm_r (c := c) (r := r) ho (k := 3) rfl (by decide) (by decide) (by decide) (by decide) rfl]
  dsimp only
  rw [if_pos ⟨by decide, nI_in hn (by decide)⟩, nI_clamp (by omega)]
  unfold cm_wf
  rw [if_pos hn]
  rfl
theorem cl_91 (ho : o.length = 50) : jv_al (cm_h o c r) 91 = some 30 := by
  unfold jv_al
  rw [cm_r (c := c) (r := r) ho (k := 41) rfl (by decide) (by decide) (by decide) (by decide) rfl]
  rfl
theorem ct_91 {n : Nat} (ho : o.length = 50) (hn : n < 30) : jv_rg (cm_h o c r) 91 (nI n) = some (.ref (la (5 + n))) := by
  unfold jv_rg
  rw [cm_r (c := c) (r := r) ho (k := 41) rfl (by decide) (by decide) (by decide) (by decide) rfl]
  dsimp only
  rw [if_pos ⟨by decide, nI_in hn (by decide)⟩, nI_clamp (by omega)]
  unfold cm_pf
  rw [if_pos hn]
  rw [show la (5 + n) = 199 + 13 * n from by unfold la; split <;> (try split) <;> omega]
  rfl
theorem cl_92 (ho : o.length = 50) : jv_al (cm_h o c r) 92 = some 3 := by
  unfold jv_al
  rw [cm_r (c := c) (r := r) ho (k := 42) rfl (by decide) (by decide) (by decide) (by decide) rfl]
  rfl
theorem ct_92 {n : Nat} (ho : o.length = 50) (hn : n < 3) : jv_rg (cm_h o c r) 92 (nI n) = some (.ref (la (2 + n))) := by
  unfold jv_rg
  rw [cm_r (c := c) (r := r) ho (k := 42) rfl (by decide) (by decide) (by decide) (by decide) rfl]
  dsimp only
  rw [if_pos ⟨by decide, nI_in hn (by decide)⟩, nI_clamp (by omega)]
  unfold cm_sf
  rw [if_pos hn]
  rw [show la (2 + n) = 93 + 13 * n from by unfold la; split <;> (try split) <;> omega]
  rfl
theorem cl_132 (ho : o.length = 50) : jv_al (cm_h o c r) 132 = some 4 := by
  unfold jv_al
  rw [cm_r (c := c) (r := r) ho (k := 82) rfl (by decide) (by decide) (by decide) (by decide) rfl]
  rfl
theorem ct_132 {n : Nat} (ho : o.length = 50) (hn : n < 4) : jv_rg (cm_h o c r) 132 (nI n) = some (.ref (133 + n)) := by
  unfold jv_rg
  rw [cm_r (c := c) (r := r) ho (k := 82) rfl (by decide) (by decide) (by decide) (by decide) rfl]
  dsimp only
  rw [if_pos ⟨by decide, nI_in hn (by decide)⟩, nI_clamp (by omega)]
  unfold cm_qf
  rw [if_pos hn]
  rfl
theorem cl_140 (ho : o.length = 50) : jv_al (cm_h o c r) 140 = some 5 := by
  unfold jv_al
  rw [cm_r (c := c) (r := r) ho (k := 90) rfl (by decide) (by decide) (by decide) (by decide) rfl]
  rfl
theorem ct_140 {n : Nat} (ho : o.length = 50) (hn : n < 5) : jv_rg (cm_h o c r) 140 (nI n) = some (.ref (141 + n)) := by
  unfold jv_rg
  rw [cm_r (c := c) (r := r) ho (k := 90) rfl (by decide) (by decide) (by decide) (by decide) rfl]
  dsimp only
  rw [if_pos ⟨by decide, nI_in hn (by decide)⟩, nI_clamp (by omega)]
  unfold cm_uf
  rw [if_pos hn]
  rfl
theorem cl_150 (ho : o.length = 50) : jv_al (cm_h o c r) 150 = some 48 := by
  unfold jv_al
  rw [cm_r (c := c) (r := r) ho (k := 100) rfl (by decide) (by decide) (by decide) (by decide) rfl]
  rfl
theorem ct_150 {n : Nat} (ho : o.length = 50) (hn : n < 48) : jv_rg (cm_h o c r) 150 (nI n) = some (.ref (151 + n)) := by
  unfold jv_rg
  rw [cm_r (c := c) (r := r) ho (k := 100) rfl (by decide) (by decide) (by decide) (by decide) rfl]
  dsimp only
  rw [if_pos ⟨by decide, nI_in hn (by decide)⟩, nI_clamp (by omega)]
  unfold cm_vf
  rw [if_pos hn]
  rfl
theorem cm_fu {n : Nat} (hn : n < 5) : cm_f c (91 + n) = .inl (0, 8, .inl (c.2.1 (10 + n))) := by
  unfold cm_f
  rw [if_neg (by omega), if_neg (by omega), if_pos (by omega), Nat.add_sub_cancel_left]
theorem ct_u {n : Nat} (ho : o.length = 50) (hn : n < 5) : jv_ig (cm_h o c r) (141 + n) 0 0 i = if i < 0 ∨ 8 ≤ i.toNatClampNeg then none else some (c.2.1 (10 + n) i.toNatClampNeg) := jv_ig_at ((cm_at ho (k := 91 + n) (by omega) (by omega)).trans (congrArg some (cm_fu hn))) (by decide)
theorem cw_u {n : Nat} (ho : o.length = 50) (hn : n < 5) : jv_ip (cm_h o c r) (141 + n) 0 0 i x = if i < 0 ∨ 8 ≤ i.toNatClampNeg then none else some (cm_h o (cs_a c (10 + n) (upd (c.2.1 (10 + n)) i.toNatClampNeg x)) r) := by
  rw [jv_ip_at ((cm_at ho (k := 91 + n) (by omega) (by omega)).trans (congrArg some (cm_fu hn))) (by decide) (Nat.le_trans (show jt_off ≤ 50 by decide) (by omega))]
  split
  · rfl
  · refine congrArg some (cm_set ho (k := 91 + n) (by omega) (by omega) ?_ fun j hj hne => ?_)
    · rw [cm_fu hn, ca2, if_pos rfl]
      rfl
    · have hh : ∀ m, (m < 10 ∨ 15 ≤ m ∨ m ≠ 10 + n) → (cs_a c (10 + n) (upd (c.2.1 (10 + n)) i.toNatClampNeg x)).2.1 m = c.2.1 m := fun m hm => by rw [ca2, if_neg (by omega)]
      unfold cm_f
      rw [ca3]
      by_cases a1 : 149 ≤ j
      · rw [if_pos a1, if_pos a1]
      rw [if_neg a1, if_neg a1]
      by_cases a2 : 101 ≤ j
      · rw [if_pos a2, if_pos a2, hh _ (by omega)]
      rw [if_neg a2, if_neg a2]
      by_cases a3 : 91 ≤ j ∧ j < 96
      · rw [if_pos a3, if_pos a3, hh _ (by omega)]
      rw [if_neg a3, if_neg a3]
      by_cases a4 : 43 ≤ j ∧ j < 82
      · rw [if_pos a4, if_pos a4]
      rw [if_neg a4, if_neg a4]
      by_cases a5 : 15 ≤ j ∧ j < 41
      · rw [if_pos a5, if_pos a5]
      rw [if_neg a5, if_neg a5, show cm_b (cs_a c (10 + n) (upd (c.2.1 (10 + n)) i.toNatClampNeg x)) = cm_b c from by
        have g : ∀ m, (m < 10 ∨ (15 ≤ m ∧ m < 20)) → (cs_a c (10 + n) (upd (c.2.1 (10 + n)) i.toNatClampNeg x)).2.1 m = c.2.1 m := fun m hm => hh m (by omega)
        unfold cm_b
        rw [ca1, ca3, g 0 (by omega), g 1 (by omega), g 2 (by omega), g 3 (by omega), g 4 (by omega), g 5 (by omega), g 6 (by omega), g 7 (by omega), g 8 (by omega), g 9 (by omega), g 16 (by omega), g 17 (by omega)]]
theorem cm_fv {n : Nat} (hn : n < 48) : cm_f c (101 + n) = .inl (0, 10, .inl (c.2.1 (20 + n))) := by
  unfold cm_f
  rw [if_neg (by omega), if_pos (by omega), Nat.add_sub_cancel_left]
theorem ct_v {n : Nat} (ho : o.length = 50) (hn : n < 48) : jv_ig (cm_h o c r) (151 + n) 0 0 i = if i < 0 ∨ 10 ≤ i.toNatClampNeg then none else some (c.2.1 (20 + n) i.toNatClampNeg) := jv_ig_at ((cm_at ho (k := 101 + n) (by omega) (by omega)).trans (congrArg some (cm_fv hn))) (by decide)
theorem cw_v {n : Nat} (ho : o.length = 50) (hn : n < 48) : jv_ip (cm_h o c r) (151 + n) 0 0 i x = if i < 0 ∨ 10 ≤ i.toNatClampNeg then none else some (cm_h o (cs_a c (20 + n) (upd (c.2.1 (20 + n)) i.toNatClampNeg x)) r) := by
  rw [jv_ip_at ((cm_at ho (k := 101 + n) (by omega) (by omega)).trans (congrArg some (cm_fv hn))) (by decide) (Nat.le_trans (show jt_off ≤ 50 by decide) (by omega))]
  split
  · rfl
  · refine congrArg some (cm_set ho (k := 101 + n) (by omega) (by omega) ?_ fun j hj hne => ?_)
    · rw [cm_fv hn, ca2, if_pos rfl]
      rfl
    · have hh : ∀ m, (m < 20 ∨ 68 ≤ m ∨ m ≠ 20 + n) → (cs_a c (20 + n) (upd (c.2.1 (20 + n)) i.toNatClampNeg x)).2.1 m = c.2.1 m := fun m hm => by rw [ca2, if_neg (by omega)]
      unfold cm_f
      rw [ca3]
      by_cases a1 : 149 ≤ j
      · rw [if_pos a1, if_pos a1]
      rw [if_neg a1, if_neg a1]
      by_cases a2 : 101 ≤ j
      · rw [if_pos a2, if_pos a2, hh _ (by omega)]
      rw [if_neg a2, if_neg a2]
      by_cases a3 : 91 ≤ j ∧ j < 96
      · rw [if_pos a3, if_pos a3, hh _ (by omega)]
      rw [if_neg a3, if_neg a3]
      by_cases a4 : 43 ≤ j ∧ j < 82
      · rw [if_pos a4, if_pos a4]
      rw [if_neg a4, if_neg a4]
      by_cases a5 : 15 ≤ j ∧ j < 41
      · rw [if_pos a5, if_pos a5]
      rw [if_neg a5, if_neg a5, show cm_b (cs_a c (20 + n) (upd (c.2.1 (20 + n)) i.toNatClampNeg x)) = cm_b c from by
        have g : ∀ m, (m < 10 ∨ (15 ≤ m ∧ m < 20)) → (cs_a c (20 + n) (upd (c.2.1 (20 + n)) i.toNatClampNeg x)).2.1 m = c.2.1 m := fun m hm => hh m (by omega)
        unfold cm_b
        rw [ca1, ca3, g 0 (by omega), g 1 (by omega), g 2 (by omega), g 3 (by omega), g 4 (by omega), g 5 (by omega), g 6 (by omega), g 7 (by omega), g 8 (by omega), g 9 (by omega), g 16 (by omega), g 17 (by omega)]]
theorem la_ge {i : Nat} (hi : i < 35) : 65 ≤ la i ∧ la i + 13 ≤ 589 := by
  unfold la
  split
  · omega
  · split <;> omega
theorem la_ap {i j k : Nat} (hi : i < 35) (hj : j < 35) (h : i ≠ j) (h2 : k < 13) : la i + k < la j ∨ la j + 13 ≤ la i + k := by
  unfold la
  by_cases a1 : i < 2 <;> by_cases a2 : j < 2 <;> by_cases a3 : i < 5 <;> by_cases a4 : j < 5 <;> simp only [a1, a2, a3, a4, if_true, if_false] <;> omega
theorem cm_fl {n k : Nat} (hn : n < 35) (hk : k < 13) {w : jv_C} (hw : (ld_c (la n) (c.2.2.1 n))[k]? = some w) : cm_f c (la n - 50 + k) = w := by
  have e : ∀ q r, q = n → r = k → ((ld_c (la n) (c.2.2.1 q)).getD r cm_dd) = w := fun q r h1 h2 => by
    subst h1; subst h2
    rw [List.getD_eq_getElem?_getD, hw]
    rfl
  unfold la at e ⊢
  unfold cm_f
  by_cases a1 : n < 2
  · simp only [a1, if_true] at e ⊢
    rw [if_neg (by omega), if_neg (by omega), if_neg (by omega), if_neg (by omega), if_pos (by omega), show (65 + 13 * n - 50 + k - 15) / 13 = n by omega]
    exact e _ _ rfl (by omega)
  · by_cases a2 : n < 5
    · simp only [a1, a2, if_true, if_false] at e ⊢
      rw [if_neg (by omega), if_neg (by omega), if_neg (by omega), if_pos (by omega), show 93 + 13 * ((67 + 13 * n - 50 + k - 43) / 13) = 67 + 13 * n by omega]
      exact e _ _ (by omega) (by omega)
    · simp only [a1, a2, if_false] at e ⊢
      rw [if_pos (by omega), show 199 + 13 * ((134 + 13 * n - 50 + k - 149) / 13) = 134 + 13 * n by omega]
      exact e _ _ (by omega) (by omega)
/-- a land's cell -/
theorem cm_l {n k : Nat} (ho : o.length = 50) (hn : n < 35) (hk : k < 13) {w : jv_C} (hw : (ld_c (la n) (c.2.2.1 n))[k]? = some w) : (cm_h o c r)[la n + k]? = some w := by
  have := la_ge hn
  rw [cm_at ho (k := la n - 50 + k) (by omega) (by omega), cm_fl hn hk hw]
theorem cm_fn {n : Nat} {s : rg_S} (hn : n < 35) {j : Nat} (hj : j < 539) (h : 50 + j < la n ∨ la n + 13 ≤ 50 + j) : cm_f (cs_L c n s) j = cm_f c j := by
  unfold la at h
  have g : ∀ m, m ≠ n → (cs_L c n s).2.2.1 m = c.2.2.1 m := fun m hm => by rw [cL3, if_neg hm]
  unfold cm_f
  rw [cL2]
  by_cases a1 : 149 ≤ j
  · rw [if_pos a1, if_pos a1, g]
    split at h
    · omega
    · split at h <;> omega
  rw [if_neg a1, if_neg a1]
  by_cases a2 : 101 ≤ j
  · rw [if_pos a2, if_pos a2]
  rw [if_neg a2, if_neg a2]
  by_cases a3 : 91 ≤ j ∧ j < 96
  · rw [if_pos a3, if_pos a3]
  rw [if_neg a3, if_neg a3]
  by_cases a4 : 43 ≤ j ∧ j < 82
  · rw [if_pos a4, if_pos a4, g]
    split at h
    · omega
    · split at h <;> omega
  rw [if_neg a4, if_neg a4]
  by_cases a5 : 15 ≤ j ∧ j < 41
  · rw [if_pos a5, if_pos a5, g]
    split at h
    · omega
    · split at h <;> omega
  rw [if_neg a5, if_neg a5]
  rfl
/-- what lies ahead of a land, behind it -/
def lp (o : jv_H) (c : cm_S) (r : jv_H) (n : Nat) : jv_H := (cm_h o c r).take (la n)
def lq (o : jv_H) (c : cm_S) (r : jv_H) (n : Nat) : jv_H := (cm_h o c r).drop (la n + 13)
theorem lp_len {n : Nat} (ho : o.length = 50) (hn : n < 35) : (lp o c r n).length = la n := by
  have := la_ge hn
  unfold lp
  rw [List.length_take, cm_len, ho]
  omega
/-- the heap as one land and the rest -/
theorem cm_ld {n : Nat} {s : rg_S} (ho : o.length = 50) (hn : n < 35) : ld_h (lp o c r n) s (lq o c r n) = cm_h o (cs_L c n s) r := by
  have hl := la_ge hn
  have hp := lp_len (c := c) (r := r) ho hn
  have key : ∀ a, (a < la n ∨ la n + 13 ≤ a) → (ld_h (lp o c r n) s (lq o c r n))[a]? = (cm_h o c r)[a]? := fun a ha => by
    unfold ld_h
    rcases ha with ha | ha
    · rw [List.getElem?_append_left (by omega)]
      unfold lp
      rw [List.getElem?_take_of_lt ha]
    · have e1 : (ld_c (lp o c r n).length s).length = 13 := rfl
      rw [List.getElem?_append_right (by omega), List.getElem?_append_right (by omega), e1, hp]
      unfold lq
      rw [List.getElem?_drop]
      congr 1
      omega
  refine cm_ext ho ?_ (fun a ha => ?_) (fun k hk => ?_) fun k => ?_
  · rw [ld_len, hp]
    unfold lq
    rw [List.length_drop, cm_len, ho]
    omega
  · rw [key a (by omega), cm_lo ho ha]
  · by_cases h : 50 + k < la n ∨ la n + 13 ≤ 50 + k
    · rw [key _ h, cm_at ho hk rfl, cm_fn hn hk h]
    · obtain ⟨j, hj, rfl⟩ : ∃ j, j < 13 ∧ k = la n - 50 + j := ⟨50 + k - la n, by omega, by omega⟩
      rw [show 50 + (la n - 50 + j) = la n + j by omega]
      have e1 : j < (ld_c (la n) s).length := hj
      rw [ld_at hp j (List.getElem?_eq_getElem e1), cm_fl hn hj]
      rw [cL3, if_pos rfl]
      exact List.getElem?_eq_getElem e1
  · rw [key _ (by omega), cm_hi ho]
theorem cL_id {n : Nat} : cs_L c n (c.2.2.1 n) = c := by
  unfold cs_L
  refine Prod.ext rfl (Prod.ext rfl (Prod.ext (funext fun i => ?_) rfl))
  by_cases h : i = n
  · subst h; simp
  · simp [h]
theorem cm_ld0 {n : Nat} (ho : o.length = 50) (hn : n < 35) : cm_h o c r = ld_h (lp o c r n) (c.2.2.1 n) (lq o c r n) := by
  rw [cm_ld ho hn, cL_id]
theorem cL_L {n : Nat} {s t : rg_S} : cs_L (cs_L c n s) n t = cs_L c n t := by
  unfold cs_L
  refine Prod.ext rfl (Prod.ext rfl (Prod.ext (funext fun i => ?_) rfl))
  by_cases h : i = n <;> simp [h]
theorem cc_50b (ho : o.length = 50) {F : Nat → Option jv_R} : (jv_cls (cm_h o c r) 50).bind F = F 1 := jb (cc_50 ho)
theorem cg_50_0b (ho : o.length = 50) {F : Value → Option jv_R} : (jv_gf (cm_h o c r) 50 [(1, 0, .object "RainLoom$Fault")]).bind F = F (.ref 51) := jb (cg_50_0 ho)
theorem cg_50_1b (ho : o.length = 50) {F : Value → Option jv_R} : (jv_gf (cm_h o c r) 50 [(1, 1, .object "RainLoom$Tokens")]).bind F = F (.ref 52) := jb (cg_50_1 ho)
theorem cg_50_2b (ho : o.length = 50) {F : Value → Option jv_R} : (jv_gf (cm_h o c r) 50 [(1, 2, .object "RainLoom$Parser")]).bind F = F (.ref 59) := jb (cg_50_2 ho)
theorem cg_50_3b (ho : o.length = 50) {F : Value → Option jv_R} : (jv_gf (cm_h o c r) 50 [(1, 3, .object "RainLoom$Text")]).bind F = F (.ref c.2.2.2.1) := jb (cg_50_3 ho)
theorem cp_50_3b {t : Nat} (ho : o.length = 50) {F : jv_H → Option jv_R} : (jv_pf (cm_h o c r) 50 [(1, 3, .object "RainLoom$Text")] (.ref t)).bind F = F (cm_h o (cs_x c t) r) := jb (cp_50_3 ho)
theorem cg_50_4b (ho : o.length = 50) {F : Value → Option jv_R} : (jv_gf (cm_h o c r) 50 [(1, 4, .int)]).bind F = F (.int (c.1 4)) := jb (cg_50_4 ho)
theorem cp_50_4b (ho : o.length = 50) {F : jv_H → Option jv_R} : (jv_pf (cm_h o c r) 50 [(1, 4, .int)] (.int v)).bind F = F (cm_h o (cs_i c 4 v) r) := jb (cp_50_4 ho)
theorem cg_50_5b (ho : o.length = 50) {F : Value → Option jv_R} : (jv_gf (cm_h o c r) 50 [(1, 5, .int)]).bind F = F (.int (c.1 5)) := jb (cg_50_5 ho)
theorem cp_50_5b (ho : o.length = 50) {F : jv_H → Option jv_R} : (jv_pf (cm_h o c r) 50 [(1, 5, .int)] (.int v)).bind F = F (cm_h o (cs_i c 5 v) r) := jb (cp_50_5 ho)
theorem cg_50_6b (ho : o.length = 50) {F : Value → Option jv_R} : (jv_gf (cm_h o c r) 50 [(1, 6, .int)]).bind F = F (.int (c.1 6)) := jb (cg_50_6 ho)
theorem cp_50_6b (ho : o.length = 50) {F : jv_H → Option jv_R} : (jv_pf (cm_h o c r) 50 [(1, 6, .int)] (.int v)).bind F = F (cm_h o (cs_i c 6 v) r) := jb (cp_50_6 ho)
theorem cg_50_7b (ho : o.length = 50) {F : Value → Option jv_R} : (jv_gf (cm_h o c r) 50 [(1, 7, .object "RainLoom$Land")]).bind F = F (.ref (la 0)) := jb (cg_50_7 ho)
theorem cg_50_8b (ho : o.length = 50) {F : Value → Option jv_R} : (jv_gf (cm_h o c r) 50 [(1, 8, .object "RainLoom$Land")]).bind F = F (.ref (la 1)) := jb (cg_50_8 ho)
theorem cg_50_9b (ho : o.length = 50) {F : Value → Option jv_R} : (jv_gf (cm_h o c r) 50 [(1, 9, .array (.object "RainLoom$Land"))]).bind F = F (.ref 91) := jb (cg_50_9 ho)
theorem cg_50_10b (ho : o.length = 50) {F : Value → Option jv_R} : (jv_gf (cm_h o c r) 50 [(1, 10, .array (.object "RainLoom$Land"))]).bind F = F (.ref 92) := jb (cg_50_10 ho)
theorem cg_50_11b (ho : o.length = 50) {F : Value → Option jv_R} : (jv_gf (cm_h o c r) 50 [(1, 11, .array (.object "RainLoom$Part"))]).bind F = F (.ref 132) := jb (cg_50_11 ho)
theorem cg_50_12b (ho : o.length = 50) {F : Value → Option jv_R} : (jv_gf (cm_h o c r) 50 [(1, 12, .array .boolean)]).bind F = F (.ref 137) := jb (cg_50_12 ho)
theorem cg_50_13b (ho : o.length = 50) {F : Value → Option jv_R} : (jv_gf (cm_h o c r) 50 [(1, 13, .array .int)]).bind F = F (.ref 138) := jb (cg_50_13 ho)
theorem cg_50_14b (ho : o.length = 50) {F : Value → Option jv_R} : (jv_gf (cm_h o c r) 50 [(1, 14, .array .int)]).bind F = F (.ref 139) := jb (cg_50_14 ho)
theorem cg_50_15b (ho : o.length = 50) {F : Value → Option jv_R} : (jv_gf (cm_h o c r) 50 [(1, 15, .array (.array .int))]).bind F = F (.ref 140) := jb (cg_50_15 ho)
theorem cg_50_16b (ho : o.length = 50) {F : Value → Option jv_R} : (jv_gf (cm_h o c r) 50 [(1, 16, .int)]).bind F = F (.int (c.1 16)) := jb (cg_50_16 ho)
theorem cp_50_16b (ho : o.length = 50) {F : jv_H → Option jv_R} : (jv_pf (cm_h o c r) 50 [(1, 16, .int)] (.int v)).bind F = F (cm_h o (cs_i c 16 v) r) := jb (cp_50_16 ho)
theorem cg_50_17b (ho : o.length = 50) {F : Value → Option jv_R} : (jv_gf (cm_h o c r) 50 [(1, 17, .int)]).bind F = F (.int (c.1 17)) := jb (cg_50_17 ho)
theorem cp_50_17b (ho : o.length = 50) {F : jv_H → Option jv_R} : (jv_pf (cm_h o c r) 50 [(1, 17, .int)] (.int v)).bind F = F (cm_h o (cs_i c 17 v) r) := jb (cp_50_17 ho)
theorem cg_50_18b (ho : o.length = 50) {F : Value → Option jv_R} : (jv_gf (cm_h o c r) 50 [(1, 18, .array .int)]).bind F = F (.ref 146) := jb (cg_50_18 ho)
theorem cg_50_19b (ho : o.length = 50) {F : Value → Option jv_R} : (jv_gf (cm_h o c r) 50 [(1, 19, .array .int)]).bind F = F (.ref 147) := jb (cg_50_19 ho)
theorem cg_50_20b (ho : o.length = 50) {F : Value → Option jv_R} : (jv_gf (cm_h o c r) 50 [(1, 20, .int)]).bind F = F (.int (c.1 20)) := jb (cg_50_20 ho)
theorem cp_50_20b (ho : o.length = 50) {F : jv_H → Option jv_R} : (jv_pf (cm_h o c r) 50 [(1, 20, .int)] (.int v)).bind F = F (cm_h o (cs_i c 20 v) r) := jb (cp_50_20 ho)
theorem cg_50_21b (ho : o.length = 50) {F : Value → Option jv_R} : (jv_gf (cm_h o c r) 50 [(1, 21, .int)]).bind F = F (.int (c.1 21)) := jb (cg_50_21 ho)
theorem cp_50_21b (ho : o.length = 50) {F : jv_H → Option jv_R} : (jv_pf (cm_h o c r) 50 [(1, 21, .int)] (.int v)).bind F = F (cm_h o (cs_i c 21 v) r) := jb (cp_50_21 ho)
theorem cg_50_22b (ho : o.length = 50) {F : Value → Option jv_R} : (jv_gf (cm_h o c r) 50 [(1, 22, .array .int)]).bind F = F (.ref 148) := jb (cg_50_22 ho)
theorem cg_50_23b (ho : o.length = 50) {F : Value → Option jv_R} : (jv_gf (cm_h o c r) 50 [(1, 23, .array .int)]).bind F = F (.ref 149) := jb (cg_50_23 ho)
theorem cg_50_24b (ho : o.length = 50) {F : Value → Option jv_R} : (jv_gf (cm_h o c r) 50 [(1, 24, .array (.array .int))]).bind F = F (.ref 150) := jb (cg_50_24 ho)
theorem cc_51b (ho : o.length = 50) {F : Nat → Option jv_R} : (jv_cls (cm_h o c r) 51).bind F = F 2 := jb (cc_51 ho)
theorem cg_51_0b (ho : o.length = 50) {F : Value → Option jv_R} : (jv_gf (cm_h o c r) 51 [(2, 0, .object "java/lang/Throwable")]).bind F = F (.null) := jb (cg_51_0 ho)
theorem cg_51_1b (ho : o.length = 50) {F : Value → Option jv_R} : (jv_gf (cm_h o c r) 51 [(2, 1, .array (.object "java/lang/StackTraceElement"))]).bind F = F (.null) := jb (cg_51_1 ho)
theorem cg_51_2b (ho : o.length = 50) {F : Value → Option jv_R} : (jv_gf (cm_h o c r) 51 [(2, 2, .object "java/util/List")]).bind F = F (.null) := jb (cg_51_2 ho)
theorem cg_51_3b (ho : o.length = 50) {F : Value → Option jv_R} : (jv_gf (cm_h o c r) 51 [(2, 3, .object "java/lang/String")]).bind F = F (.ref 1) := jb (cg_51_3 ho)
theorem cg_51_4b (ho : o.length = 50) {F : Value → Option jv_R} : (jv_gf (cm_h o c r) 51 [(2, 4, .object "java/lang/Object")]).bind F = F (.null) := jb (cg_51_4 ho)
theorem cg_51_5b (ho : o.length = 50) {F : Value → Option jv_R} : (jv_gf (cm_h o c r) 51 [(2, 5, .int)]).bind F = F (.int 0) := jb (cg_51_5 ho)
theorem cg_51_6b (ho : o.length = 50) {F : Value → Option jv_R} : (jv_gf (cm_h o c r) 51 [(2, 6, .int)]).bind F = F (.int (c.1 30)) := jb (cg_51_6 ho)
theorem cp_51_6b (ho : o.length = 50) {F : jv_H → Option jv_R} : (jv_pf (cm_h o c r) 51 [(2, 6, .int)] (.int v)).bind F = F (cm_h o (cs_i c 30 v) r) := jb (cp_51_6 ho)
theorem cg_51_7b (ho : o.length = 50) {F : Value → Option jv_R} : (jv_gf (cm_h o c r) 51 [(2, 7, .int)]).bind F = F (.int (c.1 31)) := jb (cg_51_7 ho)
theorem cp_51_7b (ho : o.length = 50) {F : jv_H → Option jv_R} : (jv_pf (cm_h o c r) 51 [(2, 7, .int)] (.int v)).bind F = F (cm_h o (cs_i c 31 v) r) := jb (cp_51_7 ho)
theorem cc_52b (ho : o.length = 50) {F : Nat → Option jv_R} : (jv_cls (cm_h o c r) 52).bind F = F 3 := jb (cc_52 ho)
theorem cg_52_0b (ho : o.length = 50) {F : Value → Option jv_R} : (jv_gf (cm_h o c r) 52 [(3, 0, .array (.object "java/lang/String"))]).bind F = F (.ref 53) := jb (cg_52_0 ho)
theorem cg_52_1b (ho : o.length = 50) {F : Value → Option jv_R} : (jv_gf (cm_h o c r) 52 [(3, 1, .array .byte)]).bind F = F (.ref 54) := jb (cg_52_1 ho)
theorem cg_52_2b (ho : o.length = 50) {F : Value → Option jv_R} : (jv_gf (cm_h o c r) 52 [(3, 2, .int)]).bind F = F (.int (c.1 40)) := jb (cg_52_2 ho)
theorem cp_52_2b (ho : o.length = 50) {F : jv_H → Option jv_R} : (jv_pf (cm_h o c r) 52 [(3, 2, .int)] (.int v)).bind F = F (cm_h o (cs_i c 40 v) r) := jb (cp_52_2 ho)
theorem cg_52_3b (ho : o.length = 50) {F : Value → Option jv_R} : (jv_gf (cm_h o c r) 52 [(3, 3, .array .byte)]).bind F = F (.ref 55) := jb (cg_52_3 ho)
theorem cg_52_4b (ho : o.length = 50) {F : Value → Option jv_R} : (jv_gf (cm_h o c r) 52 [(3, 4, .array .short)]).bind F = F (.ref 56) := jb (cg_52_4 ho)
theorem cg_52_5b (ho : o.length = 50) {F : Value → Option jv_R} : (jv_gf (cm_h o c r) 52 [(3, 5, .array .short)]).bind F = F (.ref 57) := jb (cg_52_5 ho)
theorem cg_52_6b (ho : o.length = 50) {F : Value → Option jv_R} : (jv_gf (cm_h o c r) 52 [(3, 6, .array .short)]).bind F = F (.ref 58) := jb (cg_52_6 ho)
theorem cg_52_7b (ho : o.length = 50) {F : Value → Option jv_R} : (jv_gf (cm_h o c r) 52 [(3, 7, .int)]).bind F = F (.int (c.1 41)) := jb (cg_52_7 ho)
theorem cp_52_7b (ho : o.length = 50) {F : jv_H → Option jv_R} : (jv_pf (cm_h o c r) 52 [(3, 7, .int)] (.int v)).bind F = F (cm_h o (cs_i c 41 v) r) := jb (cp_52_7 ho)
theorem cc_59b (ho : o.length = 50) {F : Nat → Option jv_R} : (jv_cls (cm_h o c r) 59).bind F = F 4 := jb (cc_59 ho)
theorem cg_59_0b (ho : o.length = 50) {F : Value → Option jv_R} : (jv_gf (cm_h o c r) 59 [(4, 0, .object "RainLoom$Tokens")]).bind F = F (.ref 52) := jb (cg_59_0 ho)
theorem cg_59_1b (ho : o.length = 50) {F : Value → Option jv_R} : (jv_gf (cm_h o c r) 59 [(4, 1, .object "RainLoom$Fault")]).bind F = F (.ref 51) := jb (cg_59_1 ho)
theorem cg_59_2b (ho : o.length = 50) {F : Value → Option jv_R} : (jv_gf (cm_h o c r) 59 [(4, 2, .object "RainLoom$Text")]).bind F = F (c.2.2.2.2) := jb (cg_59_2 ho)
theorem cp_59_2b {t : Nat} (ho : o.length = 50) {F : jv_H → Option jv_R} : (jv_pf (cm_h o c r) 59 [(4, 2, .object "RainLoom$Text")] (.ref t)).bind F = F (cm_h o (cs_y c (.ref t)) r) := jb (cp_59_2 ho)
theorem cg_59_3b (ho : o.length = 50) {F : Value → Option jv_R} : (jv_gf (cm_h o c r) 59 [(4, 3, .int)]).bind F = F (.int (c.1 50)) := jb (cg_59_3 ho)
theorem cp_59_3b (ho : o.length = 50) {F : jv_H → Option jv_R} : (jv_pf (cm_h o c r) 59 [(4, 3, .int)] (.int v)).bind F = F (cm_h o (cs_i c 50 v) r) := jb (cp_59_3 ho)
theorem cg_59_4b (ho : o.length = 50) {F : Value → Option jv_R} : (jv_gf (cm_h o c r) 59 [(4, 4, .int)]).bind F = F (.int (c.1 51)) := jb (cg_59_4 ho)
theorem cp_59_4b (ho : o.length = 50) {F : jv_H → Option jv_R} : (jv_pf (cm_h o c r) 59 [(4, 4, .int)] (.int v)).bind F = F (cm_h o (cs_i c 51 v) r) := jb (cp_59_4 ho)
theorem cg_59_5b (ho : o.length = 50) {F : Value → Option jv_R} : (jv_gf (cm_h o c r) 59 [(4, 5, .int)]).bind F = F (.int (c.1 52)) := jb (cg_59_5 ho)
theorem cp_59_5b (ho : o.length = 50) {F : jv_H → Option jv_R} : (jv_pf (cm_h o c r) 59 [(4, 5, .int)] (.int v)).bind F = F (cm_h o (cs_i c 52 v) r) := jb (cp_59_5 ho)
theorem cg_59_6b (ho : o.length = 50) {F : Value → Option jv_R} : (jv_gf (cm_h o c r) 59 [(4, 6, .int)]).bind F = F (.int (c.1 53)) := jb (cg_59_6 ho)
theorem cp_59_6b (ho : o.length = 50) {F : jv_H → Option jv_R} : (jv_pf (cm_h o c r) 59 [(4, 6, .int)] (.int v)).bind F = F (cm_h o (cs_i c 53 v) r) := jb (cp_59_6 ho)
theorem cc_60b (ho : o.length = 50) {F : Nat → Option jv_R} : (jv_cls (cm_h o c r) 60).bind F = F 5 := jb (cc_60 ho)
theorem cg_60_0b (ho : o.length = 50) {F : Value → Option jv_R} : (jv_gf (cm_h o c r) 60 [(5, 0, .array .int)]).bind F = F (.ref 61) := jb (cg_60_0 ho)
theorem cg_60_1b (ho : o.length = 50) {F : Value → Option jv_R} : (jv_gf (cm_h o c r) 60 [(5, 1, .object "java/util/ArrayList")]).bind F = F (.ref 62) := jb (cg_60_1 ho)
theorem cg_60_2b (ho : o.length = 50) {F : Value → Option jv_R} : (jv_gf (cm_h o c r) 60 [(5, 2, .object "java/util/ArrayList")]).bind F = F (.ref 63) := jb (cg_60_2 ho)
theorem cg_60_3b (ho : o.length = 50) {F : Value → Option jv_R} : (jv_gf (cm_h o c r) 60 [(5, 3, .array (.object "RainLoom$Law"))]).bind F = F (.ref 64) := jb (cg_60_3 ho)
theorem cg_60_4b (ho : o.length = 50) {F : Value → Option jv_R} : (jv_gf (cm_h o c r) 60 [(5, 4, .int)]).bind F = F (.int (nI 0)) := jb (cg_60_4 ho)
theorem cg_60_5b (ho : o.length = 50) {F : Value → Option jv_R} : (jv_gf (cm_h o c r) 60 [(5, 5, .int)]).bind F = F (.int (nI 0)) := jb (cg_60_5 ho)
theorem cg_60_6b (ho : o.length = 50) {F : Value → Option jv_R} : (jv_gf (cm_h o c r) 60 [(5, 6, .int)]).bind F = F (.int (nI 100)) := jb (cg_60_6 ho)
theorem cg_60_7b (ho : o.length = 50) {F : Value → Option jv_R} : (jv_gf (cm_h o c r) 60 [(5, 7, .int)]).bind F = F (.int (nI 0)) := jb (cg_60_7 ho)
theorem cg_60_8b (ho : o.length = 50) {F : Value → Option jv_R} : (jv_gf (cm_h o c r) 60 [(5, 8, .int)]).bind F = F (.int (nI 0)) := jb (cg_60_8 ho)
theorem cc_133b (ho : o.length = 50) {F : Nat → Option jv_R} : (jv_cls (cm_h o c r) 133).bind F = F 8 := jb (cc_133 ho)
theorem cc_134b (ho : o.length = 50) {F : Nat → Option jv_R} : (jv_cls (cm_h o c r) 134).bind F = F 9 := jb (cc_134 ho)
theorem cc_135b (ho : o.length = 50) {F : Nat → Option jv_R} : (jv_cls (cm_h o c r) 135).bind F = F 10 := jb (cc_135 ho)
theorem cc_136b (ho : o.length = 50) {F : Nat → Option jv_R} : (jv_cls (cm_h o c r) 136).bind F = F 11 := jb (cc_136 ho)
theorem cl_54b (ho : o.length = 50) {F : Int32 → Option jv_R} : (jv_al (cm_h o c r) 54).bind F = F 2000 := jb (cl_54 ho)
theorem ct_54b (ho : o.length = 50) {F : Int32 → Option jv_R} : (jv_ig (cm_h o c r) 54 1 2 i).bind F = if i < 0 ∨ 2000 ≤ i.toNatClampNeg then none else F (c.2.1 0 i.toNatClampNeg) := jbi (ct_54 ho)
theorem cw_54b (ho : o.length = 50) {F : jv_H → Option jv_R} : (jv_ip (cm_h o c r) 54 1 2 i x).bind F = if i < 0 ∨ 2000 ≤ i.toNatClampNeg then none else F (cm_h o (cs_a c 0 (upd (c.2.1 0) i.toNatClampNeg (jv_nar 1 x))) r) := jbi (cw_54 ho)
theorem cl_55b (ho : o.length = 50) {F : Int32 → Option jv_R} : (jv_al (cm_h o c r) 55).bind F = F 2001 := jb (cl_55 ho)
theorem ct_55b (ho : o.length = 50) {F : Int32 → Option jv_R} : (jv_ig (cm_h o c r) 55 1 2 i).bind F = if i < 0 ∨ 2001 ≤ i.toNatClampNeg then none else F (c.2.1 1 i.toNatClampNeg) := jbi (ct_55 ho)
theorem cw_55b (ho : o.length = 50) {F : jv_H → Option jv_R} : (jv_ip (cm_h o c r) 55 1 2 i x).bind F = if i < 0 ∨ 2001 ≤ i.toNatClampNeg then none else F (cm_h o (cs_a c 1 (upd (c.2.1 1) i.toNatClampNeg (jv_nar 1 x))) r) := jbi (cw_55 ho)
theorem cl_56b (ho : o.length = 50) {F : Int32 → Option jv_R} : (jv_al (cm_h o c r) 56).bind F = F 2001 := jb (cl_56 ho)
theorem ct_56b (ho : o.length = 50) {F : Int32 → Option jv_R} : (jv_ig (cm_h o c r) 56 3 3 i).bind F = if i < 0 ∨ 2001 ≤ i.toNatClampNeg then none else F (c.2.1 2 i.toNatClampNeg) := jbi (ct_56 ho)
theorem cw_56b (ho : o.length = 50) {F : jv_H → Option jv_R} : (jv_ip (cm_h o c r) 56 3 3 i x).bind F = if i < 0 ∨ 2001 ≤ i.toNatClampNeg then none else F (cm_h o (cs_a c 2 (upd (c.2.1 2) i.toNatClampNeg (jv_nar 3 x))) r) := jbi (cw_56 ho)
theorem cl_57b (ho : o.length = 50) {F : Int32 → Option jv_R} : (jv_al (cm_h o c r) 57).bind F = F 2001 := jb (cl_57 ho)
theorem ct_57b (ho : o.length = 50) {F : Int32 → Option jv_R} : (jv_ig (cm_h o c r) 57 3 3 i).bind F = if i < 0 ∨ 2001 ≤ i.toNatClampNeg then none else F (c.2.1 3 i.toNatClampNeg) := jbi (ct_57 ho)
theorem cw_57b (ho : o.length = 50) {F : jv_H → Option jv_R} : (jv_ip (cm_h o c r) 57 3 3 i x).bind F = if i < 0 ∨ 2001 ≤ i.toNatClampNeg then none else F (cm_h o (cs_a c 3 (upd (c.2.1 3) i.toNatClampNeg (jv_nar 3 x))) r) := jbi (cw_57 ho)
theorem cl_58b (ho : o.length = 50) {F : Int32 → Option jv_R} : (jv_al (cm_h o c r) 58).bind F = F 2001 := jb (cl_58 ho)
theorem ct_58b (ho : o.length = 50) {F : Int32 → Option jv_R} : (jv_ig (cm_h o c r) 58 3 3 i).bind F = if i < 0 ∨ 2001 ≤ i.toNatClampNeg then none else F (c.2.1 4 i.toNatClampNeg) := jbi (ct_58 ho)
theorem cw_58b (ho : o.length = 50) {F : jv_H → Option jv_R} : (jv_ip (cm_h o c r) 58 3 3 i x).bind F = if i < 0 ∨ 2001 ≤ i.toNatClampNeg then none else F (cm_h o (cs_a c 4 (upd (c.2.1 4) i.toNatClampNeg (jv_nar 3 x))) r) := jbi (cw_58 ho)
theorem cl_137b (ho : o.length = 50) {F : Int32 → Option jv_R} : (jv_al (cm_h o c r) 137).bind F = F 3 := jb (cl_137 ho)
theorem ct_137b (ho : o.length = 50) {F : Int32 → Option jv_R} : (jv_ig (cm_h o c r) 137 1 2 i).bind F = if i < 0 ∨ 3 ≤ i.toNatClampNeg then none else F (c.2.1 5 i.toNatClampNeg) := jbi (ct_137 ho)
theorem cw_137b (ho : o.length = 50) {F : jv_H → Option jv_R} : (jv_ip (cm_h o c r) 137 1 2 i x).bind F = if i < 0 ∨ 3 ≤ i.toNatClampNeg then none else F (cm_h o (cs_a c 5 (upd (c.2.1 5) i.toNatClampNeg (jv_nar 2 x))) r) := jbi (cw_137 ho)
theorem cl_138b (ho : o.length = 50) {F : Int32 → Option jv_R} : (jv_al (cm_h o c r) 138).bind F = F 4 := jb (cl_138 ho)
theorem ct_138b (ho : o.length = 50) {F : Int32 → Option jv_R} : (jv_ig (cm_h o c r) 138 0 0 i).bind F = if i < 0 ∨ 4 ≤ i.toNatClampNeg then none else F (c.2.1 6 i.toNatClampNeg) := jbi (ct_138 ho)
theorem cw_138b (ho : o.length = 50) {F : jv_H → Option jv_R} : (jv_ip (cm_h o c r) 138 0 0 i x).bind F = if i < 0 ∨ 4 ≤ i.toNatClampNeg then none else F (cm_h o (cs_a c 6 (upd (c.2.1 6) i.toNatClampNeg (jv_nar 0 x))) r) := jbi (cw_138 ho)
theorem cl_139b (ho : o.length = 50) {F : Int32 → Option jv_R} : (jv_al (cm_h o c r) 139).bind F = F 4 := jb (cl_139 ho)
theorem ct_139b (ho : o.length = 50) {F : Int32 → Option jv_R} : (jv_ig (cm_h o c r) 139 0 0 i).bind F = if i < 0 ∨ 4 ≤ i.toNatClampNeg then none else F (c.2.1 7 i.toNatClampNeg) := jbi (ct_139 ho)
theorem cw_139b (ho : o.length = 50) {F : jv_H → Option jv_R} : (jv_ip (cm_h o c r) 139 0 0 i x).bind F = if i < 0 ∨ 4 ≤ i.toNatClampNeg then none else F (cm_h o (cs_a c 7 (upd (c.2.1 7) i.toNatClampNeg (jv_nar 0 x))) r) := jbi (cw_139 ho)
theorem cl_146b (ho : o.length = 50) {F : Int32 → Option jv_R} : (jv_al (cm_h o c r) 146).bind F = F 4 := jb (cl_146 ho)
theorem ct_146b (ho : o.length = 50) {F : Int32 → Option jv_R} : (jv_ig (cm_h o c r) 146 0 0 i).bind F = if i < 0 ∨ 4 ≤ i.toNatClampNeg then none else F (c.2.1 8 i.toNatClampNeg) := jbi (ct_146 ho)
theorem cw_146b (ho : o.length = 50) {F : jv_H → Option jv_R} : (jv_ip (cm_h o c r) 146 0 0 i x).bind F = if i < 0 ∨ 4 ≤ i.toNatClampNeg then none else F (cm_h o (cs_a c 8 (upd (c.2.1 8) i.toNatClampNeg (jv_nar 0 x))) r) := jbi (cw_146 ho)
theorem cl_147b (ho : o.length = 50) {F : Int32 → Option jv_R} : (jv_al (cm_h o c r) 147).bind F = F 4 := jb (cl_147 ho)
theorem ct_147b (ho : o.length = 50) {F : Int32 → Option jv_R} : (jv_ig (cm_h o c r) 147 0 0 i).bind F = if i < 0 ∨ 4 ≤ i.toNatClampNeg then none else F (c.2.1 9 i.toNatClampNeg) := jbi (ct_147 ho)
theorem cw_147b (ho : o.length = 50) {F : jv_H → Option jv_R} : (jv_ip (cm_h o c r) 147 0 0 i x).bind F = if i < 0 ∨ 4 ≤ i.toNatClampNeg then none else F (cm_h o (cs_a c 9 (upd (c.2.1 9) i.toNatClampNeg (jv_nar 0 x))) r) := jbi (cw_147 ho)
theorem cl_148b (ho : o.length = 50) {F : Int32 → Option jv_R} : (jv_al (cm_h o c r) 148).bind F = F 20 := jb (cl_148 ho)
theorem ct_148b (ho : o.length = 50) {F : Int32 → Option jv_R} : (jv_ig (cm_h o c r) 148 0 0 i).bind F = if i < 0 ∨ 20 ≤ i.toNatClampNeg then none else F (c.2.1 16 i.toNatClampNeg) := jbi (ct_148 ho)
theorem cw_148b (ho : o.length = 50) {F : jv_H → Option jv_R} : (jv_ip (cm_h o c r) 148 0 0 i x).bind F = if i < 0 ∨ 20 ≤ i.toNatClampNeg then none else F (cm_h o (cs_a c 16 (upd (c.2.1 16) i.toNatClampNeg (jv_nar 0 x))) r) := jbi (cw_148 ho)
theorem cl_149b (ho : o.length = 50) {F : Int32 → Option jv_R} : (jv_al (cm_h o c r) 149).bind F = F 20 := jb (cl_149 ho)
theorem ct_149b (ho : o.length = 50) {F : Int32 → Option jv_R} : (jv_ig (cm_h o c r) 149 0 0 i).bind F = if i < 0 ∨ 20 ≤ i.toNatClampNeg then none else F (c.2.1 17 i.toNatClampNeg) := jbi (ct_149 ho)
theorem cw_149b (ho : o.length = 50) {F : jv_H → Option jv_R} : (jv_ip (cm_h o c r) 149 0 0 i x).bind F = if i < 0 ∨ 20 ≤ i.toNatClampNeg then none else F (cm_h o (cs_a c 17 (upd (c.2.1 17) i.toNatClampNeg (jv_nar 0 x))) r) := jbi (cw_149 ho)
theorem cl_53b (ho : o.length = 50) {F : Int32 → Option jv_R} : (jv_al (cm_h o c r) 53).bind F = F 21 := jb (cl_53 ho)
theorem ct_53b {n : Nat} (ho : o.length = 50) (hn : n < 21) {F : Value → Option jv_R} : (jv_rg (cm_h o c r) 53 (nI n)).bind F = F (.ref (2 + n)) := jb (ct_53 ho hn)
theorem cl_91b (ho : o.length = 50) {F : Int32 → Option jv_R} : (jv_al (cm_h o c r) 91).bind F = F 30 := jb (cl_91 ho)
theorem ct_91b {n : Nat} (ho : o.length = 50) (hn : n < 30) {F : Value → Option jv_R} : (jv_rg (cm_h o c r) 91 (nI n)).bind F = F (.ref (la (5 + n))) := jb (ct_91 ho hn)
theorem cl_92b (ho : o.length = 50) {F : Int32 → Option jv_R} : (jv_al (cm_h o c r) 92).bind F = F 3 := jb (cl_92 ho)
theorem ct_92b {n : Nat} (ho : o.length = 50) (hn : n < 3) {F : Value → Option jv_R} : (jv_rg (cm_h o c r) 92 (nI n)).bind F = F (.ref (la (2 + n))) := jb (ct_92 ho hn)
theorem cl_132b (ho : o.length = 50) {F : Int32 → Option jv_R} : (jv_al (cm_h o c r) 132).bind F = F 4 := jb (cl_132 ho)
theorem ct_132b {n : Nat} (ho : o.length = 50) (hn : n < 4) {F : Value → Option jv_R} : (jv_rg (cm_h o c r) 132 (nI n)).bind F = F (.ref (133 + n)) := jb (ct_132 ho hn)
theorem cl_140b (ho : o.length = 50) {F : Int32 → Option jv_R} : (jv_al (cm_h o c r) 140).bind F = F 5 := jb (cl_140 ho)
theorem ct_140b {n : Nat} (ho : o.length = 50) (hn : n < 5) {F : Value → Option jv_R} : (jv_rg (cm_h o c r) 140 (nI n)).bind F = F (.ref (141 + n)) := jb (ct_140 ho hn)
theorem cl_150b (ho : o.length = 50) {F : Int32 → Option jv_R} : (jv_al (cm_h o c r) 150).bind F = F 48 := jb (cl_150 ho)
theorem ct_150b {n : Nat} (ho : o.length = 50) (hn : n < 48) {F : Value → Option jv_R} : (jv_rg (cm_h o c r) 150 (nI n)).bind F = F (.ref (151 + n)) := jb (ct_150 ho hn)
theorem ct_ub {n : Nat} (ho : o.length = 50) (hn : n < 5) {F : Int32 → Option jv_R} : (jv_ig (cm_h o c r) (141 + n) 0 0 i).bind F = if i < 0 ∨ 8 ≤ i.toNatClampNeg then none else F (c.2.1 (10 + n) i.toNatClampNeg) := jbi (ct_u ho hn)
theorem cw_ub {n : Nat} (ho : o.length = 50) (hn : n < 5) {F : jv_H → Option jv_R} : (jv_ip (cm_h o c r) (141 + n) 0 0 i x).bind F = if i < 0 ∨ 8 ≤ i.toNatClampNeg then none else F (cm_h o (cs_a c (10 + n) (upd (c.2.1 (10 + n)) i.toNatClampNeg x)) r) := jbi (cw_u ho hn)
theorem ct_vb {n : Nat} (ho : o.length = 50) (hn : n < 48) {F : Int32 → Option jv_R} : (jv_ig (cm_h o c r) (151 + n) 0 0 i).bind F = if i < 0 ∨ 10 ≤ i.toNatClampNeg then none else F (c.2.1 (20 + n) i.toNatClampNeg) := jbi (ct_v ho hn)
theorem cw_vb {n : Nat} (ho : o.length = 50) (hn : n < 48) {F : jv_H → Option jv_R} : (jv_ip (cm_h o c r) (151 + n) 0 0 i x).bind F = if i < 0 ∨ 10 ≤ i.toNatClampNeg then none else F (cm_h o (cs_a c (20 + n) (upd (c.2.1 (20 + n)) i.toNatClampNeg x)) r) := jbi (cw_v ho hn)
theorem cr_50b {m : Nat} {V : List (Nat × Nat)} (ho : o.length = 50) {F : Nat → Option jv_R} : (jv_rc (cm_h o c r) 50 ((1, m) :: V)).bind F = F m := by
  rw [cr_50 ho]
  simp only [List.lookup, beq_self_eq_true]
  rfl
theorem cr_51b {m : Nat} {V : List (Nat × Nat)} (ho : o.length = 50) {F : Nat → Option jv_R} : (jv_rc (cm_h o c r) 51 ((2, m) :: V)).bind F = F m := by
  rw [cr_51 ho]
  simp only [List.lookup, beq_self_eq_true]
  rfl
theorem cr_52b {m : Nat} {V : List (Nat × Nat)} (ho : o.length = 50) {F : Nat → Option jv_R} : (jv_rc (cm_h o c r) 52 ((3, m) :: V)).bind F = F m := by
  rw [cr_52 ho]
  simp only [List.lookup, beq_self_eq_true]
  rfl
theorem cr_59b {m : Nat} {V : List (Nat × Nat)} (ho : o.length = 50) {F : Nat → Option jv_R} : (jv_rc (cm_h o c r) 59 ((4, m) :: V)).bind F = F m := by
  rw [cr_59 ho]
  simp only [List.lookup, beq_self_eq_true]
  rfl
theorem cr_60b {m : Nat} {V : List (Nat × Nat)} (ho : o.length = 50) {F : Nat → Option jv_R} : (jv_rc (cm_h o c r) 60 ((5, m) :: V)).bind F = F m := by
  rw [cr_60 ho]
  simp only [List.lookup, beq_self_eq_true]
  rfl
theorem cr_133b {m : Nat} {V : List (Nat × Nat)} (ho : o.length = 50) {F : Nat → Option jv_R} : (jv_rc (cm_h o c r) 133 ((8, m) :: V)).bind F = F m := by
  rw [cr_133 ho]
  simp only [List.lookup, beq_self_eq_true]
  rfl
theorem cr_134b {m : Nat} {V : List (Nat × Nat)} (ho : o.length = 50) {F : Nat → Option jv_R} : (jv_rc (cm_h o c r) 134 ((9, m) :: V)).bind F = F m := by
  rw [cr_134 ho]
  simp only [List.lookup, beq_self_eq_true]
  rfl
theorem cr_135b {m : Nat} {V : List (Nat × Nat)} (ho : o.length = 50) {F : Nat → Option jv_R} : (jv_rc (cm_h o c r) 135 ((10, m) :: V)).bind F = F m := by
  rw [cr_135 ho]
  simp only [List.lookup, beq_self_eq_true]
  rfl
theorem cr_136b {m : Nat} {V : List (Nat × Nat)} (ho : o.length = 50) {F : Nat → Option jv_R} : (jv_rc (cm_h o c r) 136 ((11, m) :: V)).bind F = F m := by
  rw [cr_136 ho]
  simp only [List.lookup, beq_self_eq_true]
  rfl
end
