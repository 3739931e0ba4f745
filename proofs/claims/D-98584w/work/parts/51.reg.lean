/-! pictures of regions: printed by gen_reg.py -/
set_option maxRecDepth 100000
/-- ints by number, arrays by number -/
abbrev rg_S : Type := (Nat → Int32) × (Nat → Nat → Int32)
def ri (s : rg_S) (k : Nat) (v : Int32) : rg_S := (fun j => if j = k then v else s.1 j, s.2)
def ra (s : rg_S) (k : Nat) (f : Nat → Int32) : rg_S := (s.1, fun j => if j = k then f else s.2 j)
theorem ri1 {s : rg_S} {k j : Nat} {v : Int32} : (ri s k v).1 j = if j = k then v else s.1 j := rfl
theorem ri2 {s : rg_S} {k : Nat} {v : Int32} : (ri s k v).2 = s.2 := rfl
theorem ra1 {s : rg_S} {k : Nat} {f : Nat → Int32} : (ra s k f).1 = s.1 := rfl
theorem ra2 {s : rg_S} {k j : Nat} {f : Nat → Int32} : (ra s k f).2 j = if j = k then f else s.2 j := rfl
/-- a land: its object, its ten arrays, what is asked; ints: 0 store, 1 day, 2 seed, 3 nought; arrays: 0 water, 1 lacked, 2 flooded, 3 pick, 4 wove, 5 torn, 6 wide, 7 high, 8 toX, 9 toY, 10 v -/
def ld_c (a : Nat) (s : rg_S) : List jv_C := [.inr (6, [.ref (a + 1), .ref (a + 2), .ref (a + 3), .ref (a + 4), .ref (a + 5), .ref (a + 6), .ref (a + 7), .ref (a + 8), .ref (a + 9), .ref (a + 10), .int (s.1 0), .int (s.1 1), .int (s.1 2), .ref (a + 11)]), .inl (0, 48, .inl (s.2 0)), .inl (0, 6, .inl (s.2 1)), .inl (0, 6, .inl (s.2 2)), .inl (0, 4, .inl (s.2 3)), .inl (0, 4, .inl (s.2 4)), .inl (0, 4, .inl (s.2 5)), .inl (0, 4, .inl (s.2 6)), .inl (0, 4, .inl (s.2 7)), .inl (0, 4, .inl (s.2 8)), .inl (0, 4, .inl (s.2 9)), .inr (7, [.ref (a + 12), .int (s.1 3)]), .inl (0, 9, .inl (s.2 10))]
def ld_h (p : jv_H) (s : rg_S) (q : jv_H) : jv_H := p ++ (ld_c p.length s ++ q)
section
variable {p q : jv_H} {s s9 : rg_S} {i x v : Int32} {a : Nat}
theorem ld_len : (ld_h p s q).length = p.length + 13 + q.length := by
  unfold ld_h
  rw [List.length_append, List.length_append]
  show p.length + (13 + q.length) = _
  omega
theorem ld_at (hp : p.length = a) (j : Nat) {c : jv_C} (hc : (ld_c a s)[j]? = some c) : (ld_h p s q)[a + j]? = some c := by
  subst hp
  unfold ld_h
  rw [List.getElem?_append_right (by omega), Nat.add_sub_cancel_left, List.getElem?_append_left]
  · exact hc
  · exact (List.getElem?_eq_some_iff.mp hc).1
theorem ld_st (hp : p.length = a) (j : Nat) {c : jv_C} (hj : j < 13) (hc : (ld_c a s).set j c = ld_c a s9) : (ld_h p s q).set (a + j) c = ld_h p s9 q := by
  subst hp
  unfold ld_h
  rw [List.set_append_right _ _ (by omega), Nat.add_sub_cancel_left, List.set_append_left _ _ (show j < (ld_c p.length s).length from hj), hc]
theorem ld_ne (hp : p.length = a) {k : Nat} (hk : k < a ∨ a + 13 ≤ k) : (ld_h p s q)[k]? = (ld_h p s9 q)[k]? := by
  subst hp
  unfold ld_h
  rcases hk with hk | hk
  · rw [List.getElem?_append_left hk, List.getElem?_append_left hk]
  · have e1 : (ld_c p.length s).length = 13 := rfl
    have e2 : (ld_c p.length s9).length = 13 := rfl
    rw [List.getElem?_append_right (by omega), List.getElem?_append_right (by omega), List.getElem?_append_right (by omega), List.getElem?_append_right (by omega), e1, e2]
theorem ld_at0 (hp : p.length = a) {c : jv_C} (hc : (ld_c a s)[0]? = some c) : (ld_h p s q)[a]? = some c := ld_at hp 0 hc
theorem ld_st0 (hp : p.length = a) {c : jv_C} (hc : (ld_c a s).set 0 c = ld_c a s9) : (ld_h p s q).set a c = ld_h p s9 q := ld_st hp 0 (by decide) hc
theorem ld_rc0 {V : List (Nat × Nat)} (hp : p.length = a) : jv_rc (ld_h p s q) a V = V.lookup 6 := by
  unfold jv_rc
  rw [ld_at0 hp rfl]
theorem ld_cl0 (hp : p.length = a) : jv_cls (ld_h p s q) a = some 6 := by
  unfold jv_cls
  rw [ld_at0 hp rfl]
theorem ld_g0_0 (hp : p.length = a) : jv_gf (ld_h p s q) a [(6, 0, (.array .int))] = some (.ref (a + 1)) := jv_gf_at (ld_at0 hp rfl) rfl rfl
theorem ld_g0_1 (hp : p.length = a) : jv_gf (ld_h p s q) a [(6, 1, (.array .int))] = some (.ref (a + 2)) := jv_gf_at (ld_at0 hp rfl) rfl rfl
theorem ld_g0_2 (hp : p.length = a) : jv_gf (ld_h p s q) a [(6, 2, (.array .int))] = some (.ref (a + 3)) := jv_gf_at (ld_at0 hp rfl) rfl rfl
theorem ld_g0_3 (hp : p.length = a) : jv_gf (ld_h p s q) a [(6, 3, (.array .int))] = some (.ref (a + 4)) := jv_gf_at (ld_at0 hp rfl) rfl rfl
theorem ld_g0_4 (hp : p.length = a) : jv_gf (ld_h p s q) a [(6, 4, (.array .int))] = some (.ref (a + 5)) := jv_gf_at (ld_at0 hp rfl) rfl rfl
theorem ld_g0_5 (hp : p.length = a) : jv_gf (ld_h p s q) a [(6, 5, (.array .int))] = some (.ref (a + 6)) := jv_gf_at (ld_at0 hp rfl) rfl rfl
theorem ld_g0_6 (hp : p.length = a) : jv_gf (ld_h p s q) a [(6, 6, (.array .int))] = some (.ref (a + 7)) := jv_gf_at (ld_at0 hp rfl) rfl rfl
theorem ld_g0_7 (hp : p.length = a) : jv_gf (ld_h p s q) a [(6, 7, (.array .int))] = some (.ref (a + 8)) := jv_gf_at (ld_at0 hp rfl) rfl rfl
theorem ld_g0_8 (hp : p.length = a) : jv_gf (ld_h p s q) a [(6, 8, (.array .int))] = some (.ref (a + 9)) := jv_gf_at (ld_at0 hp rfl) rfl rfl
theorem ld_g0_9 (hp : p.length = a) : jv_gf (ld_h p s q) a [(6, 9, (.array .int))] = some (.ref (a + 10)) := jv_gf_at (ld_at0 hp rfl) rfl rfl
theorem ld_g0_10 (hp : p.length = a) : jv_gf (ld_h p s q) a [(6, 10, .int)] = some (.int (s.1 0)) := jv_gf_at (ld_at0 hp rfl) rfl rfl
theorem ld_p0_10 (hp : p.length = a) (ha : jt_off ≤ a) : jv_pf (ld_h p s q) a [(6, 10, .int)] (.int v) = some (ld_h p (ri s 0 v) q) := by
  rw [jv_pf_at (ld_at0 hp rfl) rfl (Nat.le_trans ha (by omega)) (Nat.le_of_ble_eq_true rfl) rfl rfl]
  exact congrArg some (ld_st0 hp rfl)
theorem ld_g0_11 (hp : p.length = a) : jv_gf (ld_h p s q) a [(6, 11, .int)] = some (.int (s.1 1)) := jv_gf_at (ld_at0 hp rfl) rfl rfl
theorem ld_p0_11 (hp : p.length = a) (ha : jt_off ≤ a) : jv_pf (ld_h p s q) a [(6, 11, .int)] (.int v) = some (ld_h p (ri s 1 v) q) := by
  rw [jv_pf_at (ld_at0 hp rfl) rfl (Nat.le_trans ha (by omega)) (Nat.le_of_ble_eq_true rfl) rfl rfl]
  exact congrArg some (ld_st0 hp rfl)
theorem ld_g0_12 (hp : p.length = a) : jv_gf (ld_h p s q) a [(6, 12, .int)] = some (.int (s.1 2)) := jv_gf_at (ld_at0 hp rfl) rfl rfl
theorem ld_p0_12 (hp : p.length = a) (ha : jt_off ≤ a) : jv_pf (ld_h p s q) a [(6, 12, .int)] (.int v) = some (ld_h p (ri s 2 v) q) := by
  rw [jv_pf_at (ld_at0 hp rfl) rfl (Nat.le_trans ha (by omega)) (Nat.le_of_ble_eq_true rfl) rfl rfl]
  exact congrArg some (ld_st0 hp rfl)
theorem ld_g0_13 (hp : p.length = a) : jv_gf (ld_h p s q) a [(6, 13, (.object "RainLoom$Asked"))] = some (.ref (a + 11)) := jv_gf_at (ld_at0 hp rfl) rfl rfl
theorem ld_al1 (hp : p.length = a) : jv_al (ld_h p s q) (a + 1) = some 48 := by
  unfold jv_al
  rw [ld_at hp 1 rfl]
  rfl
theorem ld_r1 (hp : p.length = a) : jv_ig (ld_h p s q) (a + 1) 0 0 i = if i < 0 ∨ 48 ≤ i.toNatClampNeg then none else some (s.2 0 i.toNatClampNeg) := jv_ig_at (ld_at hp 1 rfl) (by decide)
theorem ld_w1 (hp : p.length = a) (ha : jt_off ≤ a) : jv_ip (ld_h p s q) (a + 1) 0 0 i x = if i < 0 ∨ 48 ≤ i.toNatClampNeg then none else some (ld_h p (ra s 0 (upd (s.2 0) i.toNatClampNeg (jv_nar 0 x))) q) := by
  rw [jv_ip_at (ld_at hp 1 rfl) (by decide) (Nat.le_trans ha (by omega))]
  split
  · rfl
  · exact congrArg some (ld_st hp 1 (by decide) rfl)
theorem ld_al2 (hp : p.length = a) : jv_al (ld_h p s q) (a + 2) = some 6 := by
  unfold jv_al
  rw [ld_at hp 2 rfl]
  rfl
theorem ld_r2 (hp : p.length = a) : jv_ig (ld_h p s q) (a + 2) 0 0 i = if i < 0 ∨ 6 ≤ i.toNatClampNeg then none else some (s.2 1 i.toNatClampNeg) := jv_ig_at (ld_at hp 2 rfl) (by decide)
theorem ld_w2 (hp : p.length = a) (ha : jt_off ≤ a) : jv_ip (ld_h p s q) (a + 2) 0 0 i x = if i < 0 ∨ 6 ≤ i.toNatClampNeg then none else some (ld_h p (ra s 1 (upd (s.2 1) i.toNatClampNeg (jv_nar 0 x))) q) := by
  rw [jv_ip_at (ld_at hp 2 rfl) (by decide) (Nat.le_trans ha (by omega))]
  split
  · rfl
  · exact congrArg some (ld_st hp 2 (by decide) rfl)
theorem ld_al3 (hp : p.length = a) : jv_al (ld_h p s q) (a + 3) = some 6 := by
  unfold jv_al
  rw [ld_at hp 3 rfl]
  rfl
theorem ld_r3 (hp : p.length = a) : jv_ig (ld_h p s q) (a + 3) 0 0 i = if i < 0 ∨ 6 ≤ i.toNatClampNeg then none else some (s.2 2 i.toNatClampNeg) := jv_ig_at (ld_at hp 3 rfl) (by decide)
theorem ld_w3 (hp : p.length = a) (ha : jt_off ≤ a) : jv_ip (ld_h p s q) (a + 3) 0 0 i x = if i < 0 ∨ 6 ≤ i.toNatClampNeg then none else some (ld_h p (ra s 2 (upd (s.2 2) i.toNatClampNeg (jv_nar 0 x))) q) := by
  rw [jv_ip_at (ld_at hp 3 rfl) (by decide) (Nat.le_trans ha (by omega))]
  split
  · rfl
  · exact congrArg some (ld_st hp 3 (by decide) rfl)
theorem ld_al4 (hp : p.length = a) : jv_al (ld_h p s q) (a + 4) = some 4 := by
  unfold jv_al
  rw [ld_at hp 4 rfl]
  rfl
theorem ld_r4 (hp : p.length = a) : jv_ig (ld_h p s q) (a + 4) 0 0 i = if i < 0 ∨ 4 ≤ i.toNatClampNeg then none else some (s.2 3 i.toNatClampNeg) := jv_ig_at (ld_at hp 4 rfl) (by decide)
theorem ld_w4 (hp : p.length = a) (ha : jt_off ≤ a) : jv_ip (ld_h p s q) (a + 4) 0 0 i x = if i < 0 ∨ 4 ≤ i.toNatClampNeg then none else some (ld_h p (ra s 3 (upd (s.2 3) i.toNatClampNeg (jv_nar 0 x))) q) := by
  rw [jv_ip_at (ld_at hp 4 rfl) (by decide) (Nat.le_trans ha (by omega))]
  split
  · rfl
  · exact congrArg some (ld_st hp 4 (by decide) rfl)
theorem ld_al5 (hp : p.length = a) : jv_al (ld_h p s q) (a + 5) = some 4 := by
  unfold jv_al
  rw [ld_at hp 5 rfl]
  rfl
theorem ld_r5 (hp : p.length = a) : jv_ig (ld_h p s q) (a + 5) 0 0 i = if i < 0 ∨ 4 ≤ i.toNatClampNeg then none else some (s.2 4 i.toNatClampNeg) := jv_ig_at (ld_at hp 5 rfl) (by decide)
theorem ld_w5 (hp : p.length = a) (ha : jt_off ≤ a) : jv_ip (ld_h p s q) (a + 5) 0 0 i x = if i < 0 ∨ 4 ≤ i.toNatClampNeg then none else some (ld_h p (ra s 4 (upd (s.2 4) i.toNatClampNeg (jv_nar 0 x))) q) := by
  rw [jv_ip_at (ld_at hp 5 rfl) (by decide) (Nat.le_trans ha (by omega))]
  split
  · rfl
  · exact congrArg some (ld_st hp 5 (by decide) rfl)
theorem ld_al6 (hp : p.length = a) : jv_al (ld_h p s q) (a + 6) = some 4 := by
  unfold jv_al
  rw [ld_at hp 6 rfl]
  rfl
theorem ld_r6 (hp : p.length = a) : jv_ig (ld_h p s q) (a + 6) 0 0 i = if i < 0 ∨ 4 ≤ i.toNatClampNeg then none else some (s.2 5 i.toNatClampNeg) := jv_ig_at (ld_at hp 6 rfl) (by decide)
theorem ld_w6 (hp : p.length = a) (ha : jt_off ≤ a) : jv_ip (ld_h p s q) (a + 6) 0 0 i x = if i < 0 ∨ 4 ≤ i.toNatClampNeg then none else some (ld_h p (ra s 5 (upd (s.2 5) i.toNatClampNeg (jv_nar 0 x))) q) := by
  rw [jv_ip_at (ld_at hp 6 rfl) (by decide) (Nat.le_trans ha (by omega))]
  split
  · rfl
  · exact congrArg some (ld_st hp 6 (by decide) rfl)
theorem ld_al7 (hp : p.length = a) : jv_al (ld_h p s q) (a + 7) = some 4 := by
  unfold jv_al
  rw [ld_at hp 7 rfl]
  rfl
theorem ld_r7 (hp : p.length = a) : jv_ig (ld_h p s q) (a + 7) 0 0 i = if i < 0 ∨ 4 ≤ i.toNatClampNeg then none else some (s.2 6 i.toNatClampNeg) := jv_ig_at (ld_at hp 7 rfl) (by decide)
theorem ld_w7 (hp : p.length = a) (ha : jt_off ≤ a) : jv_ip (ld_h p s q) (a + 7) 0 0 i x = if i < 0 ∨ 4 ≤ i.toNatClampNeg then none else some (ld_h p (ra s 6 (upd (s.2 6) i.toNatClampNeg (jv_nar 0 x))) q) := by
  rw [jv_ip_at (ld_at hp 7 rfl) (by decide) (Nat.le_trans ha (by omega))]
  split
  · rfl
  · exact congrArg some (ld_st hp 7 (by decide) rfl)
theorem ld_al8 (hp : p.length = a) : jv_al (ld_h p s q) (a + 8) = some 4 := by
  unfold jv_al
  rw [ld_at hp 8 rfl]
  rfl
theorem ld_r8 (hp : p.length = a) : jv_ig (ld_h p s q) (a + 8) 0 0 i = if i < 0 ∨ 4 ≤ i.toNatClampNeg then none else some (s.2 7 i.toNatClampNeg) := jv_ig_at (ld_at hp 8 rfl) (by decide)
theorem ld_w8 (hp : p.length = a) (ha : jt_off ≤ a) : jv_ip (ld_h p s q) (a + 8) 0 0 i x = if i < 0 ∨ 4 ≤ i.toNatClampNeg then none else some (ld_h p (ra s 7 (upd (s.2 7) i.toNatClampNeg (jv_nar 0 x))) q) := by
  rw [jv_ip_at (ld_at hp 8 rfl) (by decide) (Nat.le_trans ha (by omega))]
  split
  · rfl
  · exact congrArg some (ld_st hp 8 (by decide) rfl)
theorem ld_al9 (hp : p.length = a) : jv_al (ld_h p s q) (a + 9) = some 4 := by
  unfold jv_al
  rw [ld_at hp 9 rfl]
  rfl
theorem ld_r9 (hp : p.length = a) : jv_ig (ld_h p s q) (a + 9) 0 0 i = if i < 0 ∨ 4 ≤ i.toNatClampNeg then none else some (s.2 8 i.toNatClampNeg) := jv_ig_at (ld_at hp 9 rfl) (by decide)
theorem ld_w9 (hp : p.length = a) (ha : jt_off ≤ a) : jv_ip (ld_h p s q) (a + 9) 0 0 i x = if i < 0 ∨ 4 ≤ i.toNatClampNeg then none else some (ld_h p (ra s 8 (upd (s.2 8) i.toNatClampNeg (jv_nar 0 x))) q) := by
  rw [jv_ip_at (ld_at hp 9 rfl) (by decide) (Nat.le_trans ha (by omega))]
  split
  · rfl
  · exact congrArg some (ld_st hp 9 (by decide) rfl)
theorem ld_al10 (hp : p.length = a) : jv_al (ld_h p s q) (a + 10) = some 4 := by
  unfold jv_al
  rw [ld_at hp 10 rfl]
  rfl
theorem ld_r10 (hp : p.length = a) : jv_ig (ld_h p s q) (a + 10) 0 0 i = if i < 0 ∨ 4 ≤ i.toNatClampNeg then none else some (s.2 9 i.toNatClampNeg) := jv_ig_at (ld_at hp 10 rfl) (by decide)
theorem ld_w10 (hp : p.length = a) (ha : jt_off ≤ a) : jv_ip (ld_h p s q) (a + 10) 0 0 i x = if i < 0 ∨ 4 ≤ i.toNatClampNeg then none else some (ld_h p (ra s 9 (upd (s.2 9) i.toNatClampNeg (jv_nar 0 x))) q) := by
  rw [jv_ip_at (ld_at hp 10 rfl) (by decide) (Nat.le_trans ha (by omega))]
  split
  · rfl
  · exact congrArg some (ld_st hp 10 (by decide) rfl)
theorem ld_rc11 {V : List (Nat × Nat)} (hp : p.length = a) : jv_rc (ld_h p s q) (a + 11) V = V.lookup 7 := by
  unfold jv_rc
  rw [ld_at hp 11 rfl]
theorem ld_cl11 (hp : p.length = a) : jv_cls (ld_h p s q) (a + 11) = some 7 := by
  unfold jv_cls
  rw [ld_at hp 11 rfl]
theorem ld_g11_0 (hp : p.length = a) : jv_gf (ld_h p s q) (a + 11) [(7, 0, (.array .int))] = some (.ref (a + 12)) := jv_gf_at (ld_at hp 11 rfl) rfl rfl
theorem ld_g11_1 (hp : p.length = a) : jv_gf (ld_h p s q) (a + 11) [(7, 1, .boolean)] = some (.int (s.1 3)) := jv_gf_at (ld_at hp 11 rfl) rfl rfl
theorem ld_p11_1 (hp : p.length = a) (ha : jt_off ≤ a) (hv : v = 0 ∨ v = 1) : jv_pf (ld_h p s q) (a + 11) [(7, 1, .boolean)] (.int v) = some (ld_h p (ri s 3 v) q) := by
  rw [jv_pf_at (ld_at hp 11 rfl) rfl (Nat.le_trans ha (by omega)) (Nat.le_of_ble_eq_true rfl) (by rcases hv with rfl | rfl <;> rfl) (by rcases hv with rfl | rfl <;> rfl)]
  exact congrArg some (ld_st hp 11 (by decide) rfl)
theorem ld_al12 (hp : p.length = a) : jv_al (ld_h p s q) (a + 12) = some 9 := by
  unfold jv_al
  rw [ld_at hp 12 rfl]
  rfl
theorem ld_r12 (hp : p.length = a) : jv_ig (ld_h p s q) (a + 12) 0 0 i = if i < 0 ∨ 9 ≤ i.toNatClampNeg then none else some (s.2 10 i.toNatClampNeg) := jv_ig_at (ld_at hp 12 rfl) (by decide)
theorem ld_w12 (hp : p.length = a) (ha : jt_off ≤ a) : jv_ip (ld_h p s q) (a + 12) 0 0 i x = if i < 0 ∨ 9 ≤ i.toNatClampNeg then none else some (ld_h p (ra s 10 (upd (s.2 10) i.toNatClampNeg (jv_nar 0 x))) q) := by
  rw [jv_ip_at (ld_at hp 12 rfl) (by decide) (Nat.le_trans ha (by omega))]
  split
  · rfl
  · exact congrArg some (ld_st hp 12 (by decide) rfl)
theorem ld_cl0b (hp : p.length = a) {F : Nat → Option jv_R} : (jv_cls (ld_h p s q) a).bind F = F 6 := jb (ld_cl0 hp)
theorem ld_g0_0b (hp : p.length = a) {F : Value → Option jv_R} : (jv_gf (ld_h p s q) a [(6, 0, (.array .int))]).bind F = F (.ref (a + 1)) := jb (ld_g0_0 hp)
theorem ld_g0_1b (hp : p.length = a) {F : Value → Option jv_R} : (jv_gf (ld_h p s q) a [(6, 1, (.array .int))]).bind F = F (.ref (a + 2)) := jb (ld_g0_1 hp)
theorem ld_g0_2b (hp : p.length = a) {F : Value → Option jv_R} : (jv_gf (ld_h p s q) a [(6, 2, (.array .int))]).bind F = F (.ref (a + 3)) := jb (ld_g0_2 hp)
theorem ld_g0_3b (hp : p.length = a) {F : Value → Option jv_R} : (jv_gf (ld_h p s q) a [(6, 3, (.array .int))]).bind F = F (.ref (a + 4)) := jb (ld_g0_3 hp)
theorem ld_g0_4b (hp : p.length = a) {F : Value → Option jv_R} : (jv_gf (ld_h p s q) a [(6, 4, (.array .int))]).bind F = F (.ref (a + 5)) := jb (ld_g0_4 hp)
theorem ld_g0_5b (hp : p.length = a) {F : Value → Option jv_R} : (jv_gf (ld_h p s q) a [(6, 5, (.array .int))]).bind F = F (.ref (a + 6)) := jb (ld_g0_5 hp)
theorem ld_g0_6b (hp : p.length = a) {F : Value → Option jv_R} : (jv_gf (ld_h p s q) a [(6, 6, (.array .int))]).bind F = F (.ref (a + 7)) := jb (ld_g0_6 hp)
theorem ld_g0_7b (hp : p.length = a) {F : Value → Option jv_R} : (jv_gf (ld_h p s q) a [(6, 7, (.array .int))]).bind F = F (.ref (a + 8)) := jb (ld_g0_7 hp)
theorem ld_g0_8b (hp : p.length = a) {F : Value → Option jv_R} : (jv_gf (ld_h p s q) a [(6, 8, (.array .int))]).bind F = F (.ref (a + 9)) := jb (ld_g0_8 hp)
theorem ld_g0_9b (hp : p.length = a) {F : Value → Option jv_R} : (jv_gf (ld_h p s q) a [(6, 9, (.array .int))]).bind F = F (.ref (a + 10)) := jb (ld_g0_9 hp)
theorem ld_g0_10b (hp : p.length = a) {F : Value → Option jv_R} : (jv_gf (ld_h p s q) a [(6, 10, .int)]).bind F = F (.int (s.1 0)) := jb (ld_g0_10 hp)
theorem ld_p0_10b (hp : p.length = a) (ha : jt_off ≤ a) {F : jv_H → Option jv_R} : (jv_pf (ld_h p s q) a [(6, 10, .int)] (.int v)).bind F = F (ld_h p (ri s 0 v) q) := jb (ld_p0_10 hp ha)
theorem ld_g0_11b (hp : p.length = a) {F : Value → Option jv_R} : (jv_gf (ld_h p s q) a [(6, 11, .int)]).bind F = F (.int (s.1 1)) := jb (ld_g0_11 hp)
theorem ld_p0_11b (hp : p.length = a) (ha : jt_off ≤ a) {F : jv_H → Option jv_R} : (jv_pf (ld_h p s q) a [(6, 11, .int)] (.int v)).bind F = F (ld_h p (ri s 1 v) q) := jb (ld_p0_11 hp ha)
theorem ld_g0_12b (hp : p.length = a) {F : Value → Option jv_R} : (jv_gf (ld_h p s q) a [(6, 12, .int)]).bind F = F (.int (s.1 2)) := jb (ld_g0_12 hp)
theorem ld_p0_12b (hp : p.length = a) (ha : jt_off ≤ a) {F : jv_H → Option jv_R} : (jv_pf (ld_h p s q) a [(6, 12, .int)] (.int v)).bind F = F (ld_h p (ri s 2 v) q) := jb (ld_p0_12 hp ha)
theorem ld_g0_13b (hp : p.length = a) {F : Value → Option jv_R} : (jv_gf (ld_h p s q) a [(6, 13, (.object "RainLoom$Asked"))]).bind F = F (.ref (a + 11)) := jb (ld_g0_13 hp)
theorem ld_al1b (hp : p.length = a) {F : Int32 → Option jv_R} : (jv_al (ld_h p s q) (a + 1)).bind F = F 48 := jb (ld_al1 hp)
theorem ld_r1b (hp : p.length = a) {F : Int32 → Option jv_R} : (jv_ig (ld_h p s q) (a + 1) 0 0 i).bind F = if i < 0 ∨ 48 ≤ i.toNatClampNeg then none else F (s.2 0 i.toNatClampNeg) := jbi (ld_r1 hp)
theorem ld_w1b (hp : p.length = a) (ha : jt_off ≤ a) {F : jv_H → Option jv_R} : (jv_ip (ld_h p s q) (a + 1) 0 0 i x).bind F = if i < 0 ∨ 48 ≤ i.toNatClampNeg then none else F (ld_h p (ra s 0 (upd (s.2 0) i.toNatClampNeg (jv_nar 0 x))) q) := jbi (ld_w1 hp ha)
theorem ld_al2b (hp : p.length = a) {F : Int32 → Option jv_R} : (jv_al (ld_h p s q) (a + 2)).bind F = F 6 := jb (ld_al2 hp)
theorem ld_r2b (hp : p.length = a) {F : Int32 → Option jv_R} : (jv_ig (ld_h p s q) (a + 2) 0 0 i).bind F = if i < 0 ∨ 6 ≤ i.toNatClampNeg then none else F (s.2 1 i.toNatClampNeg) := jbi (ld_r2 hp)
theorem ld_w2b (hp : p.length = a) (ha : jt_off ≤ a) {F : jv_H → Option jv_R} : (jv_ip (ld_h p s q) (a + 2) 0 0 i x).bind F = if i < 0 ∨ 6 ≤ i.toNatClampNeg then none else F (ld_h p (ra s 1 (upd (s.2 1) i.toNatClampNeg (jv_nar 0 x))) q) := jbi (ld_w2 hp ha)
theorem ld_al3b (hp : p.length = a) {F : Int32 → Option jv_R} : (jv_al (ld_h p s q) (a + 3)).bind F = F 6 := jb (ld_al3 hp)
theorem ld_r3b (hp : p.length = a) {F : Int32 → Option jv_R} : (jv_ig (ld_h p s q) (a + 3) 0 0 i).bind F = if i < 0 ∨ 6 ≤ i.toNatClampNeg then none else F (s.2 2 i.toNatClampNeg) := jbi (ld_r3 hp)
theorem ld_w3b (hp : p.length = a) (ha : jt_off ≤ a) {F : jv_H → Option jv_R} : (jv_ip (ld_h p s q) (a + 3) 0 0 i x).bind F = if i < 0 ∨ 6 ≤ i.toNatClampNeg then none else F (ld_h p (ra s 2 (upd (s.2 2) i.toNatClampNeg (jv_nar 0 x))) q) := jbi (ld_w3 hp ha)
theorem ld_al4b (hp : p.length = a) {F : Int32 → Option jv_R} : (jv_al (ld_h p s q) (a + 4)).bind F = F 4 := jb (ld_al4 hp)
theorem ld_r4b (hp : p.length = a) {F : Int32 → Option jv_R} : (jv_ig (ld_h p s q) (a + 4) 0 0 i).bind F = if i < 0 ∨ 4 ≤ i.toNatClampNeg then none else F (s.2 3 i.toNatClampNeg) := jbi (ld_r4 hp)
theorem ld_w4b (hp : p.length = a) (ha : jt_off ≤ a) {F : jv_H → Option jv_R} : (jv_ip (ld_h p s q) (a + 4) 0 0 i x).bind F = if i < 0 ∨ 4 ≤ i.toNatClampNeg then none else F (ld_h p (ra s 3 (upd (s.2 3) i.toNatClampNeg (jv_nar 0 x))) q) := jbi (ld_w4 hp ha)
theorem ld_al5b (hp : p.length = a) {F : Int32 → Option jv_R} : (jv_al (ld_h p s q) (a + 5)).bind F = F 4 := jb (ld_al5 hp)
theorem ld_r5b (hp : p.length = a) {F : Int32 → Option jv_R} : (jv_ig (ld_h p s q) (a + 5) 0 0 i).bind F = if i < 0 ∨ 4 ≤ i.toNatClampNeg then none else F (s.2 4 i.toNatClampNeg) := jbi (ld_r5 hp)
theorem ld_w5b (hp : p.length = a) (ha : jt_off ≤ a) {F : jv_H → Option jv_R} : (jv_ip (ld_h p s q) (a + 5) 0 0 i x).bind F = if i < 0 ∨ 4 ≤ i.toNatClampNeg then none else F (ld_h p (ra s 4 (upd (s.2 4) i.toNatClampNeg (jv_nar 0 x))) q) := jbi (ld_w5 hp ha)
theorem ld_al6b (hp : p.length = a) {F : Int32 → Option jv_R} : (jv_al (ld_h p s q) (a + 6)).bind F = F 4 := jb (ld_al6 hp)
theorem ld_r6b (hp : p.length = a) {F : Int32 → Option jv_R} : (jv_ig (ld_h p s q) (a + 6) 0 0 i).bind F = if i < 0 ∨ 4 ≤ i.toNatClampNeg then none else F (s.2 5 i.toNatClampNeg) := jbi (ld_r6 hp)
theorem ld_w6b (hp : p.length = a) (ha : jt_off ≤ a) {F : jv_H → Option jv_R} : (jv_ip (ld_h p s q) (a + 6) 0 0 i x).bind F = if i < 0 ∨ 4 ≤ i.toNatClampNeg then none else F (ld_h p (ra s 5 (upd (s.2 5) i.toNatClampNeg (jv_nar 0 x))) q) := jbi (ld_w6 hp ha)
theorem ld_al7b (hp : p.length = a) {F : Int32 → Option jv_R} : (jv_al (ld_h p s q) (a + 7)).bind F = F 4 := jb (ld_al7 hp)
theorem ld_r7b (hp : p.length = a) {F : Int32 → Option jv_R} : (jv_ig (ld_h p s q) (a + 7) 0 0 i).bind F = if i < 0 ∨ 4 ≤ i.toNatClampNeg then none else F (s.2 6 i.toNatClampNeg) := jbi (ld_r7 hp)
theorem ld_w7b (hp : p.length = a) (ha : jt_off ≤ a) {F : jv_H → Option jv_R} : (jv_ip (ld_h p s q) (a + 7) 0 0 i x).bind F = if i < 0 ∨ 4 ≤ i.toNatClampNeg then none else F (ld_h p (ra s 6 (upd (s.2 6) i.toNatClampNeg (jv_nar 0 x))) q) := jbi (ld_w7 hp ha)
theorem ld_al8b (hp : p.length = a) {F : Int32 → Option jv_R} : (jv_al (ld_h p s q) (a + 8)).bind F = F 4 := jb (ld_al8 hp)
theorem ld_r8b (hp : p.length = a) {F : Int32 → Option jv_R} : (jv_ig (ld_h p s q) (a + 8) 0 0 i).bind F = if i < 0 ∨ 4 ≤ i.toNatClampNeg then none else F (s.2 7 i.toNatClampNeg) := jbi (ld_r8 hp)
theorem ld_w8b (hp : p.length = a) (ha : jt_off ≤ a) {F : jv_H → Option jv_R} : (jv_ip (ld_h p s q) (a + 8) 0 0 i x).bind F = if i < 0 ∨ 4 ≤ i.toNatClampNeg then none else F (ld_h p (ra s 7 (upd (s.2 7) i.toNatClampNeg (jv_nar 0 x))) q) := jbi (ld_w8 hp ha)
theorem ld_al9b (hp : p.length = a) {F : Int32 → Option jv_R} : (jv_al (ld_h p s q) (a + 9)).bind F = F 4 := jb (ld_al9 hp)
theorem ld_r9b (hp : p.length = a) {F : Int32 → Option jv_R} : (jv_ig (ld_h p s q) (a + 9) 0 0 i).bind F = if i < 0 ∨ 4 ≤ i.toNatClampNeg then none else F (s.2 8 i.toNatClampNeg) := jbi (ld_r9 hp)
theorem ld_w9b (hp : p.length = a) (ha : jt_off ≤ a) {F : jv_H → Option jv_R} : (jv_ip (ld_h p s q) (a + 9) 0 0 i x).bind F = if i < 0 ∨ 4 ≤ i.toNatClampNeg then none else F (ld_h p (ra s 8 (upd (s.2 8) i.toNatClampNeg (jv_nar 0 x))) q) := jbi (ld_w9 hp ha)
theorem ld_al10b (hp : p.length = a) {F : Int32 → Option jv_R} : (jv_al (ld_h p s q) (a + 10)).bind F = F 4 := jb (ld_al10 hp)
theorem ld_r10b (hp : p.length = a) {F : Int32 → Option jv_R} : (jv_ig (ld_h p s q) (a + 10) 0 0 i).bind F = if i < 0 ∨ 4 ≤ i.toNatClampNeg then none else F (s.2 9 i.toNatClampNeg) := jbi (ld_r10 hp)
theorem ld_w10b (hp : p.length = a) (ha : jt_off ≤ a) {F : jv_H → Option jv_R} : (jv_ip (ld_h p s q) (a + 10) 0 0 i x).bind F = if i < 0 ∨ 4 ≤ i.toNatClampNeg then none else F (ld_h p (ra s 9 (upd (s.2 9) i.toNatClampNeg (jv_nar 0 x))) q) := jbi (ld_w10 hp ha)
theorem ld_cl11b (hp : p.length = a) {F : Nat → Option jv_R} : (jv_cls (ld_h p s q) (a + 11)).bind F = F 7 := jb (ld_cl11 hp)
theorem ld_g11_0b (hp : p.length = a) {F : Value → Option jv_R} : (jv_gf (ld_h p s q) (a + 11) [(7, 0, (.array .int))]).bind F = F (.ref (a + 12)) := jb (ld_g11_0 hp)
theorem ld_g11_1b (hp : p.length = a) {F : Value → Option jv_R} : (jv_gf (ld_h p s q) (a + 11) [(7, 1, .boolean)]).bind F = F (.int (s.1 3)) := jb (ld_g11_1 hp)
theorem ld_p11_1b (hp : p.length = a) (ha : jt_off ≤ a) (hv : v = 0 ∨ v = 1) {F : jv_H → Option jv_R} : (jv_pf (ld_h p s q) (a + 11) [(7, 1, .boolean)] (.int v)).bind F = F (ld_h p (ri s 3 v) q) := jb (ld_p11_1 hp ha hv)
theorem ld_al12b (hp : p.length = a) {F : Int32 → Option jv_R} : (jv_al (ld_h p s q) (a + 12)).bind F = F 9 := jb (ld_al12 hp)
theorem ld_r12b (hp : p.length = a) {F : Int32 → Option jv_R} : (jv_ig (ld_h p s q) (a + 12) 0 0 i).bind F = if i < 0 ∨ 9 ≤ i.toNatClampNeg then none else F (s.2 10 i.toNatClampNeg) := jbi (ld_r12 hp)
theorem ld_w12b (hp : p.length = a) (ha : jt_off ≤ a) {F : jv_H → Option jv_R} : (jv_ip (ld_h p s q) (a + 12) 0 0 i x).bind F = if i < 0 ∨ 9 ≤ i.toNatClampNeg then none else F (ld_h p (ra s 10 (upd (s.2 10) i.toNatClampNeg (jv_nar 0 x))) q) := jbi (ld_w12 hp ha)
theorem ld_rc0b {m : Nat} {V : List (Nat × Nat)} (hp : p.length = a) {F : Nat → Option jv_R} : (jv_rc (ld_h p s q) a ((6, m) :: V)).bind F = F m := by
  rw [ld_rc0 hp]
  simp only [List.lookup, beq_self_eq_true]
  rfl
theorem ld_rc11b {m : Nat} {V : List (Nat × Nat)} (hp : p.length = a) {F : Nat → Option jv_R} : (jv_rc (ld_h p s q) (a + 11) ((7, m) :: V)).bind F = F m := by
  rw [ld_rc11 hp]
  simp only [List.lookup, beq_self_eq_true]
  rfl
end
