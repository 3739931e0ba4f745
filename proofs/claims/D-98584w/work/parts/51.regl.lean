/-! the lands in the component: printed by gen_cl.py -/
section
variable {o r : jv_H} {c : cm_S} {i x v : Int32} {n m : Nat}
theorem la_off (hn : n < 35) : jt_off ≤ la n := Nat.le_trans (show jt_off ≤ 65 by decide) (la_ge hn).1
theorem cm_sl {j : Nat} {w : jv_C} {s9 : rg_S} (ho : o.length = 50) (hm : m < 35) (hj : j < 13) (hc : (ld_c (la m) (c.2.2.1 m)).set j w = ld_c (la m) s9) : (cm_h o c r).set (la m + j) w = cm_h o (cs_L c m s9) r := by
  rw [cm_ld0 (c := c) (r := r) ho hm, ld_st (lp_len ho hm) j hj hc, cm_ld ho hm]
theorem cgl_0 (ho : o.length = 50) (hn : n < 35) : jv_gf (cm_h o c r) (la n) [(6, 0, .array .int)] = some (.ref (la n + 1)) := jv_gf_at (cm_l (k := 0) ho hn (by decide) rfl) rfl rfl
theorem cgl_1 (ho : o.length = 50) (hn : n < 35) : jv_gf (cm_h o c r) (la n) [(6, 1, .array .int)] = some (.ref (la n + 2)) := jv_gf_at (cm_l (k := 0) ho hn (by decide) rfl) rfl rfl
theorem cgl_2 (ho : o.length = 50) (hn : n < 35) : jv_gf (cm_h o c r) (la n) [(6, 2, .array .int)] = some (.ref (la n + 3)) := jv_gf_at (cm_l (k := 0) ho hn (by decide) rfl) rfl rfl
theorem cgl_3 (ho : o.length = 50) (hn : n < 35) : jv_gf (cm_h o c r) (la n) [(6, 3, .array .int)] = some (.ref (la n + 4)) := jv_gf_at (cm_l (k := 0) ho hn (by decide) rfl) rfl rfl
theorem cgl_4 (ho : o.length = 50) (hn : n < 35) : jv_gf (cm_h o c r) (la n) [(6, 4, .array .int)] = some (.ref (la n + 5)) := jv_gf_at (cm_l (k := 0) ho hn (by decide) rfl) rfl rfl
theorem cgl_5 (ho : o.length = 50) (hn : n < 35) : jv_gf (cm_h o c r) (la n) [(6, 5, .array .int)] = some (.ref (la n + 6)) := jv_gf_at (cm_l (k := 0) ho hn (by decide) rfl) rfl rfl
theorem cgl_6 (ho : o.length = 50) (hn : n < 35) : jv_gf (cm_h o c r) (la n) [(6, 6, .array .int)] = some (.ref (la n + 7)) := jv_gf_at (cm_l (k := 0) ho hn (by decide) rfl) rfl rfl
theorem cgl_7 (ho : o.length = 50) (hn : n < 35) : jv_gf (cm_h o c r) (la n) [(6, 7, .array .int)] = some (.ref (la n + 8)) := jv_gf_at (cm_l (k := 0) ho hn (by decide) rfl) rfl rfl
theorem cgl_8 (ho : o.length = 50) (hn : n < 35) : jv_gf (cm_h o c r) (la n) [(6, 8, .array .int)] = some (.ref (la n + 9)) := jv_gf_at (cm_l (k := 0) ho hn (by decide) rfl) rfl rfl
theorem cgl_9 (ho : o.length = 50) (hn : n < 35) : jv_gf (cm_h o c r) (la n) [(6, 9, .array .int)] = some (.ref (la n + 10)) := jv_gf_at (cm_l (k := 0) ho hn (by decide) rfl) rfl rfl
theorem cgl_10 (ho : o.length = 50) (hn : n < 35) : jv_gf (cm_h o c r) (la n) [(6, 10, .int)] = some (.int ((c.2.2.1 n).1 0)) := jv_gf_at (cm_l (k := 0) ho hn (by decide) rfl) rfl rfl
theorem cpl_10 (ho : o.length = 50) (hn : n < 35) : jv_pf (cm_h o c r) (la n) [(6, 10, .int)] (.int v) = some (cm_h o (cs_L c n (ri (c.2.2.1 n) 0 v)) r) := by
  rw [cm_ld0 (c := c) (r := r) ho hn, ld_p0_10 (lp_len ho hn) (la_off hn), cm_ld ho hn]
theorem cgl_11 (ho : o.length = 50) (hn : n < 35) : jv_gf (cm_h o c r) (la n) [(6, 11, .int)] = some (.int ((c.2.2.1 n).1 1)) := jv_gf_at (cm_l (k := 0) ho hn (by decide) rfl) rfl rfl
theorem cpl_11 (ho : o.length = 50) (hn : n < 35) : jv_pf (cm_h o c r) (la n) [(6, 11, .int)] (.int v) = some (cm_h o (cs_L c n (ri (c.2.2.1 n) 1 v)) r) := by
  rw [cm_ld0 (c := c) (r := r) ho hn, ld_p0_11 (lp_len ho hn) (la_off hn), cm_ld ho hn]
theorem cgl_12 (ho : o.length = 50) (hn : n < 35) : jv_gf (cm_h o c r) (la n) [(6, 12, .int)] = some (.int ((c.2.2.1 n).1 2)) := jv_gf_at (cm_l (k := 0) ho hn (by decide) rfl) rfl rfl
theorem cpl_12 (ho : o.length = 50) (hn : n < 35) : jv_pf (cm_h o c r) (la n) [(6, 12, .int)] (.int v) = some (cm_h o (cs_L c n (ri (c.2.2.1 n) 2 v)) r) := by
  rw [cm_ld0 (c := c) (r := r) ho hn, ld_p0_12 (lp_len ho hn) (la_off hn), cm_ld ho hn]
theorem ctl_1 (ho : o.length = 50) (hn : n < 35) : jv_ig (cm_h o c r) (la n + 1) 0 0 i = if i < 0 ∨ 48 ≤ i.toNatClampNeg then none else some ((c.2.2.1 n).2 0 i.toNatClampNeg) := jv_ig_at (cm_l (k := 1) ho hn (by decide) rfl) (by decide)
theorem cwl_1 (ho : o.length = 50) (hn : n < 35) : jv_ip (cm_h o c r) (la n + 1) 0 0 i x = if i < 0 ∨ 48 ≤ i.toNatClampNeg then none else some (cm_h o (cs_L c n (ra (c.2.2.1 n) 0 (upd ((c.2.2.1 n).2 0) i.toNatClampNeg x))) r) := by
  rw [cm_ld0 (c := c) (r := r) ho hn, ld_w1 (lp_len ho hn) (la_off hn), cm_ld ho hn]
  rfl
theorem cal_1 (ho : o.length = 50) (hn : n < 35) : jv_al (cm_h o c r) (la n + 1) = some 48 := by
  unfold jv_al
  rw [cm_l (k := 1) ho hn (by decide) rfl]
  rfl
theorem ccp_1 (ho : o.length = 50) (hn : n < 35) (hm : m < 35) (hnm : n ≠ m) : jv_cp (cm_h o c r) (la n + 1) (nI 0) (la m + 1) (nI 0) (nI 48) = some (cm_h o (cs_L c m (ra (c.2.2.1 m) 0 (va_cpy ((c.2.2.1 n).2 0) ((c.2.2.1 m).2 0) 0 0 48))) r) := by
  have h1 := la_ge hn
  have h2 := la_ge hm
  have h3 := la_ap hn hm hnm (k := 1) (by decide)
  unfold jv_cp
  rw [cm_l (c := c) (r := r) (k := 1) ho hn (by decide) rfl, cm_l (c := c) (r := r) (k := 1) ho hm (by decide) rfl]
  dsimp only
  rw [if_pos ⟨rfl, by decide, Nat.le_trans (la_off hn) (by omega), Nat.le_trans (la_off hm) (by omega), by omega, by decide, by decide, by decide, by decide, by decide, Or.inl rfl⟩]
  exact congrArg some (cm_sl ho hm (by decide) rfl)
theorem ctl_2 (ho : o.length = 50) (hn : n < 35) : jv_ig (cm_h o c r) (la n + 2) 0 0 i = if i < 0 ∨ 6 ≤ i.toNatClampNeg then none else some ((c.2.2.1 n).2 1 i.toNatClampNeg) := jv_ig_at (cm_l (k := 2) ho hn (by decide) rfl) (by decide)
theorem cwl_2 (ho : o.length = 50) (hn : n < 35) : jv_ip (cm_h o c r) (la n + 2) 0 0 i x = if i < 0 ∨ 6 ≤ i.toNatClampNeg then none else some (cm_h o (cs_L c n (ra (c.2.2.1 n) 1 (upd ((c.2.2.1 n).2 1) i.toNatClampNeg x))) r) := by
  rw [cm_ld0 (c := c) (r := r) ho hn, ld_w2 (lp_len ho hn) (la_off hn), cm_ld ho hn]
  rfl
theorem cal_2 (ho : o.length = 50) (hn : n < 35) : jv_al (cm_h o c r) (la n + 2) = some 6 := by
  unfold jv_al
  rw [cm_l (k := 2) ho hn (by decide) rfl]
  rfl
theorem ccp_2 (ho : o.length = 50) (hn : n < 35) (hm : m < 35) (hnm : n ≠ m) : jv_cp (cm_h o c r) (la n + 2) (nI 0) (la m + 2) (nI 0) (nI 6) = some (cm_h o (cs_L c m (ra (c.2.2.1 m) 1 (va_cpy ((c.2.2.1 n).2 1) ((c.2.2.1 m).2 1) 0 0 6))) r) := by
  have h1 := la_ge hn
  have h2 := la_ge hm
  have h3 := la_ap hn hm hnm (k := 2) (by decide)
  unfold jv_cp
  rw [cm_l (c := c) (r := r) (k := 2) ho hn (by decide) rfl, cm_l (c := c) (r := r) (k := 2) ho hm (by decide) rfl]
  dsimp only
  rw [if_pos ⟨rfl, by decide, Nat.le_trans (la_off hn) (by omega), Nat.le_trans (la_off hm) (by omega), by omega, by decide, by decide, by decide, by decide, by decide, Or.inl rfl⟩]
  exact congrArg some (cm_sl ho hm (by decide) rfl)
theorem ctl_3 (ho : o.length = 50) (hn : n < 35) : jv_ig (cm_h o c r) (la n + 3) 0 0 i = if i < 0 ∨ 6 ≤ i.toNatClampNeg then none else some ((c.2.2.1 n).2 2 i.toNatClampNeg) := jv_ig_at (cm_l (k := 3) ho hn (by decide) rfl) (by decide)
theorem cwl_3 (ho : o.length = 50) (hn : n < 35) : jv_ip (cm_h o c r) (la n + 3) 0 0 i x = if i < 0 ∨ 6 ≤ i.toNatClampNeg then none else some (cm_h o (cs_L c n (ra (c.2.2.1 n) 2 (upd ((c.2.2.1 n).2 2) i.toNatClampNeg x))) r) := by
  rw [cm_ld0 (c := c) (r := r) ho hn, ld_w3 (lp_len ho hn) (la_off hn), cm_ld ho hn]
  rfl
theorem cal_3 (ho : o.length = 50) (hn : n < 35) : jv_al (cm_h o c r) (la n + 3) = some 6 := by
  unfold jv_al
  rw [cm_l (k := 3) ho hn (by decide) rfl]
  rfl
theorem ccp_3 (ho : o.length = 50) (hn : n < 35) (hm : m < 35) (hnm : n ≠ m) : jv_cp (cm_h o c r) (la n + 3) (nI 0) (la m + 3) (nI 0) (nI 6) = some (cm_h o (cs_L c m (ra (c.2.2.1 m) 2 (va_cpy ((c.2.2.1 n).2 2) ((c.2.2.1 m).2 2) 0 0 6))) r) := by
  have h1 := la_ge hn
  have h2 := la_ge hm
  have h3 := la_ap hn hm hnm (k := 3) (by decide)
  unfold jv_cp
  rw [cm_l (c := c) (r := r) (k := 3) ho hn (by decide) rfl, cm_l (c := c) (r := r) (k := 3) ho hm (by decide) rfl]
  dsimp only
  rw [if_pos ⟨rfl, by decide, Nat.le_trans (la_off hn) (by omega), Nat.le_trans (la_off hm) (by omega), by omega, by decide, by decide, by decide, by decide, by decide, Or.inl rfl⟩]
  exact congrArg some (cm_sl ho hm (by decide) rfl)
theorem ctl_4 (ho : o.length = 50) (hn : n < 35) : jv_ig (cm_h o c r) (la n + 4) 0 0 i = if i < 0 ∨ 4 ≤ i.toNatClampNeg then none else some ((c.2.2.1 n).2 3 i.toNatClampNeg) := jv_ig_at (cm_l (k := 4) ho hn (by decide) rfl) (by decide)
theorem cwl_4 (ho : o.length = 50) (hn : n < 35) : jv_ip (cm_h o c r) (la n + 4) 0 0 i x = if i < 0 ∨ 4 ≤ i.toNatClampNeg then none else some (cm_h o (cs_L c n (ra (c.2.2.1 n) 3 (upd ((c.2.2.1 n).2 3) i.toNatClampNeg x))) r) := by
  rw [cm_ld0 (c := c) (r := r) ho hn, ld_w4 (lp_len ho hn) (la_off hn), cm_ld ho hn]
  rfl
theorem cal_4 (ho : o.length = 50) (hn : n < 35) : jv_al (cm_h o c r) (la n + 4) = some 4 := by
  unfold jv_al
  rw [cm_l (k := 4) ho hn (by decide) rfl]
  rfl
theorem ccp_4 (ho : o.length = 50) (hn : n < 35) (hm : m < 35) (hnm : n ≠ m) : jv_cp (cm_h o c r) (la n + 4) (nI 0) (la m + 4) (nI 0) (nI 4) = some (cm_h o (cs_L c m (ra (c.2.2.1 m) 3 (va_cpy ((c.2.2.1 n).2 3) ((c.2.2.1 m).2 3) 0 0 4))) r) := by
  have h1 := la_ge hn
  have h2 := la_ge hm
  have h3 := la_ap hn hm hnm (k := 4) (by decide)
  unfold jv_cp
  rw [cm_l (c := c) (r := r) (k := 4) ho hn (by decide) rfl, cm_l (c := c) (r := r) (k := 4) ho hm (by decide) rfl]
  dsimp only
  rw [if_pos ⟨rfl, by decide, Nat.le_trans (la_off hn) (by omega), Nat.le_trans (la_off hm) (by omega), by omega, by decide, by decide, by decide, by decide, by decide, Or.inl rfl⟩]
  exact congrArg some (cm_sl ho hm (by decide) rfl)
theorem ctl_5 (ho : o.length = 50) (hn : n < 35) : jv_ig (cm_h o c r) (la n + 5) 0 0 i = if i < 0 ∨ 4 ≤ i.toNatClampNeg then none else some ((c.2.2.1 n).2 4 i.toNatClampNeg) := jv_ig_at (cm_l (k := 5) ho hn (by decide) rfl) (by decide)
theorem cwl_5 (ho : o.length = 50) (hn : n < 35) : jv_ip (cm_h o c r) (la n + 5) 0 0 i x = if i < 0 ∨ 4 ≤ i.toNatClampNeg then none else some (cm_h o (cs_L c n (ra (c.2.2.1 n) 4 (upd ((c.2.2.1 n).2 4) i.toNatClampNeg x))) r) := by
  rw [cm_ld0 (c := c) (r := r) ho hn, ld_w5 (lp_len ho hn) (la_off hn), cm_ld ho hn]
  rfl
theorem cal_5 (ho : o.length = 50) (hn : n < 35) : jv_al (cm_h o c r) (la n + 5) = some 4 := by
  unfold jv_al
  rw [cm_l (k := 5) ho hn (by decide) rfl]
  rfl
theorem ccp_5 (ho : o.length = 50) (hn : n < 35) (hm : m < 35) (hnm : n ≠ m) : jv_cp (cm_h o c r) (la n + 5) (nI 0) (la m + 5) (nI 0) (nI 4) = some (cm_h o (cs_L c m (ra (c.2.2.1 m) 4 (va_cpy ((c.2.2.1 n).2 4) ((c.2.2.1 m).2 4) 0 0 4))) r) := by
  have h1 := la_ge hn
  have h2 := la_ge hm
  have h3 := la_ap hn hm hnm (k := 5) (by decide)
  unfold jv_cp
  rw [cm_l (c := c) (r := r) (k := 5) ho hn (by decide) rfl, cm_l (c := c) (r := r) (k := 5) ho hm (by decide) rfl]
  dsimp only
  rw [if_pos ⟨rfl, by decide, Nat.le_trans (la_off hn) (by omega), Nat.le_trans (la_off hm) (by omega), by omega, by decide, by decide, by decide, by decide, by decide, Or.inl rfl⟩]
  exact congrArg some (cm_sl ho hm (by decide) rfl)
theorem ctl_6 (ho : o.length = 50) (hn : n < 35) : jv_ig (cm_h o c r) (la n + 6) 0 0 i = if i < 0 ∨ 4 ≤ i.toNatClampNeg then none else some ((c.2.2.1 n).2 5 i.toNatClampNeg) := jv_ig_at (cm_l (k := 6) ho hn (by decide) rfl) (by decide)
theorem cwl_6 (ho : o.length = 50) (hn : n < 35) : jv_ip (cm_h o c r) (la n + 6) 0 0 i x = if i < 0 ∨ 4 ≤ i.toNatClampNeg then none else some (cm_h o (cs_L c n (ra (c.2.2.1 n) 5 (upd ((c.2.2.1 n).2 5) i.toNatClampNeg x))) r) := by
  rw [cm_ld0 (c := c) (r := r) ho hn, ld_w6 (lp_len ho hn) (la_off hn), cm_ld ho hn]
  rfl
theorem cal_6 (ho : o.length = 50) (hn : n < 35) : jv_al (cm_h o c r) (la n + 6) = some 4 := by
  unfold jv_al
  rw [cm_l (k := 6) ho hn (by decide) rfl]
  rfl
theorem ccp_6 (ho : o.length = 50) (hn : n < 35) (hm : m < 35) (hnm : n ≠ m) : jv_cp (cm_h o c r) (la n + 6) (nI 0) (la m + 6) (nI 0) (nI 4) = some (cm_h o (cs_L c m (ra (c.2.2.1 m) 5 (va_cpy ((c.2.2.1 n).2 5) ((c.2.2.1 m).2 5) 0 0 4))) r) := by
  have h1 := la_ge hn
  have h2 := la_ge hm
  have h3 := la_ap hn hm hnm (k := 6) (by decide)
  unfold jv_cp
  rw [cm_l (c := c) (r := r) (k := 6) ho hn (by decide) rfl, cm_l (c := c) (r := r) (k := 6) ho hm (by decide) rfl]
  dsimp only
  rw [if_pos ⟨rfl, by decide, Nat.le_trans (la_off hn) (by omega), Nat.le_trans (la_off hm) (by omega), by omega, by decide, by decide, by decide, by decide, by decide, Or.inl rfl⟩]
  exact congrArg some (cm_sl ho hm (by decide) rfl)
theorem ctl_7 (ho : o.length = 50) (hn : n < 35) : jv_ig (cm_h o c r) (la n + 7) 0 0 i = if i < 0 ∨ 4 ≤ i.toNatClampNeg then none else some ((c.2.2.1 n).2 6 i.toNatClampNeg) := jv_ig_at (cm_l (k := 7) ho hn (by decide) rfl) (by decide)
theorem cwl_7 (ho : o.length = 50) (hn : n < 35) : jv_ip (cm_h o c r) (la n + 7) 0 0 i x = if i < 0 ∨ 4 ≤ i.toNatClampNeg then none else some (cm_h o (cs_L c n (ra (c.2.2.1 n) 6 (upd ((c.2.2.1 n).2 6) i.toNatClampNeg x))) r) := by
  rw [cm_ld0 (c := c) (r := r) ho hn, ld_w7 (lp_len ho hn) (la_off hn), cm_ld ho hn]
  rfl
theorem cal_7 (ho : o.length = 50) (hn : n < 35) : jv_al (cm_h o c r) (la n + 7) = some 4 := by
  unfold jv_al
  rw [cm_l (k := 7) ho hn (by decide) rfl]
  rfl
theorem ccp_7 (ho : o.length = 50) (hn : n < 35) (hm : m < 35) (hnm : n ≠ m) : jv_cp (cm_h o c r) (la n + 7) (nI 0) (la m + 7) (nI 0) (nI 4) = some (cm_h o (cs_L c m (ra (c.2.2.1 m) 6 (va_cpy ((c.2.2.1 n).2 6) ((c.2.2.1 m).2 6) 0 0 4))) r) := by
  have h1 := la_ge hn
  have h2 := la_ge hm
  have h3 := la_ap hn hm hnm (k := 7) (by decide)
  unfold jv_cp
  rw [cm_l (c := c) (r := r) (k := 7) ho hn (by decide) rfl, cm_l (c := c) (r := r) (k := 7) ho hm (by decide) rfl]
  dsimp only
  rw [if_pos ⟨rfl, by decide, Nat.le_trans (la_off hn) (by omega), Nat.le_trans (la_off hm) (by omega), by omega, by decide, by decide, by decide, by decide, by decide, Or.inl rfl⟩]
  exact congrArg some (cm_sl ho hm (by decide) rfl)
theorem ctl_8 (ho : o.length = 50) (hn : n < 35) : jv_ig (cm_h o c r) (la n + 8) 0 0 i = if i < 0 ∨ 4 ≤ i.toNatClampNeg then none else some ((c.2.2.1 n).2 7 i.toNatClampNeg) := jv_ig_at (cm_l (k := 8) ho hn (by decide) rfl) (by decide)
theorem cwl_8 (ho : o.length = 50) (hn : n < 35) : jv_ip (cm_h o c r) (la n + 8) 0 0 i x = if i < 0 ∨ 4 ≤ i.toNatClampNeg then none else some (cm_h o (cs_L c n (ra (c.2.2.1 n) 7 (upd ((c.2.2.1 n).2 7) i.toNatClampNeg x))) r) := by
  rw [cm_ld0 (c := c) (r := r) ho hn, ld_w8 (lp_len ho hn) (la_off hn), cm_ld ho hn]
  rfl
theorem cal_8 (ho : o.length = 50) (hn : n < 35) : jv_al (cm_h o c r) (la n + 8) = some 4 := by
  unfold jv_al
  rw [cm_l (k := 8) ho hn (by decide) rfl]
  rfl
theorem ccp_8 (ho : o.length = 50) (hn : n < 35) (hm : m < 35) (hnm : n ≠ m) : jv_cp (cm_h o c r) (la n + 8) (nI 0) (la m + 8) (nI 0) (nI 4) = some (cm_h o (cs_L c m (ra (c.2.2.1 m) 7 (va_cpy ((c.2.2.1 n).2 7) ((c.2.2.1 m).2 7) 0 0 4))) r) := by
  have h1 := la_ge hn
  have h2 := la_ge hm
  have h3 := la_ap hn hm hnm (k := 8) (by decide)
  unfold jv_cp
  rw [cm_l (c := c) (r := r) (k := 8) ho hn (by decide) rfl, cm_l (c := c) (r := r) (k := 8) ho hm (by decide) rfl]
  dsimp only
  rw [if_pos ⟨rfl, by decide, Nat.le_trans (la_off hn) (by omega), Nat.le_trans (la_off hm) (by omega), by omega, by decide, by decide, by decide, by decide, by decide, Or.inl rfl⟩]
  exact congrArg some (cm_sl ho hm (by decide) rfl)
theorem ctl_9 (ho : o.length = 50) (hn : n < 35) : jv_ig (cm_h o c r) (la n + 9) 0 0 i = if i < 0 ∨ 4 ≤ i.toNatClampNeg then none else some ((c.2.2.1 n).2 8 i.toNatClampNeg) := jv_ig_at (cm_l (k := 9) ho hn (by decide) rfl) (by decide)
theorem cwl_9 (ho : o.length = 50) (hn : n < 35) : jv_ip (cm_h o c r) (la n + 9) 0 0 i x = if i < 0 ∨ 4 ≤ i.toNatClampNeg then none else some (cm_h o (cs_L c n (ra (c.2.2.1 n) 8 (upd ((c.2.2.1 n).2 8) i.toNatClampNeg x))) r) := by
  rw [cm_ld0 (c := c) (r := r) ho hn, ld_w9 (lp_len ho hn) (la_off hn), cm_ld ho hn]
  rfl
theorem cal_9 (ho : o.length = 50) (hn : n < 35) : jv_al (cm_h o c r) (la n + 9) = some 4 := by
  unfold jv_al
  rw [cm_l (k := 9) ho hn (by decide) rfl]
  rfl
theorem ccp_9 (ho : o.length = 50) (hn : n < 35) (hm : m < 35) (hnm : n ≠ m) : jv_cp (cm_h o c r) (la n + 9) (nI 0) (la m + 9) (nI 0) (nI 4) = some (cm_h o (cs_L c m (ra (c.2.2.1 m) 8 (va_cpy ((c.2.2.1 n).2 8) ((c.2.2.1 m).2 8) 0 0 4))) r) := by
  have h1 := la_ge hn
  have h2 := la_ge hm
  have h3 := la_ap hn hm hnm (k := 9) (by decide)
  unfold jv_cp
  rw [cm_l (c := c) (r := r) (k := 9) ho hn (by decide) rfl, cm_l (c := c) (r := r) (k := 9) ho hm (by decide) rfl]
  dsimp only
  rw [if_pos ⟨rfl, by decide, Nat.le_trans (la_off hn) (by omega), Nat.le_trans (la_off hm) (by omega), by omega, by decide, by decide, by decide, by decide, by decide, Or.inl rfl⟩]
  exact congrArg some (cm_sl ho hm (by decide) rfl)
theorem ctl_10 (ho : o.length = 50) (hn : n < 35) : jv_ig (cm_h o c r) (la n + 10) 0 0 i = if i < 0 ∨ 4 ≤ i.toNatClampNeg then none else some ((c.2.2.1 n).2 9 i.toNatClampNeg) := jv_ig_at (cm_l (k := 10) ho hn (by decide) rfl) (by decide)
theorem cwl_10 (ho : o.length = 50) (hn : n < 35) : jv_ip (cm_h o c r) (la n + 10) 0 0 i x = if i < 0 ∨ 4 ≤ i.toNatClampNeg then none else some (cm_h o (cs_L c n (ra (c.2.2.1 n) 9 (upd ((c.2.2.1 n).2 9) i.toNatClampNeg x))) r) := by
  rw [cm_ld0 (c := c) (r := r) ho hn, ld_w10 (lp_len ho hn) (la_off hn), cm_ld ho hn]
  rfl
theorem cal_10 (ho : o.length = 50) (hn : n < 35) : jv_al (cm_h o c r) (la n + 10) = some 4 := by
  unfold jv_al
  rw [cm_l (k := 10) ho hn (by decide) rfl]
  rfl
theorem ccp_10 (ho : o.length = 50) (hn : n < 35) (hm : m < 35) (hnm : n ≠ m) : jv_cp (cm_h o c r) (la n + 10) (nI 0) (la m + 10) (nI 0) (nI 4) = some (cm_h o (cs_L c m (ra (c.2.2.1 m) 9 (va_cpy ((c.2.2.1 n).2 9) ((c.2.2.1 m).2 9) 0 0 4))) r) := by
  have h1 := la_ge hn
  have h2 := la_ge hm
  have h3 := la_ap hn hm hnm (k := 10) (by decide)
  unfold jv_cp
  rw [cm_l (c := c) (r := r) (k := 10) ho hn (by decide) rfl, cm_l (c := c) (r := r) (k := 10) ho hm (by decide) rfl]
  dsimp only
  rw [if_pos ⟨rfl, by decide, Nat.le_trans (la_off hn) (by omega), Nat.le_trans (la_off hm) (by omega), by omega, by decide, by decide, by decide, by decide, by decide, Or.inl rfl⟩]
  exact congrArg some (cm_sl ho hm (by decide) rfl)
theorem cgl_0b (ho : o.length = 50) (hn : n < 35) {F : Value → Option jv_R} : (jv_gf (cm_h o c r) (la n) [(6, 0, .array .int)]).bind F = F (.ref (la n + 1)) := jb (cgl_0 ho hn)
theorem cgl_1b (ho : o.length = 50) (hn : n < 35) {F : Value → Option jv_R} : (jv_gf (cm_h o c r) (la n) [(6, 1, .array .int)]).bind F = F (.ref (la n + 2)) := jb (cgl_1 ho hn)
theorem cgl_2b (ho : o.length = 50) (hn : n < 35) {F : Value → Option jv_R} : (jv_gf (cm_h o c r) (la n) [(6, 2, .array .int)]).bind F = F (.ref (la n + 3)) := jb (cgl_2 ho hn)
theorem cgl_3b (ho : o.length = 50) (hn : n < 35) {F : Value → Option jv_R} : (jv_gf (cm_h o c r) (la n) [(6, 3, .array .int)]).bind F = F (.ref (la n + 4)) := jb (cgl_3 ho hn)
theorem cgl_4b (ho : o.length = 50) (hn : n < 35) {F : Value → Option jv_R} : (jv_gf (cm_h o c r) (la n) [(6, 4, .array .int)]).bind F = F (.ref (la n + 5)) := jb (cgl_4 ho hn)
theorem cgl_5b (ho : o.length = 50) (hn : n < 35) {F : Value → Option jv_R} : (jv_gf (cm_h o c r) (la n) [(6, 5, .array .int)]).bind F = F (.ref (la n + 6)) := jb (cgl_5 ho hn)
theorem cgl_6b (ho : o.length = 50) (hn : n < 35) {F : Value → Option jv_R} : (jv_gf (cm_h o c r) (la n) [(6, 6, .array .int)]).bind F = F (.ref (la n + 7)) := jb (cgl_6 ho hn)
theorem cgl_7b (ho : o.length = 50) (hn : n < 35) {F : Value → Option jv_R} : (jv_gf (cm_h o c r) (la n) [(6, 7, .array .int)]).bind F = F (.ref (la n + 8)) := jb (cgl_7 ho hn)
theorem cgl_8b (ho : o.length = 50) (hn : n < 35) {F : Value → Option jv_R} : (jv_gf (cm_h o c r) (la n) [(6, 8, .array .int)]).bind F = F (.ref (la n + 9)) := jb (cgl_8 ho hn)
theorem cgl_9b (ho : o.length = 50) (hn : n < 35) {F : Value → Option jv_R} : (jv_gf (cm_h o c r) (la n) [(6, 9, .array .int)]).bind F = F (.ref (la n + 10)) := jb (cgl_9 ho hn)
theorem cgl_10b (ho : o.length = 50) (hn : n < 35) {F : Value → Option jv_R} : (jv_gf (cm_h o c r) (la n) [(6, 10, .int)]).bind F = F (.int ((c.2.2.1 n).1 0)) := jb (cgl_10 ho hn)
theorem cpl_10b (ho : o.length = 50) (hn : n < 35) {F : jv_H → Option jv_R} : (jv_pf (cm_h o c r) (la n) [(6, 10, .int)] (.int v)).bind F = F (cm_h o (cs_L c n (ri (c.2.2.1 n) 0 v)) r) := jb (cpl_10 ho hn)
theorem cgl_11b (ho : o.length = 50) (hn : n < 35) {F : Value → Option jv_R} : (jv_gf (cm_h o c r) (la n) [(6, 11, .int)]).bind F = F (.int ((c.2.2.1 n).1 1)) := jb (cgl_11 ho hn)
theorem cpl_11b (ho : o.length = 50) (hn : n < 35) {F : jv_H → Option jv_R} : (jv_pf (cm_h o c r) (la n) [(6, 11, .int)] (.int v)).bind F = F (cm_h o (cs_L c n (ri (c.2.2.1 n) 1 v)) r) := jb (cpl_11 ho hn)
theorem cgl_12b (ho : o.length = 50) (hn : n < 35) {F : Value → Option jv_R} : (jv_gf (cm_h o c r) (la n) [(6, 12, .int)]).bind F = F (.int ((c.2.2.1 n).1 2)) := jb (cgl_12 ho hn)
theorem cpl_12b (ho : o.length = 50) (hn : n < 35) {F : jv_H → Option jv_R} : (jv_pf (cm_h o c r) (la n) [(6, 12, .int)] (.int v)).bind F = F (cm_h o (cs_L c n (ri (c.2.2.1 n) 2 v)) r) := jb (cpl_12 ho hn)
theorem ctl_1b (ho : o.length = 50) (hn : n < 35) {F : Int32 → Option jv_R} : (jv_ig (cm_h o c r) (la n + 1) 0 0 i).bind F = if i < 0 ∨ 48 ≤ i.toNatClampNeg then none else F ((c.2.2.1 n).2 0 i.toNatClampNeg) := jbi (ctl_1 ho hn)
theorem cwl_1b (ho : o.length = 50) (hn : n < 35) {F : jv_H → Option jv_R} : (jv_ip (cm_h o c r) (la n + 1) 0 0 i x).bind F = if i < 0 ∨ 48 ≤ i.toNatClampNeg then none else F (cm_h o (cs_L c n (ra (c.2.2.1 n) 0 (upd ((c.2.2.1 n).2 0) i.toNatClampNeg x))) r) := jbi (cwl_1 ho hn)
theorem cal_1b (ho : o.length = 50) (hn : n < 35) {F : Int32 → Option jv_R} : (jv_al (cm_h o c r) (la n + 1)).bind F = F 48 := jb (cal_1 ho hn)
theorem ccp_1b (ho : o.length = 50) (hn : n < 35) (hm : m < 35) (hnm : n ≠ m) {F : jv_H → Option jv_R} : (jv_cp (cm_h o c r) (la n + 1) (nI 0) (la m + 1) (nI 0) (nI 48)).bind F = F (cm_h o (cs_L c m (ra (c.2.2.1 m) 0 (va_cpy ((c.2.2.1 n).2 0) ((c.2.2.1 m).2 0) 0 0 48))) r) := jb (ccp_1 ho hn hm hnm)
theorem ctl_2b (ho : o.length = 50) (hn : n < 35) {F : Int32 → Option jv_R} : (jv_ig (cm_h o c r) (la n + 2) 0 0 i).bind F = if i < 0 ∨ 6 ≤ i.toNatClampNeg then none else F ((c.2.2.1 n).2 1 i.toNatClampNeg) := jbi (ctl_2 ho hn)
theorem cwl_2b (ho : o.length = 50) (hn : n < 35) {F : jv_H → Option jv_R} : (jv_ip (cm_h o c r) (la n + 2) 0 0 i x).bind F = if i < 0 ∨ 6 ≤ i.toNatClampNeg then none else F (cm_h o (cs_L c n (ra (c.2.2.1 n) 1 (upd ((c.2.2.1 n).2 1) i.toNatClampNeg x))) r) := jbi (cwl_2 ho hn)
theorem cal_2b (ho : o.length = 50) (hn : n < 35) {F : Int32 → Option jv_R} : (jv_al (cm_h o c r) (la n + 2)).bind F = F 6 := jb (cal_2 ho hn)
theorem ccp_2b (ho : o.length = 50) (hn : n < 35) (hm : m < 35) (hnm : n ≠ m) {F : jv_H → Option jv_R} : (jv_cp (cm_h o c r) (la n + 2) (nI 0) (la m + 2) (nI 0) (nI 6)).bind F = F (cm_h o (cs_L c m (ra (c.2.2.1 m) 1 (va_cpy ((c.2.2.1 n).2 1) ((c.2.2.1 m).2 1) 0 0 6))) r) := jb (ccp_2 ho hn hm hnm)
theorem ctl_3b (ho : o.length = 50) (hn : n < 35) {F : Int32 → Option jv_R} : (jv_ig (cm_h o c r) (la n + 3) 0 0 i).bind F = if i < 0 ∨ 6 ≤ i.toNatClampNeg then none else F ((c.2.2.1 n).2 2 i.toNatClampNeg) := jbi (ctl_3 ho hn)
theorem cwl_3b (ho : o.length = 50) (hn : n < 35) {F : jv_H → Option jv_R} : (jv_ip (cm_h o c r) (la n + 3) 0 0 i x).bind F = if i < 0 ∨ 6 ≤ i.toNatClampNeg then none else F (cm_h o (cs_L c n (ra (c.2.2.1 n) 2 (upd ((c.2.2.1 n).2 2) i.toNatClampNeg x))) r) := jbi (cwl_3 ho hn)
theorem cal_3b (ho : o.length = 50) (hn : n < 35) {F : Int32 → Option jv_R} : (jv_al (cm_h o c r) (la n + 3)).bind F = F 6 := jb (cal_3 ho hn)
theorem ccp_3b (ho : o.length = 50) (hn : n < 35) (hm : m < 35) (hnm : n ≠ m) {F : jv_H → Option jv_R} : (jv_cp (cm_h o c r) (la n + 3) (nI 0) (la m + 3) (nI 0) (nI 6)).bind F = F (cm_h o (cs_L c m (ra (c.2.2.1 m) 2 (va_cpy ((c.2.2.1 n).2 2) ((c.2.2.1 m).2 2) 0 0 6))) r) := jb (ccp_3 ho hn hm hnm)
theorem ctl_4b (ho : o.length = 50) (hn : n < 35) {F : Int32 → Option jv_R} : (jv_ig (cm_h o c r) (la n + 4) 0 0 i).bind F = if i < 0 ∨ 4 ≤ i.toNatClampNeg then none else F ((c.2.2.1 n).2 3 i.toNatClampNeg) := jbi (ctl_4 ho hn)
theorem cwl_4b (ho : o.length = 50) (hn : n < 35) {F : jv_H → Option jv_R} : (jv_ip (cm_h o c r) (la n + 4) 0 0 i x).bind F = if i < 0 ∨ 4 ≤ i.toNatClampNeg then none else F (cm_h o (cs_L c n (ra (c.2.2.1 n) 3 (upd ((c.2.2.1 n).2 3) i.toNatClampNeg x))) r) := jbi (cwl_4 ho hn)
theorem cal_4b (ho : o.length = 50) (hn : n < 35) {F : Int32 → Option jv_R} : (jv_al (cm_h o c r) (la n + 4)).bind F = F 4 := jb (cal_4 ho hn)
theorem ccp_4b (ho : o.length = 50) (hn : n < 35) (hm : m < 35) (hnm : n ≠ m) {F : jv_H → Option jv_R} : (jv_cp (cm_h o c r) (la n + 4) (nI 0) (la m + 4) (nI 0) (nI 4)).bind F = F (cm_h o (cs_L c m (ra (c.2.2.1 m) 3 (va_cpy ((c.2.2.1 n).2 3) ((c.2.2.1 m).2 3) 0 0 4))) r) := jb (ccp_4 ho hn hm hnm)
theorem ctl_5b (ho : o.length = 50) (hn : n < 35) {F : Int32 → Option jv_R} : (jv_ig (cm_h o c r) (la n + 5) 0 0 i).bind F = if i < 0 ∨ 4 ≤ i.toNatClampNeg then none else F ((c.2.2.1 n).2 4 i.toNatClampNeg) := jbi (ctl_5 ho hn)
theorem cwl_5b (ho : o.length = 50) (hn : n < 35) {F : jv_H → Option jv_R} : (jv_ip (cm_h o c r) (la n + 5) 0 0 i x).bind F = if i < 0 ∨ 4 ≤ i.toNatClampNeg then none else F (cm_h o (cs_L c n (ra (c.2.2.1 n) 4 (upd ((c.2.2.1 n).2 4) i.toNatClampNeg x))) r) := jbi (cwl_5 ho hn)
theorem cal_5b (ho : o.length = 50) (hn : n < 35) {F : Int32 → Option jv_R} : (jv_al (cm_h o c r) (la n + 5)).bind F = F 4 := jb (cal_5 ho hn)
theorem ccp_5b (ho : o.length = 50) (hn : n < 35) (hm : m < 35) (hnm : n ≠ m) {F : jv_H → Option jv_R} : (jv_cp (cm_h o c r) (la n + 5) (nI 0) (la m + 5) (nI 0) (nI 4)).bind F = F (cm_h o (cs_L c m (ra (c.2.2.1 m) 4 (va_cpy ((c.2.2.1 n).2 4) ((c.2.2.1 m).2 4) 0 0 4))) r) := jb (ccp_5 ho hn hm hnm)
theorem ctl_6b (ho : o.length = 50) (hn : n < 35) {F : Int32 → Option jv_R} : (jv_ig (cm_h o c r) (la n + 6) 0 0 i).bind F = if i < 0 ∨ 4 ≤ i.toNatClampNeg then none else F ((c.2.2.1 n).2 5 i.toNatClampNeg) := jbi (ctl_6 ho hn)
theorem cwl_6b (ho : o.length = 50) (hn : n < 35) {F : jv_H → Option jv_R} : (jv_ip (cm_h o c r) (la n + 6) 0 0 i x).bind F = if i < 0 ∨ 4 ≤ i.toNatClampNeg then none else F (cm_h o (cs_L c n (ra (c.2.2.1 n) 5 (upd ((c.2.2.1 n).2 5) i.toNatClampNeg x))) r) := jbi (cwl_6 ho hn)
theorem cal_6b (ho : o.length = 50) (hn : n < 35) {F : Int32 → Option jv_R} : (jv_al (cm_h o c r) (la n + 6)).bind F = F 4 := jb (cal_6 ho hn)
theorem ccp_6b (ho : o.length = 50) (hn : n < 35) (hm : m < 35) (hnm : n ≠ m) {F : jv_H → Option jv_R} : (jv_cp (cm_h o c r) (la n + 6) (nI 0) (la m + 6) (nI 0) (nI 4)).bind F = F (cm_h o (cs_L c m (ra (c.2.2.1 m) 5 (va_cpy ((c.2.2.1 n).2 5) ((c.2.2.1 m).2 5) 0 0 4))) r) := jb (ccp_6 ho hn hm hnm)
theorem ctl_7b (ho : o.length = 50) (hn : n < 35) {F : Int32 → Option jv_R} : (jv_ig (cm_h o c r) (la n + 7) 0 0 i).bind F = if i < 0 ∨ 4 ≤ i.toNatClampNeg then none else F ((c.2.2.1 n).2 6 i.toNatClampNeg) := jbi (ctl_7 ho hn)
theorem cwl_7b (ho : o.length = 50) (hn : n < 35) {F : jv_H → Option jv_R} : (jv_ip (cm_h o c r) (la n + 7) 0 0 i x).bind F = if i < 0 ∨ 4 ≤ i.toNatClampNeg then none else F (cm_h o (cs_L c n (ra (c.2.2.1 n) 6 (upd ((c.2.2.1 n).2 6) i.toNatClampNeg x))) r) := jbi (cwl_7 ho hn)
theorem cal_7b (ho : o.length = 50) (hn : n < 35) {F : Int32 → Option jv_R} : (jv_al (cm_h o c r) (la n + 7)).bind F = F 4 := jb (cal_7 ho hn)
theorem ccp_7b (ho : o.length = 50) (hn : n < 35) (hm : m < 35) (hnm : n ≠ m) {F : jv_H → Option jv_R} : (jv_cp (cm_h o c r) (la n + 7) (nI 0) (la m + 7) (nI 0) (nI 4)).bind F = F (cm_h o (cs_L c m (ra (c.2.2.1 m) 6 (va_cpy ((c.2.2.1 n).2 6) ((c.2.2.1 m).2 6) 0 0 4))) r) := jb (ccp_7 ho hn hm hnm)
theorem ctl_8b (ho : o.length = 50) (hn : n < 35) {F : Int32 → Option jv_R} : (jv_ig (cm_h o c r) (la n + 8) 0 0 i).bind F = if i < 0 ∨ 4 ≤ i.toNatClampNeg then none else F ((c.2.2.1 n).2 7 i.toNatClampNeg) := jbi (ctl_8 ho hn)
theorem cwl_8b (ho : o.length = 50) (hn : n < 35) {F : jv_H → Option jv_R} : (jv_ip (cm_h o c r) (la n + 8) 0 0 i x).bind F = if i < 0 ∨ 4 ≤ i.toNatClampNeg then none else F (cm_h o (cs_L c n (ra (c.2.2.1 n) 7 (upd ((c.2.2.1 n).2 7) i.toNatClampNeg x))) r) := jbi (cwl_8 ho hn)
theorem cal_8b (ho : o.length = 50) (hn : n < 35) {F : Int32 → Option jv_R} : (jv_al (cm_h o c r) (la n + 8)).bind F = F 4 := jb (cal_8 ho hn)
theorem ccp_8b (ho : o.length = 50) (hn : n < 35) (hm : m < 35) (hnm : n ≠ m) {F : jv_H → Option jv_R} : (jv_cp (cm_h o c r) (la n + 8) (nI 0) (la m + 8) (nI 0) (nI 4)).bind F = F (cm_h o (cs_L c m (ra (c.2.2.1 m) 7 (va_cpy ((c.2.2.1 n).2 7) ((c.2.2.1 m).2 7) 0 0 4))) r) := jb (ccp_8 ho hn hm hnm)
theorem ctl_9b (ho : o.length = 50) (hn : n < 35) {F : Int32 → Option jv_R} : (jv_ig (cm_h o c r) (la n + 9) 0 0 i).bind F = if i < 0 ∨ 4 ≤ i.toNatClampNeg then none else F ((c.2.2.1 n).2 8 i.toNatClampNeg) := jbi (ctl_9 ho hn)
theorem cwl_9b (ho : o.length = 50) (hn : n < 35) {F : jv_H → Option jv_R} : (jv_ip (cm_h o c r) (la n + 9) 0 0 i x).bind F = if i < 0 ∨ 4 ≤ i.toNatClampNeg then none else F (cm_h o (cs_L c n (ra (c.2.2.1 n) 8 (upd ((c.2.2.1 n).2 8) i.toNatClampNeg x))) r) := jbi (cwl_9 ho hn)
theorem cal_9b (ho : o.length = 50) (hn : n < 35) {F : Int32 → Option jv_R} : (jv_al (cm_h o c r) (la n + 9)).bind F = F 4 := jb (cal_9 ho hn)
theorem ccp_9b (ho : o.length = 50) (hn : n < 35) (hm : m < 35) (hnm : n ≠ m) {F : jv_H → Option jv_R} : (jv_cp (cm_h o c r) (la n + 9) (nI 0) (la m + 9) (nI 0) (nI 4)).bind F = F (cm_h o (cs_L c m (ra (c.2.2.1 m) 8 (va_cpy ((c.2.2.1 n).2 8) ((c.2.2.1 m).2 8) 0 0 4))) r) := jb (ccp_9 ho hn hm hnm)
theorem ctl_10b (ho : o.length = 50) (hn : n < 35) {F : Int32 → Option jv_R} : (jv_ig (cm_h o c r) (la n + 10) 0 0 i).bind F = if i < 0 ∨ 4 ≤ i.toNatClampNeg then none else F ((c.2.2.1 n).2 9 i.toNatClampNeg) := jbi (ctl_10 ho hn)
theorem cwl_10b (ho : o.length = 50) (hn : n < 35) {F : jv_H → Option jv_R} : (jv_ip (cm_h o c r) (la n + 10) 0 0 i x).bind F = if i < 0 ∨ 4 ≤ i.toNatClampNeg then none else F (cm_h o (cs_L c n (ra (c.2.2.1 n) 9 (upd ((c.2.2.1 n).2 9) i.toNatClampNeg x))) r) := jbi (cwl_10 ho hn)
theorem cal_10b (ho : o.length = 50) (hn : n < 35) {F : Int32 → Option jv_R} : (jv_al (cm_h o c r) (la n + 10)).bind F = F 4 := jb (cal_10 ho hn)
theorem ccp_10b (ho : o.length = 50) (hn : n < 35) (hm : m < 35) (hnm : n ≠ m) {F : jv_H → Option jv_R} : (jv_cp (cm_h o c r) (la n + 10) (nI 0) (la m + 10) (nI 0) (nI 4)).bind F = F (cm_h o (cs_L c m (ra (c.2.2.1 m) 9 (va_cpy ((c.2.2.1 n).2 9) ((c.2.2.1 m).2 9) 0 0 4))) r) := jb (ccp_10 ho hn hm hnm)
theorem crlb {y : Nat} {V : List (Nat × Nat)} {F : Nat → Option jv_R} (ho : o.length = 50) (hn : n < 35) : (jv_rc (cm_h o c r) (la n) ((6, y) :: V)).bind F = F y := by
  unfold jv_rc
  rw [show (cm_h o c r)[la n]? = _ from cm_l (k := 0) ho hn (by decide) rfl]
  rfl
end
