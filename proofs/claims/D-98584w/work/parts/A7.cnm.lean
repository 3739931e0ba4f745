/-! the component: a token's text as a string -/
section
variable {d t n i m k a b u x : Nat} {o r r0 rb X Y C C' : jv_H} {c c' c2 : cm_S} {K V F N L : Nat → Nat} {R : Nat → Nat → Nat} {f g : Nat → Int32}
theorem rc_g (ho : o.length = 50) (hm : m = 589 + r.length) (j : Nat) {y : jv_C} (hx : C[j]? = some y) : (cm_h o c (r ++ C))[m + j]? = some y := by
  subst hm
  rw [Nat.add_assoc, cm_hi ho, List.getElem?_append_right (by omega), Nat.add_sub_cancel_left]
  exact hx
theorem rc_s (ho : o.length = 50) (hm : m = 589 + r.length) (j : Nat) {y : jv_C} (hx : C.set j y = C') : (cm_h o c (r ++ C)).set (m + j) y = cm_h o c (r ++ C') := by
  subst hm
  rw [Nat.add_assoc, cm_sr ho, List.set_append_right _ _ (by omega), Nat.add_sub_cancel_left, hx]
def sbC (m cnt : Nat) (f : Nat → Int32) : jv_H := [.inr (20, [.ref (m + 1), .int (nI 0), .int (nI 0), .int (nI cnt)]), .inl (1, 16, .inl f)]
theorem su_20 {h : jv_H} {y : Nat} (hc : jv_cls h a = some 20) : (jt_SU.contains y = false ∨ jv_cls h a = some 20) = True := eq_true (Or.inr hc)
theorem cm_l1 {x : jv_C} (ho : o.length = 50) : (cm_h o c (r ++ [x])).length = 589 + r.length + 1 := by
  rw [cm_lr ho, List.length_append]
  rfl
theorem m_sbinit (ho : o.length = 50) (hm : m = 589 + r.length) : jv_cd (d + 2) 302 [.ref m] (cm_h o c (r ++ [.inr (20, [.null, .int (nI 0), .int (nI 0), .int (nI 0)])])) = some (.inl none, cm_h o c (r ++ sbC m 0 (fun _ => nI 0))) := by
  have h0 := rc_g (c := c) (C := [.inr (20, [.null, .int (nI 0), .int (nI 0), .int (nI 0)]), .inl (1, 16, .inl (fun _ => nI 0))]) ho hm 0 rfl
  rw [Nat.add_zero] at h0
  have k1 : jv_pf (cm_h o c (r ++ [.inr (20, [.null, .int (nI 0), .int (nI 0), .int (nI 0)]), .inl (1, 16, .inl (fun _ => nI 0))])) m [(20, 0, .array .byte)] (.ref (m + 1)) = some (cm_h o c (r ++ sbC m 0 (fun _ => nI 0))) := by
    rw [jv_pf_at (k := 0) h0 rfl (show 50 ≤ m by omega) (Nat.le_of_ble_eq_true rfl) rfl rfl]
    have := rc_s (c := c) (C := [.inr (20, [.null, .int (nI 0), .int (nI 0), .int (nI 0)]), .inl (1, 16, .inl (fun _ => nI 0))]) (C' := sbC m 0 (fun _ => nI 0)) ho hm 0 rfl
    rw [Nat.add_zero] at this
    exact congrArg some this
  have h1 := rc_g (c := c) (C := sbC m 0 (fun _ => nI 0)) ho hm 0 rfl
  rw [Nat.add_zero] at h1
  have k2 : jv_pf (cm_h o c (r ++ sbC m 0 (fun _ => nI 0))) m [(20, 1, .byte)] (.int (nI 0)) = some (cm_h o c (r ++ sbC m 0 (fun _ => nI 0))) := by
    rw [jv_pf_at (k := 1) h1 rfl (show 50 ≤ m by omega) (Nat.le_of_ble_eq_true rfl) rfl rfl]
    have := rc_s (c := c) (C := sbC m 0 (fun _ => nI 0)) (C' := sbC m 0 (fun _ => nI 0)) ho hm 0 rfl
    rw [Nat.add_zero] at this
    exact congrArg some this
  have e1 : (cm_h o c (r ++ [.inr (20, [.null, .int (nI 0), .int (nI 0), .int (nI 0)])])).length = m + 1 := by rw [cm_l1 ho, hm]
  have e2 : cm_h o c (r ++ [.inr (20, [.null, .int (nI 0), .int (nI 0), .int (nI 0)])]) ++ [.inl (1, 16, .inl (fun _ => nI 0))] = cm_h o c (r ++ [.inr (20, [.null, .int (nI 0), .int (nI 0), .int (nI 0)]), .inl (1, 16, .inl (fun _ => nI 0))]) := by
    rw [cm_nw, List.append_assoc]
    rfl
  simp (disch := omega) only [il_0, il_1, il_2, il_3, il_4, il_5, il_6, il_7, il_8, il_9, il_10, il_11, il_12, il_13, il_14, il_15, il_16, il_17, il_18, il_19, il_20, il_21, il_22, il_23, il_24, il_25, il_26, il_27, il_28, il_29, il_30, il_31, il_32, il_40, il_41, il_42, il_43, il_44, il_45, il_46, il_47, il_48, il_52, il_56, il_57, il_59, il_60, il_61, il_63, il_64, il_68, il_72, il_75, il_76, il_82, il_88, il_89, il_90, il_92, il_96, il_97, il_99, il_100, il_101, il_102, il_103, il_104, il_105, il_107, il_108, il_109, il_110, il_111, il_112, il_114, il_115, il_116, il_117, il_118, il_119, il_121, il_122, il_130, il_200, il_255, il_256, il_260, il_276, il_400, il_403, il_420, il_840, il_999, il_1000, il_2000, il_2001, il_2668, il_2760, il_9999, il_12345, il_1000000, il_1103515245, ↓im_1, ↓im_2, ↓im_8, ↓im_1000, nI_add, pk_mul, pk_sub, ↓pk_rem, pk_div, nm_add, nI_clamp, nI_ltI, nI_leI, nI_eq, nm_eq, mn_eq, mm_eq, nm_lt, mn_lt, nm_le, mn_le, nl_T, nl_F, nle_T, nle_F, ne_T, ne_F, b2i_0, b2i_1, b2i_n, nb_0, nb_1, or_false, false_or, or_true, true_or, and_true, true_and, and_false, false_and, or_self, and_self, not_true_eq_false, not_false_eq_true, ↓reduceIte, if_true, if_false, ↓jv_bs, ↓jv_ol, ↓jv_or, jv_tl, jv_tn, jo_T, ck_2_166_17, ck_6_43_16, ck_6_43_17, ck_6_73_16, ck_7_65_17, ck_30_10_19, su_F, e302_0, e302_1, e302_3, e302_6, n302, n294, e294_0, e294_1, e294_4, e294_7, e294_10, e294_11, e294_12, e294_14, e294_17, e294_18, e294_19, e294_22, e294_38, e1, e2, ↓jbH k1, ↓jbH k2]
theorem m_sbinit_b (ho : o.length = 50) (hm : m = 589 + r.length) {F : jv_R → Option jv_R} : (jv_cd (d + 2) 302 [.ref m] (cm_h o c (r ++ [.inr (20, [.null, .int (nI 0), .int (nI 0), .int (nI 0)])]))).bind F = F (.inl none, cm_h o c (r ++ sbC m 0 (fun _ => nI 0))) := jb (m_sbinit ho hm)
theorem sub16 {a : Nat} (h : a ≤ 16) : (nI a - nI 16 ≤ nI 0) = True := eq_true (by
  rw [Int32.le_iff_toInt_le, Int32.toInt_sub, nI_toInt (by omega), nI_toInt (by omega), nI_toInt (by omega)]
  rw [Int.bmod_eq_of_le] <;> omega)
theorem m_sbapp (ho : o.length = 50) (hm : m = 589 + r.length) {cnt : Nat} (hc : cnt < 16) (hx : x ≤ 127) : jv_cd (d + 3) 303 [.ref m, .int (nI x)] (cm_h o c (r ++ sbC m cnt f)) = some (.inl (some (.ref m)), cm_h o c (r ++ sbC m (cnt + 1) (upd f cnt (nI x)))) := by
  have h0 := rc_g (c := c) (C := sbC m cnt f) ho hm 0 rfl
  have h1 := rc_g (c := c) (C := sbC m cnt f) ho hm 1 rfl
  have h2 := rc_g (c := c) (C := sbC m (cnt + 1) f) ho hm 1 rfl
  rw [Nat.add_zero] at h0
  have k0 : jv_gf (cm_h o c (r ++ sbC m cnt f)) m [(20, 0, .array .byte)] = some (.ref (m + 1)) := jv_gf_at h0 rfl rfl
  have k1 : jv_gf (cm_h o c (r ++ sbC m cnt f)) m [(20, 1, .byte)] = some (.int (nI 0)) := jv_gf_at h0 rfl rfl
  have k3 : jv_gf (cm_h o c (r ++ sbC m cnt f)) m [(20, 3, .int)] = some (.int (nI cnt)) := jv_gf_at h0 rfl rfl
  have c0 : jv_cls (cm_h o c (r ++ sbC m cnt f)) m = some 20 := jv_cls_at h0
  have v1 : jv_rc (cm_h o c (r ++ sbC m cnt f)) m [(20, 296)] = some 296 := jv_rc_at h0
  have v2 : jv_rc (cm_h o c (r ++ sbC m cnt f)) m [(20, 298)] = some 298 := jv_rc_at h0
  have al := jv_al_at h1 (by decide)
  have p1 : jv_pf (cm_h o c (r ++ sbC m cnt f)) m [(20, 3, .int)] (.int (nI (cnt + 1))) = some (cm_h o c (r ++ sbC m (cnt + 1) f)) := by
    rw [jv_pf_at (k := 3) h0 rfl (show 50 ≤ m by omega) (Nat.le_of_ble_eq_true rfl) rfl rfl]
    have := rc_s (c := c) (C := sbC m cnt f) (C' := sbC m (cnt + 1) f) ho hm 0 rfl
    rw [Nat.add_zero] at this
    exact congrArg some this
  have p2 : jv_ip (cm_h o c (r ++ sbC m (cnt + 1) f)) (m + 1) 1 2 (nI cnt) ((nI x).toInt8.toInt32) = some (cm_h o c (r ++ sbC m (cnt + 1) (upd f cnt (nI x)))) := by
    rw [jv_ip_at h2 (Or.inl rfl) (show 50 ≤ m + 1 by omega), if_neg (nI_in hc (by decide)), nI_clamp (by omega), an8 hx]
    exact congrArg some (rc_s (c := c) (C := sbC m (cnt + 1) f) (C' := sbC m (cnt + 1) (upd f cnt (nI x))) ho hm 1 rfl)
  have s1 := sub16 (a := cnt + 1) (by omega)
  simp (disch := omega) only [il_0, il_1, il_2, il_3, il_4, il_5, il_6, il_7, il_8, il_9, il_10, il_11, il_12, il_13, il_14, il_15, il_16, il_17, il_18, il_19, il_20, il_21, il_22, il_23, il_24, il_25, il_26, il_27, il_28, il_29, il_30, il_31, il_32, il_40, il_41, il_42, il_43, il_44, il_45, il_46, il_47, il_48, il_52, il_56, il_57, il_59, il_60, il_61, il_63, il_64, il_68, il_72, il_75, il_76, il_82, il_88, il_89, il_90, il_92, il_96, il_97, il_99, il_100, il_101, il_102, il_103, il_104, il_105, il_107, il_108, il_109, il_110, il_111, il_112, il_114, il_115, il_116, il_117, il_118, il_119, il_121, il_122, il_130, il_200, il_255, il_256, il_260, il_276, il_400, il_403, il_420, il_840, il_999, il_1000, il_2000, il_2001, il_2668, il_2760, il_9999, il_12345, il_1000000, il_1103515245, ↓im_1, ↓im_2, ↓im_8, ↓im_1000, nI_add, pk_mul, pk_sub, ↓pk_rem, pk_div, nm_add, nI_clamp, nI_ltI, nI_leI, nI_eq, nm_eq, mn_eq, mm_eq, nm_lt, mn_lt, nm_le, mn_le, nl_T, nl_F, nle_T, nle_F, ne_T, ne_F, b2i_0, b2i_1, b2i_n, nb_0, nb_1, or_false, false_or, or_true, true_or, and_true, true_and, and_false, false_and, or_self, and_self, not_true_eq_false, not_false_eq_true, ↓reduceIte, if_true, if_false, ↓jv_bs, ↓jv_ol, ↓jv_or, jv_tl, jv_tn, jo_T, ck_2_166_17, ck_6_43_16, ck_6_43_17, ck_6_73_16, ck_7_65_17, ck_30_10_19, su_F, e303_0, e303_1, e303_2, e303_5, e303_6, e303_7, n303, su_20 c0, n295, e295_0, e295_1, e295_2, e295_5, e295_6, e295_7, e295_10, e295_11, e295_14, e295_17, e295_18, e295_21, e295_24, e295_25, e295_28, e295_29, e295_30, e295_33, e295_34, e295_35, e295_36, e295_39, e295_40, e295_41, e295_42, e295_75, e295_76, n296, e296_0, e296_1, e296_4, e296_5, e296_6, e296_9, e296_10, e296_11, e296_12, e296_13, e296_14, e296_38, n298, e298_0, e298_3, e298_6, e298_7, e298_10, e298_13, e298_14, e298_17, e298_18, n278, e278_0, e278_1, e278_4, e278_7, e278_8, e278_11, e278_12, ↓jb k0, ↓jb k1, ↓jb k3, ↓jbN v1, ↓jbN v2, ↓jb al, ↓jbH p1, ↓jbH p2, sh_0, s1]
theorem m_sbapp_b (ho : o.length = 50) (hm : m = 589 + r.length) {cnt : Nat} (hc : cnt < 16) (hx : x ≤ 127) {F : jv_R → Option jv_R} : (jv_cd (d + 3) 303 [.ref m, .int (nI x)] (cm_h o c (r ++ sbC m cnt f))).bind F = F (.inl (some (.ref m)), cm_h o c (r ++ sbC m (cnt + 1) (upd f cnt (nI x)))) := jb (m_sbapp ho hm hc hx)
def stC (m n : Nat) (f g : Nat → Int32) : jv_H := sbC m n f ++ [.inr (19, [.ref (m + 3), .int (nI 0), .int (nI 0), .int (nI 0)]), .inl (1, n, .inl g)]
theorem n275N {a0 a1 : Nat} {h : jv_H} : jv_cd (d + 1) 275 [.ref a0, .ref a1, .null] h = jv_ev d 275 0 [some (.ref a0), some (.ref a1), some .null, none, none] [] h := rfl
theorem fits_b : ∀ k < 128, fits .byte (.int (nI k)) = true := by decide
theorem m_sbstr (ho : o.length = 50) (hm : m = 589 + r.length) (hn : n < 16) (hf : ∀ k < n, ∃ y : Nat, y ≤ 127 ∧ f k = nI y) : ∃ g, (∀ k < n, g k = f k) ∧ jv_cd (d + 6) 304 [.ref m] (cm_h o c (r ++ sbC m n f)) = some (.inl (some (.ref (m + 2))), cm_h o c (r ++ stC m n f g)) := by
  refine ⟨va_cpy f (fun _ => nI 0) 0 0 n, fun k hk => sb_cpy0 hk, ?_⟩
  let C1 : jv_H := sbC m n f ++ [.inr (19, [.null, .int (nI 0), .int (nI 0), .int (nI 0)])]
  let C2 : jv_H := sbC m n f ++ [.inr (19, [.null, .int (nI 0), .int (nI 0), .int (nI 0)]), .inl (1, n, .inl fun _ => nI 0)]
  let C3 : jv_H := sbC m n f ++ [.inr (19, [.null, .int (nI 0), .int (nI 0), .int (nI 0)]), .inl (1, n, .inl (va_cpy f (fun _ => nI 0) 0 0 n))]
  have hC1 : C1 = sbC m n f ++ [.inr (19, [.null, .int (nI 0), .int (nI 0), .int (nI 0)])] := rfl
  have e0 : (cm_h o c (r ++ sbC m n f)).length = m + 2 := by rw [cm_lr ho, List.length_append, hm]; rfl
  have e1 : cm_h o c (r ++ sbC m n f) ++ [.inr (19, [.null, .int (nI 0), .int (nI 0), .int (nI 0)])] = cm_h o c (r ++ C1) := by
    rw [cm_nw, List.append_assoc]
  have e2 : (cm_h o c (r ++ C1)).length = m + 3 := by rw [cm_lr ho, List.length_append, hm]; rfl
  have e3 : cm_h o c (r ++ C1) ++ [.inl (1, n, .inl fun _ => nI 0)] = cm_h o c (r ++ C2) := by
    rw [cm_nw, List.append_assoc]
    rfl
  have h0 := rc_g (c := c) (C := C1) ho hm 0 rfl
  have h1 := rc_g (c := c) (C := C1) ho hm 1 rfl
  have h2 := rc_g (c := c) (C := C1) ho hm 2 rfl
  have h0' := rc_g (c := c) (C := C2) ho hm 0 rfl
  have h1' := rc_g (c := c) (C := C2) ho hm 1 rfl
  have h3' := rc_g (c := c) (C := C2) ho hm 3 rfl
  have h2'' := rc_g (c := c) (C := C3) ho hm 2 rfl
  rw [Nat.add_zero] at h0 h0'
  have k0 : jv_gf (cm_h o c (r ++ C1)) m [(20, 0, .array .byte)] = some (.ref (m + 1)) := jv_gf_at h0 rfl rfl
  have k1 : jv_gf (cm_h o c (r ++ C1)) m [(20, 1, .byte)] = some (.int (nI 0)) := jv_gf_at h0 rfl rfl
  have k3 : jv_gf (cm_h o c (r ++ C1)) m [(20, 3, .int)] = some (.int (nI n)) := jv_gf_at h0 rfl rfl
  have c0 : jv_cls (cm_h o c (r ++ C1)) m = some 20 := jv_cls_at h0
  have v1 : jv_rc (cm_h o c (r ++ C1)) m [(20, 300)] = some 300 := jv_rc_at h0
  have v2 : jv_rc (cm_h o c (r ++ C1)) m [(20, 305)] = some 305 := jv_rc_at h0
  have v3 : jv_rc (cm_h o c (r ++ C1)) m [(20, 298)] = some 298 := jv_rc_at h0
  have al := jv_al_at h1 (by decide)
  have al' := jv_al_at h1' (by decide)
  have p1 : jv_pf (cm_h o c (r ++ C1)) (m + 2) [(19, 1, .byte)] (.int (nI 0)) = some (cm_h o c (r ++ C1)) := by
    rw [jv_pf_at (k := 1) h2 rfl (show 50 ≤ m + 2 by omega) (Nat.le_of_ble_eq_true rfl) rfl rfl]
    exact congrArg some (rc_s (c := c) (C := C1) (C' := C1) ho hm 2 rfl)
  have p2 : jv_cp (cm_h o c (r ++ C2)) (m + 1) (nI 0) (m + 3) (nI 0) (nI n) = some (cm_h o c (r ++ C3)) := by
    unfold jv_cp
    rw [h1', h3']
    dsimp only
    have hcl : (nI n).toNatClampNeg = n := nI_clamp (by omega)
    have hc0 : (nI 0).toNatClampNeg = 0 := rfl
    have hall : (List.range n).all (fun i => fits .byte (.int (f (0 + i)))) = true := by
      rw [List.all_eq_true]
      intro j hj
      rw [List.mem_range] at hj
      obtain ⟨y, hy, e⟩ := hf j hj
      rw [Nat.zero_add, e]
      exact fits_b y (by omega)
    rw [hcl, hc0, if_pos ⟨rfl, by decide, show 50 ≤ m + 1 by omega, show 50 ≤ m + 3 by omega, by omega, by decide, by decide, (by intro h; have h : nI n < nI 0 := h; rw [nI_ltI (by omega) (by omega)] at h; omega), by omega, by omega, Or.inr hall⟩]
    exact congrArg some (rc_s (c := c) (C := C2) (C' := C3) ho hm 3 rfl)
  have p3 : jv_pf (cm_h o c (r ++ C3)) (m + 2) [(19, 0, .array .byte)] (.ref (m + 3)) = some (cm_h o c (r ++ stC m n f (va_cpy f (fun _ => nI 0) 0 0 n))) := by
    rw [jv_pf_at (k := 0) h2'' rfl (show 50 ≤ m + 2 by omega) (Nat.le_of_ble_eq_true rfl) rfl rfl]
    exact congrArg some (rc_s (c := c) (C := C3) (C' := stC m n f (va_cpy f (fun _ => nI 0) 0 0 n)) ho hm 2 rfl)
  have mn : cl (nI 16) (nI n) = nI n := by rw [cl_r (by decide) (by omega)]; congr 1; omega
  simp (disch := omega) only [il_0, il_1, il_2, il_3, il_4, il_5, il_6, il_7, il_8, il_9, il_10, il_11, il_12, il_13, il_14, il_15, il_16, il_17, il_18, il_19, il_20, il_21, il_22, il_23, il_24, il_25, il_26, il_27, il_28, il_29, il_30, il_31, il_32, il_40, il_41, il_42, il_43, il_44, il_45, il_46, il_47, il_48, il_52, il_56, il_57, il_59, il_60, il_61, il_63, il_64, il_68, il_72, il_75, il_76, il_82, il_88, il_89, il_90, il_92, il_96, il_97, il_99, il_100, il_101, il_102, il_103, il_104, il_105, il_107, il_108, il_109, il_110, il_111, il_112, il_114, il_115, il_116, il_117, il_118, il_119, il_121, il_122, il_130, il_200, il_255, il_256, il_260, il_276, il_400, il_403, il_420, il_840, il_999, il_1000, il_2000, il_2001, il_2668, il_2760, il_9999, il_12345, il_1000000, il_1103515245, ↓im_1, ↓im_2, ↓im_8, ↓im_1000, nI_add, pk_mul, pk_sub, ↓pk_rem, pk_div, nm_add, nI_clamp, nI_ltI, nI_leI, nI_eq, nm_eq, mn_eq, mm_eq, nm_lt, mn_lt, nm_le, mn_le, nl_T, nl_F, nle_T, nle_F, ne_T, ne_F, b2i_0, b2i_1, b2i_n, nb_0, nb_1, or_false, false_or, or_true, true_or, and_true, true_and, and_false, false_and, or_self, and_self, not_true_eq_false, not_false_eq_true, ↓reduceIte, if_true, if_false, ↓jv_bs, ↓jv_ol, ↓jv_or, jv_tl, jv_tn, jo_T, ck_2_166_17, ck_6_43_16, ck_6_43_17, ck_6_73_16, ck_7_65_17, ck_30_10_19, su_F, e304_0, e304_3, e304_4, e304_5, e304_8, n304, n274, e274_0, e274_1, e274_2, e274_3, e274_6, n275N, e275_0, e275_1, e275_4, e275_5, e275_8, e275_9, e275_10, e275_13, e275_15, e275_16, e275_19, e275_22, e275_23, e275_24, e275_27, e275_28, e275_29, e275_30, e275_32, e275_35, e275_38, e275_97, n300, e300_0, e300_1, e300_4, n305, e305_0, e305_1, e305_4, n301, e301_0, e301_1, e301_4, n298, e298_0, e298_3, e298_6, e298_7, e298_10, e298_13, e298_14, e298_17, e298_18, n312, e312_0, e312_1, e312_4, e312_5, e312_6, e312_7, e312_10, e312_11, e312_12, e312_13, e312_16, n313, e313_0, e313_1, e313_2, e313_5, e313_6, e313_7, e313_8, e313_9, e313_10, e313_12, e313_14, e313_15, e313_16, e313_18, e313_19, e313_20, e313_21, e313_22, e313_23, e313_24, e313_27, e313_30, e313_32, n314, e314_0, e314_1, e314_2, e314_8, e314_12, e314_37, e0, e1, e2, e3, su_20 c0, ↓jb k0, ↓jb k1, ↓jb k3, ↓jbN v1, ↓jbN v2, ↓jbN v3, ↓jb al, ↓jb al', ↓jbH p1, ↓jbH p2, ↓jbH p3, ↓m_min_b, mn, Nat.sub_zero]
/-- the text of a token -/
theorem c_text (ho : o.length = 50) (hE : CE c K F L R) (hr : RC3 K i) (hK : K i = 1) (hl : L i ≤ 8) (hm : m = 589 + r.length) : ∃ f g, (∀ k < L i, g k = nI (R i k)) ∧ jv_cd (d + 7) 185 [.ref 52, .int (nI i)] (cm_h o c r) = some (.inl (some (.ref (m + 2))), cm_h o c (r ++ stC m (L i) f g)) := by
  obtain ⟨e1, e2, e3⟩ := hE i hr
  obtain ⟨e4, _, e5⟩ := e3 (by omega)
  obtain ⟨e5, e6⟩ := e5 (Or.inl hK)
  have hi4 := hr.1
  obtain ⟨f, hf, l1⟩ := jl_inv (N := L i) (F := fun k (f : Nat → Int32) => jv_ev (d + 6) 185 15 [some (.ref 52), some (.int (nI i)), some (.ref m), some (.int (nI (F i + k)))] [] (cm_h o c (r ++ sbC m k f))) (fun k f => ∀ j < k, f j = nI (R i j)) (fun k hk f hI => by
    obtain ⟨g1, g2⟩ := e6 k hk
    have g3 := m_sbapp (d := d + 3) (c := c) (f := f) (x := R i k) ho hm (cnt := k) (by omega) g2
    have h0 := rc_g (c := c) (C := sbC m k f) ho hm 0 rfl
    rw [Nat.add_zero] at h0
    have v1 : jv_rc (cm_h o c (r ++ sbC m k f)) m [(20, 303)] = some 303 := jv_rc_at h0
    refine ⟨upd f k (nI (R i k)), fun j hj => ?_, ?_⟩
    · by_cases e : j = k
      · subst e; exact pk_us
      · rw [pk_un e]; exact hI j (by omega)
    · rw [e185_15]
      simp (disch := omega) only [il_0, il_1, il_2, il_3, il_4, il_5, il_6, il_7, il_8, il_9, il_10, il_11, il_12, il_13, il_14, il_15, il_16, il_17, il_18, il_19, il_20, il_21, il_22, il_23, il_24, il_25, il_26, il_27, il_28, il_29, il_30, il_31, il_32, il_40, il_41, il_42, il_43, il_44, il_45, il_46, il_47, il_48, il_52, il_56, il_57, il_59, il_60, il_61, il_63, il_64, il_68, il_72, il_75, il_76, il_82, il_88, il_89, il_90, il_92, il_96, il_97, il_99, il_100, il_101, il_102, il_103, il_104, il_105, il_107, il_108, il_109, il_110, il_111, il_112, il_114, il_115, il_116, il_117, il_118, il_119, il_121, il_122, il_130, il_200, il_255, il_256, il_260, il_276, il_400, il_403, il_420, il_840, il_999, il_1000, il_2000, il_2001, il_2668, il_2760, il_9999, il_12345, il_1000000, il_1103515245, ↓im_1, ↓im_2, ↓im_8, ↓im_1000, nI_add, pk_mul, pk_sub, ↓pk_rem, pk_div, nm_add, nI_clamp, nI_ltI, nI_leI, nI_eq, nm_eq, mn_eq, mm_eq, nm_lt, mn_lt, nm_le, mn_le, nl_T, nl_F, nle_T, nle_F, ne_T, ne_F, b2i_0, b2i_1, b2i_n, nb_0, nb_1, or_false, false_or, or_true, true_or, and_true, true_and, and_false, false_and, or_self, and_self, not_true_eq_false, not_false_eq_true, ↓reduceIte, if_true, if_false, ↓jv_bs, ↓jv_ol, ↓jv_or, jv_tl, jv_tn, jo_T, ck_2_166_17, ck_6_43_16, ck_6_43_17, ck_6_73_16, ck_7_65_17, ck_30_10_19, su_F, e185_16, e185_17, e185_20, e185_21, e185_22, e185_25, e185_26, e185_27, e185_30, e185_31, e185_32, e185_33, e185_36, e185_37, e185_40, ↓cg_52_1b ho, ↓cg_52_4b ho, ↓cg_52_5b ho, ↓cr_50b ho, ↓cr_51b ho, ↓cr_52b ho, ↓cr_59b ho, ↓crlb ho, ↓ct_54b ho, ↓ct_56b ho, ↓ct_57b ho, ↓cw_54b ho, ↓cw_56b ho, ↓cw_57b ho, ci1, ci2, ca1, ca2, ca3, cL1, cL2, cL3, cL4, cx1, cx2, cx3, cx4, cy1, cy2, cy3, cy4, jn_0, Nat.reduceEqDiff, e4, g1, ic_n, ↓jbN v1, ↓jbR g3, Nat.add_assoc]) (s := fun _ => nI 0) (fun j hj => absurd hj (Nat.not_lt_zero _))
  obtain ⟨g, hg, g4⟩ := m_sbstr (d := d) (c := c) (n := L i) (f := f) ho hm (by omega) (fun k hk => ⟨R i k, (e6 k hk).2, hf k hk⟩)
  refine ⟨f, g, fun k hk => (hg k hk).trans (hf k hk), ?_⟩
  have g0 := m_sbinit (d := d + 4) (c := c) ho hm
  have h0 := rc_g (c := c) (C := sbC m (L i) f) ho hm 0 rfl
  rw [Nat.add_zero] at h0
  have v1 : jv_rc (cm_h o c (r ++ sbC m (L i) f)) m [(20, 304)] = some 304 := jv_rc_at h0
  refine Eq.trans ?_ (Eq.trans l1 ?_)
  · simp (disch := omega) only [il_0, il_1, il_2, il_3, il_4, il_5, il_6, il_7, il_8, il_9, il_10, il_11, il_12, il_13, il_14, il_15, il_16, il_17, il_18, il_19, il_20, il_21, il_22, il_23, il_24, il_25, il_26, il_27, il_28, il_29, il_30, il_31, il_32, il_40, il_41, il_42, il_43, il_44, il_45, il_46, il_47, il_48, il_52, il_56, il_57, il_59, il_60, il_61, il_63, il_64, il_68, il_72, il_75, il_76, il_82, il_88, il_89, il_90, il_92, il_96, il_97, il_99, il_100, il_101, il_102, il_103, il_104, il_105, il_107, il_108, il_109, il_110, il_111, il_112, il_114, il_115, il_116, il_117, il_118, il_119, il_121, il_122, il_130, il_200, il_255, il_256, il_260, il_276, il_400, il_403, il_420, il_840, il_999, il_1000, il_2000, il_2001, il_2668, il_2760, il_9999, il_12345, il_1000000, il_1103515245, ↓im_1, ↓im_2, ↓im_8, ↓im_1000, nI_add, pk_mul, pk_sub, ↓pk_rem, pk_div, nm_add, nI_clamp, nI_ltI, nI_leI, nI_eq, nm_eq, mn_eq, mm_eq, nm_lt, mn_lt, nm_le, mn_le, nl_T, nl_F, nle_T, nle_F, ne_T, ne_F, b2i_0, b2i_1, b2i_n, nb_0, nb_1, or_false, false_or, or_true, true_or, and_true, true_and, and_false, false_and, or_self, and_self, not_true_eq_false, not_false_eq_true, ↓reduceIte, if_true, if_false, ↓jv_bs, ↓jv_ol, ↓jv_or, jv_tl, jv_tn, jo_T, ck_2_166_17, ck_6_43_16, ck_6_43_17, ck_6_73_16, ck_7_65_17, ck_30_10_19, su_F, e185_0, e185_3, e185_4, e185_7, e185_8, e185_9, e185_12, e185_13, e185_14, ↓cg_52_1b ho, ↓cg_52_4b ho, ↓cg_52_5b ho, ↓cr_50b ho, ↓cr_51b ho, ↓cr_52b ho, ↓cr_59b ho, ↓crlb ho, ↓ct_54b ho, ↓ct_56b ho, ↓ct_57b ho, ↓cw_54b ho, ↓cw_56b ho, ↓cw_57b ho, ci1, ci2, ca1, ca2, ca3, cL1, cL2, cL3, cL4, cx1, cx2, cx3, cx4, cy1, cy2, cy3, cy4, jn_0, Nat.reduceEqDiff, n185, e2, cm_nw, cm_lr ho, ← hm, ↓jbR g0, Nat.add_zero]
  · simp (disch := omega) only [il_0, il_1, il_2, il_3, il_4, il_5, il_6, il_7, il_8, il_9, il_10, il_11, il_12, il_13, il_14, il_15, il_16, il_17, il_18, il_19, il_20, il_21, il_22, il_23, il_24, il_25, il_26, il_27, il_28, il_29, il_30, il_31, il_32, il_40, il_41, il_42, il_43, il_44, il_45, il_46, il_47, il_48, il_52, il_56, il_57, il_59, il_60, il_61, il_63, il_64, il_68, il_72, il_75, il_76, il_82, il_88, il_89, il_90, il_92, il_96, il_97, il_99, il_100, il_101, il_102, il_103, il_104, il_105, il_107, il_108, il_109, il_110, il_111, il_112, il_114, il_115, il_116, il_117, il_118, il_119, il_121, il_122, il_130, il_200, il_255, il_256, il_260, il_276, il_400, il_403, il_420, il_840, il_999, il_1000, il_2000, il_2001, il_2668, il_2760, il_9999, il_12345, il_1000000, il_1103515245, ↓im_1, ↓im_2, ↓im_8, ↓im_1000, nI_add, pk_mul, pk_sub, ↓pk_rem, pk_div, nm_add, nI_clamp, nI_ltI, nI_leI, nI_eq, nm_eq, mn_eq, mm_eq, nm_lt, mn_lt, nm_le, mn_le, nl_T, nl_F, nle_T, nle_F, ne_T, ne_F, b2i_0, b2i_1, b2i_n, nb_0, nb_1, or_false, false_or, or_true, true_or, and_true, true_and, and_false, false_and, or_self, and_self, not_true_eq_false, not_false_eq_true, ↓reduceIte, if_true, if_false, ↓jv_bs, ↓jv_ol, ↓jv_or, jv_tl, jv_tn, jo_T, ck_2_166_17, ck_6_43_16, ck_6_43_17, ck_6_73_16, ck_7_65_17, ck_30_10_19, su_F, e185_15, e185_16, e185_17, e185_20, e185_21, e185_22, e185_43, e185_44, e185_47, ↓cg_52_1b ho, ↓cg_52_4b ho, ↓cg_52_5b ho, ↓cr_50b ho, ↓cr_51b ho, ↓cr_52b ho, ↓cr_59b ho, ↓crlb ho, ↓ct_54b ho, ↓ct_56b ho, ↓ct_57b ho, ↓cw_54b ho, ↓cw_56b ho, ↓cw_57b ho, ci1, ci2, ca1, ca2, ca3, cL1, cL2, cL3, cL4, cx1, cx2, cx3, cx4, cy1, cy2, cy3, cy4, jn_0, Nat.reduceEqDiff, e4, ↓jbN v1, ↓jbR g4]
end
