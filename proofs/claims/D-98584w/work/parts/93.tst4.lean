/-! the reference: a row is told -/
theorem cnl_s {l : Nat → Nat} {n : Nat} : cn l (n + 1) = 27 * cn l n + (l n - 96) := rfl
theorem cn_lt {l : Nat → Nat} : ∀ {n : Nat}, (∀ k < n, 97 ≤ l k ∧ l k ≤ 122) → cn l n < 27 ^ n := by
  intro n
  induction n with
  | zero => intro _; exact (by decide : (0 : Nat) < 1)
  | succ n ih =>
    intro h
    have h1 := ih fun k hk => h k (by omega)
    have h2 := h n (by omega)
    rw [cnl_s, Nat.pow_succ]
    omega
theorem cn_lt8 {l : Nat → Nat} {n : Nat} (h : ∀ k < n, 97 ≤ l k ∧ l k ≤ 122) (hn : n ≤ 8) : cn l n < 2 ^ 40 := Nat.lt_of_lt_of_le (cn_lt h) (Nat.le_trans (Nat.pow_le_pow_right (by decide) hn) (by decide))
theorem cn_div {l : Nat → Nat} {n : Nat} (h : 97 ≤ l n ∧ l n ≤ 122) : cn l (n + 1) / 27 = cn l n := by rw [cnl_s]; omega
theorem cn_mod {l : Nat → Nat} {n : Nat} (h : 97 ≤ l n ∧ l n ≤ 122) : cn l (n + 1) % 27 = l n - 96 := by rw [cnl_s]; omega
theorem nL_toInt {a : Nat} (h : a < 2 ^ 62) : (nL a).toInt = (a : Int) := by
  unfold nL
  rw [Int64.toInt_ofNat_of_lt (by omega)]
theorem nL_div {a : Nat} (h : a < 2 ^ 62) : nL a / 27 = nL (a / 27) := by
  apply Int64.toInt_inj.mp
  rw [Int64.toInt_div, nL_toInt h, nL_toInt (by omega), show (27 : Int64).toInt = 27 from rfl]
  rw [Int.tdiv_eq_ediv_of_nonneg (by omega)]
  rw [Int.bmod_eq_of_le] <;> omega
theorem nL_rem {a : Nat} (h : a < 2 ^ 62) : nL a - nL a / 27 * 27 = nL (a % 27) := by
  rw [nL_div h]
  have : nL a = nL (a / 27) * 27 + nL (a % 27) := by
    show Int64.ofNat a = Int64.ofNat (a / 27) * Int64.ofNat 27 + Int64.ofNat (a % 27)
    rw [← Int64.ofNat_mul, ← Int64.ofNat_add, Nat.div_add_mod' a 27]
  rw [this, Int64.add_comm, Int64.add_sub_cancel]
theorem nL_i32 {a : Nat} (h : a < 1000) : (nL a).toInt32 = nI a := by
  apply Int32.toInt_inj.mp
  rw [Int64.toInt_toInt32, nL_toInt (by omega), nI_toInt (by omega)]
  rw [Int.bmod_eq_of_le] <;> omega
theorem lgc_p {a : Nat} (h0 : 0 < a) (h : a < 2 ^ 62) : lg_cmp (nL a) 0 = nI 1 := by
  unfold lg_cmp
  rw [if_pos]
  · rfl
  · show (0 : Int64) < nL a
    rw [Int64.lt_iff_toInt_lt, nL_toInt h]
    show (0 : Int) < a
    omega
theorem l27_0 : ((27 : Int64) = 0) = False := eq_false (by decide)
theorem lgc_z : lg_cmp (nL 0) 0 = nI 0 := lgc_0.mpr rfl
section
variable {d sd t : Nat} {p q : jv_H} {s s' s2 : tw_S} {K V F N L : Nat → Nat} {R : Nat → Nat → Nat} {z : Zs} {S : Sx} {T : Tx}
/-- what a letter becomes -/
def lct (c : Nat) : Int32 := if c = 111 then mI 2 else nI (c - 97)
/-- only these numbers and the cells change -/
def FG (s s' : tw_S) : Prop := (∀ j, ¬ (j = 11 ∨ j = 13 ∨ j = 14 ∨ j = 15 ∨ j = 16) → s'.1 j = s.1 j) ∧ (∀ j, j ≠ 24 → s'.2.1 j = s.2.1 j) ∧ s'.2.2 = s.2.2
/-- letters are put, the last first -/
theorem m_rowL (hp : p.length = 589) (hE : EN K V F N L R) {l : Nat → Nat} {u r n : Nat} (hsd : sd < 2) (hr : r < 6) (hn : n ≤ 8) (hu : u ≤ 400) (hl : ∀ k < n, 97 ≤ l k ∧ l k ≤ 122) : ∀ m, m ≤ n → ∀ (s : tw_S) (w : Wt) (x6 : Option Value) (t : Nat), ZQ s K F (.inr (t, w)) → u ≤ t → TE s K V F N → s.1 19 = nI sd → s.2.1 22 sd = nI r → ∃ (s' : tw_S) (y2 y5 y6 : Option Value), FG s s' ∧ (∀ i, s'.2.1 24 i = if 48 * sd + 8 * r ≤ i ∧ i < 48 * sd + 8 * r + m then lct (l (i - (48 * sd + 8 * r))) else s.2.1 24 i) ∧ ZQ s' K F (.inr (t, if lba l m = true then wt w 6 u else w)) ∧ jv_ev (d + 1) 22 101 [some (.ref 589), some (.int (nI u)), some (.long (nL (cn l m))), none, some (.int (nI n)), some (.int (if m = 0 then mI 1 else nI (m - 1))), x6] [] (tw_h p s q) = jv_ev (d + 1) 22 195 [some (.ref 589), some (.int (nI u)), y2, none, some (.int (nI n)), y5, y6] [] (tw_h p s' q) := by
  intro m
  induction m with
  | zero =>
    intro _ s w x6 t hz _ hte h19 h22
    refine ⟨s, some (.long (nL (cn l 0))), some (.int (mI 1)), x6, ⟨fun _ _ => rfl, fun _ _ => rfl, rfl⟩, fun i => by rw [if_neg (by omega)], hz, ?_⟩
    rw [if_pos rfl]
    simp (disch := omega) only [il_0, il_1, il_2, il_3, il_4, il_5, il_6, il_7, il_8, il_9, il_10, il_11, il_12, il_13, il_14, il_15, il_16, il_17, il_18, il_19, il_20, il_21, il_22, il_23, il_24, il_25, il_26, il_27, il_28, il_29, il_30, il_31, il_32, il_40, il_41, il_42, il_43, il_44, il_45, il_46, il_47, il_48, il_52, il_56, il_57, il_59, il_60, il_61, il_63, il_64, il_68, il_72, il_75, il_76, il_82, il_88, il_89, il_90, il_92, il_96, il_97, il_99, il_100, il_101, il_102, il_103, il_104, il_105, il_107, il_108, il_109, il_110, il_111, il_112, il_114, il_115, il_116, il_117, il_118, il_119, il_121, il_122, il_130, il_200, il_255, il_256, il_260, il_276, il_400, il_403, il_420, il_840, il_999, il_1000, il_2000, il_2001, il_2668, il_2760, il_9999, il_12345, il_1000000, il_1103515245, ↓im_1, ↓im_2, ↓im_8, ↓im_1000, nI_add, pk_mul, pk_sub, ↓pk_rem, pk_div, nm_add, nI_clamp, nI_ltI, nI_leI, nI_eq, nm_eq, mn_eq, mm_eq, nm_lt, mn_lt, nm_le, mn_le, nl_T, nl_F, nle_T, nle_F, ne_T, ne_F, b2i_0, b2i_1, b2i_n, nb_0, nb_1, or_false, false_or, or_true, true_or, and_true, true_and, and_false, false_and, or_self, and_self, not_true_eq_false, not_false_eq_true, ↓reduceIte, if_true, if_false, ↓jv_bs, ↓jv_ol, ↓jv_or, jv_tl, jv_tn, jo_T, ck_2_166_17, ck_6_43_16, ck_6_43_17, ck_6_73_16, ck_7_65_17, ck_30_10_19, su_F, e22_101, e22_103, ↓tgb_8 hp, ↓trb_8 hp, ↓tub_8 hp, wl_8, ↓tgb_11 hp, wi_11, ↓tgb_13 hp, wi_13, ↓tgb_19 hp, wi_19, ↓tgb_22 hp, ↓trb_22 hp, ↓tub_22 hp, wa_22, ↓tgb_23 hp, ↓trb_23 hp, ↓tub_23 hp, wa_23, ↓tgb_24 hp, ↓trb_24 hp, ↓tub_24 hp, wa_24, ↓tw_rcb hp]
  | succ m ih =>
    intro hm s w x6 t hz hut hte h19 h22
    have hlm := hl m (by omega)
    have hcn := cn_lt8 (l := l) (n := m + 1) (fun k hk => hl k (by omega)) (by omega)
    have e1 := nL_rem (a := cn l (m + 1)) (by omega)
    have e2 := nL_div (a := cn l (m + 1)) (by omega)
    rw [cn_mod hlm] at e1
    rw [cn_div hlm] at e2
    rw [e2] at e1
    have e3 := nL_i32 (a := l m - 96) (by omega)
    have hidx : 48 * sd + 8 * r + m < 96 := by omega
    have eka : nI m + mI 1 = if m = 0 then mI 1 else nI (m - 1) := by
      by_cases h : m = 0
      · rw [if_pos h, h]; rfl
      · rw [if_neg h, nm_add (by omega)]
    have hba : lba l (m + 1) = (lba l m || lbd (l m)) := rfl
    have e4 : 96 + (l m - 96) = l m := by omega
    have eI : (if m + 1 = 0 then mI 1 else nI (m + 1 - 1)) = nI m := by rw [if_neg (by omega), Nat.add_sub_cancel]
    rw [eI]
    have main : ∀ (s1 : tw_S) (w1 : Wt), FZ s s1 → ZQ s1 K F (.inr (t, w1)) → w1 = (if lbd (l m) = true then wt w 6 u else w) → jv_ev (d + 1) 22 101 [some (.ref 589), some (.int (nI u)), some (.long (nL (cn l (m + 1)))), none, some (.int (nI n)), some (.int (nI m)), x6] [] (tw_h p s q) = jv_ev (d + 1) 22 101 [some (.ref 589), some (.int (nI u)), some (.long (nL (cn l m))), none, some (.int (nI n)), some (.int (if m = 0 then mI 1 else nI (m - 1))), some (.int (nI (l m)))] [] (tw_h p (tw_a s1 24 (upd (s1.2.1 24) (48 * sd + 8 * r + m) (lct (l m)))) q) → ∃ (s' : tw_S) (y2 y5 y6 : Option Value), FG s s' ∧ (∀ i, s'.2.1 24 i = if 48 * sd + 8 * r ≤ i ∧ i < 48 * sd + 8 * r + (m + 1) then lct (l (i - (48 * sd + 8 * r))) else s.2.1 24 i) ∧ ZQ s' K F (.inr (t, if lba l (m + 1) = true then wt w 6 u else w)) ∧ jv_ev (d + 1) 22 101 [some (.ref 589), some (.int (nI u)), some (.long (nL (cn l (m + 1)))), none, some (.int (nI n)), some (.int (nI m)), x6] [] (tw_h p s q) = jv_ev (d + 1) 22 195 [some (.ref 589), some (.int (nI u)), y2, none, some (.int (nI n)), y5, y6] [] (tw_h p s' q) := by
      intro s1 w1 f1 z1 hw1 hrun
      obtain ⟨s3, y2, y5, y6, g1, g2, g4, g5⟩ := ih (by omega) (tw_a s1 24 (upd (s1.2.1 24) (48 * sd + 8 * r + m) (lct (l m)))) w1 (some (.int (nI (l m)))) t (ZQ_a z1) hut (TE_c (TE_FZ hte f1) rfl rfl rfl rfl) ((f1.1 19 (by decide)).trans h19) (by show s1.2.1 22 sd = _; rw [f1.2]; exact h22)
      refine ⟨s3, y2, y5, y6, ⟨fun j hj => (g1.1 j hj).trans (f1.1 j hj), fun j hj => (g1.2.1 j hj).trans ?_, g1.2.2.trans ?_⟩, fun i => ?_, ?_, hrun.trans g5⟩
      · rw [tw_a2, if_neg hj, f1.2]
      · show s1.2.2 = _
        rw [f1.2]
      · rw [g2 i]
        by_cases h1 : 48 * sd + 8 * r ≤ i ∧ i < 48 * sd + 8 * r + m
        · rw [if_pos h1, if_pos (by omega)]
        · rw [if_neg h1]
          show upd (s1.2.1 24) (48 * sd + 8 * r + m) (lct (l m)) i = _
          by_cases h2 : i = 48 * sd + 8 * r + m
          · subst h2
            rw [pk_us, if_pos (by omega), Nat.add_sub_cancel_left]
          · rw [pk_un h2, if_neg (by omega), f1.2]
      · rw [hba]
        rw [hw1] at g4
        cases h1 : lba l m with
        | true =>
          rw [h1, if_pos rfl] at g4
          rw [Bool.true_or, if_pos rfl]
          cases h2 : lbd (l m) with
          | true => rw [h2, if_pos rfl, wt_i] at g4; exact g4
          | false => rw [h2, if_neg Bool.false_ne_true] at g4; exact g4
        | false =>
          rw [h1, if_neg Bool.false_ne_true] at g4
          rw [Bool.false_or]
          exact g4
    obtain ⟨q1, q2, _⟩ := id hz
    by_cases h111 : l m = 111
    · have hb : lbd (l m) = false := by rw [h111]; rfl
      refine main s w FZ_id hz (by rw [hb, if_neg Bool.false_ne_true]) ?_
      have hct : lct (l m) = mI 2 := if_pos h111
      rw [hct, e22_101]
      rw [h111] at e1 e3 e4 ⊢
      simp (disch := omega) only [il_0, il_1, il_2, il_3, il_4, il_5, il_6, il_7, il_8, il_9, il_10, il_11, il_12, il_13, il_14, il_15, il_16, il_17, il_18, il_19, il_20, il_21, il_22, il_23, il_24, il_25, il_26, il_27, il_28, il_29, il_30, il_31, il_32, il_40, il_41, il_42, il_43, il_44, il_45, il_46, il_47, il_48, il_52, il_56, il_57, il_59, il_60, il_61, il_63, il_64, il_68, il_72, il_75, il_76, il_82, il_88, il_89, il_90, il_92, il_96, il_97, il_99, il_100, il_101, il_102, il_103, il_104, il_105, il_107, il_108, il_109, il_110, il_111, il_112, il_114, il_115, il_116, il_117, il_118, il_119, il_121, il_122, il_130, il_200, il_255, il_256, il_260, il_276, il_400, il_403, il_420, il_840, il_999, il_1000, il_2000, il_2001, il_2668, il_2760, il_9999, il_12345, il_1000000, il_1103515245, ↓im_1, ↓im_2, ↓im_8, ↓im_1000, nI_add, pk_mul, pk_sub, ↓pk_rem, pk_div, nm_add, nI_clamp, nI_ltI, nI_leI, nI_eq, nm_eq, mn_eq, mm_eq, nm_lt, mn_lt, nm_le, mn_le, nl_T, nl_F, nle_T, nle_F, ne_T, ne_F, b2i_0, b2i_1, b2i_n, nb_0, nb_1, or_false, false_or, or_true, true_or, and_true, true_and, and_false, false_and, or_self, and_self, not_true_eq_false, not_false_eq_true, ↓reduceIte, if_true, if_false, ↓jv_bs, ↓jv_ol, ↓jv_or, jv_tl, jv_tn, jo_T, ck_2_166_17, ck_6_43_16, ck_6_43_17, ck_6_73_16, ck_7_65_17, ck_30_10_19, su_F, e22_103, e22_106, e22_108, e22_109, e22_112, e22_113, e22_114, e22_115, e22_117, e22_119, e22_121, e22_124, e22_126, e22_128, e22_131, e22_132, e22_134, e22_135, e22_138, e22_139, e22_142, e22_144, e22_145, e22_148, e22_149, e22_151, e22_152, e22_155, e22_156, e22_159, e22_160, e22_161, e22_162, e22_164, e22_165, e22_167, e22_169, e22_172, e22_174, e22_177, e22_179, e22_181, e22_182, e22_183, e22_184, e22_187, e22_188, e22_189, e22_192, ↓tgb_8 hp, ↓trb_8 hp, ↓tub_8 hp, wl_8, ↓tgb_11 hp, wi_11, ↓tgb_13 hp, wi_13, ↓tgb_19 hp, wi_19, ↓tgb_22 hp, ↓trb_22 hp, ↓tub_22 hp, wa_22, ↓tgb_23 hp, ↓trb_23 hp, ↓tub_23 hp, wa_23, ↓tgb_24 hp, ↓trb_24 hp, ↓tub_24 hp, wa_24, ↓tw_rcb hp, h19, h22, e1, e2, e3, e4, eka, l27_0]
    · have hct : lct (l m) = nI (l m - 97) := if_neg h111
      by_cases h102 : l m ≤ 102
      · have hb : lbd (l m) = false := by unfold lbd; rw [decide_eq_true h102, Bool.or_true]; rfl
        refine main s w FZ_id hz (by rw [hb, if_neg Bool.false_ne_true]) ?_
        rw [hct, e22_101]
        simp (disch := omega) only [il_0, il_1, il_2, il_3, il_4, il_5, il_6, il_7, il_8, il_9, il_10, il_11, il_12, il_13, il_14, il_15, il_16, il_17, il_18, il_19, il_20, il_21, il_22, il_23, il_24, il_25, il_26, il_27, il_28, il_29, il_30, il_31, il_32, il_40, il_41, il_42, il_43, il_44, il_45, il_46, il_47, il_48, il_52, il_56, il_57, il_59, il_60, il_61, il_63, il_64, il_68, il_72, il_75, il_76, il_82, il_88, il_89, il_90, il_92, il_96, il_97, il_99, il_100, il_101, il_102, il_103, il_104, il_105, il_107, il_108, il_109, il_110, il_111, il_112, il_114, il_115, il_116, il_117, il_118, il_119, il_121, il_122, il_130, il_200, il_255, il_256, il_260, il_276, il_400, il_403, il_420, il_840, il_999, il_1000, il_2000, il_2001, il_2668, il_2760, il_9999, il_12345, il_1000000, il_1103515245, ↓im_1, ↓im_2, ↓im_8, ↓im_1000, nI_add, pk_mul, pk_sub, ↓pk_rem, pk_div, nm_add, nI_clamp, nI_ltI, nI_leI, nI_eq, nm_eq, mn_eq, mm_eq, nm_lt, mn_lt, nm_le, mn_le, nl_T, nl_F, nle_T, nle_F, ne_T, ne_F, b2i_0, b2i_1, b2i_n, nb_0, nb_1, or_false, false_or, or_true, true_or, and_true, true_and, and_false, false_and, or_self, and_self, not_true_eq_false, not_false_eq_true, ↓reduceIte, if_true, if_false, ↓jv_bs, ↓jv_ol, ↓jv_or, jv_tl, jv_tn, jo_T, ck_2_166_17, ck_6_43_16, ck_6_43_17, ck_6_73_16, ck_7_65_17, ck_30_10_19, su_F, e22_103, e22_106, e22_108, e22_109, e22_112, e22_113, e22_114, e22_115, e22_117, e22_119, e22_121, e22_124, e22_126, e22_128, e22_131, e22_132, e22_134, e22_135, e22_138, e22_139, e22_142, e22_144, e22_145, e22_148, e22_149, e22_151, e22_152, e22_155, e22_156, e22_159, e22_160, e22_161, e22_162, e22_164, e22_165, e22_167, e22_169, e22_172, e22_174, e22_177, e22_179, e22_181, e22_182, e22_183, e22_184, e22_187, e22_188, e22_189, e22_192, ↓tgb_8 hp, ↓trb_8 hp, ↓tub_8 hp, wl_8, ↓tgb_11 hp, wi_11, ↓tgb_13 hp, wi_13, ↓tgb_19 hp, wi_19, ↓tgb_22 hp, ↓trb_22 hp, ↓tub_22 hp, wa_22, ↓tgb_23 hp, ↓trb_23 hp, ↓tub_23 hp, wa_23, ↓tgb_24 hp, ↓trb_24 hp, ↓tub_24 hp, wa_24, ↓tw_rcb hp, h19, h22, e1, e2, e3, e4, eka, l27_0]
      · have hb : lbd (l m) = true := by unfold lbd; rw [decide_eq_false h102, decide_eq_false h111]; rfl
        obtain ⟨s1, f1, z1, r1⟩ := z_wr (d := d) (q := q) (n := 6) (tok := u) hp hE hz hte (by decide) hu (fun y hy => by obtain rfl := Sum.inr.inj hy; exact hut)
        refine main s1 (wt w 6 u) f1 z1 (by rw [hb, if_pos rfl]) ?_
        have h19' : s1.1 19 = nI sd := (f1.1 19 (by decide)).trans h19
        have h22' : s1.2.1 22 sd = nI r := by rw [f1.2]; exact h22
        rw [hct, e22_101]
        simp (disch := omega) only [il_0, il_1, il_2, il_3, il_4, il_5, il_6, il_7, il_8, il_9, il_10, il_11, il_12, il_13, il_14, il_15, il_16, il_17, il_18, il_19, il_20, il_21, il_22, il_23, il_24, il_25, il_26, il_27, il_28, il_29, il_30, il_31, il_32, il_40, il_41, il_42, il_43, il_44, il_45, il_46, il_47, il_48, il_52, il_56, il_57, il_59, il_60, il_61, il_63, il_64, il_68, il_72, il_75, il_76, il_82, il_88, il_89, il_90, il_92, il_96, il_97, il_99, il_100, il_101, il_102, il_103, il_104, il_105, il_107, il_108, il_109, il_110, il_111, il_112, il_114, il_115, il_116, il_117, il_118, il_119, il_121, il_122, il_130, il_200, il_255, il_256, il_260, il_276, il_400, il_403, il_420, il_840, il_999, il_1000, il_2000, il_2001, il_2668, il_2760, il_9999, il_12345, il_1000000, il_1103515245, ↓im_1, ↓im_2, ↓im_8, ↓im_1000, nI_add, pk_mul, pk_sub, ↓pk_rem, pk_div, nm_add, nI_clamp, nI_ltI, nI_leI, nI_eq, nm_eq, mn_eq, mm_eq, nm_lt, mn_lt, nm_le, mn_le, nl_T, nl_F, nle_T, nle_F, ne_T, ne_F, b2i_0, b2i_1, b2i_n, nb_0, nb_1, or_false, false_or, or_true, true_or, and_true, true_and, and_false, false_and, or_self, and_self, not_true_eq_false, not_false_eq_true, ↓reduceIte, if_true, if_false, ↓jv_bs, ↓jv_ol, ↓jv_or, jv_tl, jv_tn, jo_T, ck_2_166_17, ck_6_43_16, ck_6_43_17, ck_6_73_16, ck_7_65_17, ck_30_10_19, su_F, e22_103, e22_106, e22_108, e22_109, e22_112, e22_113, e22_114, e22_115, e22_117, e22_119, e22_121, e22_124, e22_126, e22_128, e22_131, e22_132, e22_134, e22_135, e22_138, e22_139, e22_142, e22_144, e22_145, e22_148, e22_149, e22_151, e22_152, e22_155, e22_156, e22_159, e22_160, e22_161, e22_162, e22_164, e22_165, e22_167, e22_169, e22_172, e22_174, e22_177, e22_179, e22_181, e22_182, e22_183, e22_184, e22_187, e22_188, e22_189, e22_192, ↓tgb_8 hp, ↓trb_8 hp, ↓tub_8 hp, wl_8, ↓tgb_11 hp, wi_11, ↓tgb_13 hp, wi_13, ↓tgb_19 hp, wi_19, ↓tgb_22 hp, ↓trb_22 hp, ↓tub_22 hp, wa_22, ↓tgb_23 hp, ↓trb_23 hp, ↓tub_23 hp, wa_23, ↓tgb_24 hp, ↓trb_24 hp, ↓tub_24 hp, wa_24, ↓tw_rcb hp, h19', h22', e1, e2, e3, e4, eka, l27_0, ↓jbR r1]
/-- how many letters -/
theorem m_rowN {l : Nat → Nat} {n : Nat} {u x : Option Value} {h : jv_H} (hn : n ≤ 8) (hl : ∀ k < n, 97 ≤ l k ∧ l k ≤ 122) : jv_ev (d + 1) 22 30 [x, u, some (.long (nL (cn l n))), none, some (.int (nI 0)), some (.long (nL (cn l n))), none] [] h = jv_ev (d + 1) 22 51 [x, u, some (.long (nL (cn l n))), none, some (.int (nI n)), some (.long (nL 0)), none] [] h := by
  have key := jl_0 (N := n) (F := fun k => jv_ev (d + 1) 22 30 [x, u, some (.long (nL (cn l n))), none, some (.int (nI k)), some (.long (nL (cn l (n - k)))), none] [] h) (fun k hk => by
    obtain ⟨m, hm⟩ : ∃ m, n - k = m + 1 := ⟨n - k - 1, by omega⟩
    have hlm := hl m (by omega)
    have hcn := cn_lt8 (l := l) (n := m + 1) (fun k hk => hl k (by omega)) (by omega)
    have e2 := nL_div (a := cn l (m + 1)) (by omega)
    rw [cn_div hlm] at e2
    have e1 := lgc_p (a := cn l (m + 1)) (by rw [cnl_s]; omega) (by omega)
    rw [hm, show n - (k + 1) = m by omega, e22_30]
    simp (disch := omega) only [il_0, il_1, il_2, il_3, il_4, il_5, il_6, il_7, il_8, il_9, il_10, il_11, il_12, il_13, il_14, il_15, il_16, il_17, il_18, il_19, il_20, il_21, il_22, il_23, il_24, il_25, il_26, il_27, il_28, il_29, il_30, il_31, il_32, il_40, il_41, il_42, il_43, il_44, il_45, il_46, il_47, il_48, il_52, il_56, il_57, il_59, il_60, il_61, il_63, il_64, il_68, il_72, il_75, il_76, il_82, il_88, il_89, il_90, il_92, il_96, il_97, il_99, il_100, il_101, il_102, il_103, il_104, il_105, il_107, il_108, il_109, il_110, il_111, il_112, il_114, il_115, il_116, il_117, il_118, il_119, il_121, il_122, il_130, il_200, il_255, il_256, il_260, il_276, il_400, il_403, il_420, il_840, il_999, il_1000, il_2000, il_2001, il_2668, il_2760, il_9999, il_12345, il_1000000, il_1103515245, ↓im_1, ↓im_2, ↓im_8, ↓im_1000, nI_add, pk_mul, pk_sub, ↓pk_rem, pk_div, nm_add, nI_clamp, nI_ltI, nI_leI, nI_eq, nm_eq, mn_eq, mm_eq, nm_lt, mn_lt, nm_le, mn_le, nl_T, nl_F, nle_T, nle_F, ne_T, ne_F, b2i_0, b2i_1, b2i_n, nb_0, nb_1, or_false, false_or, or_true, true_or, and_true, true_and, and_false, false_and, or_self, and_self, not_true_eq_false, not_false_eq_true, ↓reduceIte, if_true, if_false, ↓jv_bs, ↓jv_ol, ↓jv_or, jv_tl, jv_tn, jo_T, ck_2_166_17, ck_6_43_16, ck_6_43_17, ck_6_73_16, ck_7_65_17, ck_30_10_19, su_F, e22_32, e22_33, e22_34, e22_37, e22_40, e22_42, e22_45, e22_46, e22_48, e1, e2, l27_0])
  refine Eq.trans key ?_
  rw [Nat.sub_self, show cn l 0 = 0 from rfl]
  simp (disch := omega) only [il_0, il_1, il_2, il_3, il_4, il_5, il_6, il_7, il_8, il_9, il_10, il_11, il_12, il_13, il_14, il_15, il_16, il_17, il_18, il_19, il_20, il_21, il_22, il_23, il_24, il_25, il_26, il_27, il_28, il_29, il_30, il_31, il_32, il_40, il_41, il_42, il_43, il_44, il_45, il_46, il_47, il_48, il_52, il_56, il_57, il_59, il_60, il_61, il_63, il_64, il_68, il_72, il_75, il_76, il_82, il_88, il_89, il_90, il_92, il_96, il_97, il_99, il_100, il_101, il_102, il_103, il_104, il_105, il_107, il_108, il_109, il_110, il_111, il_112, il_114, il_115, il_116, il_117, il_118, il_119, il_121, il_122, il_130, il_200, il_255, il_256, il_260, il_276, il_400, il_403, il_420, il_840, il_999, il_1000, il_2000, il_2001, il_2668, il_2760, il_9999, il_12345, il_1000000, il_1103515245, ↓im_1, ↓im_2, ↓im_8, ↓im_1000, nI_add, pk_mul, pk_sub, ↓pk_rem, pk_div, nm_add, nI_clamp, nI_ltI, nI_leI, nI_eq, nm_eq, mn_eq, mm_eq, nm_lt, mn_lt, nm_le, mn_le, nl_T, nl_F, nle_T, nle_F, ne_T, ne_F, b2i_0, b2i_1, b2i_n, nb_0, nb_1, or_false, false_or, or_true, true_or, and_true, true_and, and_false, false_and, or_self, and_self, not_true_eq_false, not_false_eq_true, ↓reduceIte, if_true, if_false, ↓jv_bs, ↓jv_ol, ↓jv_or, jv_tl, jv_tn, jo_T, ck_2_166_17, ck_6_43_16, ck_6_43_17, ck_6_73_16, ck_7_65_17, ck_30_10_19, su_F, e22_30, e22_32, e22_33, e22_34, lgc_z]
theorem lct_v {c : Nat} (h : lbd c = false) : lct c = lcv c := by
  unfold lbd at h
  unfold lct lcv
  by_cases h1 : c = 111
  · rw [if_pos h1, if_neg (by omega)]
  · rw [if_neg h1]
    by_cases h2 : c ≤ 102
    · rw [if_pos h2]
    · rw [decide_eq_false h1, decide_eq_false h2] at h
      cases h
/-- a row -/
theorem TP_R {n b c : Nat} {l : Nat → Nat} {w w' : Wt} (hr : t_r T < 6) (hn : n ≤ 8) (hnf : t_nf T ≤ 6) (hnl : t_nl T ≤ 4) (h : TP s sd T w b c) (h19 : s'.1 19 = s.1 19) (h22 : s'.2.1 22 = upd (s.2.1 22) sd (nI (t_r T + 1))) (h23 : s'.2.1 23 = if t_r T = 0 then upd (s.2.1 23) sd (nI n) else s.2.1 23) (h24 : ∀ i, s'.2.1 24 i = if 48 * sd + 8 * t_r T ≤ i ∧ i < 48 * sd + 8 * t_r T + n then lct (l (i - (48 * sd + 8 * t_r T))) else s.2.1 24 i) (e : ∀ j, 22 ≤ j → j ≤ 44 → ¬ (j = 22 ∨ j = 23 ∨ j = 24) → s'.2.1 j = s.2.1 j) (hw : w'.1 = 0 → w.1 = 0 ∧ rwB T n l = false) : TP s' sd (rwT T n l) w' b c := by
  obtain ⟨a1, a2, a3, a4, a5, a6, a7, a8, a9, a10, a11, a12⟩ := h
  have e2 : ∀ j, j < 40 → (rwT T n l).2.1 j = T.2.1 j := fun j hj => by
    show (if 40 + 8 * t_r T ≤ j ∧ j < 40 + 8 * t_r T + n then lcv (l (j - (40 + 8 * t_r T))) else T.2.1 j) = _
    rw [if_neg (by omega)]
  refine ⟨h19.trans a1, by rw [h22]; exact pk_us, ?_, (congrFun (e 25 (by omega) (by omega) (by omega)) _).trans a4, (congrFun (e 28 (by omega) (by omega) (by omega)) _).trans a5, fun h0 x hx hon => ?_, fun f hf => ?_, fun i hi => ?_, (congrFun (e 31 (by omega) (by omega) (by omega)) _).trans (a9.trans (e2 0 (by omega)).symm), (congrFun (e 32 (by omega) (by omega) (by omega)) _).trans (a10.trans (e2 1 (by omega)).symm), (congrFun (e 33 (by omega) (by omega) (by omega)) _).trans (a11.trans (e2 2 (by omega)).symm), fun k hk => LQ_c (e 34 (by omega) (by omega) (by omega)) (e 35 (by omega) (by omega) (by omega)) (AB_e fun i h1 h2 => e i (by omega) (by omega) (by omega)) (Nat.le_refl _) (Nat.le_refl _) (a12 k hk)⟩
  · show _ = nI (rwW T n)
    rw [h23]
    unfold rwW
    split
    · exact pk_us
    · exact a3
  · obtain ⟨hw0, hb⟩ := hw h0
    unfold rwB at hb
    rw [Bool.or_eq_false_iff] at hb
    have hnw : n = rwW T n := by simpa using hb.1
    have hlb := it_orF (P := fun k => lbd (l k)) (n := n) (by
      have := hb.2
      unfold lba at this
      rw [this]
      exact Bool.false_ne_true)
    change (decide (x % 8 < rwW T n) && decide (x / 8 < t_r T + 1)) = true at hon
    rw [Bool.and_eq_true, decide_eq_true_eq, decide_eq_true_eq] at hon
    rw [h24]
    show _ = if 40 + 8 * t_r T ≤ 40 + x ∧ 40 + x < 40 + 8 * t_r T + n then lcv (l (40 + x - (40 + 8 * t_r T))) else T.2.1 (40 + x)
    by_cases hx8 : x / 8 = t_r T
    · rw [if_pos (by omega), if_pos (by omega), show 40 + x - (40 + 8 * t_r T) = x - 8 * t_r T by omega, show 48 * sd + x - (48 * sd + 8 * t_r T) = x - 8 * t_r T by omega]
      exact lct_v (hlb _ (by omega))
    · rw [if_neg (by omega), if_neg (by omega)]
      refine a6 hw0 x hx ?_
      unfold t_on
      rw [Bool.and_eq_true, decide_eq_true_eq, decide_eq_true_eq]
      have : rwW T n = t_w T := if_neg (by omega)
      omega
  · have hf : f < t_nf T := hf
    exact ⟨(congrFun (e 26 (by omega) (by omega) (by omega)) _).trans ((a7 f hf).1.trans (e2 (10 + f) (by omega)).symm), (congrFun (e 27 (by omega) (by omega) (by omega)) _).trans ((a7 f hf).2.trans (e2 (20 + f) (by omega)).symm)⟩
  · have hi : i < t_nl T := hi
    exact ⟨(congrFun (e 29 (by omega) (by omega) (by omega)) _).trans ((a8 i hi).1.trans (by
      show nI (T.1 (4 + i)) = nI (if 4 + i = 0 then t_r T + 1 else if 4 + i = 1 then rwW T n else T.1 (4 + i))
      rw [if_neg (by omega), if_neg (by omega)])), (congrFun (e 30 (by omega) (by omega) (by omega)) _).trans ((a8 i hi).2.trans (e2 (30 + i) (by omega)).symm)⟩
theorem FX_FG {r n : Nat} (h : FG s s') (hr : r < 6) (hn : n ≤ 8) {l : Nat → Nat} (h24 : ∀ i, s'.2.1 24 i = if 48 * sd + 8 * r ≤ i ∧ i < 48 * sd + 8 * r + n then lct (l (i - (48 * sd + 8 * r))) else s.2.1 24 i) : FX sd s s' := by
  refine ⟨fun j hj => h.1 j (fun e => hj (by unfold ch; omega)), fun j hj => h.2.1 j (by omega), fun k h1 h2 i hi => ?_, fun j _ => by rw [h.2.2]⟩
  by_cases e : k = 24
  · subst e
    change ¬ (48 * sd ≤ i ∧ i < 48 * sd + 48) at hi
    rw [h24, if_neg (by omega)]
  · rw [h.2.1 k e]
def zrw (K L : Nat → Nat) (R : Nat → Nat → Nat) (T : Tx) (t : Nat) (w : Wt) : Zs := match zmu K 1 (.inr (t, w)) with
  | .inl e => .inl e
  | .inr x => zmu K 4 (.inr (x.1, if rwB T (L t) (R t) = true then wt w 6 t else w))
theorem m_row (hp : p.length = 589) (hE : EN K V F N L R) {w : Wt} {b c : Nat} (hz : ZQ s K F (.inr (t, w))) (hte : TE s K V F N) (hsd : sd < 2) (hT : TP s sd T w b c) (hr : t_r T < 6) (hw8 : t_w T ≤ 8) (hnf : t_nf T ≤ 6) (hnl : t_nl T ≤ 4) : ∃ s', FX sd s s' ∧ (s'.1 20 = s.1 20 ∧ s'.1 36 = s.1 36 ∧ s'.1 42 = s.1 42 ∧ s'.2.2 = s.2.2) ∧ (match zrw K L R T t w with
    | .inl e => ZQ s' K F (.inl e)
    | .inr x => ZQ s' K F (.inr x) ∧ TP s' sd (rwT T (L t) (R t)) x.2 b c) ∧ jv_cd (d + 4) 22 [.ref 589] (tw_h p s q) = some (.inl none, tw_h p s' q) := by
  obtain ⟨q1, q2, q3, q4, q5, q6, q7⟩ := id hz
  have ht4 : t ≤ 400 := q4.1
  have h19 := hT.1
  have h22 : s.2.1 22 sd = nI (t_r T) := hT.2.1
  have h23 : s.2.1 23 sd = nI (t_w T) := hT.2.2.1
  obtain ⟨s1, f1, z1, r1⟩ := z_mu (d := d) (q := q) (k := 1) hp hz hte (by decide)
  have hte1 := TE_FZ hte f1
  have g19 : s1.1 19 = nI sd := (f1.1 19 (by decide)).trans h19
  have g22 : s1.2.1 22 sd = nI (t_r T) := by rw [f1.2]; exact h22
  have g23 : s1.2.1 23 sd = nI (t_w T) := by rw [f1.2]; exact h23
  unfold zrw
  generalize hzz : zmu K 1 (.inr (t, w)) = zz at z1 ⊢
  cases zz with
  | inl e =>
    have g1 := z1.1
    have g2 := z1.2.1
    have g0 := fe_0 g1 g2
    have r2 := m_mustF (d := d) (q := q) (x := nI 4) hp g1 g2
    refine ⟨s1, FX_FZ f1, ⟨f1.1 20 (by decide), f1.1 36 (by decide), f1.1 42 (by decide), by rw [f1.2]⟩, z1, ?_⟩
    simp (disch := omega) only [il_0, il_1, il_2, il_3, il_4, il_5, il_6, il_7, il_8, il_9, il_10, il_11, il_12, il_13, il_14, il_15, il_16, il_17, il_18, il_19, il_20, il_21, il_22, il_23, il_24, il_25, il_26, il_27, il_28, il_29, il_30, il_31, il_32, il_40, il_41, il_42, il_43, il_44, il_45, il_46, il_47, il_48, il_52, il_56, il_57, il_59, il_60, il_61, il_63, il_64, il_68, il_72, il_75, il_76, il_82, il_88, il_89, il_90, il_92, il_96, il_97, il_99, il_100, il_101, il_102, il_103, il_104, il_105, il_107, il_108, il_109, il_110, il_111, il_112, il_114, il_115, il_116, il_117, il_118, il_119, il_121, il_122, il_130, il_200, il_255, il_256, il_260, il_276, il_400, il_403, il_420, il_840, il_999, il_1000, il_2000, il_2001, il_2668, il_2760, il_9999, il_12345, il_1000000, il_1103515245, ↓im_1, ↓im_2, ↓im_8, ↓im_1000, nI_add, pk_mul, pk_sub, ↓pk_rem, pk_div, nm_add, nI_clamp, nI_ltI, nI_leI, nI_eq, nm_eq, mn_eq, mm_eq, nm_lt, mn_lt, nm_le, mn_le, nl_T, nl_F, nle_T, nle_F, ne_T, ne_F, b2i_0, b2i_1, b2i_n, nb_0, nb_1, or_false, false_or, or_true, true_or, and_true, true_and, and_false, false_and, or_self, and_self, not_true_eq_false, not_false_eq_true, ↓reduceIte, if_true, if_false, ↓jv_bs, ↓jv_ol, ↓jv_or, jv_tl, jv_tn, jo_T, ck_2_166_17, ck_6_43_16, ck_6_43_17, ck_6_73_16, ck_7_65_17, ck_30_10_19, su_F, e22_0, e22_1, e22_4, e22_5, e22_6, e22_7, e22_10, e22_11, e22_14, e22_195, e22_196, e22_197, e22_200, e22_201, e22_204, e22_207, e22_208, e22_211, e22_212, e22_215, e22_216, e22_217, e22_218, e22_219, e22_220, ↓tgb_8 hp, ↓trb_8 hp, ↓tub_8 hp, wl_8, ↓tgb_11 hp, wi_11, ↓tgb_13 hp, wi_13, ↓tgb_19 hp, wi_19, ↓tgb_22 hp, ↓trb_22 hp, ↓tub_22 hp, wa_22, ↓tgb_23 hp, ↓trb_23 hp, ↓tub_23 hp, wa_23, ↓tgb_24 hp, ↓trb_24 hp, ↓tub_24 hp, wa_24, ↓tw_rcb hp, n22, q2, g0, ↓jbR r1, ↓jbR r2]
  | inr y =>
    obtain ⟨rfl, hk1, hne⟩ := zmu_r hzz
    dsimp only at hk1 hne ⊢
    obtain ⟨l1, l8, hl, hN⟩ := hE.2.2.2.2.2 t hk1
    have h8 : s1.2.2 8 t = nL (cn (R t) (L t)) := by rw [← hN]; exact ((hte1 t q4).2.2.2 (by omega)).2
    have g13 : s1.1 13 = nI 0 := z1.1
    have st0 : jv_cd (d + 4) 22 [.ref 589] (tw_h p s q) = jv_ev (d + 3) 22 30 [some (.ref 589), some (.int (nI t)), some (.long (nL (cn (R t) (L t)))), none, some (.int (nI 0)), some (.long (nL (cn (R t) (L t)))), none] [] (tw_h p s1 q) := by
      simp (disch := omega) only [il_0, il_1, il_2, il_3, il_4, il_5, il_6, il_7, il_8, il_9, il_10, il_11, il_12, il_13, il_14, il_15, il_16, il_17, il_18, il_19, il_20, il_21, il_22, il_23, il_24, il_25, il_26, il_27, il_28, il_29, il_30, il_31, il_32, il_40, il_41, il_42, il_43, il_44, il_45, il_46, il_47, il_48, il_52, il_56, il_57, il_59, il_60, il_61, il_63, il_64, il_68, il_72, il_75, il_76, il_82, il_88, il_89, il_90, il_92, il_96, il_97, il_99, il_100, il_101, il_102, il_103, il_104, il_105, il_107, il_108, il_109, il_110, il_111, il_112, il_114, il_115, il_116, il_117, il_118, il_119, il_121, il_122, il_130, il_200, il_255, il_256, il_260, il_276, il_400, il_403, il_420, il_840, il_999, il_1000, il_2000, il_2001, il_2668, il_2760, il_9999, il_12345, il_1000000, il_1103515245, ↓im_1, ↓im_2, ↓im_8, ↓im_1000, nI_add, pk_mul, pk_sub, ↓pk_rem, pk_div, nm_add, nI_clamp, nI_ltI, nI_leI, nI_eq, nm_eq, mn_eq, mm_eq, nm_lt, mn_lt, nm_le, mn_le, nl_T, nl_F, nle_T, nle_F, ne_T, ne_F, b2i_0, b2i_1, b2i_n, nb_0, nb_1, or_false, false_or, or_true, true_or, and_true, true_and, and_false, false_and, or_self, and_self, not_true_eq_false, not_false_eq_true, ↓reduceIte, if_true, if_false, ↓jv_bs, ↓jv_ol, ↓jv_or, jv_tl, jv_tn, jo_T, ck_2_166_17, ck_6_43_16, ck_6_43_17, ck_6_73_16, ck_7_65_17, ck_30_10_19, su_F, e22_0, e22_1, e22_4, e22_5, e22_6, e22_7, e22_10, e22_11, e22_14, e22_17, e22_18, e22_21, e22_22, e22_23, e22_24, e22_25, e22_27, e22_28, ↓tgb_8 hp, ↓trb_8 hp, ↓tub_8 hp, wl_8, ↓tgb_11 hp, wi_11, ↓tgb_13 hp, wi_13, ↓tgb_19 hp, wi_19, ↓tgb_22 hp, ↓trb_22 hp, ↓tub_22 hp, wa_22, ↓tgb_23 hp, ↓trb_23 hp, ↓tub_23 hp, wa_23, ↓tgb_24 hp, ↓trb_24 hp, ↓tub_24 hp, wa_24, ↓tw_rcb hp, n22, q2, g13, h8, ↓jbR r1]
    have st1 := m_rowN (d := d + 2) (u := some (.int (nI t))) (x := some (.ref 589)) (h := tw_h p s1 q) l8 hl
    -- the width
    have hW : ∃ s2, (s2 = if t_r T = 0 then tw_a s1 23 (upd (s1.2.1 23) sd (nI (L t))) else s1) ∧ jv_ev (d + 3) 22 51 [some (.ref 589), some (.int (nI t)), some (.long (nL (cn (R t) (L t)))), none, some (.int (nI (L t))), some (.long (nL 0)), none] [] (tw_h p s1 q) = jv_ev (d + 3) 22 74 [some (.ref 589), some (.int (nI t)), some (.long (nL (cn (R t) (L t)))), none, some (.int (nI (L t))), some (.long (nL 0)), none] [] (tw_h p s2 q) := by
      refine ⟨_, rfl, ?_⟩
      by_cases h0 : t_r T = 0
      · rw [if_pos h0]
        rw [h0] at g22
        simp (disch := omega) only [il_0, il_1, il_2, il_3, il_4, il_5, il_6, il_7, il_8, il_9, il_10, il_11, il_12, il_13, il_14, il_15, il_16, il_17, il_18, il_19, il_20, il_21, il_22, il_23, il_24, il_25, il_26, il_27, il_28, il_29, il_30, il_31, il_32, il_40, il_41, il_42, il_43, il_44, il_45, il_46, il_47, il_48, il_52, il_56, il_57, il_59, il_60, il_61, il_63, il_64, il_68, il_72, il_75, il_76, il_82, il_88, il_89, il_90, il_92, il_96, il_97, il_99, il_100, il_101, il_102, il_103, il_104, il_105, il_107, il_108, il_109, il_110, il_111, il_112, il_114, il_115, il_116, il_117, il_118, il_119, il_121, il_122, il_130, il_200, il_255, il_256, il_260, il_276, il_400, il_403, il_420, il_840, il_999, il_1000, il_2000, il_2001, il_2668, il_2760, il_9999, il_12345, il_1000000, il_1103515245, ↓im_1, ↓im_2, ↓im_8, ↓im_1000, nI_add, pk_mul, pk_sub, ↓pk_rem, pk_div, nm_add, nI_clamp, nI_ltI, nI_leI, nI_eq, nm_eq, mn_eq, mm_eq, nm_lt, mn_lt, nm_le, mn_le, nl_T, nl_F, nle_T, nle_F, ne_T, ne_F, b2i_0, b2i_1, b2i_n, nb_0, nb_1, or_false, false_or, or_true, true_or, and_true, true_and, and_false, false_and, or_self, and_self, not_true_eq_false, not_false_eq_true, ↓reduceIte, if_true, if_false, ↓jv_bs, ↓jv_ol, ↓jv_or, jv_tl, jv_tn, jo_T, ck_2_166_17, ck_6_43_16, ck_6_43_17, ck_6_73_16, ck_7_65_17, ck_30_10_19, su_F, e22_51, e22_52, e22_55, e22_56, e22_59, e22_60, e22_63, e22_64, e22_67, e22_68, e22_71, e22_73, ↓tgb_8 hp, ↓trb_8 hp, ↓tub_8 hp, wl_8, ↓tgb_11 hp, wi_11, ↓tgb_13 hp, wi_13, ↓tgb_19 hp, wi_19, ↓tgb_22 hp, ↓trb_22 hp, ↓tub_22 hp, wa_22, ↓tgb_23 hp, ↓trb_23 hp, ↓tub_23 hp, wa_23, ↓tgb_24 hp, ↓trb_24 hp, ↓tub_24 hp, wa_24, ↓tw_rcb hp, g19, g22]
      · rw [if_neg h0]
        simp (disch := omega) only [il_0, il_1, il_2, il_3, il_4, il_5, il_6, il_7, il_8, il_9, il_10, il_11, il_12, il_13, il_14, il_15, il_16, il_17, il_18, il_19, il_20, il_21, il_22, il_23, il_24, il_25, il_26, il_27, il_28, il_29, il_30, il_31, il_32, il_40, il_41, il_42, il_43, il_44, il_45, il_46, il_47, il_48, il_52, il_56, il_57, il_59, il_60, il_61, il_63, il_64, il_68, il_72, il_75, il_76, il_82, il_88, il_89, il_90, il_92, il_96, il_97, il_99, il_100, il_101, il_102, il_103, il_104, il_105, il_107, il_108, il_109, il_110, il_111, il_112, il_114, il_115, il_116, il_117, il_118, il_119, il_121, il_122, il_130, il_200, il_255, il_256, il_260, il_276, il_400, il_403, il_420, il_840, il_999, il_1000, il_2000, il_2001, il_2668, il_2760, il_9999, il_12345, il_1000000, il_1103515245, ↓im_1, ↓im_2, ↓im_8, ↓im_1000, nI_add, pk_mul, pk_sub, ↓pk_rem, pk_div, nm_add, nI_clamp, nI_ltI, nI_leI, nI_eq, nm_eq, mn_eq, mm_eq, nm_lt, mn_lt, nm_le, mn_le, nl_T, nl_F, nle_T, nle_F, ne_T, ne_F, b2i_0, b2i_1, b2i_n, nb_0, nb_1, or_false, false_or, or_true, true_or, and_true, true_and, and_false, false_and, or_self, and_self, not_true_eq_false, not_false_eq_true, ↓reduceIte, if_true, if_false, ↓jv_bs, ↓jv_ol, ↓jv_or, jv_tl, jv_tn, jo_T, ck_2_166_17, ck_6_43_16, ck_6_43_17, ck_6_73_16, ck_7_65_17, ck_30_10_19, su_F, e22_51, e22_52, e22_55, e22_56, e22_59, e22_60, ↓tgb_8 hp, ↓trb_8 hp, ↓tub_8 hp, wl_8, ↓tgb_11 hp, wi_11, ↓tgb_13 hp, wi_13, ↓tgb_19 hp, wi_19, ↓tgb_22 hp, ↓trb_22 hp, ↓tub_22 hp, wa_22, ↓tgb_23 hp, ↓trb_23 hp, ↓tub_23 hp, wa_23, ↓tgb_24 hp, ↓trb_24 hp, ↓tub_24 hp, wa_24, ↓tw_rcb hp, g19, g22, h0]
    obtain ⟨s2, hs2, st2⟩ := hW
    have e2i : s2.1 = s1.1 := by rw [hs2]; split <;> rfl
    have e2a : ∀ j, j ≠ 23 → s2.2.1 j = s1.2.1 j := fun j hj => by
      rw [hs2]; split
      · rw [tw_a2, if_neg hj]
      · rfl
    have e2l : s2.2.2 = s1.2.2 := by rw [hs2]; split <;> rfl
    have e23 : s2.2.1 23 = if t_r T = 0 then upd (s1.2.1 23) sd (nI (L t)) else s1.2.1 23 := by
      rw [hs2]; split <;> rfl
    have fx2 : FX sd s1 s2 := by
      rw [hs2]; split
      · exact FX_a (by decide) (by decide) (by show 1 * sd ≤ sd ∧ sd < 1 * sd + 1; omega)
      · exact FX_id
    have z2 : ZQ s2 K F (.inr (t + 1, w)) := by
      unfold ZQ
      rw [e2i]
      exact z1
    have k19 : s2.1 19 = nI sd := by rw [e2i]; exact g19
    have k23 : s2.2.1 23 sd = nI (rwW T (L t)) := by
      rw [e23]
      unfold rwW
      split
      · exact pk_us
      · exact g23
    have hww : rwW T (L t) ≤ 8 := by unfold rwW; split <;> omega
    have hte2 := TE_FX hte1 fx2
    -- the length is another one
    have hX : ∃ s3, FZ s2 s3 ∧ ZQ s3 K F (.inr (t + 1, if L t = rwW T (L t) then w else wt w 6 t)) ∧ jv_ev (d + 3) 22 74 [some (.ref 589), some (.int (nI t)), some (.long (nL (cn (R t) (L t)))), none, some (.int (nI (L t))), some (.long (nL 0)), none] [] (tw_h p s2 q) = jv_ev (d + 3) 22 101 [some (.ref 589), some (.int (nI t)), some (.long (nL (cn (R t) (L t)))), none, some (.int (nI (L t))), some (.int (nI (L t - 1))), none] [] (tw_h p s3 q) := by
      by_cases h0 : L t = rwW T (L t)
      · refine ⟨s2, FZ_id, by rw [if_pos h0]; exact z2, ?_⟩
        rw [← h0] at k23
        simp (disch := omega) only [il_0, il_1, il_2, il_3, il_4, il_5, il_6, il_7, il_8, il_9, il_10, il_11, il_12, il_13, il_14, il_15, il_16, il_17, il_18, il_19, il_20, il_21, il_22, il_23, il_24, il_25, il_26, il_27, il_28, il_29, il_30, il_31, il_32, il_40, il_41, il_42, il_43, il_44, il_45, il_46, il_47, il_48, il_52, il_56, il_57, il_59, il_60, il_61, il_63, il_64, il_68, il_72, il_75, il_76, il_82, il_88, il_89, il_90, il_92, il_96, il_97, il_99, il_100, il_101, il_102, il_103, il_104, il_105, il_107, il_108, il_109, il_110, il_111, il_112, il_114, il_115, il_116, il_117, il_118, il_119, il_121, il_122, il_130, il_200, il_255, il_256, il_260, il_276, il_400, il_403, il_420, il_840, il_999, il_1000, il_2000, il_2001, il_2668, il_2760, il_9999, il_12345, il_1000000, il_1103515245, ↓im_1, ↓im_2, ↓im_8, ↓im_1000, nI_add, pk_mul, pk_sub, ↓pk_rem, pk_div, nm_add, nI_clamp, nI_ltI, nI_leI, nI_eq, nm_eq, mn_eq, mm_eq, nm_lt, mn_lt, nm_le, mn_le, nl_T, nl_F, nle_T, nle_F, ne_T, ne_F, b2i_0, b2i_1, b2i_n, nb_0, nb_1, or_false, false_or, or_true, true_or, and_true, true_and, and_false, false_and, or_self, and_self, not_true_eq_false, not_false_eq_true, ↓reduceIte, if_true, if_false, ↓jv_bs, ↓jv_ol, ↓jv_or, jv_tl, jv_tn, jo_T, ck_2_166_17, ck_6_43_16, ck_6_43_17, ck_6_73_16, ck_7_65_17, ck_30_10_19, su_F, e22_74, e22_76, e22_77, e22_80, e22_81, e22_84, e22_85, e22_88, e22_89, e22_91, e22_92, e22_95, e22_97, e22_98, e22_99, ↓tgb_8 hp, ↓trb_8 hp, ↓tub_8 hp, wl_8, ↓tgb_11 hp, wi_11, ↓tgb_13 hp, wi_13, ↓tgb_19 hp, wi_19, ↓tgb_22 hp, ↓trb_22 hp, ↓tub_22 hp, wa_22, ↓tgb_23 hp, ↓trb_23 hp, ↓tub_23 hp, wa_23, ↓tgb_24 hp, ↓trb_24 hp, ↓tub_24 hp, wa_24, ↓tw_rcb hp, k19, k23]
      · obtain ⟨s3, f3, z3, r3⟩ := z_wr (d := d + 2) (q := q) (n := 6) (tok := t) hp hE z2 hte2 (by decide) ht4 (fun y hy => by obtain rfl := Sum.inr.inj hy; dsimp only; omega)
        refine ⟨s3, f3, by rw [if_neg h0]; exact z3, ?_⟩
        simp (disch := omega) only [il_0, il_1, il_2, il_3, il_4, il_5, il_6, il_7, il_8, il_9, il_10, il_11, il_12, il_13, il_14, il_15, il_16, il_17, il_18, il_19, il_20, il_21, il_22, il_23, il_24, il_25, il_26, il_27, il_28, il_29, il_30, il_31, il_32, il_40, il_41, il_42, il_43, il_44, il_45, il_46, il_47, il_48, il_52, il_56, il_57, il_59, il_60, il_61, il_63, il_64, il_68, il_72, il_75, il_76, il_82, il_88, il_89, il_90, il_92, il_96, il_97, il_99, il_100, il_101, il_102, il_103, il_104, il_105, il_107, il_108, il_109, il_110, il_111, il_112, il_114, il_115, il_116, il_117, il_118, il_119, il_121, il_122, il_130, il_200, il_255, il_256, il_260, il_276, il_400, il_403, il_420, il_840, il_999, il_1000, il_2000, il_2001, il_2668, il_2760, il_9999, il_12345, il_1000000, il_1103515245, ↓im_1, ↓im_2, ↓im_8, ↓im_1000, nI_add, pk_mul, pk_sub, ↓pk_rem, pk_div, nm_add, nI_clamp, nI_ltI, nI_leI, nI_eq, nm_eq, mn_eq, mm_eq, nm_lt, mn_lt, nm_le, mn_le, nl_T, nl_F, nle_T, nle_F, ne_T, ne_F, b2i_0, b2i_1, b2i_n, nb_0, nb_1, or_false, false_or, or_true, true_or, and_true, true_and, and_false, false_and, or_self, and_self, not_true_eq_false, not_false_eq_true, ↓reduceIte, if_true, if_false, ↓jv_bs, ↓jv_ol, ↓jv_or, jv_tl, jv_tn, jo_T, ck_2_166_17, ck_6_43_16, ck_6_43_17, ck_6_73_16, ck_7_65_17, ck_30_10_19, su_F, e22_74, e22_76, e22_77, e22_80, e22_81, e22_84, e22_85, e22_88, e22_89, e22_91, e22_92, e22_95, e22_97, e22_98, e22_99, ↓tgb_8 hp, ↓trb_8 hp, ↓tub_8 hp, wl_8, ↓tgb_11 hp, wi_11, ↓tgb_13 hp, wi_13, ↓tgb_19 hp, wi_19, ↓tgb_22 hp, ↓trb_22 hp, ↓tub_22 hp, wa_22, ↓tgb_23 hp, ↓trb_23 hp, ↓tub_23 hp, wa_23, ↓tgb_24 hp, ↓trb_24 hp, ↓tub_24 hp, wa_24, ↓tw_rcb hp, k19, k23, h0, ↓jbR r3]
    obtain ⟨s3, f3, z3, st3⟩ := hX
    have hte3 := TE_FZ hte2 f3
    have k19_3 : s3.1 19 = nI sd := (f3.1 19 (by decide)).trans k19
    have k22_3 : s3.2.1 22 sd = nI (t_r T) := by rw [f3.2, e2a 22 (by decide)]; exact g22
    obtain ⟨s4, y2, y5, y6, f4, c4, z4, st4⟩ := m_rowL (d := d + 2) (q := q) (sd := sd) hp hE (l := R t) (u := t) (r := t_r T) (n := L t) hsd hr l8 ht4 hl (L t) (Nat.le_refl _) s3 _ none (t + 1) z3 (by omega) hte3 k19_3 k22_3
    rw [if_neg (by omega)] at st4
    have fx4 := FX_FG (sd := sd) f4 hr l8 c4
    have hte4 := TE_FX hte3 fx4
    have hww2 : (if lba (R t) (L t) = true then wt (if L t = rwW T (L t) then w else wt w 6 t) 6 t else if L t = rwW T (L t) then w else wt w 6 t) = if rwB T (L t) (R t) = true then wt w 6 t else w := by
      unfold rwB
      by_cases h0 : L t = rwW T (L t)
      · rw [if_pos h0, decide_eq_true h0]
        rfl
      · rw [if_neg h0, decide_eq_false h0, if_pos (show (!false || lba (R t) (L t)) = true from rfl), wt_i]
        split <;> rfl
    rw [hww2] at z4
    generalize hw' : (if rwB T (L t) (R t) = true then wt w 6 t else w) = w' at z4 ⊢
    obtain ⟨s5, f5, z5, r5⟩ := z_mu (d := d) (q := q) (k := 4) hp z4 hte4 (by decide)
    have k19_5 : s5.1 19 = nI sd := (f5.1 19 (by decide)).trans ((f4.1 19 (by decide)).trans k19_3)
    have k22_5 : s5.2.1 22 = s.2.1 22 := by rw [f5.2, f4.2.1 22 (by decide), f3.2, e2a 22 (by decide), f1.2]
    have k22_6 : s5.2.1 22 sd = nI (t_r T) := by rw [k22_5]; exact h22
    have fx5 : FX sd s s5 := FX_tr (FX_FZ f1) (FX_tr fx2 (FX_tr (FX_FZ f3) (FX_tr fx4 (FX_FZ f5))))
    have kk : ∀ j, ¬ (j = 11 ∨ j = 13 ∨ j = 14 ∨ j = 15 ∨ j = 16) → s5.1 j = s.1 j := fun j hj => (f5.1 j hj).trans ((f4.1 j hj).trans ((f3.1 j hj).trans ((congrFun e2i j).trans (f1.1 j hj))))
    have kl : s5.2.2 = s.2.2 := by rw [f5.2, f4.2.2, f3.2, e2l, f1.2]
    rw [st0, st1, st2, st3, st4]
    generalize hz5 : zmu K 4 (.inr (t + 1, w')) = zz5 at z5 ⊢
    cases zz5 with
    | inl e =>
      have g0 := fe_0 z5.1 z5.2.1
      refine ⟨s5, fx5, ⟨kk 20 (by decide), kk 36 (by decide), kk 42 (by decide), kl⟩, z5, ?_⟩
      simp (disch := omega) only [il_0, il_1, il_2, il_3, il_4, il_5, il_6, il_7, il_8, il_9, il_10, il_11, il_12, il_13, il_14, il_15, il_16, il_17, il_18, il_19, il_20, il_21, il_22, il_23, il_24, il_25, il_26, il_27, il_28, il_29, il_30, il_31, il_32, il_40, il_41, il_42, il_43, il_44, il_45, il_46, il_47, il_48, il_52, il_56, il_57, il_59, il_60, il_61, il_63, il_64, il_68, il_72, il_75, il_76, il_82, il_88, il_89, il_90, il_92, il_96, il_97, il_99, il_100, il_101, il_102, il_103, il_104, il_105, il_107, il_108, il_109, il_110, il_111, il_112, il_114, il_115, il_116, il_117, il_118, il_119, il_121, il_122, il_130, il_200, il_255, il_256, il_260, il_276, il_400, il_403, il_420, il_840, il_999, il_1000, il_2000, il_2001, il_2668, il_2760, il_9999, il_12345, il_1000000, il_1103515245, ↓im_1, ↓im_2, ↓im_8, ↓im_1000, nI_add, pk_mul, pk_sub, ↓pk_rem, pk_div, nm_add, nI_clamp, nI_ltI, nI_leI, nI_eq, nm_eq, mn_eq, mm_eq, nm_lt, mn_lt, nm_le, mn_le, nl_T, nl_F, nle_T, nle_F, ne_T, ne_F, b2i_0, b2i_1, b2i_n, nb_0, nb_1, or_false, false_or, or_true, true_or, and_true, true_and, and_false, false_and, or_self, and_self, not_true_eq_false, not_false_eq_true, ↓reduceIte, if_true, if_false, ↓jv_bs, ↓jv_ol, ↓jv_or, jv_tl, jv_tn, jo_T, ck_2_166_17, ck_6_43_16, ck_6_43_17, ck_6_73_16, ck_7_65_17, ck_30_10_19, su_F, e22_195, e22_196, e22_197, e22_200, e22_201, e22_204, e22_207, e22_208, e22_211, e22_212, e22_215, e22_216, e22_217, e22_218, e22_219, e22_220, ↓tgb_8 hp, ↓trb_8 hp, ↓tub_8 hp, wl_8, ↓tgb_11 hp, wi_11, ↓tgb_13 hp, wi_13, ↓tgb_19 hp, wi_19, ↓tgb_22 hp, ↓trb_22 hp, ↓tub_22 hp, wa_22, ↓tgb_23 hp, ↓trb_23 hp, ↓tub_23 hp, wa_23, ↓tgb_24 hp, ↓trb_24 hp, ↓tub_24 hp, wa_24, ↓tw_rcb hp, g0, ↓jbR r5]
    | inr x =>
      obtain ⟨rfl, _, _⟩ := zmu_r hz5
      have g0 : s5.1 13 = nI 0 := z5.1
      refine ⟨tw_a s5 22 (upd (s5.2.1 22) sd (nI (t_r T + 1))), FX_tr fx5 (FX_a (by decide) (by decide) (by show 1 * sd ≤ sd ∧ sd < 1 * sd + 1; omega)), ⟨kk 20 (by decide), kk 36 (by decide), kk 42 (by decide), kl⟩, ⟨ZQ_a z5, ?_⟩, ?_⟩
      · refine TP_R (s := s) hr l8 hnf hnl hT (k19_5.trans h19.symm) ?_ ?_ (fun i => ?_) (fun j h1 h2 h3 => ?_) (fun h0 => ?_)
        · show upd (s5.2.1 22) sd _ = _
          rw [k22_5]
        · show s5.2.1 23 = _
          rw [f5.2, f4.2.1 23 (by decide), f3.2, e23, f1.2]
        · show s5.2.1 24 i = _
          rw [f5.2, c4, f3.2, e2a 24 (by decide), f1.2]
        · rw [tw_a2, if_neg (by omega), f5.2, f4.2.1 j (by omega), f3.2, e2a j (by omega), f1.2]
        · dsimp only at h0
          rw [← hw'] at h0
          split at h0
          · exact absurd h0 (wt_0 (by decide))
          · rename_i hb; exact ⟨h0, by simpa using hb⟩
      · simp (disch := omega) only [il_0, il_1, il_2, il_3, il_4, il_5, il_6, il_7, il_8, il_9, il_10, il_11, il_12, il_13, il_14, il_15, il_16, il_17, il_18, il_19, il_20, il_21, il_22, il_23, il_24, il_25, il_26, il_27, il_28, il_29, il_30, il_31, il_32, il_40, il_41, il_42, il_43, il_44, il_45, il_46, il_47, il_48, il_52, il_56, il_57, il_59, il_60, il_61, il_63, il_64, il_68, il_72, il_75, il_76, il_82, il_88, il_89, il_90, il_92, il_96, il_97, il_99, il_100, il_101, il_102, il_103, il_104, il_105, il_107, il_108, il_109, il_110, il_111, il_112, il_114, il_115, il_116, il_117, il_118, il_119, il_121, il_122, il_130, il_200, il_255, il_256, il_260, il_276, il_400, il_403, il_420, il_840, il_999, il_1000, il_2000, il_2001, il_2668, il_2760, il_9999, il_12345, il_1000000, il_1103515245, ↓im_1, ↓im_2, ↓im_8, ↓im_1000, nI_add, pk_mul, pk_sub, ↓pk_rem, pk_div, nm_add, nI_clamp, nI_ltI, nI_leI, nI_eq, nm_eq, mn_eq, mm_eq, nm_lt, mn_lt, nm_le, mn_le, nl_T, nl_F, nle_T, nle_F, ne_T, ne_F, b2i_0, b2i_1, b2i_n, nb_0, nb_1, or_false, false_or, or_true, true_or, and_true, true_and, and_false, false_and, or_self, and_self, not_true_eq_false, not_false_eq_true, ↓reduceIte, if_true, if_false, ↓jv_bs, ↓jv_ol, ↓jv_or, jv_tl, jv_tn, jo_T, ck_2_166_17, ck_6_43_16, ck_6_43_17, ck_6_73_16, ck_7_65_17, ck_30_10_19, su_F, e22_195, e22_196, e22_197, e22_200, e22_201, e22_204, e22_207, e22_208, e22_211, e22_212, e22_215, e22_216, e22_217, e22_218, e22_219, e22_220, ↓tgb_8 hp, ↓trb_8 hp, ↓tub_8 hp, wl_8, ↓tgb_11 hp, wi_11, ↓tgb_13 hp, wi_13, ↓tgb_19 hp, wi_19, ↓tgb_22 hp, ↓trb_22 hp, ↓tub_22 hp, wa_22, ↓tgb_23 hp, ↓trb_23 hp, ↓tub_23 hp, wa_23, ↓tgb_24 hp, ↓trb_24 hp, ↓tub_24 hp, wa_24, ↓tw_rcb hp, g0, k19_5, k22_6, ↓jbR r5, tw_a1, tw_a2, tw_a3, Nat.reduceEqDiff]
theorem t_row (hp : p.length = 589) (hE : EN K V F N L R) (hS : PI s K V F N sd t S) (hX : WX S t) (hk : K t = 20) : ∃ s', FX sd s s' ∧ PO s' K V F N sd (pOne K V N L R t S) ∧ jv_cd (d + 7) 18 [.ref 589] (tw_h p s q) = some (.inl none, tw_h p s' q) := by
  obtain ⟨hz, hte, hn, hsd, b, c, h36, h42, hb, hc, hT⟩ := hS
  obtain ⟨T, nm, w⟩ := S
  dsimp only at hz hn hT
  obtain ⟨⟨x1, x2, x3, x4⟩, x5, _⟩ := hX
  dsimp only at x1 x2 x3 x4 x5
  have e : pOne K V N L R t (T, nm, w) = if t_r T = 6 then .inl (2, t) else zP2 (fun t1 => zP (fun w => (rwT T (L t1) (R t1), nm, w)) (zrw K L R T t1 w)) (zgo (.inr (t, w))) := by
    unfold pOne
    rw [if_pos hk]
    dsimp only
    by_cases h6 : t_r T = 6
    · rw [if_pos h6, if_pos h6]
    · rw [if_neg h6, if_neg h6]
      refine hp_p (H := fun z => zP2 _ z) (fun _ => rfl) ?_
      refine hp_m (H := fun z => zP (fun w => (rwT T (L (t + 1)) (R (t + 1)), nm, w)) (match z with | .inl e => .inl e | .inr x => zmu K 4 (.inr (x.1, if rwB T (L (t + 1)) (R (t + 1)) = true then wt w 6 (t + 1) else w)))) (fun _ => rfl) ?_
      exact hp_m (H := fun z => zP (fun w => (rwT T (L (t + 1)) (R (t + 1)), nm, w)) z) (fun _ => rfl) rfl
  rw [e]
  obtain ⟨q1, q2, q3, q4, q5, q6, q7⟩ := id hz
  have k1 := (hte t q4).1
  rw [hk] at k1
  have ht4 := q4.1
  have h19 := hT.1
  have hcnt : s.2.1 22 sd = nI (t_r T) := hT.2.1
  obtain ⟨s1, f1, z1, r1⟩ := z_room (d := d + 3) (q := q) (n := t_r T) (m := 6) hp hz hte (by omega) (by omega) (by decide)
  by_cases h6 : t_r T = 6
  · rw [if_pos h6] at z1 ⊢
    refine ⟨s1, FX_FZ f1, z1, ?_⟩
    have g0 := fe_0 z1.1 z1.2.1
    simp (disch := omega) only [il_0, il_1, il_2, il_3, il_4, il_5, il_6, il_7, il_8, il_9, il_10, il_11, il_12, il_13, il_14, il_15, il_16, il_17, il_18, il_19, il_20, il_21, il_22, il_23, il_24, il_25, il_26, il_27, il_28, il_29, il_30, il_31, il_32, il_40, il_41, il_42, il_43, il_44, il_45, il_46, il_47, il_48, il_52, il_56, il_57, il_59, il_60, il_61, il_63, il_64, il_68, il_72, il_75, il_76, il_82, il_88, il_89, il_90, il_92, il_96, il_97, il_99, il_100, il_101, il_102, il_103, il_104, il_105, il_107, il_108, il_109, il_110, il_111, il_112, il_114, il_115, il_116, il_117, il_118, il_119, il_121, il_122, il_130, il_200, il_255, il_256, il_260, il_276, il_400, il_403, il_420, il_840, il_999, il_1000, il_2000, il_2001, il_2668, il_2760, il_9999, il_12345, il_1000000, il_1103515245, ↓im_1, ↓im_2, ↓im_8, ↓im_1000, nI_add, pk_mul, pk_sub, ↓pk_rem, pk_div, nm_add, nI_clamp, nI_ltI, nI_leI, nI_eq, nm_eq, mn_eq, mm_eq, nm_lt, mn_lt, nm_le, mn_le, nl_T, nl_F, nle_T, nle_F, ne_T, ne_F, b2i_0, b2i_1, b2i_n, nb_0, nb_1, or_false, false_or, or_true, true_or, and_true, true_and, and_false, false_and, or_self, and_self, not_true_eq_false, not_false_eq_true, ↓reduceIte, if_true, if_false, ↓jv_bs, ↓jv_ol, ↓jv_or, jv_tl, jv_tn, jo_T, ck_2_166_17, ck_6_43_16, ck_6_43_17, ck_6_73_16, ck_7_65_17, ck_30_10_19, su_F, e18_0, e18_1, e18_4, e18_5, e18_8, e18_9, e18_60, e18_61, e18_62, e18_65, e18_66, e18_69, e18_70, e18_72, e18_75, e18_76, e18_79, e18_82, e18_83, e18_86, e18_285, ↓tgb_5 hp, ↓trb_5 hp, ↓tub_5 hp, wa_5, ↓tgb_11 hp, wi_11, ↓tgb_13 hp, wi_13, ↓tgb_19 hp, wi_19, ↓tgb_22 hp, ↓trb_22 hp, ↓tub_22 hp, wa_22, ↓tgb_25 hp, ↓trb_25 hp, ↓tub_25 hp, wa_25, ↓tgb_28 hp, ↓trb_28 hp, ↓tub_28 hp, wa_28, ↓tgb_31 hp, ↓trb_31 hp, ↓tub_31 hp, wa_31, ↓tgb_32 hp, ↓trb_32 hp, ↓tub_32 hp, wa_32, ↓tgb_33 hp, ↓trb_33 hp, ↓tub_33 hp, wa_33, ↓tw_rcb hp, n18, jv_tsl, q2, k1, h19, hcnt, g0, ↓jbR r1]
  · rw [if_neg h6] at z1 ⊢
    generalize hzg : zgo (.inr (t, w)) = zg at z1 ⊢
    cases zg with
    | inl e =>
      refine ⟨s1, FX_FZ f1, z1, ?_⟩
      have g0 := fe_0 z1.1 z1.2.1
      simp (disch := omega) only [il_0, il_1, il_2, il_3, il_4, il_5, il_6, il_7, il_8, il_9, il_10, il_11, il_12, il_13, il_14, il_15, il_16, il_17, il_18, il_19, il_20, il_21, il_22, il_23, il_24, il_25, il_26, il_27, il_28, il_29, il_30, il_31, il_32, il_40, il_41, il_42, il_43, il_44, il_45, il_46, il_47, il_48, il_52, il_56, il_57, il_59, il_60, il_61, il_63, il_64, il_68, il_72, il_75, il_76, il_82, il_88, il_89, il_90, il_92, il_96, il_97, il_99, il_100, il_101, il_102, il_103, il_104, il_105, il_107, il_108, il_109, il_110, il_111, il_112, il_114, il_115, il_116, il_117, il_118, il_119, il_121, il_122, il_130, il_200, il_255, il_256, il_260, il_276, il_400, il_403, il_420, il_840, il_999, il_1000, il_2000, il_2001, il_2668, il_2760, il_9999, il_12345, il_1000000, il_1103515245, ↓im_1, ↓im_2, ↓im_8, ↓im_1000, nI_add, pk_mul, pk_sub, ↓pk_rem, pk_div, nm_add, nI_clamp, nI_ltI, nI_leI, nI_eq, nm_eq, mn_eq, mm_eq, nm_lt, mn_lt, nm_le, mn_le, nl_T, nl_F, nle_T, nle_F, ne_T, ne_F, b2i_0, b2i_1, b2i_n, nb_0, nb_1, or_false, false_or, or_true, true_or, and_true, true_and, and_false, false_and, or_self, and_self, not_true_eq_false, not_false_eq_true, ↓reduceIte, if_true, if_false, ↓jv_bs, ↓jv_ol, ↓jv_or, jv_tl, jv_tn, jo_T, ck_2_166_17, ck_6_43_16, ck_6_43_17, ck_6_73_16, ck_7_65_17, ck_30_10_19, su_F, e18_0, e18_1, e18_4, e18_5, e18_8, e18_9, e18_60, e18_61, e18_62, e18_65, e18_66, e18_69, e18_70, e18_72, e18_75, e18_76, e18_79, e18_82, e18_83, e18_86, e18_285, ↓tgb_5 hp, ↓trb_5 hp, ↓tub_5 hp, wa_5, ↓tgb_11 hp, wi_11, ↓tgb_13 hp, wi_13, ↓tgb_19 hp, wi_19, ↓tgb_22 hp, ↓trb_22 hp, ↓tub_22 hp, wa_22, ↓tgb_25 hp, ↓trb_25 hp, ↓tub_25 hp, wa_25, ↓tgb_28 hp, ↓trb_28 hp, ↓tub_28 hp, wa_28, ↓tgb_31 hp, ↓trb_31 hp, ↓tub_31 hp, wa_31, ↓tgb_32 hp, ↓trb_32 hp, ↓tub_32 hp, wa_32, ↓tgb_33 hp, ↓trb_33 hp, ↓tub_33 hp, wa_33, ↓tw_rcb hp, n18, jv_tsl, q2, k1, h19, hcnt, g0, ↓jbR r1]
    | inr y =>
      obtain ⟨rfl, hne⟩ := zgo_r hzg
      have hT1 : TP s1 sd T w b c := TP_c (s := s) (f1.1 19 (by decide)) (fun k _ _ => by rw [f1.2]) (AB_e fun k _ _ => by rw [f1.2]) (Nat.le_refl _) (Nat.le_refl _) id hT
      obtain ⟨s2, f2, ⟨g2, g3, g4, g5⟩, o2, r2⟩ := m_row (d := d + 2) (q := q) (b := b) (c := c) hp hE z1 (TE_FZ hte f1) hsd hT1 (by omega) x2 x3 x4
      have g0 : s1.1 13 = nI 0 := z1.1
      refine ⟨s2, FX_tr (FX_FZ f1) f2, ?_, ?_⟩
      · show PO s2 K V F N sd (zP (fun w => (rwT T (L (t + 1)) (R (t + 1)), nm, w)) (zrw K L R T (t + 1) w))
        dsimp only at o2
        generalize hzz : zrw K L R T (t + 1) w = zz at o2 ⊢
        cases zz with
        | inl e => exact o2
        | inr x =>
          have hx1 : t ≤ x.1 := by
            unfold zrw at hzz
            generalize hz1 : zmu K 1 (.inr (t + 1, w)) = zz1 at hzz
            cases zz1 with
            | inl e => cases hzz
            | inr y =>
              obtain ⟨rfl, _⟩ := zmu_r hz1
              obtain ⟨rfl, _⟩ := zmu_r hzz
              dsimp only
              omega
          exact ⟨o2.1, TE_FX (TE_FZ hte f1) f2, NQ_c (NQ_FZ hn f1) g2 (by rw [g5]), hsd, b, c, g3.trans ((f1.1 36 (by decide)).trans h36), g4.trans ((f1.1 42 (by decide)).trans h42), ⟨hb.1, by dsimp only; omega⟩, ⟨hc.1, by dsimp only; omega⟩, o2.2⟩
      · simp (disch := omega) only [il_0, il_1, il_2, il_3, il_4, il_5, il_6, il_7, il_8, il_9, il_10, il_11, il_12, il_13, il_14, il_15, il_16, il_17, il_18, il_19, il_20, il_21, il_22, il_23, il_24, il_25, il_26, il_27, il_28, il_29, il_30, il_31, il_32, il_40, il_41, il_42, il_43, il_44, il_45, il_46, il_47, il_48, il_52, il_56, il_57, il_59, il_60, il_61, il_63, il_64, il_68, il_72, il_75, il_76, il_82, il_88, il_89, il_90, il_92, il_96, il_97, il_99, il_100, il_101, il_102, il_103, il_104, il_105, il_107, il_108, il_109, il_110, il_111, il_112, il_114, il_115, il_116, il_117, il_118, il_119, il_121, il_122, il_130, il_200, il_255, il_256, il_260, il_276, il_400, il_403, il_420, il_840, il_999, il_1000, il_2000, il_2001, il_2668, il_2760, il_9999, il_12345, il_1000000, il_1103515245, ↓im_1, ↓im_2, ↓im_8, ↓im_1000, nI_add, pk_mul, pk_sub, ↓pk_rem, pk_div, nm_add, nI_clamp, nI_ltI, nI_leI, nI_eq, nm_eq, mn_eq, mm_eq, nm_lt, mn_lt, nm_le, mn_le, nl_T, nl_F, nle_T, nle_F, ne_T, ne_F, b2i_0, b2i_1, b2i_n, nb_0, nb_1, or_false, false_or, or_true, true_or, and_true, true_and, and_false, false_and, or_self, and_self, not_true_eq_false, not_false_eq_true, ↓reduceIte, if_true, if_false, ↓jv_bs, ↓jv_ol, ↓jv_or, jv_tl, jv_tn, jo_T, ck_2_166_17, ck_6_43_16, ck_6_43_17, ck_6_73_16, ck_7_65_17, ck_30_10_19, su_F, e18_0, e18_1, e18_4, e18_5, e18_8, e18_9, e18_60, e18_61, e18_62, e18_65, e18_66, e18_69, e18_70, e18_72, e18_75, e18_76, e18_79, e18_82, e18_83, e18_86, e18_285, ↓tgb_5 hp, ↓trb_5 hp, ↓tub_5 hp, wa_5, ↓tgb_11 hp, wi_11, ↓tgb_13 hp, wi_13, ↓tgb_19 hp, wi_19, ↓tgb_22 hp, ↓trb_22 hp, ↓tub_22 hp, wa_22, ↓tgb_25 hp, ↓trb_25 hp, ↓tub_25 hp, wa_25, ↓tgb_28 hp, ↓trb_28 hp, ↓tub_28 hp, wa_28, ↓tgb_31 hp, ↓trb_31 hp, ↓tub_31 hp, wa_31, ↓tgb_32 hp, ↓trb_32 hp, ↓tub_32 hp, wa_32, ↓tgb_33 hp, ↓trb_33 hp, ↓tub_33 hp, wa_33, ↓tw_rcb hp, n18, jv_tsl, q2, k1, h19, hcnt, g0, ↓jbR r1, ↓jbR r2]
end
