/-! the component: where to look -/
theorem wk_skip {T : Tx} {r tc tw : Nat → Int32} {k w h x v a : Nat} : ∀ {m : Nat}, wc T r tc tw k w h (a + m) = wc T r tc tw k w h a → wk_n T r tc tw k w h x v (a + m) = wk_n T r tc tw k w h x v a := by
  intro m
  induction m with
  | zero => intro _; rfl
  | succ m ih =>
    intro he
    have h1 : wc T r tc tw k w h (a + (m + 1)) = if ws_b T r tc tw k w h (a + m) = true then wc T r tc tw k w h (a + m) + 1 else wc T r tc tw k w h (a + m) := rfl
    have h2 : wk_n T r tc tw k w h x v (a + (m + 1)) = if ws_b T r tc tw k w h (a + m) = true ∧ wy_v T r ((a + m) / 64) w h ((a + m) % 8) ((a + m) / 8 % 8) x = nI v then wk_n T r tc tw k w h x v (a + m) + 1 else wk_n T r tc tw k w h x v (a + m) := rfl
    have hm : wc T r tc tw k w h a ≤ wc T r tc tw k w h (a + m) := by
      clear ih he h1 h2
      induction m with
      | zero => exact Nat.le_refl _
      | succ m ih =>
        have h1 : wc T r tc tw k w h (a + (m + 1)) = if ws_b T r tc tw k w h (a + m) = true then wc T r tc tw k w h (a + m) + 1 else wc T r tc tw k w h (a + m) := rfl
        rw [h1]
        split <;> omega
    cases hb : ws_b T r tc tw k w h (a + m) with
    | true => rw [h1, hb, if_pos rfl] at he; omega
    | false =>
      rw [h1, hb, if_neg (by decide)] at he
      rw [h2, hb, if_neg (by simp)]
      exact ih he
theorem wc_mono {T : Tx} {r tc tw : Nat → Int32} {k w h a b : Nat} (hab : a ≤ b) : wc T r tc tw k w h a ≤ wc T r tc tw k w h b := by
  obtain ⟨m, rfl⟩ := Nat.le.dest hab
  clear hab
  induction m with
  | zero => exact Nat.le_refl _
  | succ m ih =>
    have h1 : wc T r tc tw k w h (a + (m + 1)) = if ws_b T r tc tw k w h (a + m) = true then wc T r tc tw k w h (a + m) + 1 else wc T r tc tw k w h (a + m) := rfl
    rw [h1]
    split <;> omega
/-- the i-th way -/
theorem wi_some {T : Tx} {r tc tw : Nat → Int32} {k w h i : Nat} (hi : i < wc T r tc tw k w h 256) : ∃ m, wi T r tc tw k w h (nI i) = some m ∧ ws_b T r tc tw k w h m = true ∧ wc T r tc tw k w h m = i ∧ m < 256 := by
  have hle := wc_le (T := T) (r := r) (tc := tc) (tw := tw) (k := k) (w := w) (h := h)
  have h256 := hle 256
  cases hw : wi T r tc tw k w h (nI i) with
  | some m =>
    obtain ⟨h1, h2, h3⟩ := ff_some hw
    rw [Bool.and_eq_true] at h1
    have := of_decide_eq_true h1.2
    have hm := hle m
    rw [nI_eq (by omega) (by omega)] at this
    exact ⟨m, rfl, h1.1, this, by omega⟩
  | none =>
    exfalso
    have hn := ff_none hw
    have key : ∀ m, m ≤ 256 → wc T r tc tw k w h m ≤ i := by
      intro m
      induction m with
      | zero => intro _; exact Nat.zero_le _
      | succ m ih =>
        intro hm
        have ih := ih (by omega)
        have h1 : wc T r tc tw k w h (m + 1) = if ws_b T r tc tw k w h m = true then wc T r tc tw k w h m + 1 else wc T r tc tw k w h m := rfl
        rw [h1]
        split
        · rename_i hb
          have := hn m (by omega) (by omega)
          rw [hb, Bool.true_and, decide_eq_false_iff_not] at this
          have : wc T r tc tw k w h m ≠ i := fun e => this (by rw [e])
          omega
        · exact ih
    have := key 256 (Nat.le_refl _)
    omega
section
variable {d : Nat} {o r : jv_H} {c : cm_S} {g : Nat → Option jv_C} {T : Tx} {R : Nat → Int32} {k : Kc}
variable {tc tw : Nat → Int32}
/-- counts of cells by wetness: rows 20.. -/
def wq (T : Tx) (R tc tw : Nat → Int32) (n w h m : Nat) (f : Nat → Nat → Int32) : Prop := ∀ x < 48, ∀ v < 10, f (20 + x) v = nI (wk_n T R tc tw n w h x v m)
/-- but the counts nothing differs -/
def cw (c : cm_S) (f : Nat → Nat → Int32) : cm_S := (c.1, fun i => if 20 ≤ i ∧ i < 68 then f i else c.2.1 i, c.2.2)
theorem cw2 {f : Nat → Nat → Int32} {i : Nat} (h : 20 ≤ i ∧ i < 68) : (cw c f).2.1 i = f i := if_pos h
theorem cw3 {f : Nat → Nat → Int32} {i : Nat} (h : i < 20 ∨ 68 ≤ i) : (cw c f).2.1 i = c.2.1 i := if_neg (by omega)
def fu (f : Nat → Nat → Int32) (i : Nat) (u : Nat → Int32) : Nat → Nat → Int32 := fun j => if j = i then u else f j
theorem fu1 {f : Nat → Nat → Int32} {i : Nat} {u : Nat → Int32} : fu f i u i = u := if_pos rfl
theorem fu2 {f : Nat → Nat → Int32} {i j : Nat} {u : Nat → Int32} (h : j ≠ i) : fu f i u j = f j := if_neg h
theorem cw_a {f : Nat → Nat → Int32} {i : Nat} {u : Nat → Int32} (h : 20 ≤ i ∧ i < 68) : cs_a (ck (cw c f) k) i u = ck (cw c (fu f i u)) k := by
  unfold ck cs_a cw fu cs_L
  refine Prod.ext rfl (Prod.ext (funext fun j => ?_) rfl)
  dsimp only
  by_cases e : j = i
  · subst e; simp [h]
  · simp [e]
theorem cw4 {f : Nat → Nat → Int32} : (cw c f).2.2 = c.2.2 := rfl
theorem cw1 {f : Nat → Nat → Int32} : (cw c f).1 = c.1 := rfl
theorem cw_id : cw c c.2.1 = c := by
  unfold cw
  refine Prod.ext rfl (Prod.ext (funext fun j => ?_) rfl)
  dsimp only
  split <;> rfl
theorem CS_cw {f : Nat → Nat → Int32} : CS c (cw c f) := ⟨⟨rfl, rfl, rfl, rfl, rfl⟩, ⟨rfl, rfl, rfl, rfl⟩, ⟨(c.2.2.1 0).2 10, (c.2.2.1 0).1 3, by rw [lk_id]; rfl⟩, fun n hn => rfl, rfl⟩
/-- one way is counted -/
theorem c_counts (ho : o.length = 50) (hG : ∀ c : cm_S, GH g (cm_h o c r)) (hX : XA g c.2.2.2.1 T) (hT : TW T) (hr : LR (c.2.2.1 0) R) {m w h : Nat} (hl : m / 64 < t_nl T) (hw : 1 ≤ w ∧ w ≤ 8) (hh : 1 ≤ h ∧ h ≤ 6) {n : Nat} {f : Nat → Nat → Int32} (hb : ws_b T R tc tw n w h m = true) (hf : wq T R tc tw n w h m f) : ∃ k' f', wq T R tc tw n w h (m + 1) f' ∧ jv_cd (d + 404) 170 [.ref 50, .int (nI (m / 64)), .int (nI w), .int (nI h), .int (nI (m % 8)), .int (nI (m / 8 % 8))] (cm_h o (ck (cw c f) k) r) = some (.inl none, cm_h o (ck (cw c f') k') r) := by
  have t4 := hT.2.2.2.1
  have hs : ∀ x v, wk_n T R tc tw n w h x v (m + 1) = if ws_b T R tc tw n w h m = true ∧ wy_v T R (m / 64) w h (m % 8) (m / 8 % 8) x = nI v then wk_n T R tc tw n w h x v m + 1 else wk_n T R tc tw n w h x v m := fun x v => rfl
  have hG' : ∀ f, XA g (cw c f).2.2.2.1 T := fun f => hX
  obtain ⟨⟨k', f', y7, y8, y9⟩, hI, h1⟩ := jl_inv (N := 48) (F := fun x (st : Kc × (Nat → Nat → Int32) × Option Value × Option Value × Option Value) => jv_ev (d + 403) 170 3 [some (.ref 50), some (.int (nI (m / 64))), some (.int (nI w)), some (.int (nI h)), some (.int (nI (m % 8))), some (.int (nI (m / 8 % 8))), some (.int (nI x)), st.2.2.1, st.2.2.2.1, st.2.2.2.2] [] (cm_h o (ck (cw c st.2.1) st.1) r)) (fun x st => (∀ z < x, ∀ v < 10, st.2.1 (20 + z) v = nI (wk_n T R tc tw n w h z v (m + 1))) ∧ ∀ z < 48, x ≤ z → ∀ v < 10, st.2.1 (20 + z) v = nI (wk_n T R tc tw n w h z v m)) (fun x hx st hI => by
    obtain ⟨k0, f0, z7, z8, z9⟩ := st
    dsimp only at hI ⊢
    obtain ⟨v, hv, ev⟩ := wy_r (T := T) (r := R) (l := m / 64) (w := w) (h := h) (x := m % 8) (y := m / 8 % 8) (c := x)
    have cur : f0 (20 + x) v = nI (wk_n T R tc tw n w h x v m) := hI.2 x hx (Nat.le_refl _) v (by omega)
    have i1 := fun F => m_isInL_b (d := d + 402) (h := cm_h o (ck (cw c f0) k0) r) (x := nI (x % 8) - nI (m % 8)) (l := 0) (m := w - 1) (by omega) (F := F)
    have i2 := fun F => m_isInL_b (d := d + 402) (h := cm_h o (ck (cw c f0) k0) r) (x := nI (x / 8) - nI (m / 8 % 8)) (l := 0) (m := h - 1) (by omega) (F := F)
    rw [show w - 1 + 1 = w by omega, ir_sub (by omega) (by omega) (by omega)] at i1
    rw [show h - 1 + 1 = h by omega, ir_sub (by omega) (by omega) (by omega)] at i2
    have g3 := hr.2.2.2.1 (m / 64) (by omega)
    /- how the invariant goes on -/
    have inv : ∀ f1 : Nat → Nat → Int32, f1 = fu f0 (20 + x) (upd (f0 (20 + x)) v (nI (wk_n T R tc tw n w h x v m + 1))) → (∀ z < x + 1, ∀ v < 10, f1 (20 + z) v = nI (wk_n T R tc tw n w h z v (m + 1))) ∧ ∀ z < 48, x + 1 ≤ z → ∀ v < 10, f1 (20 + z) v = nI (wk_n T R tc tw n w h z v m) := by
      intro f1 e1
      subst e1
      refine ⟨fun z hz u hu => ?_, fun z hz hz2 u hu => ?_⟩
      · by_cases e : z = x
        · subst e
          rw [fu1, hs, hb, ev]
          by_cases eu : u = v
          · subst eu
            rw [pk_us, if_pos ⟨rfl, rfl⟩]
          · rw [pk_un eu, if_neg (fun q => eu (by
              have := q.2
              rw [nI_eq (by omega) (by omega)] at this
              exact this.symm))]
            exact hI.2 z hx (Nat.le_refl _) u hu
        · rw [fu2 (by omega)]
          exact hI.1 z (by omega) u hu
      · rw [fu2 (by omega)]
        exact hI.2 z hz (by omega) u hu
    by_cases g1 : m % 8 ≤ x % 8 ∧ x % 8 < m % 8 + w
    · by_cases g2 : m / 8 % 8 ≤ x / 8 ∧ x / 8 < m / 8 % 8 + h
      · have ev2 : th T (m / 64) (x % 8 - m % 8) (R (48 + m / 64) + nI (x / 8 - m / 8 % 8)) = nI v := by
          unfold wy_v at ev
          rw [if_pos ⟨g1.1, g1.2, g2.1, g2.2⟩] at ev
          exact ev
        simp only [g1.1, g1.2, decide_true, Bool.and_self, b2i_t] at i1
        simp only [g2.1, g2.2, decide_true, Bool.and_self, b2i_t] at i2
        rw [pk_sub g1.1] at i1
        rw [pk_sub g2.1] at i2
        obtain ⟨k', hk⟩ := c_thread (d := d) (c := cw c f0) (k := k0) ho hG (hG' f0) hT hl (w := x % 8 - m % 8) (at_ := R (48 + m / 64) + nI (x / 8 - m / 8 % 8))
        rw [ev2] at hk
        simp only [cw4] at hk
        refine ⟨(k', fu f0 (20 + x) (upd (f0 (20 + x)) v (nI (wk_n T R tc tw n w h x v m + 1))), some (.int (nI (x % 8 - m % 8))), some (.int (nI (x / 8 - m / 8 % 8))), some (.int (nI 1))), inv _ rfl, ?_⟩
        rw [e170_3]
        simp (disch := omega) only [il_0, il_1, il_2, il_3, il_4, il_5, il_6, il_7, il_8, il_9, il_10, il_11, il_12, il_13, il_14, il_15, il_16, il_17, il_18, il_19, il_20, il_21, il_22, il_23, il_24, il_25, il_26, il_27, il_28, il_29, il_30, il_31, il_32, il_40, il_41, il_42, il_43, il_44, il_45, il_46, il_47, il_48, il_52, il_56, il_57, il_59, il_60, il_61, il_63, il_64, il_68, il_72, il_75, il_76, il_82, il_88, il_89, il_90, il_92, il_96, il_97, il_99, il_100, il_101, il_102, il_103, il_104, il_105, il_107, il_108, il_109, il_110, il_111, il_112, il_114, il_115, il_116, il_117, il_118, il_119, il_121, il_122, il_130, il_200, il_255, il_256, il_260, il_276, il_400, il_403, il_420, il_840, il_999, il_1000, il_2000, il_2001, il_2668, il_2760, il_9999, il_12345, il_1000000, il_1103515245, ↓im_1, ↓im_2, ↓im_8, ↓im_1000, nI_add, pk_mul, pk_sub, ↓pk_rem, pk_div, nm_add, nI_clamp, nI_ltI, nI_leI, nI_eq, nm_eq, mn_eq, mm_eq, nm_lt, mn_lt, nm_le, mn_le, nl_T, nl_F, nle_T, nle_F, ne_T, ne_F, b2i_0, b2i_1, b2i_n, nb_0, nb_1, or_false, false_or, or_true, true_or, and_true, true_and, and_false, false_and, or_self, and_self, not_true_eq_false, not_false_eq_true, ↓reduceIte, if_true, if_false, ↓jv_bs, ↓jv_ol, ↓jv_or, jv_tl, jv_tn, jo_T, ck_2_166_17, ck_6_43_16, ck_6_43_17, ck_6_73_16, ck_7_65_17, ck_30_10_19, su_F, e170_5, e170_7, e170_10, e170_12, e170_14, e170_15, e170_17, e170_18, e170_20, e170_22, e170_24, e170_25, e170_27, e170_28, e170_30, e170_32, e170_33, e170_34, e170_35, e170_36, e170_39, e170_42, e170_44, e170_45, e170_46, e170_47, e170_48, e170_51, e170_54, e170_55, e170_58, e170_59, e170_61, e170_62, e170_65, e170_67, e170_68, e170_70, e170_73, e170_74, e170_77, e170_78, e170_81, e170_82, e170_84, e170_85, e170_88, e170_91, e170_92, e170_93, e170_95, e170_96, e170_99, e170_102, e170_103, e170_104, e170_105, e170_106, e170_107, e170_108, e170_111, ↓cal_4b ho, ↓cg_50_24b ho, ↓cg_50_3b ho, ↓cg_50_7b ho, ↓cgl_3b ho, ↓cr_50b ho, ↓cr_51b ho, ↓cr_52b ho, ↓cr_59b ho, ↓crlb ho, ↓ct_150b ho, ↓ct_vb ho, ↓ctl_4b ho, ↓cw_vb ho, ↓cwl_4b ho, ci1, ci2, ca1, ca2, ca3, cL1, cL2, cL3, cL4, cx1, cx2, cx3, cx4, cy1, cy2, cy3, cy4, jn_0, Nat.reduceEqDiff, ↓i1, ↓i2, cw2, cw3, cw4, ck4, ck0, ck2, lk2, g3, ↓jbR hk, cur, cw_a]
      · have ev2 : nI v = nI 0 := by
          unfold wy_v at ev
          rw [if_neg (fun h => g2 ⟨h.2.2.1, h.2.2.2⟩)] at ev
          exact ev.symm
        have hv0 : v = 0 := by rw [nI_eq (by omega) (by omega)] at ev2; exact ev2
        subst hv0
        simp only [g1.1, g1.2, decide_true, Bool.and_self, b2i_t] at i1
        have e2 : (decide (m / 8 % 8 ≤ x / 8) && decide (x / 8 < m / 8 % 8 + h)) = false := by
          rw [Bool.and_eq_false_iff]
          by_cases g3 : m / 8 % 8 ≤ x / 8
          · exact Or.inr (decide_eq_false fun g4 => g2 ⟨g3, g4⟩)
          · exact Or.inl (decide_eq_false g3)
        simp only [e2, b2i_f] at i2
        rw [pk_sub g1.1] at i1
        by_cases g4 : m / 8 % 8 ≤ x / 8
        · rw [pk_sub g4] at i2
          refine ⟨(k0, fu f0 (20 + x) (upd (f0 (20 + x)) 0 (nI (wk_n T R tc tw n w h x 0 m + 1))), some (.int (nI (x % 8 - m % 8))), some (.int (nI (x / 8 - m / 8 % 8))), some (.int (nI 0))), inv _ rfl, ?_⟩
          rw [e170_3]
          simp (disch := omega) only [il_0, il_1, il_2, il_3, il_4, il_5, il_6, il_7, il_8, il_9, il_10, il_11, il_12, il_13, il_14, il_15, il_16, il_17, il_18, il_19, il_20, il_21, il_22, il_23, il_24, il_25, il_26, il_27, il_28, il_29, il_30, il_31, il_32, il_40, il_41, il_42, il_43, il_44, il_45, il_46, il_47, il_48, il_52, il_56, il_57, il_59, il_60, il_61, il_63, il_64, il_68, il_72, il_75, il_76, il_82, il_88, il_89, il_90, il_92, il_96, il_97, il_99, il_100, il_101, il_102, il_103, il_104, il_105, il_107, il_108, il_109, il_110, il_111, il_112, il_114, il_115, il_116, il_117, il_118, il_119, il_121, il_122, il_130, il_200, il_255, il_256, il_260, il_276, il_400, il_403, il_420, il_840, il_999, il_1000, il_2000, il_2001, il_2668, il_2760, il_9999, il_12345, il_1000000, il_1103515245, ↓im_1, ↓im_2, ↓im_8, ↓im_1000, nI_add, pk_mul, pk_sub, ↓pk_rem, pk_div, nm_add, nI_clamp, nI_ltI, nI_leI, nI_eq, nm_eq, mn_eq, mm_eq, nm_lt, mn_lt, nm_le, mn_le, nl_T, nl_F, nle_T, nle_F, ne_T, ne_F, b2i_0, b2i_1, b2i_n, nb_0, nb_1, or_false, false_or, or_true, true_or, and_true, true_and, and_false, false_and, or_self, and_self, not_true_eq_false, not_false_eq_true, ↓reduceIte, if_true, if_false, ↓jv_bs, ↓jv_ol, ↓jv_or, jv_tl, jv_tn, jo_T, ck_2_166_17, ck_6_43_16, ck_6_43_17, ck_6_73_16, ck_7_65_17, ck_30_10_19, su_F, e170_5, e170_7, e170_10, e170_12, e170_14, e170_15, e170_17, e170_18, e170_20, e170_22, e170_24, e170_25, e170_27, e170_28, e170_30, e170_32, e170_33, e170_34, e170_35, e170_36, e170_39, e170_42, e170_44, e170_45, e170_46, e170_47, e170_48, e170_51, e170_54, e170_55, e170_58, e170_59, e170_61, e170_62, e170_65, e170_67, e170_68, e170_70, e170_73, e170_74, e170_77, e170_78, e170_81, e170_82, e170_84, e170_85, e170_88, e170_91, e170_92, e170_93, e170_95, e170_96, e170_99, e170_102, e170_103, e170_104, e170_105, e170_106, e170_107, e170_108, e170_111, ↓cal_4b ho, ↓cg_50_24b ho, ↓cg_50_3b ho, ↓cg_50_7b ho, ↓cgl_3b ho, ↓cr_50b ho, ↓cr_51b ho, ↓cr_52b ho, ↓cr_59b ho, ↓crlb ho, ↓ct_150b ho, ↓ct_vb ho, ↓ctl_4b ho, ↓cw_vb ho, ↓cwl_4b ho, ci1, ci2, ca1, ca2, ca3, cL1, cL2, cL3, cL4, cx1, cx2, cx3, cx4, cy1, cy2, cy3, cy4, jn_0, Nat.reduceEqDiff, ↓i1, ↓i2, cw2, cw3, ck2, cur, cw_a]
        · refine ⟨(k0, fu f0 (20 + x) (upd (f0 (20 + x)) 0 (nI (wk_n T R tc tw n w h x 0 m + 1))), some (.int (nI (x % 8 - m % 8))), some (.int (nI (x / 8) - nI (m / 8 % 8))), some (.int (nI 0))), inv _ rfl, ?_⟩
          rw [e170_3]
          simp (disch := omega) only [il_0, il_1, il_2, il_3, il_4, il_5, il_6, il_7, il_8, il_9, il_10, il_11, il_12, il_13, il_14, il_15, il_16, il_17, il_18, il_19, il_20, il_21, il_22, il_23, il_24, il_25, il_26, il_27, il_28, il_29, il_30, il_31, il_32, il_40, il_41, il_42, il_43, il_44, il_45, il_46, il_47, il_48, il_52, il_56, il_57, il_59, il_60, il_61, il_63, il_64, il_68, il_72, il_75, il_76, il_82, il_88, il_89, il_90, il_92, il_96, il_97, il_99, il_100, il_101, il_102, il_103, il_104, il_105, il_107, il_108, il_109, il_110, il_111, il_112, il_114, il_115, il_116, il_117, il_118, il_119, il_121, il_122, il_130, il_200, il_255, il_256, il_260, il_276, il_400, il_403, il_420, il_840, il_999, il_1000, il_2000, il_2001, il_2668, il_2760, il_9999, il_12345, il_1000000, il_1103515245, ↓im_1, ↓im_2, ↓im_8, ↓im_1000, nI_add, pk_mul, pk_sub, ↓pk_rem, pk_div, nm_add, nI_clamp, nI_ltI, nI_leI, nI_eq, nm_eq, mn_eq, mm_eq, nm_lt, mn_lt, nm_le, mn_le, nl_T, nl_F, nle_T, nle_F, ne_T, ne_F, b2i_0, b2i_1, b2i_n, nb_0, nb_1, or_false, false_or, or_true, true_or, and_true, true_and, and_false, false_and, or_self, and_self, not_true_eq_false, not_false_eq_true, ↓reduceIte, if_true, if_false, ↓jv_bs, ↓jv_ol, ↓jv_or, jv_tl, jv_tn, jo_T, ck_2_166_17, ck_6_43_16, ck_6_43_17, ck_6_73_16, ck_7_65_17, ck_30_10_19, su_F, e170_5, e170_7, e170_10, e170_12, e170_14, e170_15, e170_17, e170_18, e170_20, e170_22, e170_24, e170_25, e170_27, e170_28, e170_30, e170_32, e170_33, e170_34, e170_35, e170_36, e170_39, e170_42, e170_44, e170_45, e170_46, e170_47, e170_48, e170_51, e170_54, e170_55, e170_58, e170_59, e170_61, e170_62, e170_65, e170_67, e170_68, e170_70, e170_73, e170_74, e170_77, e170_78, e170_81, e170_82, e170_84, e170_85, e170_88, e170_91, e170_92, e170_93, e170_95, e170_96, e170_99, e170_102, e170_103, e170_104, e170_105, e170_106, e170_107, e170_108, e170_111, ↓cal_4b ho, ↓cg_50_24b ho, ↓cg_50_3b ho, ↓cg_50_7b ho, ↓cgl_3b ho, ↓cr_50b ho, ↓cr_51b ho, ↓cr_52b ho, ↓cr_59b ho, ↓crlb ho, ↓ct_150b ho, ↓ct_vb ho, ↓ctl_4b ho, ↓cw_vb ho, ↓cwl_4b ho, ci1, ci2, ca1, ca2, ca3, cL1, cL2, cL3, cL4, cx1, cx2, cx3, cx4, cy1, cy2, cy3, cy4, jn_0, Nat.reduceEqDiff, ↓i1, ↓i2, cw2, cw3, ck2, cur, cw_a]
    · have ev2 : nI v = nI 0 := by
        unfold wy_v at ev
        rw [if_neg (fun h => g1 ⟨h.1, h.2.1⟩)] at ev
        exact ev.symm
      have hv0 : v = 0 := by rw [nI_eq (by omega) (by omega)] at ev2; exact ev2
      subst hv0
      have e1 : (decide (m % 8 ≤ x % 8) && decide (x % 8 < m % 8 + w)) = false := by
        rw [Bool.and_eq_false_iff]
        by_cases g3 : m % 8 ≤ x % 8
        · exact Or.inr (decide_eq_false fun g4 => g1 ⟨g3, g4⟩)
        · exact Or.inl (decide_eq_false g3)
      simp only [e1, b2i_f] at i1
      refine ⟨(k0, fu f0 (20 + x) (upd (f0 (20 + x)) 0 (nI (wk_n T R tc tw n w h x 0 m + 1))), some (.int (nI (x % 8) - nI (m % 8))), some (.int (nI (x / 8) - nI (m / 8 % 8))), some (.int (nI 0))), inv _ rfl, ?_⟩
      rw [e170_3]
      simp (disch := omega) only [il_0, il_1, il_2, il_3, il_4, il_5, il_6, il_7, il_8, il_9, il_10, il_11, il_12, il_13, il_14, il_15, il_16, il_17, il_18, il_19, il_20, il_21, il_22, il_23, il_24, il_25, il_26, il_27, il_28, il_29, il_30, il_31, il_32, il_40, il_41, il_42, il_43, il_44, il_45, il_46, il_47, il_48, il_52, il_56, il_57, il_59, il_60, il_61, il_63, il_64, il_68, il_72, il_75, il_76, il_82, il_88, il_89, il_90, il_92, il_96, il_97, il_99, il_100, il_101, il_102, il_103, il_104, il_105, il_107, il_108, il_109, il_110, il_111, il_112, il_114, il_115, il_116, il_117, il_118, il_119, il_121, il_122, il_130, il_200, il_255, il_256, il_260, il_276, il_400, il_403, il_420, il_840, il_999, il_1000, il_2000, il_2001, il_2668, il_2760, il_9999, il_12345, il_1000000, il_1103515245, ↓im_1, ↓im_2, ↓im_8, ↓im_1000, nI_add, pk_mul, ↓pk_rem, pk_div, nm_add, nI_clamp, nI_ltI, nI_leI, nI_eq, nm_eq, mn_eq, mm_eq, nm_lt, mn_lt, nm_le, mn_le, nl_T, nl_F, nle_T, nle_F, ne_T, ne_F, b2i_0, b2i_1, b2i_n, nb_0, nb_1, or_false, false_or, or_true, true_or, and_true, true_and, and_false, false_and, or_self, and_self, not_true_eq_false, not_false_eq_true, ↓reduceIte, if_true, if_false, ↓jv_bs, ↓jv_ol, ↓jv_or, jv_tl, jv_tn, jo_T, ck_2_166_17, ck_6_43_16, ck_6_43_17, ck_6_73_16, ck_7_65_17, ck_30_10_19, su_F, e170_5, e170_7, e170_10, e170_12, e170_14, e170_15, e170_17, e170_18, e170_20, e170_22, e170_24, e170_25, e170_27, e170_28, e170_30, e170_32, e170_33, e170_34, e170_35, e170_36, e170_39, e170_42, e170_44, e170_45, e170_46, e170_47, e170_48, e170_51, e170_54, e170_55, e170_58, e170_59, e170_61, e170_62, e170_65, e170_67, e170_68, e170_70, e170_73, e170_74, e170_77, e170_78, e170_81, e170_82, e170_84, e170_85, e170_88, e170_91, e170_92, e170_93, e170_95, e170_96, e170_99, e170_102, e170_103, e170_104, e170_105, e170_106, e170_107, e170_108, e170_111, ↓cal_4b ho, ↓cg_50_24b ho, ↓cg_50_3b ho, ↓cg_50_7b ho, ↓cgl_3b ho, ↓cr_50b ho, ↓cr_51b ho, ↓cr_52b ho, ↓cr_59b ho, ↓crlb ho, ↓ct_150b ho, ↓ct_vb ho, ↓ctl_4b ho, ↓cw_vb ho, ↓cwl_4b ho, ci1, ci2, ca1, ca2, ca3, cL1, cL2, cL3, cL4, cx1, cx2, cx3, cx4, cy1, cy2, cy3, cy4, jn_0, Nat.reduceEqDiff, sub_1 hw.1, ↓i1, cw2, cw3, ck2, cur, cw_a]) (s := (k, f, none, none, none)) ⟨fun z hz => absurd hz (Nat.not_lt_zero _), fun z hz _ v hv => hf z hz v hv⟩
  refine ⟨k', f', fun z hz v hv => hI.1 z hz v hv, Eq.trans ?_ (Eq.trans h1 ?_)⟩
  · simp (disch := omega) only [il_0, il_1, il_2, il_3, il_4, il_5, il_6, il_7, il_8, il_9, il_10, il_11, il_12, il_13, il_14, il_15, il_16, il_17, il_18, il_19, il_20, il_21, il_22, il_23, il_24, il_25, il_26, il_27, il_28, il_29, il_30, il_31, il_32, il_40, il_41, il_42, il_43, il_44, il_45, il_46, il_47, il_48, il_52, il_56, il_57, il_59, il_60, il_61, il_63, il_64, il_68, il_72, il_75, il_76, il_82, il_88, il_89, il_90, il_92, il_96, il_97, il_99, il_100, il_101, il_102, il_103, il_104, il_105, il_107, il_108, il_109, il_110, il_111, il_112, il_114, il_115, il_116, il_117, il_118, il_119, il_121, il_122, il_130, il_200, il_255, il_256, il_260, il_276, il_400, il_403, il_420, il_840, il_999, il_1000, il_2000, il_2001, il_2668, il_2760, il_9999, il_12345, il_1000000, il_1103515245, ↓im_1, ↓im_2, ↓im_8, ↓im_1000, nI_add, pk_mul, pk_sub, ↓pk_rem, pk_div, nm_add, nI_clamp, nI_ltI, nI_leI, nI_eq, nm_eq, mn_eq, mm_eq, nm_lt, mn_lt, nm_le, mn_le, nl_T, nl_F, nle_T, nle_F, ne_T, ne_F, b2i_0, b2i_1, b2i_n, nb_0, nb_1, or_false, false_or, or_true, true_or, and_true, true_and, and_false, false_and, or_self, and_self, not_true_eq_false, not_false_eq_true, ↓reduceIte, if_true, if_false, ↓jv_bs, ↓jv_ol, ↓jv_or, jv_tl, jv_tn, jo_T, ck_2_166_17, ck_6_43_16, ck_6_43_17, ck_6_73_16, ck_7_65_17, ck_30_10_19, su_F, e170_0, e170_1, ↓cal_4b ho, ↓cg_50_24b ho, ↓cg_50_3b ho, ↓cg_50_7b ho, ↓cgl_3b ho, ↓cr_50b ho, ↓cr_51b ho, ↓cr_52b ho, ↓cr_59b ho, ↓crlb ho, ↓ct_150b ho, ↓ct_vb ho, ↓ctl_4b ho, ↓cw_vb ho, ↓cwl_4b ho, ci1, ci2, ca1, ca2, ca3, cL1, cL2, cL3, cL4, cx1, cx2, cx3, cx4, cy1, cy2, cy3, cy4, jn_0, Nat.reduceEqDiff, n170]
  · simp (disch := omega) only [il_0, il_1, il_2, il_3, il_4, il_5, il_6, il_7, il_8, il_9, il_10, il_11, il_12, il_13, il_14, il_15, il_16, il_17, il_18, il_19, il_20, il_21, il_22, il_23, il_24, il_25, il_26, il_27, il_28, il_29, il_30, il_31, il_32, il_40, il_41, il_42, il_43, il_44, il_45, il_46, il_47, il_48, il_52, il_56, il_57, il_59, il_60, il_61, il_63, il_64, il_68, il_72, il_75, il_76, il_82, il_88, il_89, il_90, il_92, il_96, il_97, il_99, il_100, il_101, il_102, il_103, il_104, il_105, il_107, il_108, il_109, il_110, il_111, il_112, il_114, il_115, il_116, il_117, il_118, il_119, il_121, il_122, il_130, il_200, il_255, il_256, il_260, il_276, il_400, il_403, il_420, il_840, il_999, il_1000, il_2000, il_2001, il_2668, il_2760, il_9999, il_12345, il_1000000, il_1103515245, ↓im_1, ↓im_2, ↓im_8, ↓im_1000, nI_add, pk_mul, pk_sub, ↓pk_rem, pk_div, nm_add, nI_clamp, nI_ltI, nI_leI, nI_eq, nm_eq, mn_eq, mm_eq, nm_lt, mn_lt, nm_le, mn_le, nl_T, nl_F, nle_T, nle_F, ne_T, ne_F, b2i_0, b2i_1, b2i_n, nb_0, nb_1, or_false, false_or, or_true, true_or, and_true, true_and, and_false, false_and, or_self, and_self, not_true_eq_false, not_false_eq_true, ↓reduceIte, if_true, if_false, ↓jv_bs, ↓jv_ol, ↓jv_or, jv_tl, jv_tn, jo_T, ck_2_166_17, ck_6_43_16, ck_6_43_17, ck_6_73_16, ck_7_65_17, ck_30_10_19, su_F, e170_3, e170_5, e170_7, e170_114, ↓cal_4b ho, ↓cg_50_24b ho, ↓cg_50_3b ho, ↓cg_50_7b ho, ↓cgl_3b ho, ↓cr_50b ho, ↓cr_51b ho, ↓cr_52b ho, ↓cr_59b ho, ↓crlb ho, ↓ct_150b ho, ↓ct_vb ho, ↓ctl_4b ho, ↓cw_vb ho, ↓cwl_4b ho, ci1, ci2, ca1, ca2, ca3, cL1, cL2, cL3, cL4, cx1, cx2, cx3, cx4, cy1, cy2, cy3, cy4, jn_0, Nat.reduceEqDiff]
theorem cq_look (ho : o.length = 50) (hG : ∀ c : cm_S, GH g (cm_h o c r)) (hX : XA g c.2.2.2.1 T) (hT : TW T) (hr : LR (c.2.2.1 0) R) {nt : Nat} (hd : CD c nt tc tw) {z w h : Int32} : ∃ k' f', jv_cd (d + 407) 169 [.ref 50, .int z, .int w, .int h] (cm_h o (ck c k) r) = some (.inl (some (.int (f_look T R tc tw nt z w h))), cm_h o (ck (cw c f') k') r) := by
  have hd1 := hd.1
  have hd2 := hd.2.1
  unfold f_look
  cases h1 : ak_b nt z w h with
  | false =>
    refine ⟨k, c.2.1, ?_⟩
    rw [cw_id]
    unfold ak_b at h1
    cases a1 : ir z 0 (nt + 1) <;> cases a2 : ir w 1 9 <;> cases a3 : ir h 1 7 <;> first | (rw [a1, a2, a3] at h1; cases h1; done) | simp (disch := omega) only [il_0, il_1, il_2, il_3, il_4, il_5, il_6, il_7, il_8, il_9, il_10, il_11, il_12, il_13, il_14, il_15, il_16, il_17, il_18, il_19, il_20, il_21, il_22, il_23, il_24, il_25, il_26, il_27, il_28, il_29, il_30, il_31, il_32, il_40, il_41, il_42, il_43, il_44, il_45, il_46, il_47, il_48, il_52, il_56, il_57, il_59, il_60, il_61, il_63, il_64, il_68, il_72, il_75, il_76, il_82, il_88, il_89, il_90, il_92, il_96, il_97, il_99, il_100, il_101, il_102, il_103, il_104, il_105, il_107, il_108, il_109, il_110, il_111, il_112, il_114, il_115, il_116, il_117, il_118, il_119, il_121, il_122, il_130, il_200, il_255, il_256, il_260, il_276, il_400, il_403, il_420, il_840, il_999, il_1000, il_2000, il_2001, il_2668, il_2760, il_9999, il_12345, il_1000000, il_1103515245, ↓im_1, ↓im_2, ↓im_8, ↓im_1000, nI_add, pk_mul, pk_sub, ↓pk_rem, pk_div, nm_add, nI_clamp, nI_ltI, nI_leI, nI_eq, nm_eq, mn_eq, mm_eq, nm_lt, mn_lt, nm_le, mn_le, nl_T, nl_F, nle_T, nle_F, ne_T, ne_F, b2i_0, b2i_1, b2i_n, nb_0, nb_1, or_false, false_or, or_true, true_or, and_true, true_and, and_false, false_and, or_self, and_self, not_true_eq_false, not_false_eq_true, ↓reduceIte, if_true, if_false, ↓jv_bs, ↓jv_ol, ↓jv_or, jv_tl, jv_tn, jo_T, ck_2_166_17, ck_6_43_16, ck_6_43_17, ck_6_73_16, ck_7_65_17, ck_30_10_19, su_F, e169_0, e169_1, e169_2, e169_3, e169_6, e169_9, e169_12, e169_13, e169_14, e169_16, e169_19, e169_22, e169_23, e169_24, e169_26, e169_29, e169_32, e169_33, ↓cg_50_21b ho, ↓cg_50_24b ho, ↓cg_50_3b ho, ↓cr_50b ho, ↓cr_51b ho, ↓cr_52b ho, ↓cr_59b ho, ↓crlb ho, ↓ct_150b ho, ↓ct_vb ho, ↓cw_vb ho, ci1, ci2, ca1, ca2, ca3, cL1, cL2, cL3, cL4, cx1, cx2, cx3, cx4, cy1, cy2, cy3, cy4, jn_0, Nat.reduceEqDiff, n169, ck1, hd1, ↓m_isInL_b, Nat.reduceAdd, a1, a2, a3, b2i_t, b2i_f, Bool.false_and, Bool.false_eq_true]
  | true =>
    have h1c := h1
    unfold ak_b at h1c
    rw [Bool.and_eq_true, Bool.and_eq_true] at h1c
    obtain ⟨a1, a2, a3⟩ := h1c
    obtain ⟨n, w, h, rfl, rfl, rfl, hn, hw, hh⟩ := ak_T hd2 h1
    rw [nI_clamp (by omega), nI_clamp (by omega), nI_clamp (by omega), if_pos rfl]
    have hle := wc_le (T := T) (r := R) (tc := tc) (tw := tw) (k := n) (w := w) (h := h)
    have h256 := hle 256
    have hd' : ∀ f, CD (cw c f) nt tc tw := fun f => hd
    have hX' : ∀ f, XA g (cw c f).2.2.2.1 T := fun f => hX
    have hr' : ∀ f, LR ((cw c f).2.2.1 0) R := fun f => hr
    have ht4 := hT.2.2.2.1
    /- all counts nought -/
    obtain ⟨⟨f0, y7⟩, z0, e0⟩ := jl_inv (N := 48) (F := fun x (st : (Nat → Nat → Int32) × Option Value) => jv_ev (d + 406) 169 46 [some (.ref 50), some (.int (nI n)), some (.int (nI w)), some (.int (nI h)), some (.int (mI 2)), some (.int (nI 1000000)), some (.int (nI x)), st.2, none] [] (cm_h o (ck (cw c st.1) k) r)) (fun x st => ∀ z < x, ∀ v < 10, st.1 (20 + z) v = nI 0) (fun x hx st hI => by
      obtain ⟨f1, i1, e1⟩ := jl_inv (N := 10) (F := fun v (f : Nat → Nat → Int32) => jv_ev (d + 406) 169 56 [some (.ref 50), some (.int (nI n)), some (.int (nI w)), some (.int (nI h)), some (.int (mI 2)), some (.int (nI 1000000)), some (.int (nI x)), some (.int (nI v)), none] [] (cm_h o (ck (cw c f) k) r)) (fun v f => (∀ u < v, f (20 + x) u = nI 0) ∧ ∀ z < x, ∀ v < 10, f (20 + z) v = nI 0) (fun v hv f hI => by
        refine ⟨fu f (20 + x) (upd (f (20 + x)) v (nI 0)), ⟨fun u hu => ?_, fun z hz u hu => ?_⟩, ?_⟩
        · rw [fu1]
          by_cases e : u = v
          · subst e; exact pk_us
          · rw [pk_un e]; exact hI.1 u (by omega)
        · rw [fu2 (by omega)]; exact hI.2 z hz u hu
        · rw [e169_56]
          simp (disch := omega) only [il_0, il_1, il_2, il_3, il_4, il_5, il_6, il_7, il_8, il_9, il_10, il_11, il_12, il_13, il_14, il_15, il_16, il_17, il_18, il_19, il_20, il_21, il_22, il_23, il_24, il_25, il_26, il_27, il_28, il_29, il_30, il_31, il_32, il_40, il_41, il_42, il_43, il_44, il_45, il_46, il_47, il_48, il_52, il_56, il_57, il_59, il_60, il_61, il_63, il_64, il_68, il_72, il_75, il_76, il_82, il_88, il_89, il_90, il_92, il_96, il_97, il_99, il_100, il_101, il_102, il_103, il_104, il_105, il_107, il_108, il_109, il_110, il_111, il_112, il_114, il_115, il_116, il_117, il_118, il_119, il_121, il_122, il_130, il_200, il_255, il_256, il_260, il_276, il_400, il_403, il_420, il_840, il_999, il_1000, il_2000, il_2001, il_2668, il_2760, il_9999, il_12345, il_1000000, il_1103515245, ↓im_1, ↓im_2, ↓im_8, ↓im_1000, nI_add, pk_mul, pk_sub, ↓pk_rem, pk_div, nm_add, nI_clamp, nI_ltI, nI_leI, nI_eq, nm_eq, mn_eq, mm_eq, nm_lt, mn_lt, nm_le, mn_le, nl_T, nl_F, nle_T, nle_F, ne_T, ne_F, b2i_0, b2i_1, b2i_n, nb_0, nb_1, or_false, false_or, or_true, true_or, and_true, true_and, and_false, false_and, or_self, and_self, not_true_eq_false, not_false_eq_true, ↓reduceIte, if_true, if_false, ↓jv_bs, ↓jv_ol, ↓jv_or, jv_tl, jv_tn, jo_T, ck_2_166_17, ck_6_43_16, ck_6_43_17, ck_6_73_16, ck_7_65_17, ck_30_10_19, su_F, e169_58, e169_60, e169_63, e169_64, e169_67, e169_69, e169_70, e169_72, e169_73, e169_74, e169_77, ↓cg_50_21b ho, ↓cg_50_24b ho, ↓cg_50_3b ho, ↓cr_50b ho, ↓cr_51b ho, ↓cr_52b ho, ↓cr_59b ho, ↓crlb ho, ↓ct_150b ho, ↓ct_vb ho, ↓cw_vb ho, ci1, ci2, ca1, ca2, ca3, cL1, cL2, cL3, cL4, cx1, cx2, cx3, cx4, cy1, cy2, cy3, cy4, jn_0, Nat.reduceEqDiff, cw2, ck2, cw_a]) (s := st.1) ⟨fun u hu => absurd hu (Nat.not_lt_zero _), hI⟩
      refine ⟨(f1, some (.int (nI 10))), fun z hz v hv => ?_, Eq.trans ?_ (Eq.trans e1 ?_)⟩
      · by_cases e : z = x
        · subst e; exact i1.1 v hv
        · exact i1.2 z (by omega) v hv
      · rw [e169_46]
        simp (disch := omega) only [il_0, il_1, il_2, il_3, il_4, il_5, il_6, il_7, il_8, il_9, il_10, il_11, il_12, il_13, il_14, il_15, il_16, il_17, il_18, il_19, il_20, il_21, il_22, il_23, il_24, il_25, il_26, il_27, il_28, il_29, il_30, il_31, il_32, il_40, il_41, il_42, il_43, il_44, il_45, il_46, il_47, il_48, il_52, il_56, il_57, il_59, il_60, il_61, il_63, il_64, il_68, il_72, il_75, il_76, il_82, il_88, il_89, il_90, il_92, il_96, il_97, il_99, il_100, il_101, il_102, il_103, il_104, il_105, il_107, il_108, il_109, il_110, il_111, il_112, il_114, il_115, il_116, il_117, il_118, il_119, il_121, il_122, il_130, il_200, il_255, il_256, il_260, il_276, il_400, il_403, il_420, il_840, il_999, il_1000, il_2000, il_2001, il_2668, il_2760, il_9999, il_12345, il_1000000, il_1103515245, ↓im_1, ↓im_2, ↓im_8, ↓im_1000, nI_add, pk_mul, pk_sub, ↓pk_rem, pk_div, nm_add, nI_clamp, nI_ltI, nI_leI, nI_eq, nm_eq, mn_eq, mm_eq, nm_lt, mn_lt, nm_le, mn_le, nl_T, nl_F, nle_T, nle_F, ne_T, ne_F, b2i_0, b2i_1, b2i_n, nb_0, nb_1, or_false, false_or, or_true, true_or, and_true, true_and, and_false, false_and, or_self, and_self, not_true_eq_false, not_false_eq_true, ↓reduceIte, if_true, if_false, ↓jv_bs, ↓jv_ol, ↓jv_or, jv_tl, jv_tn, jo_T, ck_2_166_17, ck_6_43_16, ck_6_43_17, ck_6_73_16, ck_7_65_17, ck_30_10_19, su_F, e169_48, e169_50, e169_53, e169_54, ↓cg_50_21b ho, ↓cg_50_24b ho, ↓cg_50_3b ho, ↓cr_50b ho, ↓cr_51b ho, ↓cr_52b ho, ↓cr_59b ho, ↓crlb ho, ↓ct_150b ho, ↓ct_vb ho, ↓cw_vb ho, ci1, ci2, ca1, ca2, ca3, cL1, cL2, cL3, cL4, cx1, cx2, cx3, cx4, cy1, cy2, cy3, cy4, jn_0, Nat.reduceEqDiff]
      · simp (disch := omega) only [il_0, il_1, il_2, il_3, il_4, il_5, il_6, il_7, il_8, il_9, il_10, il_11, il_12, il_13, il_14, il_15, il_16, il_17, il_18, il_19, il_20, il_21, il_22, il_23, il_24, il_25, il_26, il_27, il_28, il_29, il_30, il_31, il_32, il_40, il_41, il_42, il_43, il_44, il_45, il_46, il_47, il_48, il_52, il_56, il_57, il_59, il_60, il_61, il_63, il_64, il_68, il_72, il_75, il_76, il_82, il_88, il_89, il_90, il_92, il_96, il_97, il_99, il_100, il_101, il_102, il_103, il_104, il_105, il_107, il_108, il_109, il_110, il_111, il_112, il_114, il_115, il_116, il_117, il_118, il_119, il_121, il_122, il_130, il_200, il_255, il_256, il_260, il_276, il_400, il_403, il_420, il_840, il_999, il_1000, il_2000, il_2001, il_2668, il_2760, il_9999, il_12345, il_1000000, il_1103515245, ↓im_1, ↓im_2, ↓im_8, ↓im_1000, nI_add, pk_mul, pk_sub, ↓pk_rem, pk_div, nm_add, nI_clamp, nI_ltI, nI_leI, nI_eq, nm_eq, mn_eq, mm_eq, nm_lt, mn_lt, nm_le, mn_le, nl_T, nl_F, nle_T, nle_F, ne_T, ne_F, b2i_0, b2i_1, b2i_n, nb_0, nb_1, or_false, false_or, or_true, true_or, and_true, true_and, and_false, false_and, or_self, and_self, not_true_eq_false, not_false_eq_true, ↓reduceIte, if_true, if_false, ↓jv_bs, ↓jv_ol, ↓jv_or, jv_tl, jv_tn, jo_T, ck_2_166_17, ck_6_43_16, ck_6_43_17, ck_6_73_16, ck_7_65_17, ck_30_10_19, su_F, e169_56, e169_58, e169_60, e169_80, e169_83, ↓cg_50_21b ho, ↓cg_50_24b ho, ↓cg_50_3b ho, ↓cr_50b ho, ↓cr_51b ho, ↓cr_52b ho, ↓cr_59b ho, ↓crlb ho, ↓ct_150b ho, ↓ct_vb ho, ↓cw_vb ho, ci1, ci2, ca1, ca2, ca3, cL1, cL2, cL3, cL4, cx1, cx2, cx3, cx4, cy1, cy2, cy3, cy4, jn_0, Nat.reduceEqDiff]) (s := (c.2.1, none)) (fun z hz => absurd hz (Nat.not_lt_zero _))
    rw [cw_id] at e0
    dsimp only at e0 z0
    /- the ways, one by one -/
    obtain ⟨k1, g1⟩ := cq_fell (d := d) (c := cw c f0) (k := k) ho hG (hX' f0) hT (hr' f0) (hd' f0) (x := nI n) (w := nI w) (h := nI h) (i := mI 1)
    have hf1 : f_fell T R tc tw nt (nI n) (nI w) (nI h) (mI 1) = nI (wc T R tc tw n w h 256) := by
      unfold f_fell
      rw [h1, nI_clamp (by omega), nI_clamp (by omega), nI_clamp (by omega), if_pos (by decide)]
      have : wi T R tc tw n w h (mI 1) = none := ff_all fun m h1 h2 => by
        have := hle m
        rw [Bool.and_eq_false_iff]
        right
        rw [decide_eq_false_iff_not, nm_eq (by omega) (by omega) (by omega)]
        exact id
      rw [this]
      exact if_pos rfl
    rw [hf1] at g1
    obtain ⟨⟨k2, f2, y8⟩, ⟨pp, hp1, hp2, hp3⟩, e2⟩ := jl_inv (N := wc T R tc tw n w h 256) (F := fun i (st : Kc × (Nat → Nat → Int32) × Option Value) => jv_ev (d + 406) 169 99 [some (.ref 50), some (.int (nI n)), some (.int (nI w)), some (.int (nI h)), some (.int (mI 2)), some (.int (nI 1000000)), some (.int (nI i)), some (.int (nI (wc T R tc tw n w h 256))), st.2.2] [] (cm_h o (ck (cw c st.2.1) st.1) r)) (fun i st => ∃ q, q ≤ 256 ∧ wc T R tc tw n w h q = i ∧ wq T R tc tw n w h q st.2.1) (fun i hi st hI => by
      obtain ⟨ks, fs, ys⟩ := st
      obtain ⟨q, hq1, hq2, hq3⟩ := hI
      obtain ⟨m, m1, m2, m3, m4⟩ := wi_some hi
      have hl := ws_lo m2
      obtain ⟨k3, g3⟩ := cq_fell (d := d) (c := cw c fs) (k := ks) ho hG (hX' fs) hT (hr' fs) (hd' fs) (x := nI n) (w := nI w) (h := nI h) (i := nI i)
      have hf2 : f_fell T R tc tw nt (nI n) (nI w) (nI h) (nI i) = wy_c m := by
        unfold f_fell
        rw [h1, nI_clamp (by omega), nI_clamp (by omega), nI_clamp (by omega), m1, if_pos (by
          have : ¬ nI i < mI 1 := by rw [nm_lt (by omega) (by omega)]; exact id
          simp [this])]
      rw [hf2] at g3
      have hqm : q ≤ m := by
        apply Nat.le_of_not_lt
        intro hlt
        have h2 : wc T R tc tw n w h (m + 1) = wc T R tc tw n w h m + 1 := by
          show (if ws_b T R tc tw n w h m = true then _ else _) = _
          rw [m2, if_pos rfl]
          rfl
        have := wc_mono (T := T) (r := R) (tc := tc) (tw := tw) (k := n) (w := w) (h := h) (show m + 1 ≤ q by omega)
        omega
      have hq4 : wq T R tc tw n w h m fs := fun x hx v hv => by
        obtain ⟨e, rfl⟩ := Nat.le.dest hqm
        rw [wk_skip (by rw [m3, hq2])]
        exact hq3 x hx v hv
      obtain ⟨k4, f4, w4, g4⟩ := c_counts (d := d + 2) (k := k3) ho hG hX hT hr hl hw hh m2 hq4
      refine ⟨(k4, f4, some (.int (wy_c m))), ⟨m + 1, by omega, ?_, w4⟩, ?_⟩
      · show (if ws_b T R tc tw n w h m = true then wc T R tc tw n w h m + 1 else _) = _
        rw [m2, if_pos rfl, m3]
      · have d1 : (100 * (m / 64) + 10 * (m / 8 % 8) + m % 8) / 100 = m / 64 := by omega
        have d2 : (100 * (m / 64) + 10 * (m / 8 % 8) + m % 8) % 10 = m % 8 := by omega
        have d3 : (100 * (m / 64) + 10 * (m / 8 % 8) + m % 8) / 10 % 10 = m / 8 % 8 := by omega
        unfold wy_c at g3 ⊢
        dsimp only
        rw [e169_99]
        simp (disch := omega) only [il_0, il_1, il_2, il_3, il_4, il_5, il_6, il_7, il_8, il_9, il_10, il_11, il_12, il_13, il_14, il_15, il_16, il_17, il_18, il_19, il_20, il_21, il_22, il_23, il_24, il_25, il_26, il_27, il_28, il_29, il_30, il_31, il_32, il_40, il_41, il_42, il_43, il_44, il_45, il_46, il_47, il_48, il_52, il_56, il_57, il_59, il_60, il_61, il_63, il_64, il_68, il_72, il_75, il_76, il_82, il_88, il_89, il_90, il_92, il_96, il_97, il_99, il_100, il_101, il_102, il_103, il_104, il_105, il_107, il_108, il_109, il_110, il_111, il_112, il_114, il_115, il_116, il_117, il_118, il_119, il_121, il_122, il_130, il_200, il_255, il_256, il_260, il_276, il_400, il_403, il_420, il_840, il_999, il_1000, il_2000, il_2001, il_2668, il_2760, il_9999, il_12345, il_1000000, il_1103515245, ↓im_1, ↓im_2, ↓im_8, ↓im_1000, nI_add, pk_mul, pk_sub, ↓pk_rem, pk_div, nm_add, nI_clamp, nI_ltI, nI_leI, nI_eq, nm_eq, mn_eq, mm_eq, nm_lt, mn_lt, nm_le, mn_le, nl_T, nl_F, nle_T, nle_F, ne_T, ne_F, b2i_0, b2i_1, b2i_n, nb_0, nb_1, or_false, false_or, or_true, true_or, and_true, true_and, and_false, false_and, or_self, and_self, not_true_eq_false, not_false_eq_true, ↓reduceIte, if_true, if_false, ↓jv_bs, ↓jv_ol, ↓jv_or, jv_tl, jv_tn, jo_T, ck_2_166_17, ck_6_43_16, ck_6_43_17, ck_6_73_16, ck_7_65_17, ck_30_10_19, su_F, e169_101, e169_103, e169_106, e169_107, e169_108, e169_109, e169_110, e169_112, e169_115, e169_117, e169_118, e169_120, e169_122, e169_123, e169_124, e169_125, e169_127, e169_129, e169_130, e169_132, e169_134, e169_135, e169_137, e169_138, e169_141, e169_144, ↓cg_50_21b ho, ↓cg_50_24b ho, ↓cg_50_3b ho, ↓cr_50b ho, ↓cr_51b ho, ↓cr_52b ho, ↓cr_59b ho, ↓crlb ho, ↓ct_150b ho, ↓ct_vb ho, ↓cw_vb ho, ci1, ci2, ca1, ca2, ca3, cL1, cL2, cL3, cL4, cx1, cx2, cx3, cx4, cy1, cy2, cy3, cy4, jn_0, Nat.reduceEqDiff, ↓jbR g3, d1, d2, d3, ↓jbR g4]) (s := (k1, f0, none)) ⟨0, by omega, rfl, fun x hx v hv => (z0 x hx v hv).trans rfl⟩
    dsimp only at hp3 e2
    have hq5 : wq T R tc tw n w h 256 f2 := fun x hx v hv => by
      obtain ⟨e, he⟩ := Nat.le.dest hp1
      rw [← he, wk_skip (by rw [he, hp2])]
      exact hp3 x hx v hv
    /- the best cell -/
    obtain ⟨⟨x4, x5, x7, x8⟩, i3, e3⟩ := jl_inv (N := 48) (F := fun x (st : Int32 × Int32 × Option Value × Option Value) => jv_ev (d + 406) 169 150 [some (.ref 50), some (.int (nI n)), some (.int (nI w)), some (.int (nI h)), some (.int st.1), some (.int st.2.1), some (.int (nI x)), st.2.2.1, st.2.2.2] [] (cm_h o (ck (cw c f2) k2) r)) (fun x st => match it (lo_s T R tc tw n w h) x none with
      | none => st.1 = mI 2 ∧ st.2.1 = nI 1000000
      | some m => st.1 = nI m ∧ st.2.1 = nI (wk_m T R tc tw n w h m)) (fun x hx st hI => by
      obtain ⟨u4, u5, u7, u8⟩ := st
      have hmx : jv_ev (d + 406) 169 150 [some (.ref 50), some (.int (nI n)), some (.int (nI w)), some (.int (nI h)), some (.int u4), some (.int u5), some (.int (nI x)), u7, u8] [] (cm_h o (ck (cw c f2) k2) r) = jv_ev (d + 406) 169 193 [some (.ref 50), some (.int (nI n)), some (.int (nI w)), some (.int (nI h)), some (.int u4), some (.int u5), some (.int (nI x)), some (.int (nI (wk_m T R tc tw n w h x))), some (.int (nI 10))] [] (cm_h o (ck (cw c f2) k2) r) := by
        have hl := jl_0 (N := 10) (F := fun v => jv_ev (d + 406) 169 163 [some (.ref 50), some (.int (nI n)), some (.int (nI w)), some (.int (nI h)), some (.int u4), some (.int u5), some (.int (nI x)), some (.int (nI (it (fun v a => max a (wk_n T R tc tw n w h x v 256)) v 0))), some (.int (nI v))] [] (cm_h o (ck (cw c f2) k2) r)) (fun v hv => by
          have cur := hq5 x hx v hv
          have hw1 := wk_le (T := T) (r := R) (tc := tc) (tw := tw) (k := n) (w := w) (h := h) (c := x) (v := v) 256
          have hm : it (fun v a => max a (wk_n T R tc tw n w h x v 256)) v 0 ≤ 256 := it_ind (P := fun a => a ≤ 256) (by omega) fun u _ a ha => by
            have := wk_le (T := T) (r := R) (tc := tc) (tw := tw) (k := n) (w := w) (h := h) (c := x) (v := u) 256
            omega
          rw [it_s]
          generalize it (fun v a => max a (wk_n T R tc tw n w h x v 256)) v 0 = a at hm ⊢
          rw [e169_163]
          by_cases g : a < wk_n T R tc tw n w h x v 256
          · rw [Nat.max_eq_right (by omega)]
            simp (disch := omega) only [il_0, il_1, il_2, il_3, il_4, il_5, il_6, il_7, il_8, il_9, il_10, il_11, il_12, il_13, il_14, il_15, il_16, il_17, il_18, il_19, il_20, il_21, il_22, il_23, il_24, il_25, il_26, il_27, il_28, il_29, il_30, il_31, il_32, il_40, il_41, il_42, il_43, il_44, il_45, il_46, il_47, il_48, il_52, il_56, il_57, il_59, il_60, il_61, il_63, il_64, il_68, il_72, il_75, il_76, il_82, il_88, il_89, il_90, il_92, il_96, il_97, il_99, il_100, il_101, il_102, il_103, il_104, il_105, il_107, il_108, il_109, il_110, il_111, il_112, il_114, il_115, il_116, il_117, il_118, il_119, il_121, il_122, il_130, il_200, il_255, il_256, il_260, il_276, il_400, il_403, il_420, il_840, il_999, il_1000, il_2000, il_2001, il_2668, il_2760, il_9999, il_12345, il_1000000, il_1103515245, ↓im_1, ↓im_2, ↓im_8, ↓im_1000, nI_add, pk_mul, pk_sub, ↓pk_rem, pk_div, nm_add, nI_clamp, nI_ltI, nI_leI, nI_eq, nm_eq, mn_eq, mm_eq, nm_lt, mn_lt, nm_le, mn_le, nl_T, nl_F, nle_T, nle_F, ne_T, ne_F, b2i_0, b2i_1, b2i_n, nb_0, nb_1, or_false, false_or, or_true, true_or, and_true, true_and, and_false, false_and, or_self, and_self, not_true_eq_false, not_false_eq_true, ↓reduceIte, if_true, if_false, ↓jv_bs, ↓jv_ol, ↓jv_or, jv_tl, jv_tn, jo_T, ck_2_166_17, ck_6_43_16, ck_6_43_17, ck_6_73_16, ck_7_65_17, ck_30_10_19, su_F, e169_165, e169_167, e169_170, e169_172, e169_173, e169_176, e169_178, e169_179, e169_181, e169_182, e169_185, e169_187, e169_190, ↓cg_50_21b ho, ↓cg_50_24b ho, ↓cg_50_3b ho, ↓cr_50b ho, ↓cr_51b ho, ↓cr_52b ho, ↓cr_59b ho, ↓crlb ho, ↓ct_150b ho, ↓ct_vb ho, ↓cw_vb ho, ci1, ci2, ca1, ca2, ca3, cL1, cL2, cL3, cL4, cx1, cx2, cx3, cx4, cy1, cy2, cy3, cy4, jn_0, Nat.reduceEqDiff, cw2, ck2, cur, ↓m_max_b]
          · rw [Nat.max_eq_left (by omega)]
            simp (disch := omega) only [il_0, il_1, il_2, il_3, il_4, il_5, il_6, il_7, il_8, il_9, il_10, il_11, il_12, il_13, il_14, il_15, il_16, il_17, il_18, il_19, il_20, il_21, il_22, il_23, il_24, il_25, il_26, il_27, il_28, il_29, il_30, il_31, il_32, il_40, il_41, il_42, il_43, il_44, il_45, il_46, il_47, il_48, il_52, il_56, il_57, il_59, il_60, il_61, il_63, il_64, il_68, il_72, il_75, il_76, il_82, il_88, il_89, il_90, il_92, il_96, il_97, il_99, il_100, il_101, il_102, il_103, il_104, il_105, il_107, il_108, il_109, il_110, il_111, il_112, il_114, il_115, il_116, il_117, il_118, il_119, il_121, il_122, il_130, il_200, il_255, il_256, il_260, il_276, il_400, il_403, il_420, il_840, il_999, il_1000, il_2000, il_2001, il_2668, il_2760, il_9999, il_12345, il_1000000, il_1103515245, ↓im_1, ↓im_2, ↓im_8, ↓im_1000, nI_add, pk_mul, pk_sub, ↓pk_rem, pk_div, nm_add, nI_clamp, nI_ltI, nI_leI, nI_eq, nm_eq, mn_eq, mm_eq, nm_lt, mn_lt, nm_le, mn_le, nl_T, nl_F, nle_T, nle_F, ne_T, ne_F, b2i_0, b2i_1, b2i_n, nb_0, nb_1, or_false, false_or, or_true, true_or, and_true, true_and, and_false, false_and, or_self, and_self, not_true_eq_false, not_false_eq_true, ↓reduceIte, if_true, if_false, ↓jv_bs, ↓jv_ol, ↓jv_or, jv_tl, jv_tn, jo_T, ck_2_166_17, ck_6_43_16, ck_6_43_17, ck_6_73_16, ck_7_65_17, ck_30_10_19, su_F, e169_165, e169_167, e169_170, e169_172, e169_173, e169_176, e169_178, e169_179, e169_181, e169_182, e169_185, e169_187, e169_190, ↓cg_50_21b ho, ↓cg_50_24b ho, ↓cg_50_3b ho, ↓cr_50b ho, ↓cr_51b ho, ↓cr_52b ho, ↓cr_59b ho, ↓crlb ho, ↓ct_150b ho, ↓ct_vb ho, ↓cw_vb ho, ci1, ci2, ca1, ca2, ca3, cL1, cL2, cL3, cL4, cx1, cx2, cx3, cx4, cy1, cy2, cy3, cy4, jn_0, Nat.reduceEqDiff, cw2, ck2, cur, ↓m_max_b])
        refine Eq.trans ?_ (Eq.trans hl ?_)
        · rw [e169_150]
          simp (disch := omega) only [il_0, il_1, il_2, il_3, il_4, il_5, il_6, il_7, il_8, il_9, il_10, il_11, il_12, il_13, il_14, il_15, il_16, il_17, il_18, il_19, il_20, il_21, il_22, il_23, il_24, il_25, il_26, il_27, il_28, il_29, il_30, il_31, il_32, il_40, il_41, il_42, il_43, il_44, il_45, il_46, il_47, il_48, il_52, il_56, il_57, il_59, il_60, il_61, il_63, il_64, il_68, il_72, il_75, il_76, il_82, il_88, il_89, il_90, il_92, il_96, il_97, il_99, il_100, il_101, il_102, il_103, il_104, il_105, il_107, il_108, il_109, il_110, il_111, il_112, il_114, il_115, il_116, il_117, il_118, il_119, il_121, il_122, il_130, il_200, il_255, il_256, il_260, il_276, il_400, il_403, il_420, il_840, il_999, il_1000, il_2000, il_2001, il_2668, il_2760, il_9999, il_12345, il_1000000, il_1103515245, ↓im_1, ↓im_2, ↓im_8, ↓im_1000, nI_add, pk_mul, pk_sub, ↓pk_rem, pk_div, nm_add, nI_clamp, nI_ltI, nI_leI, nI_eq, nm_eq, mn_eq, mm_eq, nm_lt, mn_lt, nm_le, mn_le, nl_T, nl_F, nle_T, nle_F, ne_T, ne_F, b2i_0, b2i_1, b2i_n, nb_0, nb_1, or_false, false_or, or_true, true_or, and_true, true_and, and_false, false_and, or_self, and_self, not_true_eq_false, not_false_eq_true, ↓reduceIte, if_true, if_false, ↓jv_bs, ↓jv_ol, ↓jv_or, jv_tl, jv_tn, jo_T, ck_2_166_17, ck_6_43_16, ck_6_43_17, ck_6_73_16, ck_7_65_17, ck_30_10_19, su_F, e169_152, e169_154, e169_157, e169_158, e169_160, e169_161, ↓cg_50_21b ho, ↓cg_50_24b ho, ↓cg_50_3b ho, ↓cr_50b ho, ↓cr_51b ho, ↓cr_52b ho, ↓cr_59b ho, ↓crlb ho, ↓ct_150b ho, ↓ct_vb ho, ↓cw_vb ho, ci1, ci2, ca1, ca2, ca3, cL1, cL2, cL3, cL4, cx1, cx2, cx3, cx4, cy1, cy2, cy3, cy4, jn_0, Nat.reduceEqDiff, it_0]
        · simp (disch := omega) only [il_0, il_1, il_2, il_3, il_4, il_5, il_6, il_7, il_8, il_9, il_10, il_11, il_12, il_13, il_14, il_15, il_16, il_17, il_18, il_19, il_20, il_21, il_22, il_23, il_24, il_25, il_26, il_27, il_28, il_29, il_30, il_31, il_32, il_40, il_41, il_42, il_43, il_44, il_45, il_46, il_47, il_48, il_52, il_56, il_57, il_59, il_60, il_61, il_63, il_64, il_68, il_72, il_75, il_76, il_82, il_88, il_89, il_90, il_92, il_96, il_97, il_99, il_100, il_101, il_102, il_103, il_104, il_105, il_107, il_108, il_109, il_110, il_111, il_112, il_114, il_115, il_116, il_117, il_118, il_119, il_121, il_122, il_130, il_200, il_255, il_256, il_260, il_276, il_400, il_403, il_420, il_840, il_999, il_1000, il_2000, il_2001, il_2668, il_2760, il_9999, il_12345, il_1000000, il_1103515245, ↓im_1, ↓im_2, ↓im_8, ↓im_1000, nI_add, pk_mul, pk_sub, ↓pk_rem, pk_div, nm_add, nI_clamp, nI_ltI, nI_leI, nI_eq, nm_eq, mn_eq, mm_eq, nm_lt, mn_lt, nm_le, mn_le, nl_T, nl_F, nle_T, nle_F, ne_T, ne_F, b2i_0, b2i_1, b2i_n, nb_0, nb_1, or_false, false_or, or_true, true_or, and_true, true_and, and_false, false_and, or_self, and_self, not_true_eq_false, not_false_eq_true, ↓reduceIte, if_true, if_false, ↓jv_bs, ↓jv_ol, ↓jv_or, jv_tl, jv_tn, jo_T, ck_2_166_17, ck_6_43_16, ck_6_43_17, ck_6_73_16, ck_7_65_17, ck_30_10_19, su_F, e169_163, e169_165, e169_167, ↓cg_50_21b ho, ↓cg_50_24b ho, ↓cg_50_3b ho, ↓cr_50b ho, ↓cr_51b ho, ↓cr_52b ho, ↓cr_59b ho, ↓crlb ho, ↓ct_150b ho, ↓ct_vb ho, ↓cw_vb ho, ci1, ci2, ca1, ca2, ca3, cL1, cL2, cL3, cL4, cx1, cx2, cx3, cx4, cy1, cy2, cy3, cy4, jn_0, Nat.reduceEqDiff, wk_m]
      have hwm := wm_le (T := T) (tc := tc) (tw := tw) (r := R) (k := n) (w := w) (h := h) (c := x)
      have q0 : jv_rc (cm_h o (ck (cw c f2) k2) r) c.2.2.2.1 [(5, 211)] = some 211 := (tx_i hX (hG _)).2.2.2.2.2 _
      have q1 := fun F => m_tIsOn_b (d := d + 404) hX hT (hG (ck (cw c f2) k2)) hx (F := F)
      dsimp only at hI ⊢
      rw [hmx, it_s]
      generalize it (lo_s T R tc tw n w h) x none = a at hI ⊢
      unfold lo_s
      cases hon : t_on T x with
      | false =>
        simp only [hon, b2i_f] at q1
        refine ⟨(u4, u5, some (.int (nI (wk_m T R tc tw n w h x))), some (.int (nI 10))), hI, ?_⟩
        simp (disch := omega) only [il_0, il_1, il_2, il_3, il_4, il_5, il_6, il_7, il_8, il_9, il_10, il_11, il_12, il_13, il_14, il_15, il_16, il_17, il_18, il_19, il_20, il_21, il_22, il_23, il_24, il_25, il_26, il_27, il_28, il_29, il_30, il_31, il_32, il_40, il_41, il_42, il_43, il_44, il_45, il_46, il_47, il_48, il_52, il_56, il_57, il_59, il_60, il_61, il_63, il_64, il_68, il_72, il_75, il_76, il_82, il_88, il_89, il_90, il_92, il_96, il_97, il_99, il_100, il_101, il_102, il_103, il_104, il_105, il_107, il_108, il_109, il_110, il_111, il_112, il_114, il_115, il_116, il_117, il_118, il_119, il_121, il_122, il_130, il_200, il_255, il_256, il_260, il_276, il_400, il_403, il_420, il_840, il_999, il_1000, il_2000, il_2001, il_2668, il_2760, il_9999, il_12345, il_1000000, il_1103515245, ↓im_1, ↓im_2, ↓im_8, ↓im_1000, nI_add, pk_mul, pk_sub, ↓pk_rem, pk_div, nm_add, nI_clamp, nI_ltI, nI_leI, nI_eq, nm_eq, mn_eq, mm_eq, nm_lt, mn_lt, nm_le, mn_le, nl_T, nl_F, nle_T, nle_F, ne_T, ne_F, b2i_0, b2i_1, b2i_n, nb_0, nb_1, or_false, false_or, or_true, true_or, and_true, true_and, and_false, false_and, or_self, and_self, not_true_eq_false, not_false_eq_true, ↓reduceIte, if_true, if_false, ↓jv_bs, ↓jv_ol, ↓jv_or, jv_tl, jv_tn, jo_T, ck_2_166_17, ck_6_43_16, ck_6_43_17, ck_6_73_16, ck_7_65_17, ck_30_10_19, su_F, e169_193, e169_194, e169_197, e169_199, e169_202, e169_205, e169_207, e169_209, e169_212, e169_215, e169_217, e169_219, e169_221, e169_223, e169_226, ↓cg_50_21b ho, ↓cg_50_24b ho, ↓cg_50_3b ho, ↓cr_50b ho, ↓cr_51b ho, ↓cr_52b ho, ↓cr_59b ho, ↓crlb ho, ↓ct_150b ho, ↓ct_vb ho, ↓cw_vb ho, ci1, ci2, ca1, ca2, ca3, cL1, cL2, cL3, cL4, cx1, cx2, cx3, cx4, cy1, cy2, cy3, cy4, jn_0, Nat.reduceEqDiff, ck4, cw4, ↓jbN q0, ↓q1]
      | true =>
        simp only [hon, b2i_t] at q1
        cases a with
        | none =>
          obtain ⟨h4, h5⟩ := hI
          refine ⟨(nI x, nI (wk_m T R tc tw n w h x), some (.int (nI (wk_m T R tc tw n w h x))), some (.int (nI 10))), ⟨rfl, rfl⟩, ?_⟩
          simp (disch := omega) only [il_0, il_1, il_2, il_3, il_4, il_5, il_6, il_7, il_8, il_9, il_10, il_11, il_12, il_13, il_14, il_15, il_16, il_17, il_18, il_19, il_20, il_21, il_22, il_23, il_24, il_25, il_26, il_27, il_28, il_29, il_30, il_31, il_32, il_40, il_41, il_42, il_43, il_44, il_45, il_46, il_47, il_48, il_52, il_56, il_57, il_59, il_60, il_61, il_63, il_64, il_68, il_72, il_75, il_76, il_82, il_88, il_89, il_90, il_92, il_96, il_97, il_99, il_100, il_101, il_102, il_103, il_104, il_105, il_107, il_108, il_109, il_110, il_111, il_112, il_114, il_115, il_116, il_117, il_118, il_119, il_121, il_122, il_130, il_200, il_255, il_256, il_260, il_276, il_400, il_403, il_420, il_840, il_999, il_1000, il_2000, il_2001, il_2668, il_2760, il_9999, il_12345, il_1000000, il_1103515245, ↓im_1, ↓im_2, ↓im_8, ↓im_1000, nI_add, pk_mul, pk_sub, ↓pk_rem, pk_div, nm_add, nI_clamp, nI_ltI, nI_leI, nI_eq, nm_eq, mn_eq, mm_eq, nm_lt, mn_lt, nm_le, mn_le, nl_T, nl_F, nle_T, nle_F, ne_T, ne_F, b2i_0, b2i_1, b2i_n, nb_0, nb_1, or_false, false_or, or_true, true_or, and_true, true_and, and_false, false_and, or_self, and_self, not_true_eq_false, not_false_eq_true, ↓reduceIte, if_true, if_false, ↓jv_bs, ↓jv_ol, ↓jv_or, jv_tl, jv_tn, jo_T, ck_2_166_17, ck_6_43_16, ck_6_43_17, ck_6_73_16, ck_7_65_17, ck_30_10_19, su_F, e169_193, e169_194, e169_197, e169_199, e169_202, e169_205, e169_207, e169_209, e169_212, e169_215, e169_217, e169_219, e169_221, e169_223, e169_226, ↓cg_50_21b ho, ↓cg_50_24b ho, ↓cg_50_3b ho, ↓cr_50b ho, ↓cr_51b ho, ↓cr_52b ho, ↓cr_59b ho, ↓crlb ho, ↓ct_150b ho, ↓ct_vb ho, ↓cw_vb ho, ci1, ci2, ca1, ca2, ca3, cL1, cL2, cL3, cL4, cx1, cx2, cx3, cx4, cy1, cy2, cy3, cy4, jn_0, Nat.reduceEqDiff, ck4, cw4, ↓jbN q0, ↓q1, h4, h5]
        | some m =>
          obtain ⟨h4, h5⟩ := hI
          have hwm2 := wm_le (T := T) (tc := tc) (tw := tw) (r := R) (k := n) (w := w) (h := h) (c := m)
          by_cases h0 : wk_m T R tc tw n w h x < wk_m T R tc tw n w h m
          · simp only [h0, if_true]
            refine ⟨(nI x, nI (wk_m T R tc tw n w h x), some (.int (nI (wk_m T R tc tw n w h x))), some (.int (nI 10))), ⟨rfl, rfl⟩, ?_⟩
            simp (disch := omega) only [il_0, il_1, il_2, il_3, il_4, il_5, il_6, il_7, il_8, il_9, il_10, il_11, il_12, il_13, il_14, il_15, il_16, il_17, il_18, il_19, il_20, il_21, il_22, il_23, il_24, il_25, il_26, il_27, il_28, il_29, il_30, il_31, il_32, il_40, il_41, il_42, il_43, il_44, il_45, il_46, il_47, il_48, il_52, il_56, il_57, il_59, il_60, il_61, il_63, il_64, il_68, il_72, il_75, il_76, il_82, il_88, il_89, il_90, il_92, il_96, il_97, il_99, il_100, il_101, il_102, il_103, il_104, il_105, il_107, il_108, il_109, il_110, il_111, il_112, il_114, il_115, il_116, il_117, il_118, il_119, il_121, il_122, il_130, il_200, il_255, il_256, il_260, il_276, il_400, il_403, il_420, il_840, il_999, il_1000, il_2000, il_2001, il_2668, il_2760, il_9999, il_12345, il_1000000, il_1103515245, ↓im_1, ↓im_2, ↓im_8, ↓im_1000, nI_add, pk_mul, pk_sub, ↓pk_rem, pk_div, nm_add, nI_clamp, nI_ltI, nI_leI, nI_eq, nm_eq, mn_eq, mm_eq, nm_lt, mn_lt, nm_le, mn_le, nl_T, nl_F, nle_T, nle_F, ne_T, ne_F, b2i_0, b2i_1, b2i_n, nb_0, nb_1, or_false, false_or, or_true, true_or, and_true, true_and, and_false, false_and, or_self, and_self, not_true_eq_false, not_false_eq_true, ↓reduceIte, if_true, if_false, ↓jv_bs, ↓jv_ol, ↓jv_or, jv_tl, jv_tn, jo_T, ck_2_166_17, ck_6_43_16, ck_6_43_17, ck_6_73_16, ck_7_65_17, ck_30_10_19, su_F, e169_193, e169_194, e169_197, e169_199, e169_202, e169_205, e169_207, e169_209, e169_212, e169_215, e169_217, e169_219, e169_221, e169_223, e169_226, ↓cg_50_21b ho, ↓cg_50_24b ho, ↓cg_50_3b ho, ↓cr_50b ho, ↓cr_51b ho, ↓cr_52b ho, ↓cr_59b ho, ↓crlb ho, ↓ct_150b ho, ↓ct_vb ho, ↓cw_vb ho, ci1, ci2, ca1, ca2, ca3, cL1, cL2, cL3, cL4, cx1, cx2, cx3, cx4, cy1, cy2, cy3, cy4, jn_0, Nat.reduceEqDiff, ck4, cw4, ↓jbN q0, ↓q1, h4, h5]
          · simp only [h0, if_true, if_false]
            refine ⟨(u4, u5, some (.int (nI (wk_m T R tc tw n w h x))), some (.int (nI 10))), ⟨h4, h5⟩, ?_⟩
            simp (disch := omega) only [il_0, il_1, il_2, il_3, il_4, il_5, il_6, il_7, il_8, il_9, il_10, il_11, il_12, il_13, il_14, il_15, il_16, il_17, il_18, il_19, il_20, il_21, il_22, il_23, il_24, il_25, il_26, il_27, il_28, il_29, il_30, il_31, il_32, il_40, il_41, il_42, il_43, il_44, il_45, il_46, il_47, il_48, il_52, il_56, il_57, il_59, il_60, il_61, il_63, il_64, il_68, il_72, il_75, il_76, il_82, il_88, il_89, il_90, il_92, il_96, il_97, il_99, il_100, il_101, il_102, il_103, il_104, il_105, il_107, il_108, il_109, il_110, il_111, il_112, il_114, il_115, il_116, il_117, il_118, il_119, il_121, il_122, il_130, il_200, il_255, il_256, il_260, il_276, il_400, il_403, il_420, il_840, il_999, il_1000, il_2000, il_2001, il_2668, il_2760, il_9999, il_12345, il_1000000, il_1103515245, ↓im_1, ↓im_2, ↓im_8, ↓im_1000, nI_add, pk_mul, pk_sub, ↓pk_rem, pk_div, nm_add, nI_clamp, nI_ltI, nI_leI, nI_eq, nm_eq, mn_eq, mm_eq, nm_lt, mn_lt, nm_le, mn_le, nl_T, nl_F, nle_T, nle_F, ne_T, ne_F, b2i_0, b2i_1, b2i_n, nb_0, nb_1, or_false, false_or, or_true, true_or, and_true, true_and, and_false, false_and, or_self, and_self, not_true_eq_false, not_false_eq_true, ↓reduceIte, if_true, if_false, ↓jv_bs, ↓jv_ol, ↓jv_or, jv_tl, jv_tn, jo_T, ck_2_166_17, ck_6_43_16, ck_6_43_17, ck_6_73_16, ck_7_65_17, ck_30_10_19, su_F, e169_193, e169_194, e169_197, e169_199, e169_202, e169_205, e169_207, e169_209, e169_212, e169_215, e169_217, e169_219, e169_221, e169_223, e169_226, ↓cg_50_21b ho, ↓cg_50_24b ho, ↓cg_50_3b ho, ↓cr_50b ho, ↓cr_51b ho, ↓cr_52b ho, ↓cr_59b ho, ↓crlb ho, ↓ct_150b ho, ↓ct_vb ho, ↓cw_vb ho, ci1, ci2, ca1, ca2, ca3, cL1, cL2, cL3, cL4, cx1, cx2, cx3, cx4, cy1, cy2, cy3, cy4, jn_0, Nat.reduceEqDiff, ck4, cw4, ↓jbN q0, ↓q1, h4, h5]) (s := (mI 2, nI 1000000, some (.int (nI (wc T R tc tw n w h 256))), y8)) ⟨rfl, rfl⟩
    refine ⟨k2, f2, Eq.trans ?_ (Eq.trans e0 (Eq.trans ?_ (Eq.trans e2 (Eq.trans ?_ (Eq.trans e3 ?_)))))⟩
    · simp (disch := omega) only [il_0, il_1, il_2, il_3, il_4, il_5, il_6, il_7, il_8, il_9, il_10, il_11, il_12, il_13, il_14, il_15, il_16, il_17, il_18, il_19, il_20, il_21, il_22, il_23, il_24, il_25, il_26, il_27, il_28, il_29, il_30, il_31, il_32, il_40, il_41, il_42, il_43, il_44, il_45, il_46, il_47, il_48, il_52, il_56, il_57, il_59, il_60, il_61, il_63, il_64, il_68, il_72, il_75, il_76, il_82, il_88, il_89, il_90, il_92, il_96, il_97, il_99, il_100, il_101, il_102, il_103, il_104, il_105, il_107, il_108, il_109, il_110, il_111, il_112, il_114, il_115, il_116, il_117, il_118, il_119, il_121, il_122, il_130, il_200, il_255, il_256, il_260, il_276, il_400, il_403, il_420, il_840, il_999, il_1000, il_2000, il_2001, il_2668, il_2760, il_9999, il_12345, il_1000000, il_1103515245, ↓im_1, ↓im_2, ↓im_8, ↓im_1000, nI_add, pk_mul, pk_sub, ↓pk_rem, pk_div, nm_add, nI_clamp, nI_ltI, nI_leI, nI_eq, nm_eq, mn_eq, mm_eq, nm_lt, mn_lt, nm_le, mn_le, nl_T, nl_F, nle_T, nle_F, ne_T, ne_F, b2i_0, b2i_1, b2i_n, nb_0, nb_1, or_false, false_or, or_true, true_or, and_true, true_and, and_false, false_and, or_self, and_self, not_true_eq_false, not_false_eq_true, ↓reduceIte, if_true, if_false, ↓jv_bs, ↓jv_ol, ↓jv_or, jv_tl, jv_tn, jo_T, ck_2_166_17, ck_6_43_16, ck_6_43_17, ck_6_73_16, ck_7_65_17, ck_30_10_19, su_F, e169_0, e169_1, e169_2, e169_3, e169_6, e169_9, e169_12, e169_13, e169_14, e169_16, e169_19, e169_22, e169_23, e169_24, e169_26, e169_29, e169_32, e169_33, e169_34, e169_36, e169_38, e169_41, e169_43, e169_44, ↓cg_50_21b ho, ↓cg_50_24b ho, ↓cg_50_3b ho, ↓cr_50b ho, ↓cr_51b ho, ↓cr_52b ho, ↓cr_59b ho, ↓crlb ho, ↓ct_150b ho, ↓ct_vb ho, ↓cw_vb ho, ci1, ci2, ca1, ca2, ca3, cL1, cL2, cL3, cL4, cx1, cx2, cx3, cx4, cy1, cy2, cy3, cy4, jn_0, Nat.reduceEqDiff, n169, ck1, hd1, ↓m_isInL_b, Nat.reduceAdd, a1, a2, a3, b2i_t]
    · simp (disch := omega) only [il_0, il_1, il_2, il_3, il_4, il_5, il_6, il_7, il_8, il_9, il_10, il_11, il_12, il_13, il_14, il_15, il_16, il_17, il_18, il_19, il_20, il_21, il_22, il_23, il_24, il_25, il_26, il_27, il_28, il_29, il_30, il_31, il_32, il_40, il_41, il_42, il_43, il_44, il_45, il_46, il_47, il_48, il_52, il_56, il_57, il_59, il_60, il_61, il_63, il_64, il_68, il_72, il_75, il_76, il_82, il_88, il_89, il_90, il_92, il_96, il_97, il_99, il_100, il_101, il_102, il_103, il_104, il_105, il_107, il_108, il_109, il_110, il_111, il_112, il_114, il_115, il_116, il_117, il_118, il_119, il_121, il_122, il_130, il_200, il_255, il_256, il_260, il_276, il_400, il_403, il_420, il_840, il_999, il_1000, il_2000, il_2001, il_2668, il_2760, il_9999, il_12345, il_1000000, il_1103515245, ↓im_1, ↓im_2, ↓im_8, ↓im_1000, nI_add, pk_mul, pk_sub, ↓pk_rem, pk_div, nm_add, nI_clamp, nI_ltI, nI_leI, nI_eq, nm_eq, mn_eq, mm_eq, nm_lt, mn_lt, nm_le, mn_le, nl_T, nl_F, nle_T, nle_F, ne_T, ne_F, b2i_0, b2i_1, b2i_n, nb_0, nb_1, or_false, false_or, or_true, true_or, and_true, true_and, and_false, false_and, or_self, and_self, not_true_eq_false, not_false_eq_true, ↓reduceIte, if_true, if_false, ↓jv_bs, ↓jv_ol, ↓jv_or, jv_tl, jv_tn, jo_T, ck_2_166_17, ck_6_43_16, ck_6_43_17, ck_6_73_16, ck_7_65_17, ck_30_10_19, su_F, e169_46, e169_48, e169_50, e169_86, e169_87, e169_89, e169_90, e169_91, e169_92, e169_93, e169_94, e169_97, ↓cg_50_21b ho, ↓cg_50_24b ho, ↓cg_50_3b ho, ↓cr_50b ho, ↓cr_51b ho, ↓cr_52b ho, ↓cr_59b ho, ↓crlb ho, ↓ct_150b ho, ↓ct_vb ho, ↓cw_vb ho, ci1, ci2, ca1, ca2, ca3, cL1, cL2, cL3, cL4, cx1, cx2, cx3, cx4, cy1, cy2, cy3, cy4, jn_0, Nat.reduceEqDiff, ↓jbR g1]
    · simp (disch := omega) only [il_0, il_1, il_2, il_3, il_4, il_5, il_6, il_7, il_8, il_9, il_10, il_11, il_12, il_13, il_14, il_15, il_16, il_17, il_18, il_19, il_20, il_21, il_22, il_23, il_24, il_25, il_26, il_27, il_28, il_29, il_30, il_31, il_32, il_40, il_41, il_42, il_43, il_44, il_45, il_46, il_47, il_48, il_52, il_56, il_57, il_59, il_60, il_61, il_63, il_64, il_68, il_72, il_75, il_76, il_82, il_88, il_89, il_90, il_92, il_96, il_97, il_99, il_100, il_101, il_102, il_103, il_104, il_105, il_107, il_108, il_109, il_110, il_111, il_112, il_114, il_115, il_116, il_117, il_118, il_119, il_121, il_122, il_130, il_200, il_255, il_256, il_260, il_276, il_400, il_403, il_420, il_840, il_999, il_1000, il_2000, il_2001, il_2668, il_2760, il_9999, il_12345, il_1000000, il_1103515245, ↓im_1, ↓im_2, ↓im_8, ↓im_1000, nI_add, pk_mul, pk_sub, ↓pk_rem, pk_div, nm_add, nI_clamp, nI_ltI, nI_leI, nI_eq, nm_eq, mn_eq, mm_eq, nm_lt, mn_lt, nm_le, mn_le, nl_T, nl_F, nle_T, nle_F, ne_T, ne_F, b2i_0, b2i_1, b2i_n, nb_0, nb_1, or_false, false_or, or_true, true_or, and_true, true_and, and_false, false_and, or_self, and_self, not_true_eq_false, not_false_eq_true, ↓reduceIte, if_true, if_false, ↓jv_bs, ↓jv_ol, ↓jv_or, jv_tl, jv_tn, jo_T, ck_2_166_17, ck_6_43_16, ck_6_43_17, ck_6_73_16, ck_7_65_17, ck_30_10_19, su_F, e169_99, e169_101, e169_103, e169_147, e169_148, ↓cg_50_21b ho, ↓cg_50_24b ho, ↓cg_50_3b ho, ↓cr_50b ho, ↓cr_51b ho, ↓cr_52b ho, ↓cr_59b ho, ↓crlb ho, ↓ct_150b ho, ↓ct_vb ho, ↓cw_vb ho, ci1, ci2, ca1, ca2, ca3, cL1, cL2, cL3, cL4, cx1, cx2, cx3, cx4, cy1, cy2, cy3, cy4, jn_0, Nat.reduceEqDiff]
    · have hlt := lo_lt (T := T) (r := R) (tc := tc) (tw := tw) (k := n) (w := w) (h := h) (n := 48)
      dsimp only at i3 ⊢
      generalize it (lo_s T R tc tw n w h) 48 none = a at i3 hlt ⊢
      cases a with
      | none =>
        obtain ⟨h4, h5⟩ := i3
        simp (disch := omega) only [il_0, il_1, il_2, il_3, il_4, il_5, il_6, il_7, il_8, il_9, il_10, il_11, il_12, il_13, il_14, il_15, il_16, il_17, il_18, il_19, il_20, il_21, il_22, il_23, il_24, il_25, il_26, il_27, il_28, il_29, il_30, il_31, il_32, il_40, il_41, il_42, il_43, il_44, il_45, il_46, il_47, il_48, il_52, il_56, il_57, il_59, il_60, il_61, il_63, il_64, il_68, il_72, il_75, il_76, il_82, il_88, il_89, il_90, il_92, il_96, il_97, il_99, il_100, il_101, il_102, il_103, il_104, il_105, il_107, il_108, il_109, il_110, il_111, il_112, il_114, il_115, il_116, il_117, il_118, il_119, il_121, il_122, il_130, il_200, il_255, il_256, il_260, il_276, il_400, il_403, il_420, il_840, il_999, il_1000, il_2000, il_2001, il_2668, il_2760, il_9999, il_12345, il_1000000, il_1103515245, ↓im_1, ↓im_2, ↓im_8, ↓im_1000, nI_add, pk_mul, pk_sub, ↓pk_rem, pk_div, nm_add, nI_clamp, nI_ltI, nI_leI, nI_eq, nm_eq, mn_eq, mm_eq, nm_lt, mn_lt, nm_le, mn_le, nl_T, nl_F, nle_T, nle_F, ne_T, ne_F, b2i_0, b2i_1, b2i_n, nb_0, nb_1, or_false, false_or, or_true, true_or, and_true, true_and, and_false, false_and, or_self, and_self, not_true_eq_false, not_false_eq_true, ↓reduceIte, if_true, if_false, ↓jv_bs, ↓jv_ol, ↓jv_or, jv_tl, jv_tn, jo_T, ck_2_166_17, ck_6_43_16, ck_6_43_17, ck_6_73_16, ck_7_65_17, ck_30_10_19, su_F, e169_150, e169_152, e169_154, e169_229, e169_231, e169_234, e169_236, e169_239, e169_241, e169_243, e169_245, e169_246, e169_247, e169_249, e169_251, e169_252, e169_253, ↓cg_50_21b ho, ↓cg_50_24b ho, ↓cg_50_3b ho, ↓cr_50b ho, ↓cr_51b ho, ↓cr_52b ho, ↓cr_59b ho, ↓crlb ho, ↓ct_150b ho, ↓ct_vb ho, ↓cw_vb ho, ci1, ci2, ca1, ca2, ca3, cL1, cL2, cL3, cL4, cx1, cx2, cx3, cx4, cy1, cy2, cy3, cy4, jn_0, Nat.reduceEqDiff, h4]
      | some m =>
        obtain ⟨h4, h5⟩ := i3
        have hm := hlt _ rfl
        simp (disch := omega) only [il_0, il_1, il_2, il_3, il_4, il_5, il_6, il_7, il_8, il_9, il_10, il_11, il_12, il_13, il_14, il_15, il_16, il_17, il_18, il_19, il_20, il_21, il_22, il_23, il_24, il_25, il_26, il_27, il_28, il_29, il_30, il_31, il_32, il_40, il_41, il_42, il_43, il_44, il_45, il_46, il_47, il_48, il_52, il_56, il_57, il_59, il_60, il_61, il_63, il_64, il_68, il_72, il_75, il_76, il_82, il_88, il_89, il_90, il_92, il_96, il_97, il_99, il_100, il_101, il_102, il_103, il_104, il_105, il_107, il_108, il_109, il_110, il_111, il_112, il_114, il_115, il_116, il_117, il_118, il_119, il_121, il_122, il_130, il_200, il_255, il_256, il_260, il_276, il_400, il_403, il_420, il_840, il_999, il_1000, il_2000, il_2001, il_2668, il_2760, il_9999, il_12345, il_1000000, il_1103515245, ↓im_1, ↓im_2, ↓im_8, ↓im_1000, nI_add, pk_mul, pk_sub, ↓pk_rem, pk_div, nm_add, nI_clamp, nI_ltI, nI_leI, nI_eq, nm_eq, mn_eq, mm_eq, nm_lt, mn_lt, nm_le, mn_le, nl_T, nl_F, nle_T, nle_F, ne_T, ne_F, b2i_0, b2i_1, b2i_n, nb_0, nb_1, or_false, false_or, or_true, true_or, and_true, true_and, and_false, false_and, or_self, and_self, not_true_eq_false, not_false_eq_true, ↓reduceIte, if_true, if_false, ↓jv_bs, ↓jv_ol, ↓jv_or, jv_tl, jv_tn, jo_T, ck_2_166_17, ck_6_43_16, ck_6_43_17, ck_6_73_16, ck_7_65_17, ck_30_10_19, su_F, e169_150, e169_152, e169_154, e169_229, e169_231, e169_234, e169_236, e169_239, e169_241, e169_243, e169_245, e169_246, e169_247, e169_249, e169_251, e169_252, e169_253, ↓cg_50_21b ho, ↓cg_50_24b ho, ↓cg_50_3b ho, ↓cr_50b ho, ↓cr_51b ho, ↓cr_52b ho, ↓cr_59b ho, ↓crlb ho, ↓ct_150b ho, ↓ct_vb ho, ↓cw_vb ho, ci1, ci2, ca1, ca2, ca3, cL1, cL2, cL3, cL4, cx1, cx2, cx3, cx4, cy1, cy2, cy3, cy4, jn_0, Nat.reduceEqDiff, h4]
end
