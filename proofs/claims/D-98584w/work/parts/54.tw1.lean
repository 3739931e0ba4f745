/-! the reference: a text of one side, laws, threads -/
/-- a code lies from place i on -/
def SG (s : tw_S) (i : Nat) (c : Cd) : Prop := ∀ j e, c[j]? = some e → s.2.1 43 (i + j) = nI e.1 ∧ s.2.1 44 (i + j) = e.2
/-- a law lies in branches from first on -/
def LE (s : tw_S) (first : Nat) (L : Lw) : Prop := first + L.1.length < 260 ∧ (∀ i t, L.1[i]? = some t → s.2.1 37 (first + i) = nI 1 ∧ ∃ f : Nat, s.2.1 38 (first + i) = nI f ∧ s.2.1 39 (first + i) = nI (f + t.1.length) ∧ s.2.1 40 (first + i) = nI (f + t.1.length + t.2.1.length) ∧ s.2.1 41 (first + i) = nI (f + t.1.length + t.2.1.length + t.2.2.length) ∧ SG s f t.1 ∧ SG s (f + t.1.length) t.2.1 ∧ SG s (f + t.1.length + t.2.1.length) t.2.2 ∧ f + t.1.length + t.2.1.length + t.2.2.length ≤ 840) ∧ s.2.1 37 (first + L.1.length) = nI 0 ∧ ∃ o : Nat, s.2.1 40 (first + L.1.length) = nI o ∧ s.2.1 41 (first + L.1.length) = nI (o + L.2.length) ∧ SG s o L.2 ∧ o + L.2.length ≤ 840
/-- branches and code of a side are the same -/
def AG (lv : Nat) (s s' : tw_S) : Prop := (∀ k, 37 ≤ k → k ≤ 41 → ∀ b, 130 * lv ≤ b → b < 130 * lv + 130 → s'.2.1 k b = s.2.1 k b) ∧ ∀ k, k = 43 ∨ k = 44 → ∀ c, 420 * lv ≤ c → c < 420 * lv + 420 → s'.2.1 k c = s.2.1 k c
theorem AG_id {lv : Nat} {s : tw_S} : AG lv s s := ⟨fun _ _ _ _ _ _ => rfl, fun _ _ _ _ _ => rfl⟩
theorem AG_tr {lv : Nat} {s s' s2 : tw_S} (h1 : AG lv s s') (h2 : AG lv s' s2) : AG lv s s2 := ⟨fun k a b c e f => (h2.1 k a b c e f).trans (h1.1 k a b c e f), fun k a c e f => (h2.2 k a c e f).trans (h1.2 k a c e f)⟩
def LT (s : tw_S) (lv k : Nat) : Option Lw → Prop
  | none => ∃ a : Nat, a < 2 ^ 31 ∧ s.2.1 34 (3 * lv + k) = nI a ∧ s.2.1 35 (3 * lv + k) = nI a
  | some L => ∃ a : Nat, s.2.1 34 (3 * lv + k) = nI a ∧ s.2.1 35 (3 * lv + k) = nI (a + L.1.length + 1) ∧ ∀ s', AG lv s s' → LE s' a L
/-- the live side tells the text T -/
def TV (s : tw_S) (lv : Nat) (T : Tx) : Prop := lv < 2 ∧ s.1 18 = nI lv ∧ s.2.1 22 lv = nI (t_r T) ∧ s.2.1 23 lv = nI (t_w T) ∧ s.2.1 25 lv = nI (t_nf T) ∧ s.2.1 28 lv = nI (t_nl T) ∧ (∀ c < 48, t_on T c = true → s.2.1 24 (48 * lv + c) = t_fd T c) ∧ (∀ f < t_nf T, s.2.1 26 (6 * lv + f) = t_nd T f ∧ s.2.1 27 (6 * lv + f) = t_dr T f) ∧ (∀ l < t_nl T, s.2.1 29 (4 * lv + l) = nI (t_lw T l) ∧ s.2.1 30 (4 * lv + l) = t_pk T l) ∧ s.2.1 31 lv = t_st T ∧ s.2.1 32 lv = t_gu T ∧ s.2.1 33 lv = t_se T ∧ ∀ k < 3, LT s lv k (t_law T k)
theorem nI_lp {x w : Nat} (hx : x < 2 ^ 31) (hw : w < 2 ^ 30) : (nI x ≤ nI w - nI 1) = (x < w) := by
  apply propext
  rw [Int32.le_iff_toInt_le, nI_toInt hx, pk_sub_toInt hw (by decide)]
  omega
theorem cp_uc {x : Int32} {g : Nat → Int32} {k : Nat} : upd (cp (fun _ => x) g k) k x = cp (fun _ => x) g (k + 1) := cp_u
/-- a pile from the top -/
def PS (pl : Nat → Int32) : List Int32 → Prop
  | [] => True
  | x :: r => pl r.length = x ∧ PS pl r
theorem PS_u {pl : Nat → Int32} {k : Nat} {x : Int32} : ∀ {st : List Int32}, st.length ≤ k → PS pl st → PS (upd pl k x) st := by
  intro st
  induction st with
  | nil => intro _ _; trivial
  | cons y r ih =>
    intro hk h
    rw [List.length_cons] at hk
    exact ⟨by rw [pk_un (by omega)]; exact h.1, ih (by omega) h.2⟩
theorem rp_true {v : Nat → Int32} {c : Cd} : ∀ {st}, (c.foldl (rp_s v) (st, true)).2 = true := by
  induction c with
  | nil => intro st; rfl
  | cons e r ih =>
    intro st
    rw [List.foldl_cons]
    have : ∃ st', rp_s v (st, true) e = (st', true) := by
      unfold rp_s
      split
      · exact ⟨_, rfl⟩
      · split
        · exact ⟨_, rfl⟩
        · split
          · split
            · exact ⟨_, rfl⟩
            · split
              · exact ⟨_, rfl⟩
              · split
                · exact ⟨_, rfl⟩
                · split <;> exact ⟨_, rfl⟩
          · exact ⟨_, rfl⟩
    obtain ⟨st', h⟩ := this
    rw [h]
    exact ih
section
variable {d lv : Nat} {p q : jv_H} {s : tw_S} {T : Tx} {r v pl : Nat → Int32} {lo b : Int32} {j : Jk}
theorem m_in {a b c : Int32} {h : jv_H} : jv_cd (d + 1) 40 [.int a, .int b, .int c] h = some (.inl (some (.int (b2i (decide (b ≤ a) && decide (a ≤ c))))), h) := by
  simp only [n40, e40_0, e40_1, e40_2, e40_5, e40_6, e40_7, e40_10, e40_11, e40_14, e40_15, il_0, il_1, il_2, il_3, il_4, il_5, il_6, il_7, il_8, il_9, il_10, il_11, il_12, il_13, il_14, il_15, il_16, il_17, il_18, il_19, il_20, il_21, il_22, il_23, il_24, il_25, il_26, il_27, il_28, il_29, il_30, il_31, il_32, il_40, il_41, il_42, il_43, il_44, il_45, il_46, il_47, il_48, il_52, il_56, il_57, il_59, il_60, il_61, il_63, il_64, il_68, il_72, il_75, il_76, il_82, il_88, il_89, il_90, il_92, il_96, il_97, il_99, il_100, il_101, il_102, il_103, il_104, il_105, il_107, il_108, il_109, il_110, il_111, il_112, il_114, il_115, il_116, il_117, il_118, il_119, il_121, il_122, il_130, il_200, il_255, il_256, il_260, il_276, il_400, il_403, il_420, il_840, il_999, il_1000, il_2000, il_2001, il_2668, il_2760, il_9999, il_12345, il_1000000, il_1103515245, ↓im_1, ↓im_2, ↓im_8, ↓im_1000, nI_add, pk_mul, pk_sub, ↓pk_rem, pk_div, nm_add, nI_clamp, nI_ltI, nI_leI, nI_eq, nm_eq, mn_eq, mm_eq, nm_lt, mn_lt, nm_le, mn_le, nl_T, nl_F, nle_T, nle_F, ne_T, ne_F, b2i_0, b2i_1, b2i_n, nb_0, nb_1, or_false, false_or, or_true, true_or, and_true, true_and, and_false, false_and, or_self, and_self, not_true_eq_false, not_false_eq_true, ↓reduceIte, if_true, if_false]
  by_cases h1 : a < b
  · have h2 : ¬ b ≤ a := Int32.not_le.mpr h1
    simp [h1, h2, b2i]
  · have h2 : b ≤ a := Int32.not_lt.mp h1
    by_cases h3 : c < a
    · simp [h1, h2, h3, Int32.not_le.mpr h3, b2i]
    · simp [h1, h2, h3, Int32.not_lt.mp h3, b2i]
theorem m_in_b {a b c : Int32} {h : jv_H} {F : jv_R → Option jv_R} : (jv_cd (d + 1) 40 [.int a, .int b, .int c] h).bind F = F (.inl (some (.int (b2i (decide (b ≤ a) && decide (a ≤ c))))), h) := jb (m_in )
theorem m_looks (hp : p.length = 589) : jv_cd (d + 1) 56 [.ref 589] (tw_h p (tw_w s r lo j) q) = some (.inl none, tw_h p (tw_w s r lo (cp (fun _ => nI 0) j.1 9, j.2)) q) := by
  rw [n56, e56_0, e56_1]
  have hl := jl_0 (N := 9) (F := fun k => jv_ev d 56 2 [some (.ref 589), some (.int (nI k))] [] (tw_h p (tw_w s r lo (cp (fun _ => nI 0) j.1 k, j.2)) q)) (fun k hk => by
    rw [e56_2]
    simp (disch := omega) only [il_0, il_1, il_2, il_3, il_4, il_5, il_6, il_7, il_8, il_9, il_10, il_11, il_12, il_13, il_14, il_15, il_16, il_17, il_18, il_19, il_20, il_21, il_22, il_23, il_24, il_25, il_26, il_27, il_28, il_29, il_30, il_31, il_32, il_40, il_41, il_42, il_43, il_44, il_45, il_46, il_47, il_48, il_52, il_56, il_57, il_59, il_60, il_61, il_63, il_64, il_68, il_72, il_75, il_76, il_82, il_88, il_89, il_90, il_92, il_96, il_97, il_99, il_100, il_101, il_102, il_103, il_104, il_105, il_107, il_108, il_109, il_110, il_111, il_112, il_114, il_115, il_116, il_117, il_118, il_119, il_121, il_122, il_130, il_200, il_255, il_256, il_260, il_276, il_400, il_403, il_420, il_840, il_999, il_1000, il_2000, il_2001, il_2668, il_2760, il_9999, il_12345, il_1000000, il_1103515245, ↓im_1, ↓im_2, ↓im_8, ↓im_1000, nI_add, pk_mul, pk_sub, ↓pk_rem, pk_div, nm_add, nI_clamp, nI_ltI, nI_leI, nI_eq, nm_eq, mn_eq, mm_eq, nm_lt, mn_lt, nm_le, mn_le, nl_T, nl_F, nle_T, nle_F, ne_T, ne_F, b2i_0, b2i_1, b2i_n, nb_0, nb_1, or_false, false_or, or_true, true_or, and_true, true_and, and_false, false_and, or_self, and_self, not_true_eq_false, not_false_eq_true, ↓reduceIte, if_true, if_false, ↓jv_bs, ↓jv_ol, ↓jv_or, jv_tl, jv_tn, jo_T, ck_2_166_17, ck_6_43_16, ck_6_43_17, ck_6_73_16, ck_7_65_17, ck_30_10_19, su_F, e56_0, e56_1, e56_3, e56_5, e56_8, e56_9, e56_12, e56_13, e56_14, e56_15, e56_18, e56_21, ↓tgb_47 hp, ↓trb_47 hp, ↓tub_47 hp, wa_47, ww_a47, ↓tw_rcb hp, cp_uc])
  rw [cp_0] at hl
  refine Eq.trans hl ?_
  simp (disch := omega) only [il_0, il_1, il_2, il_3, il_4, il_5, il_6, il_7, il_8, il_9, il_10, il_11, il_12, il_13, il_14, il_15, il_16, il_17, il_18, il_19, il_20, il_21, il_22, il_23, il_24, il_25, il_26, il_27, il_28, il_29, il_30, il_31, il_32, il_40, il_41, il_42, il_43, il_44, il_45, il_46, il_47, il_48, il_52, il_56, il_57, il_59, il_60, il_61, il_63, il_64, il_68, il_72, il_75, il_76, il_82, il_88, il_89, il_90, il_92, il_96, il_97, il_99, il_100, il_101, il_102, il_103, il_104, il_105, il_107, il_108, il_109, il_110, il_111, il_112, il_114, il_115, il_116, il_117, il_118, il_119, il_121, il_122, il_130, il_200, il_255, il_256, il_260, il_276, il_400, il_403, il_420, il_840, il_999, il_1000, il_2000, il_2001, il_2668, il_2760, il_9999, il_12345, il_1000000, il_1103515245, ↓im_1, ↓im_2, ↓im_8, ↓im_1000, nI_add, pk_mul, pk_sub, ↓pk_rem, pk_div, nm_add, nI_clamp, nI_ltI, nI_leI, nI_eq, nm_eq, mn_eq, mm_eq, nm_lt, mn_lt, nm_le, mn_le, nl_T, nl_F, nle_T, nle_F, ne_T, ne_F, b2i_0, b2i_1, b2i_n, nb_0, nb_1, or_false, false_or, or_true, true_or, and_true, true_and, and_false, false_and, or_self, and_self, not_true_eq_false, not_false_eq_true, ↓reduceIte, if_true, if_false, ↓jv_bs, ↓jv_ol, ↓jv_or, jv_tl, jv_tn, jo_T, ck_2_166_17, ck_6_43_16, ck_6_43_17, ck_6_73_16, ck_7_65_17, ck_30_10_19, su_F, e56_0, e56_1, e56_2, e56_3, e56_5, e56_8, e56_9, e56_12, e56_13, e56_14, e56_15, e56_18, e56_21, ↓tgb_47 hp, ↓trb_47 hp, ↓tub_47 hp, wa_47, ww_a47, ↓tw_rcb hp]
theorem m_looks_b (hp : p.length = 589) {F : jv_R → Option jv_R} : (jv_cd (d + 1) 56 [.ref 589] (tw_h p (tw_w s r lo j) q)).bind F = F (.inl none, tw_h p (tw_w s r lo (cp (fun _ => nI 0) j.1 9, j.2)) q) := jb (m_looks hp)
theorem m_isCell (hp : p.length = 589) (ht : TV s lv T) (hT : TW T) {x y : Nat} (hx : x < 2 ^ 31) (hy : y < 2 ^ 31) : jv_cd (d + 2) 39 [.ref 589, .int (nI x), .int (nI y)] (tw_h p (tw_w s r lo j) q) = some (.inl (some (.int (b2i (decide (x < t_w T) && decide (y < t_r T))))), tw_h p (tw_w s r lo j) q) := by
  obtain ⟨hlv, h18, h22, h23, h25, h28, hfd, hnf, hlm, h31, h32, h33, hlaw⟩ := ht
  obtain ⟨t1, t2, t3, t4, t5, t6, t7⟩ := hT
  simp (disch := omega) only [il_0, il_1, il_2, il_3, il_4, il_5, il_6, il_7, il_8, il_9, il_10, il_11, il_12, il_13, il_14, il_15, il_16, il_17, il_18, il_19, il_20, il_21, il_22, il_23, il_24, il_25, il_26, il_27, il_28, il_29, il_30, il_31, il_32, il_40, il_41, il_42, il_43, il_44, il_45, il_46, il_47, il_48, il_52, il_56, il_57, il_59, il_60, il_61, il_63, il_64, il_68, il_72, il_75, il_76, il_82, il_88, il_89, il_90, il_92, il_96, il_97, il_99, il_100, il_101, il_102, il_103, il_104, il_105, il_107, il_108, il_109, il_110, il_111, il_112, il_114, il_115, il_116, il_117, il_118, il_119, il_121, il_122, il_130, il_200, il_255, il_256, il_260, il_276, il_400, il_403, il_420, il_840, il_999, il_1000, il_2000, il_2001, il_2668, il_2760, il_9999, il_12345, il_1000000, il_1103515245, ↓im_1, ↓im_2, ↓im_8, ↓im_1000, nI_add, pk_mul, ↓pk_rem, pk_div, nm_add, nI_clamp, nI_ltI, nI_leI, nI_eq, nm_eq, mn_eq, mm_eq, nm_lt, mn_lt, nm_le, mn_le, nl_T, nl_F, nle_T, nle_F, ne_T, ne_F, b2i_0, b2i_1, b2i_n, nb_0, nb_1, or_false, false_or, or_true, true_or, and_true, true_and, and_false, false_and, or_self, and_self, not_true_eq_false, not_false_eq_true, ↓reduceIte, if_true, if_false, ↓jv_bs, ↓jv_ol, ↓jv_or, jv_tl, jv_tn, jo_T, ck_2_166_17, ck_6_43_16, ck_6_43_17, ck_6_73_16, ck_7_65_17, ck_30_10_19, su_F, e39_0, e39_1, e39_2, e39_3, e39_6, e39_7, e39_10, e39_11, e39_12, e39_13, e39_16, e39_19, e39_20, e39_21, e39_22, e39_25, e39_26, e39_29, e39_30, e39_31, e39_32, e39_35, e39_38, e39_39, e39_42, e39_43, ↓tgb_18 hp, wi_18, ↓tgb_22 hp, ↓trb_22 hp, ↓tub_22 hp, wa_22, ↓tgb_23 hp, ↓trb_23 hp, ↓tub_23 hp, wa_23, ↓tw_rcb hp, n39, h18, h22, h23, m_in, nI_lp]
  by_cases h1 : x < t_w T <;> by_cases h2 : y < t_r T <;> simp [h1, h2, b2i]
theorem m_isCell_b (hp : p.length = 589) (ht : TV s lv T) (hT : TW T) {x y : Nat} (hx : x < 2 ^ 31) (hy : y < 2 ^ 31) {F : jv_R → Option jv_R} : (jv_cd (d + 2) 39 [.ref 589, .int (nI x), .int (nI y)] (tw_h p (tw_w s r lo j) q)).bind F = F (.inl (some (.int (b2i (decide (x < t_w T) && decide (y < t_r T))))), tw_h p (tw_w s r lo j) q) := jb (m_isCell hp ht hT hx hy)
end
