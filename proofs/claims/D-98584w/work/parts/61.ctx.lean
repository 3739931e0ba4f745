/-! the component's text in the heap -/
/-- where cells of texts lie -/
def txS (k : Nat) : Prop := (60 ≤ k ∧ k < 65) ∨ 636 ≤ k
def opc (o : Nat) : Int32 := if o = 2 then nI 43 else if o = 3 then nI 45 else if o = 4 then nI 42 else nI 47
/-- a sum lies at r, no deeper than n, and is the code c -/
def SA (g : Nat → Option jv_C) : Nat → Nat → Cd → Prop
  | 0, _, _ => False
  | n + 1, r, c => txS r ∧ ((∃ x, g r = some (.inr (13, [.int x])) ∧ c = [(0, x)]) ∨ (∃ k : Nat, k < 9 ∧ g r = some (.inr (14, [.int (nI k)])) ∧ c = [(1, nI k)]) ∨ ∃ (o a b : Nat) (ca cb : Cd), (2 ≤ o ∧ o ≤ 5) ∧ g r = some (.inr (15, [.int (opc o), .ref a, .ref b])) ∧ SA g n a ca ∧ SA g n b cb ∧ c = ca ++ cb ++ [(o, nI 0)])
theorem SA_up {g : Nat → Option jv_C} : ∀ {n r : Nat} {c : Cd}, SA g n r c → SA g (n + 1) r c := by
  intro n
  induction n with
  | zero => intro r c h; exact h.elim
  | succ n ih =>
    intro r c hs
    refine ⟨hs.1, ?_⟩
    rcases hs.2 with h1 | h1 | ⟨o, a, b, ca, cb, ho, hr, ha, hb, hc⟩
    · exact Or.inl h1
    · exact Or.inr (Or.inl h1)
    · exact Or.inr (Or.inr ⟨o, a, b, ca, cb, ho, hr, ih ha, ih hb, hc⟩)
theorem SA_le {g : Nat → Option jv_C} {n m r : Nat} {c : Cd} (hs : SA g n r c) (hm : n ≤ m) : SA g m r c := by
  obtain ⟨e, rfl⟩ : ∃ e, m = n + e := ⟨m - n, by omega⟩
  clear hm
  induction e with
  | zero => exact hs
  | succ e ih => exact SA_up ih
theorem SA_h {g g' : Nat → Option jv_C} (hh : ∀ k, txS k → ∀ c, g k = some c → g' k = some c) : ∀ {n r : Nat} {c : Cd}, SA g n r c → SA g' n r c := by
  intro n
  induction n with
  | zero => intro r c h; exact h.elim
  | succ n ih =>
    intro r c hs
    refine ⟨hs.1, ?_⟩
    rcases hs.2 with ⟨x, h1, h2⟩ | ⟨k, hk, h1, h2⟩ | ⟨o, a, b, ca, cb, ho, hr, ha, hb, hc⟩
    · exact Or.inl ⟨x, hh r hs.1 _ h1, h2⟩
    · exact Or.inr (Or.inl ⟨k, hk, hh r hs.1 _ h1, h2⟩)
    · exact Or.inr (Or.inr ⟨o, a, b, ca, cb, ho, hh r hs.1 _ hr, ih ha, ih hb, hc⟩)
theorem SA_W {g : Nat → Option jv_C} : ∀ {n r : Nat} {c : Cd}, SA g n r c → c.length ≤ 400 → WC c := by
  intro n
  induction n with
  | zero => intro r c h; exact h.elim
  | succ n ih =>
    intro r c hs hl
    rcases hs.2 with ⟨x, h1, h2⟩ | ⟨k, hk, h1, h2⟩ | ⟨o, a, b, ca, cb, ho, hr, ha, hb, hc⟩
    · subst h2; exact WC_int
    · subst h2; exact WC_var hk
    · subst hc
      rw [List.length_append, List.length_append] at hl
      exact WC_join (ih ha (by simp at hl; omega)) (ih hb (by simp at hl; omega)) ho (by rw [List.length_append]; simp at hl; omega)
/-- an array of refs -/
def RA (g : Nat → Option jv_C) (a tc n : Nat) (f : Nat → Option Nat) : Prop := txS a ∧ g a = some (.inl (tc, n, .inr (.inr (.inr (.inr f)))))
/-- a law lies at r -/
def LA (g : Nat → Option jv_C) (r : Nat) (L : Lw) : Prop := txS r ∧ ∃ (la ta na : Nat) (lf tf nf : Nat → Option Nat), g r = some (.inr (12, [.ref la, .ref ta, .ref na, .int (nI L.1.length)])) ∧ RA g la 8 4 lf ∧ RA g ta 8 4 tf ∧ RA g na 8 5 nf ∧ (∀ i t, L.1[i]? = some t → ∃ x y z : Nat, lf i = some x ∧ tf i = some y ∧ nf i = some z ∧ SA g 401 x t.1 ∧ SA g 401 y t.2.1 ∧ SA g 401 z t.2.2) ∧ ∃ z, nf L.1.length = some z ∧ SA g 401 z L.2
/-- a list of objects -/
def AL (g : Nat → Option jv_C) (a n : Nat) (f : Nat → Option Nat) : Prop := txS a ∧ ∃ (ea cap : Nat) (mc : Int32), n ≤ cap ∧ cap < 2 ^ 31 ∧ g a = some (.inr (18, [.int mc, .ref ea, .int (nI n)])) ∧ (txS ea ∨ ea = 45) ∧ g ea = some (.inl (6, cap, .inr (.inr (.inr (.inr f)))))
/-- the text T lies at t -/
def XA (g : Nat → Option jv_C) (t : Nat) (T : Tx) : Prop := txS t ∧ ∃ (fa fl ll la : Nat) (fd : Nat → Int32) (ff lf af : Nat → Option Nat), g t = some (.inr (5, [.ref fa, .ref fl, .ref ll, .ref la, .int (nI (t_r T)), .int (nI (t_w T)), .int (t_st T), .int (t_gu T), .int (t_se T)])) ∧ (txS fa ∧ g fa = some (.inl (0, 48, .inl fd)) ∧ ∀ c < 48, t_on T c = true → fd c = t_fd T c) ∧ (AL g fl (t_nf T) ff ∧ ∀ f < t_nf T, ∃ (x : Nat) (nm : Value), ff f = some x ∧ txS x ∧ g x = some (.inr (16, [nm, .int (t_nd T f), .int (t_dr T f)]))) ∧ (AL g ll (t_nl T) lf ∧ ∀ l < t_nl T, ∃ (x : Nat) (nm : Value), lf l = some x ∧ txS x ∧ g x = some (.inr (17, [nm, .int (nI (t_lw T l)), .int (t_pk T l)]))) ∧ RA g la 7 3 af ∧ ∀ k < 3, match t_law T k with | none => af k = none | some L => ∃ x, af k = some x ∧ LA g x L
theorem RA_h {g g' : Nat → Option jv_C} (hh : ∀ k, txS k → ∀ c, g k = some c → g' k = some c) {a tc n : Nat} {f : Nat → Option Nat} (hr : RA g a tc n f) : RA g' a tc n f := ⟨hr.1, hh _ hr.1 _ hr.2⟩
theorem LA_h {g g' : Nat → Option jv_C} (hh : ∀ k, txS k → ∀ c, g k = some c → g' k = some c) {r : Nat} {L : Lw} (hr : LA g r L) : LA g' r L := by
  obtain ⟨h0, la, ta, na, lf, tf, nf, h1, h2, h3, h4, h5, z, h6, h7⟩ := hr
  refine ⟨h0, la, ta, na, lf, tf, nf, hh _ h0 _ h1, RA_h hh h2, RA_h hh h3, RA_h hh h4, fun i t ht => ?_, z, h6, SA_h hh h7⟩
  obtain ⟨x, y, z, g1, g2, g3, g4, g5, g6⟩ := h5 i t ht
  exact ⟨x, y, z, g1, g2, g3, SA_h hh g4, SA_h hh g5, SA_h hh g6⟩
theorem AL_h {g g' : Nat → Option jv_C} (hh : ∀ k, txS k → ∀ c, g k = some c → g' k = some c) (h45 : ∀ c, g 45 = some c → g' 45 = some c) {a n : Nat} {f : Nat → Option Nat} (hr : AL g a n f) : AL g' a n f := by
  obtain ⟨h0, ea, cap, mc, h1, h2, h3, h4, h5⟩ := hr
  refine ⟨h0, ea, cap, mc, h1, h2, hh _ h0 _ h3, h4, ?_⟩
  rcases h4 with h4 | h4
  · exact hh _ h4 _ h5
  · subst h4; exact h45 _ h5
theorem XA_h {g g' : Nat → Option jv_C} (hh : ∀ k, txS k → ∀ c, g k = some c → g' k = some c) (h45 : ∀ c, g 45 = some c → g' 45 = some c) {t : Nat} {T : Tx} (hr : XA g t T) : XA g' t T := by
  obtain ⟨h0, fa, fl, ll, la, fd, ff, lf, af, h1, ⟨h2, h3, h4⟩, ⟨h5, h6⟩, ⟨h7, h8⟩, h9, h10⟩ := hr
  refine ⟨h0, fa, fl, ll, la, fd, ff, lf, af, hh _ h0 _ h1, ⟨h2, hh _ h2 _ h3, h4⟩, ⟨AL_h hh h45 h5, fun f hf => ?_⟩, ⟨AL_h hh h45 h7, fun f hf => ?_⟩, RA_h hh h9, fun k hk => ?_⟩
  · obtain ⟨x, nm, g1, g2, g3⟩ := h6 f hf
    exact ⟨x, nm, g1, g2, hh _ g2 _ g3⟩
  · obtain ⟨x, nm, g1, g2, g3⟩ := h8 f hf
    exact ⟨x, nm, g1, g2, hh _ g2 _ g3⟩
  · have := h10 k hk
    cases hL : t_law T k with
    | none => rw [hL] at this; exact this
    | some L =>
      rw [hL] at this
      obtain ⟨x, g1, g2⟩ := this
      exact ⟨x, g1, LA_h hh g2⟩
/-- what a heap holds of texts -/
def GH (g : Nat → Option jv_C) (h : jv_H) : Prop := ∀ k, (txS k ∨ k = 45) → h[k]? = g k
section
variable {d : Nat} {g : Nat → Option jv_C} {h : jv_H}
theorem jv_rg_at {a tc n : Nat} {f : Nat → Option Nat} {i : Nat} (hc : h[a]? = some (.inl (tc, n, .inr (.inr (.inr (.inr f)))))) (ht : 5 ≤ tc ∧ tc < 12) (hi : i < n) (hn : n < 2 ^ 31) : jv_rg h a (nI i) = some (va_rf (f i)) := by
  unfold jv_rg
  rw [hc]
  dsimp only
  rw [if_pos ⟨ht, nI_in hi hn⟩, nI_clamp (by omega)]
theorem jv_rc_at {b ci : Nat} {fs : List Value} {V : List (Nat × Nat)} (hc : h[b]? = some (.inr (ci, fs))) : jv_rc h b V = V.lookup ci := by
  unfold jv_rc
  rw [hc]
theorem jv_cls_at {b ci : Nat} {fs : List Value} (hc : h[b]? = some (.inr (ci, fs))) : jv_cls h b = some ci := by
  unfold jv_cls
  rw [hc]
theorem n266N {i0 i1 : Int32} : jv_cd (d + 1) 266 [.int i0, .int i1, .null] h = jv_ev d 266 0 [some (.int i0), some (.int i1), some .null] [] h := rfl
/-- an element of a list -/
theorem m_get {a n i x : Nat} {f : Nat → Option Nat} (hl : AL g a n f) (hg : GH g h) (hi : i < n) (hx : f i = some x) : jv_cd (d + 3) 259 [.ref a, .int (nI i)] h = some (.inl (some (.ref x)), h) := by
  obtain ⟨h0, ea, cap, mc, h1, h2, h3, h4, h5⟩ := hl
  rw [← hg _ (Or.inl h0)] at h3
  rw [← hg _ h4] at h5
  have k1 : jv_gf h a [(18, 2, .int)] = some (.int (nI n)) := jv_gf_at h3 rfl rfl
  have k2 : jv_gf h a [(18, 1, .array (.object "java/lang/Object"))] = some (.ref ea) := jv_gf_at h3 rfl rfl
  have k3 : jv_rc h a [(18, 260)] = some 260 := jv_rc_at h3
  have k4 : jv_rg h ea (nI i) = some (.ref x) := by
    rw [jv_rg_at h5 (by omega) (by omega) h2, hx]
    rfl
  simp (disch := omega) only [il_0, il_1, il_2, il_3, il_4, il_5, il_6, il_7, il_8, il_9, il_10, il_11, il_12, il_13, il_14, il_15, il_16, il_17, il_18, il_19, il_20, il_21, il_22, il_23, il_24, il_25, il_26, il_27, il_28, il_29, il_30, il_31, il_32, il_40, il_41, il_42, il_43, il_44, il_45, il_46, il_47, il_48, il_52, il_56, il_57, il_59, il_60, il_61, il_63, il_64, il_68, il_72, il_75, il_76, il_82, il_88, il_89, il_90, il_92, il_96, il_97, il_99, il_100, il_101, il_102, il_103, il_104, il_105, il_107, il_108, il_109, il_110, il_111, il_112, il_114, il_115, il_116, il_117, il_118, il_119, il_121, il_122, il_130, il_200, il_255, il_256, il_260, il_276, il_400, il_403, il_420, il_840, il_999, il_1000, il_2000, il_2001, il_2668, il_2760, il_9999, il_12345, il_1000000, il_1103515245, ↓im_1, ↓im_2, ↓im_8, ↓im_1000, nI_add, pk_mul, pk_sub, ↓pk_rem, pk_div, nm_add, nI_clamp, nI_ltI, nI_leI, nI_eq, nm_eq, mn_eq, mm_eq, nm_lt, mn_lt, nm_le, mn_le, nl_T, nl_F, nle_T, nle_F, ne_T, ne_F, b2i_0, b2i_1, b2i_n, nb_0, nb_1, or_false, false_or, or_true, true_or, and_true, true_and, and_false, false_and, or_self, and_self, not_true_eq_false, not_false_eq_true, ↓reduceIte, if_true, if_false, ↓jv_bs, ↓jv_ol, ↓jv_or, jv_tl, jv_tn, jo_T, ck_2_166_17, ck_6_43_16, ck_6_43_17, ck_6_73_16, ck_7_65_17, ck_30_10_19, su_F, n259, e259_0, e259_1, e259_2, e259_5, e259_8, e259_9, e259_10, e259_11, e259_14, n265, e265_0, e265_1, e265_2, e265_3, e265_6, n266N, e266_0, e266_1, e266_4, e266_5, e266_6, e266_9, e266_10, e266_11, e266_16, e266_17, n260, e260_0, e260_1, e260_4, e260_5, e260_6, ↓jb k1, ↓jb k2, ↓jb k3, ↓jb k4, k1, k2, k3, k4]
theorem m_get_b {a n i x : Nat} {f : Nat → Option Nat} (hl : AL g a n f) (hg : GH g h) (hi : i < n) (hx : f i = some x) {F : jv_R → Option jv_R} : (jv_cd (d + 3) 259 [.ref a, .int (nI i)] h).bind F = F (.inl (some (.ref x)), h) := jb (m_get hl hg hi hx)
theorem m_size {a n : Nat} {f : Nat → Option Nat} (hl : AL g a n f) (hg : GH g h) : jv_cd (d + 1) 258 [.ref a] h = some (.inl (some (.int (nI n))), h) := by
  obtain ⟨h0, ea, cap, mc, h1, h2, h3, h4, h5⟩ := hl
  rw [← hg _ (Or.inl h0)] at h3
  rw [← hg _ h4] at h5
  have k1 : jv_gf h a [(18, 2, .int)] = some (.int (nI n)) := jv_gf_at h3 rfl rfl
  simp (disch := omega) only [il_0, il_1, il_2, il_3, il_4, il_5, il_6, il_7, il_8, il_9, il_10, il_11, il_12, il_13, il_14, il_15, il_16, il_17, il_18, il_19, il_20, il_21, il_22, il_23, il_24, il_25, il_26, il_27, il_28, il_29, il_30, il_31, il_32, il_40, il_41, il_42, il_43, il_44, il_45, il_46, il_47, il_48, il_52, il_56, il_57, il_59, il_60, il_61, il_63, il_64, il_68, il_72, il_75, il_76, il_82, il_88, il_89, il_90, il_92, il_96, il_97, il_99, il_100, il_101, il_102, il_103, il_104, il_105, il_107, il_108, il_109, il_110, il_111, il_112, il_114, il_115, il_116, il_117, il_118, il_119, il_121, il_122, il_130, il_200, il_255, il_256, il_260, il_276, il_400, il_403, il_420, il_840, il_999, il_1000, il_2000, il_2001, il_2668, il_2760, il_9999, il_12345, il_1000000, il_1103515245, ↓im_1, ↓im_2, ↓im_8, ↓im_1000, nI_add, pk_mul, pk_sub, ↓pk_rem, pk_div, nm_add, nI_clamp, nI_ltI, nI_leI, nI_eq, nm_eq, mn_eq, mm_eq, nm_lt, mn_lt, nm_le, mn_le, nl_T, nl_F, nle_T, nle_F, ne_T, ne_F, b2i_0, b2i_1, b2i_n, nb_0, nb_1, or_false, false_or, or_true, true_or, and_true, true_and, and_false, false_and, or_self, and_self, not_true_eq_false, not_false_eq_true, ↓reduceIte, if_true, if_false, ↓jv_bs, ↓jv_ol, ↓jv_or, jv_tl, jv_tn, jo_T, ck_2_166_17, ck_6_43_16, ck_6_43_17, ck_6_73_16, ck_7_65_17, ck_30_10_19, su_F, n258, e258_0, e258_1, e258_4, k1]
theorem m_size_b {a n : Nat} {f : Nat → Option Nat} (hl : AL g a n f) (hg : GH g h) {F : jv_R → Option jv_R} : (jv_cd (d + 1) 258 [.ref a] h).bind F = F (.inl (some (.int (nI n))), h) := jb (m_size hl hg)
end
