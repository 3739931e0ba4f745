/-! strings of the component -/
theorem ic_n {m : Nat} (h : m < 65536) : ((nI m).toUInt32 % 65536).toInt32 = nI m := by
  apply Int32.toBitVec_inj.mp
  apply BitVec.eq_of_toNat_eq
  show ((BitVec.ofNat 32 m) % 65536#32).toNat = (BitVec.ofNat 32 m).toNat
  rw [BitVec.toNat_umod, BitVec.toNat_ofNat, Nat.mod_eq_of_lt (show m < 2 ^ 32 by omega)]
  exact Nat.mod_eq_of_lt h
theorem nch {m : Nat} (h : m < 65536) : (narrow .char (.int (nI m)) = .int (nI m)) = True := eq_true (by
  show Value.int ((nI m).toUInt32 % 65536).toInt32 = _
  rw [ic_n h])
theorem nby_0 : (narrow .byte (.int (nI 0)) = .int (nI 0)) = True := eq_true rfl
theorem sh_0 {x : Int32} : x >>> (nI 0 &&& nI 31) = x := by
  apply Int32.toBitVec_inj.mp
  show x.toBitVec.sshiftRight 0 = _
  simp
theorem and255 {m : Nat} (h : m ≤ 255) : nI m &&& nI 255 = nI m := by
  rw [lb_and]
  congr 1
  unfold lb
  show (BitVec.ofNat 32 m).toNat % 256 = m
  rw [BitVec.toNat_ofNat]
  omega
theorem jv_al_at {h : jv_H} {a tc n : Nat} {f : (Nat → Int32) ⊕ (Nat → Int64) ⊕ (Nat → UInt32) ⊕ (Nat → UInt64) ⊕ (Nat → Option Nat)} (hc : h[a]? = some (.inl (tc, n, f))) (ht : tc < 12) : jv_al h a = some (nI n) := by
  unfold jv_al
  rw [hc]
  exact if_pos ht
section
variable {d x v len i m : Nat} {h : jv_H} {f : Nat → Int32} {fs : List Value}
theorem m_slen (hx : h[x]? = some (.inr (19, .ref v :: .int (nI 0) :: fs))) (hv : h[v]? = some (.inl (1, len, .inl f))) : jv_cd (d + 2) 268 [.ref x] h = some (.inl (some (.int (nI len))), h) := by
  have k1 : jv_gf h x [(19, 0, .array .byte)] = some (.ref v) := jv_gf_at hx rfl rfl
  have k2 : jv_gf h x [(19, 1, .byte)] = some (.int (nI 0)) := jv_gf_at hx rfl rfl
  have k3 : jv_rc h x [(19, 269)] = some 269 := jv_rc_at hx
  have k4 := jv_al_at hv (by decide)
  simp (disch := omega) only [il_0, il_1, il_2, il_3, il_4, il_5, il_6, il_7, il_8, il_9, il_10, il_11, il_12, il_13, il_14, il_15, il_16, il_17, il_18, il_19, il_20, il_21, il_22, il_23, il_24, il_25, il_26, il_27, il_28, il_29, il_30, il_31, il_32, il_40, il_41, il_42, il_43, il_44, il_45, il_46, il_47, il_48, il_52, il_56, il_57, il_59, il_60, il_61, il_63, il_64, il_68, il_72, il_75, il_76, il_82, il_88, il_89, il_90, il_92, il_96, il_97, il_99, il_100, il_101, il_102, il_103, il_104, il_105, il_107, il_108, il_109, il_110, il_111, il_112, il_114, il_115, il_116, il_117, il_118, il_119, il_121, il_122, il_130, il_200, il_255, il_256, il_260, il_276, il_400, il_403, il_420, il_840, il_999, il_1000, il_2000, il_2001, il_2668, il_2760, il_9999, il_12345, il_1000000, il_1103515245, ↓im_1, ↓im_2, ↓im_8, ↓im_1000, nI_add, pk_mul, pk_sub, ↓pk_rem, pk_div, nm_add, nI_clamp, nI_ltI, nI_leI, nI_eq, nm_eq, mn_eq, mm_eq, nm_lt, mn_lt, nm_le, mn_le, nl_T, nl_F, nle_T, nle_F, ne_T, ne_F, b2i_0, b2i_1, b2i_n, nb_0, nb_1, or_false, false_or, or_true, true_or, and_true, true_and, and_false, false_and, or_self, and_self, not_true_eq_false, not_false_eq_true, ↓reduceIte, if_true, if_false, ↓jv_bs, ↓jv_ol, ↓jv_or, jv_tl, jv_tn, jo_T, ck_2_166_17, ck_6_43_16, ck_6_43_17, ck_6_73_16, ck_7_65_17, ck_30_10_19, su_F, e268_0, e268_1, e268_4, e268_5, e268_6, e268_9, e268_10, n268, n269, e269_0, e269_3, e269_6, e269_7, e269_10, e269_13, e269_14, ↓jb k1, ↓jb k2, ↓jb k3, ↓jb k4, nby_0, sh_0]
theorem m_slen_b (hx : h[x]? = some (.inr (19, .ref v :: .int (nI 0) :: fs))) (hv : h[v]? = some (.inl (1, len, .inl f))) {F : jv_R → Option jv_R} : (jv_cd (d + 2) 268 [.ref x] h).bind F = F (.inl (some (.int (nI len))), h) := jb (m_slen hx hv)
theorem m_schar (hx : h[x]? = some (.inr (19, .ref v :: .int (nI 0) :: fs))) (hv : h[v]? = some (.inl (1, len, .inl f))) (hl : len < 2 ^ 31) (hi : i < len) (hf : f i = nI m) (hm : m ≤ 127) : jv_cd (d + 4) 270 [.ref x, .int (nI i)] h = some (.inl (some (.int (nI m))), h) := by
  have k1 : jv_gf h x [(19, 0, .array .byte)] = some (.ref v) := jv_gf_at hx rfl rfl
  have k2 : jv_gf h x [(19, 1, .byte)] = some (.int (nI 0)) := jv_gf_at hx rfl rfl
  have k3 : jv_rc h x [(19, 271)] = some 271 := jv_rc_at hx
  have k4 := jv_al_at hv (by decide)
  have k5 : jv_ig h v 1 2 (nI i) = some (nI m) := by
    rw [jv_ig_at hv (Or.inl rfl), if_neg (nI_in hi hl), nI_clamp (by omega), hf]
  simp (disch := omega) only [il_0, il_1, il_2, il_3, il_4, il_5, il_6, il_7, il_8, il_9, il_10, il_11, il_12, il_13, il_14, il_15, il_16, il_17, il_18, il_19, il_20, il_21, il_22, il_23, il_24, il_25, il_26, il_27, il_28, il_29, il_30, il_31, il_32, il_40, il_41, il_42, il_43, il_44, il_45, il_46, il_47, il_48, il_52, il_56, il_57, il_59, il_60, il_61, il_63, il_64, il_68, il_72, il_75, il_76, il_82, il_88, il_89, il_90, il_92, il_96, il_97, il_99, il_100, il_101, il_102, il_103, il_104, il_105, il_107, il_108, il_109, il_110, il_111, il_112, il_114, il_115, il_116, il_117, il_118, il_119, il_121, il_122, il_130, il_200, il_255, il_256, il_260, il_276, il_400, il_403, il_420, il_840, il_999, il_1000, il_2000, il_2001, il_2668, il_2760, il_9999, il_12345, il_1000000, il_1103515245, ↓im_1, ↓im_2, ↓im_8, ↓im_1000, nI_add, pk_mul, pk_sub, ↓pk_rem, pk_div, nm_add, nI_clamp, nI_ltI, nI_leI, nI_eq, nm_eq, mn_eq, mm_eq, nm_lt, mn_lt, nm_le, mn_le, nl_T, nl_F, nle_T, nle_F, ne_T, ne_F, b2i_0, b2i_1, b2i_n, nb_0, nb_1, or_false, false_or, or_true, true_or, and_true, true_and, and_false, false_and, or_self, and_self, not_true_eq_false, not_false_eq_true, ↓reduceIte, if_true, if_false, ↓jv_bs, ↓jv_ol, ↓jv_or, jv_tl, jv_tn, jo_T, ck_2_166_17, ck_6_43_16, ck_6_43_17, ck_6_73_16, ck_7_65_17, ck_30_10_19, su_F, e270_0, e270_1, e270_4, e270_7, e270_8, e270_11, e270_12, e270_15, e270_16, e270_17, e270_20, e270_21, e270_24, n270, n271, e271_0, e271_3, e271_6, e271_7, e271_10, e271_13, e271_14, e271_17, e271_18, n277, e277_0, e277_1, e277_2, e277_3, e277_6, e277_7, e277_8, e277_9, e277_12, e277_13, e277_14, n272, e272_0, e272_1, e272_2, e272_5, e272_8, e272_9, n266, e266_0, e266_1, e266_4, e266_5, e266_6, e266_9, e266_10, e266_11, e266_16, e266_17, ↓jb k1, ↓jb k2, ↓jb k3, ↓jb k4, ↓jb k5, and255, ic_n, nch]
theorem m_schar_b (hx : h[x]? = some (.inr (19, .ref v :: .int (nI 0) :: fs))) (hv : h[v]? = some (.inl (1, len, .inl f))) (hl : len < 2 ^ 31) (hi : i < len) (hf : f i = nI m) (hm : m ≤ 127) {F : jv_R → Option jv_R} : (jv_cd (d + 4) 270 [.ref x, .int (nI i)] h).bind F = F (.inl (some (.int (nI m))), h) := jb (m_schar hx hv hl hi hf hm)
end
/-- letters by their code -/
theorem cn_inj {l l' : Nat → Nat} : ∀ {n n' : Nat}, (∀ k < n, 97 ≤ l k ∧ l k ≤ 122) → (∀ k < n', 97 ≤ l' k ∧ l' k ≤ 122) → cn l n = cn l' n' → n = n' ∧ ∀ k < n, l k = l' k := by
  intro n
  induction n with
  | zero =>
    intro n' _ h2 e
    cases n' with
    | zero => exact ⟨rfl, fun k hk => absurd hk (Nat.not_lt_zero _)⟩
    | succ n' =>
      have := h2 n' (by omega)
      rw [cnl_s, show cn l 0 = 0 from rfl] at e
      omega
  | succ n ih =>
    intro n' h1 h2 e
    cases n' with
    | zero =>
      have := h1 n (by omega)
      rw [cnl_s, show cn l' 0 = 0 from rfl] at e
      omega
    | succ n' =>
      have g1 := h1 n (by omega)
      have g2 := h2 n' (by omega)
      rw [cnl_s, cnl_s] at e
      obtain ⟨i1, i2⟩ := ih (n' := n') (fun k hk => h1 k (by omega)) (fun k hk => h2 k (by omega)) (by omega)
      subst i1
      refine ⟨rfl, fun k hk => ?_⟩
      by_cases e2 : k = n
      · subst e2; omega
      · exact i2 k (by omega)
theorem cn_ext {l l' : Nat → Nat} : ∀ {n : Nat}, (∀ k < n, l k = l' k) → cn l n = cn l' n := by
  intro n
  induction n with
  | zero => intro _; rfl
  | succ n ih =>
    intro h
    rw [cnl_s, cnl_s, ih fun k hk => h k (by omega), h n (by omega)]
/-! words of the component -/
def wdl (w : Nat) : Nat := ol_len.getD (w + 1) 0
def wdc (w k : Nat) : Nat := ((ol_byt.getD (w + 1) []).getD k 0).toNatClampNeg
theorem wd_n : ∀ w < 21, ∀ k < wdl w, (ol_byt.getD (w + 1) []).getD k 0 = nI (wdc w k) ∧ 97 ≤ wdc w k ∧ wdc w k ≤ 122 := by decide
theorem wd_l : ∀ w < 21, 1 ≤ wdl w ∧ wdl w ≤ 7 := by decide
theorem wd_c : ∀ w < 21, cn (wdc w) (wdl w) = kyl.getD w 0 := by decide
theorem ky_n : ∀ w < 21, ∀ u < 21, kyl.getD w 0 = kyl.getD u 0 → w = u := by decide
/-- which word it is -/
theorem kw_w {c w : Nat} (hw : w < 21) (h : kyl.getD w 0 = c) : kw c = 20 + w := by
  have key : ∀ n, n ≤ 21 → it (fun k a => if kyl.getD k 0 = c then 20 + k else a) n 1 = if w < n then 20 + w else 1 := by
    intro n
    induction n with
    | zero => intro _; rfl
    | succ n ih =>
      intro hn
      rw [it_s, ih (by omega)]
      by_cases e : kyl.getD n 0 = c
      · have := ky_n w hw n (by omega) (h.trans e.symm)
        subst this
        rw [if_pos e, if_pos (by omega)]
      · rw [if_neg e]
        by_cases e2 : w < n
        · rw [if_pos e2, if_pos (by omega)]
        · rw [if_neg e2, if_neg]
          intro e3
          have : w = n := by omega
          subst this
          exact e h
  unfold kw
  rw [key 21 (Nat.le_refl _), if_pos hw]
theorem kw_no {c : Nat} (h : ∀ w < 21, kyl.getD w 0 ≠ c) : kw c = 1 := by
  have key : ∀ n, n ≤ 21 → it (fun k a => if kyl.getD k 0 = c then 20 + k else a) n 1 = 1 := by
    intro n
    induction n with
    | zero => intro _; rfl
    | succ n ih =>
      intro hn
      rw [it_s, ih (by omega), if_neg (h n (by omega))]
  exact key 21 (Nat.le_refl _)
/-! bytes with their sign -/
def sbv (k : Nat) : Int32 := if k < 128 then nI k else mI (256 - k)
section
variable {k m : Nat}
theorem sbv_toInt (hk : k ≤ 255) : (sbv k).toInt = if k < 128 then (k : Int) else (k : Int) - 256 := by
  unfold sbv
  split
  · rw [nI_toInt (by omega)]
  · rw [mI_toInt (by omega)]
    omega
theorem sb_lt (hk : k ≤ 255) (hm : m ≤ 127) : (sbv k < nI m) = (k < m ∨ 128 ≤ k) := by
  apply propext
  rw [Int32.lt_iff_toInt_lt, sbv_toInt hk, nI_toInt (by omega)]
  split <;> omega
theorem sb_gt (hk : k ≤ 255) (hm : m ≤ 127) : (nI m < sbv k) = (m < k ∧ k < 128) := by
  apply propext
  rw [Int32.lt_iff_toInt_lt, sbv_toInt hk, nI_toInt (by omega)]
  split <;> omega
theorem sb_eq (hk : k ≤ 255) (hm : m ≤ 127) : (sbv k = nI m) = (k = m) := by
  apply propext
  constructor
  · intro h
    have := congrArg Int32.toInt h
    rw [sbv_toInt hk, nI_toInt (by omega)] at this
    split at this <;> omega
  · intro h
    subst h
    unfold sbv
    rw [if_pos (by omega)]
theorem sb_eq' (hk : k ≤ 255) (hm : m ≤ 127) : (nI m = sbv k) = (m = k) := by
  rw [eq_comm (a := nI m), sb_eq hk hm]
  exact propext eq_comm
theorem sb_n (hk : k < 128) : sbv k = nI k := if_pos hk
theorem sb_ltT (hk : k ≤ 255) (hm : m ≤ 127) (h : k < m ∨ 128 ≤ k) : (sbv k < nI m) = True := (sb_lt hk hm).trans (eq_true h)
theorem sb_ltF (hk : k ≤ 255) (hm : m ≤ 127) (h : ¬ (k < m ∨ 128 ≤ k)) : (sbv k < nI m) = False := (sb_lt hk hm).trans (eq_false h)
theorem sb_gtT (hk : k ≤ 255) (hm : m ≤ 127) (h : m < k ∧ k < 128) : (nI m < sbv k) = True := (sb_gt hk hm).trans (eq_true h)
theorem sb_gtF (hk : k ≤ 255) (hm : m ≤ 127) (h : ¬ (m < k ∧ k < 128)) : (nI m < sbv k) = False := (sb_gt hk hm).trans (eq_false h)
end
theorem lb_sb {x : Int32} (h : x.toInt8.toInt32 = x) : x = sbv (lb x) := by
  apply Int32.toInt_inj.mp
  rw [sbv_toInt lb_lt]
  have h1 : x.toInt = x.toInt8.toInt := by
    have := congrArg Int32.toInt h
    rw [Int8.toInt_toInt32] at this
    exact this.symm
  have h2 : x.toInt = x.toBitVec.toInt := rfl
  have h3 : x.toBitVec.toInt = if 2 * x.toBitVec.toNat < 2 ^ 32 then (x.toBitVec.toNat : Int) else (x.toBitVec.toNat : Int) - 2 ^ 32 := BitVec.toInt_eq_toNat_cond _
  have h4 := Int8.le_toInt x.toInt8
  have h5 := Int8.toInt_lt x.toInt8
  have h6 : x.toBitVec.toNat < 2 ^ 32 := x.toBitVec.isLt
  unfold lb
  rw [h2] at h1 ⊢
  rw [h3] at h1 ⊢
  split at h1 <;> split <;> split <;> omega
