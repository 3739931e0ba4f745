/-! the reference: a law, whole; one thing is told -/
section
variable {d sd t b c b' c' : Nat} {p q : jv_H} {s s' s2 : tw_S} {K V F N L : Nat → Nat} {R : Nat → Nat → Nat} {z : Zs} {S : Sx} {T : Tx} {w : Wt}
theorem hp_e {α : Type} {H : Zs → Pa α} {G : Nat → Cd → Pa α} (h0 : ∀ e, H (.inl e) = .inl e) (h1 : ∀ u cd, pT K V t = .inr (u, cd) → G u cd = H (.inr (u, w))) : qb (pT K V t) G = H (zex K V (.inr (t, w))) := by
  unfold qb zex
  dsimp only
  generalize pT K V t = r at h1
  cases r with
  | inl e => exact (h0 e).symm
  | inr x => exact h1 x.1 x.2 rfl
theorem zcd_r {x : Nat × Wt} {u : Nat} {cd : Cd} (h : pT K V x.1 = .inr (u, cd)) : zcd K V (.inr x) = cd := by
  unfold zcd
  dsimp only
  rw [h]
/-- one if, as a chain -/
def zK {β : Type} (f : Nat × Wt → Pa β) (z : Zs) : Pa β := match z with
  | .inl e => .inl e
  | .inr y => f y
theorem pIf_c {n : Nat} {acc : List (Cd × Cd × Cd)} {β : Type} {Q : Nat → Lw → Pa β} (w : Wt) (hk : K t = 29) : qb (pIf K V (n + 1) t acc) Q = zK (fun y => qb (pIf K V n y.1 (acc ++ [(zcd K V (zgo (.inr (t, w))), zcd K V (zmu K 13 (zex K V (zgo (.inr (t, w))))), zcd K V (zmu K 30 (zex K V (zmu K 13 (zex K V (zgo (.inr (t, w))))))))])) Q) (zmu K 31 (zex K V (zmu K 30 (zex K V (zmu K 13 (zex K V (zgo (.inr (t, w)))))))) ) := by
  have e0 : pIf K V (n + 1) t acc = qp t fun t1 => qb (pT K V t1) fun t2 a => qm K 13 t2 fun t3 => qb (pT K V t3) fun t4 b => qm K 30 t4 fun t5 => qb (pT K V t5) fun t6 c => qm K 31 t6 fun t7 => pIf K V n t7 (acc ++ [(a, b, c)]) := if_pos hk
  rw [e0]
  have step : ∀ {α β : Type} (t : Nat) (f : Nat → Pa α) (Q : Nat → α → Pa β), qb (qp t f) Q = qp t fun u => qb (f u) Q := fun t f Q => by
    unfold qp
    split <;> rfl
  have stepm : ∀ {α β : Type} (k t : Nat) (f : Nat → Pa α) (Q : Nat → α → Pa β), qb (qm K k t f) Q = qm K k t fun u => qb (f u) Q := fun k t f Q => by
    unfold qm
    split
    · exact step t f Q
    · rfl
  have stepb : ∀ {α β γ : Type} (r : Pa α) (f : Nat → α → Pa β) (Q : Nat → β → Pa γ), qb (qb r f) Q = qb r fun u x => qb (f u x) Q := fun r f Q => by
    cases r <;> rfl
  simp only [step, stepm, stepb]
  refine hp_p (w := w) (H := fun z => zK (fun y => qb (pIf K V n y.1 (acc ++ [(zcd K V z, zcd K V (zmu K 13 (zex K V z)), zcd K V (zmu K 30 (zex K V (zmu K 13 (zex K V z)))))])) Q) (zmu K 31 (zex K V (zmu K 30 (zex K V (zmu K 13 (zex K V z))))))) (fun _ => rfl) ?_
  refine hp_e (H := fun z => zK (fun y => qb (pIf K V n y.1 (acc ++ [(zcd K V (.inr (t + 1, w)), zcd K V (zmu K 13 z), zcd K V (zmu K 30 (zex K V (zmu K 13 z))))])) Q) (zmu K 31 (zex K V (zmu K 30 (zex K V (zmu K 13 z)))))) (fun _ => rfl) fun u a ha => ?_
  rw [zcd_r (x := (t + 1, w)) ha]
  refine hp_m (H := fun z => zK (fun y => qb (pIf K V n y.1 (acc ++ [(a, zcd K V z, zcd K V (zmu K 30 (zex K V z)))])) Q) (zmu K 31 (zex K V (zmu K 30 (zex K V z))))) (fun _ => rfl) ?_
  refine hp_e (H := fun z => zK (fun y => qb (pIf K V n y.1 (acc ++ [(a, zcd K V (.inr (u + 1, w)), zcd K V (zmu K 30 z))])) Q) (zmu K 31 (zex K V (zmu K 30 z)))) (fun _ => rfl) fun u' a' ha' => ?_
  rw [zcd_r (x := (u + 1, w)) ha']
  refine hp_m (H := fun z => zK (fun y => qb (pIf K V n y.1 (acc ++ [(a, a', zcd K V z)])) Q) (zmu K 31 (zex K V z))) (fun _ => rfl) ?_
  refine hp_e (H := fun z => zK (fun y => qb (pIf K V n y.1 (acc ++ [(a, a', zcd K V (.inr (u' + 1, w)))])) Q) (zmu K 31 z)) (fun _ => rfl) fun u'' a'' ha'' => ?_
  rw [zcd_r (x := (u' + 1, w)) ha'']
  exact hp_m (H := fun z => zK (fun y => qb (pIf K V n y.1 (acc ++ [(a, a', a'')])) Q) z) (fun _ => rfl) rfl
/-- no if: the last term -/
theorem pIf_e {n : Nat} {acc : List (Cd × Cd × Cd)} (hk : K t ≠ 29) : qb (pIf K V n t acc) (fun t3 l => qm K 4 t3 fun t4 => (.inr (t4, l) : Pa Lw)) = match zmu K 4 (zex K V (.inr (t, w))) with
    | .inl e => .inl e
    | .inr y => .inr (y.1, (acc, zcd K V (.inr (t, w)))) := by
  have e : qb (pIf K V n t acc) (fun t3 l => qm K 4 t3 fun t4 => (.inr (t4, l) : Pa Lw)) = qb (pT K V t) fun u c => qm K 4 u fun t4 => .inr (t4, (acc, c)) := by
    cases n with
    | zero =>
      unfold pIf
      rw [if_neg hk]
      cases pT K V t <;> rfl
    | succ n =>
      unfold pIf
      rw [if_neg hk]
      cases pT K V t <;> rfl
  rw [e]
  refine hp_e (H := fun z => match zmu K 4 z with | .inl e => .inl e | .inr y => .inr (y.1, (acc, zcd K V (.inr (t, w))))) (fun _ => rfl) fun u c hc => ?_
  rw [zcd_r (x := (t, w)) hc]
  exact hp_m (H := fun z => match z with | .inl e => .inl e | .inr y => .inr (y.1, (acc, c))) (fun _ => rfl) rfl
/-- from the last term on -/
theorem m_lawEnd (hp : p.length = 589) (hsd : sd < 2) {k first : Nat} (hk : k < 3) (hfi : 130 * sd ≤ first) {n : Nat} {acc : List (Cd × Cd × Cd)} (hz : ZQ s K F (.inr (t, w))) (hte : TE s K V F N) (hl : acc.length ≤ 4) (h36 : s.1 36 = nI b) (hbe : b = first + acc.length) (hb4 : 4 * b + 2 ≤ 520 * sd + t) (h42 : s.1 42 = nI c) (hcr : 420 * sd ≤ c ∧ c ≤ 420 * sd + t) (hLP : LPx s sd first acc c) (h19 : s.1 19 = nI sd) (hkt : K t ≠ 29) : ∃ s', FX sd s s' ∧ (∀ j, 22 ≤ j → j ≤ 33 → s'.2.1 j = s.2.1 j) ∧ AB sd b c s s' ∧ s'.1 20 = s.1 20 ∧ s'.2.2 = s.2.2 ∧ (match qb (pIf K V n t acc) (fun t3 l => qm K 4 t3 fun t4 => (.inr (t4, l) : Pa Lw)) with
      | .inl e => ZQ s' K F (.inl e)
      | .inr x => ZQ s' K F (.inr (x.1, w)) ∧ t ≤ x.1 ∧ ∃ c', s'.1 36 = nI (first + x.2.1.length + 1) ∧ 4 * (first + x.2.1.length + 1) ≤ 520 * sd + x.1 ∧ s'.1 42 = nI c' ∧ c ≤ c' ∧ c' ≤ 420 * sd + x.1 ∧ first + x.2.1.length + 1 ≥ b ∧ s'.2.1 34 = upd (s.2.1 34) (3 * sd + k) (nI first) ∧ s'.2.1 35 = upd (s.2.1 35) (3 * sd + k) (nI (first + x.2.1.length + 1)) ∧ ∀ s2, AB sd (first + x.2.1.length + 1) c' s' s2 → LE s2 first x.2) ∧ jv_ev (d + 6) 30 12 [some (.ref 589), some (.int (nI k)), some (.int (nI first)), some (.int (nI acc.length))] [] (tw_h p s q) = some (.inl none, tw_h p s' q) := by
  obtain ⟨q1, q2, q3, q4, q5, q6, q7⟩ := id hz
  have ht4 : t ≤ 400 := q4.1
  have gi := m_isT (d := d + 5) (q := q) (k := 29) hp q1 q2 ht4 (hte t q4).1 (hte t q4).2.2.1 (by decide)
  rw [decide_eq_false hkt, b2i_f] at gi
  have hb : 130 * sd ≤ b ∧ b < 130 * sd + 130 := by omega
  have fA : FL sd b c s (tw_a s 37 (upd (s.2.1 37) b (nI 0))) := FL_a (by decide) (by decide) (Nat.le_refl _) hb
  obtain ⟨s2, f2, g2, g2', z2, d2, r2⟩ := z_tm (d := d + 1) (q := q) (b := b) (c := c) (sd := sd) (s := tw_a s 37 (upd (s.2.1 37) b (nI 0))) (z := .inr (t, w)) hp (ZQ_a hz) (TE_FL hte fA) hsd h36 hb (by omega) (fun x hx => by obtain rfl := Sum.inr.inj hx; exact ⟨h42, hcr.2⟩)
  have fs2 := FL_tr fA f2 (Nat.le_refl _) (Nat.le_refl _)
  obtain ⟨s3, f3, z3, r3⟩ := z_mu (d := d + 3) (q := q) (k := 4) hp z2 (TE_FL hte fs2) (by decide)
  have fs3 := FL_tr fs2 (FL_FZ (sd := sd) (b := b) (c := c) f3) (Nat.le_refl _) (Nat.le_refl _)
  rw [pIf_e (w := w) hkt]
  have k19 : s3.1 19 = nI sd := (fs3.1.1 19 (by unfold ch; omega)).trans h19
  have k36 : s3.1 36 = nI (b + 1) := (f3.1 36 (by decide)).trans g2'
  generalize hz3 : zmu K 4 (zex K V (.inr (t, w))) = zz at z3 ⊢
  cases zz with
  | inl e =>
    have g1 := z3.1
    have g1' := z3.2.1
    refine ⟨s3, fs3.1, fun j a e => fs3.2.1 j a (by omega), fs3.2.2.1, fs3.2.2.2.1, fs3.2.2.2.2, z3, ?_⟩
    simp (disch := omega) only [il_0, il_1, il_2, il_3, il_4, il_5, il_6, il_7, il_8, il_9, il_10, il_11, il_12, il_13, il_14, il_15, il_16, il_17, il_18, il_19, il_20, il_21, il_22, il_23, il_24, il_25, il_26, il_27, il_28, il_29, il_30, il_31, il_32, il_40, il_41, il_42, il_43, il_44, il_45, il_46, il_47, il_48, il_52, il_56, il_57, il_59, il_60, il_61, il_63, il_64, il_68, il_72, il_75, il_76, il_82, il_88, il_89, il_90, il_92, il_96, il_97, il_99, il_100, il_101, il_102, il_103, il_104, il_105, il_107, il_108, il_109, il_110, il_111, il_112, il_114, il_115, il_116, il_117, il_118, il_119, il_121, il_122, il_130, il_200, il_255, il_256, il_260, il_276, il_400, il_403, il_420, il_840, il_999, il_1000, il_2000, il_2001, il_2668, il_2760, il_9999, il_12345, il_1000000, il_1103515245, ↓im_1, ↓im_2, ↓im_8, ↓im_1000, nI_add, pk_mul, pk_sub, ↓pk_rem, pk_div, nm_add, nI_clamp, nI_ltI, nI_leI, nI_eq, nm_eq, mn_eq, mm_eq, nm_lt, mn_lt, nm_le, mn_le, nl_T, nl_F, nle_T, nle_F, ne_T, ne_F, b2i_0, b2i_1, b2i_n, nb_0, nb_1, or_false, false_or, or_true, true_or, and_true, true_and, and_false, false_and, or_self, and_self, not_true_eq_false, not_false_eq_true, ↓reduceIte, if_true, if_false, ↓jv_bs, ↓jv_ol, ↓jv_or, jv_tl, jv_tn, jo_T, ck_2_166_17, ck_6_43_16, ck_6_43_17, ck_6_73_16, ck_7_65_17, ck_30_10_19, su_F, e30_12, e30_13, e30_16, e30_19, e30_20, e30_22, e30_25, e30_129, e30_130, e30_133, e30_134, e30_137, e30_138, e30_139, e30_140, e30_143, e30_144, e30_145, e30_148, e30_149, e30_152, e30_155, ↓tgb_13 hp, wi_13, ↓tgb_19 hp, wi_19, ↓tgb_34 hp, ↓trb_34 hp, ↓tub_34 hp, wa_34, ↓tgb_35 hp, ↓trb_35 hp, ↓tub_35 hp, wa_35, ↓tgb_36 hp, wi_36, ↓tgb_37 hp, ↓trb_37 hp, ↓tub_37 hp, wa_37, ↓tgb_38 hp, ↓trb_38 hp, ↓tub_38 hp, wa_38, ↓tgb_39 hp, ↓trb_39 hp, ↓tub_39 hp, wa_39, ↓tgb_42 hp, wi_42, ↓tw_rcb hp, q1, h36, g1, vb_0, ↓jbR gi, ↓jbR r2, ↓jbR r3]
  | inr y =>
    obtain ⟨y2, hy2, rfl, _⟩ := zmu_i hz3
    obtain ⟨i1, i2, i3, i4, i5, i6, i7⟩ := d2 (t, w) y2 rfl hy2
    have g1 : s3.1 13 = nI 0 := z3.1
    obtain ⟨yt, yw⟩ := y2
    dsimp only at i3 i4 i5 z3 ⊢
    subst i5
    have hy4 : yt + 1 ≤ 400 := z3.2.2.2.1.1
    refine ⟨tw_a (tw_a s3 34 (upd (s3.2.1 34) (3 * sd + k) (nI first))) 35 (upd (s3.2.1 35) (3 * sd + k) (nI (b + 1))), FX_tr fs3.1 (FX_tr (FX_a (by decide) (by decide) (by show 3 * sd ≤ _ ∧ _ < 3 * sd + 3; omega)) (FX_a (s := tw_a s3 34 (upd (s3.2.1 34) (3 * sd + k) (nI first))) (by decide) (by decide) (by show 3 * sd ≤ _ ∧ _ < 3 * sd + 3; omega))), fun j a e => ?_, AB_tr fs3.2.2.1 (AB_e fun j a e => ?_), fs3.2.2.2.1, fs3.2.2.2.2, ⟨ZQ_a (ZQ_a z3), by omega, c + (zcd K V (.inr (t, yw))).length, ?_, by omega, (f3.1 42 (by decide)).trans i1, by omega, by omega, by omega, ?_, ?_, fun s4 h4 => ?_⟩, ?_⟩
    · show (if j = 35 then _ else if j = 34 then _ else s3.2.1 j) = _
      rw [if_neg (by omega), if_neg (by omega)]
      exact fs3.2.1 j a (by omega)
    · show (if j = 35 then _ else if j = 34 then _ else s3.2.1 j) = _
      rw [if_neg (by omega), if_neg (by omega)]
    · rw [← hbe]
      exact k36
    · show upd (s3.2.1 34) (3 * sd + k) (nI first) = _
      rw [fs3.2.1 34 (by decide) (by decide)]
    · show upd (s3.2.1 35) (3 * sd + k) (nI (b + 1)) = _
      rw [fs3.2.1 35 (by decide) (by decide), hbe]
    · have h4' : AB sd (first + acc.length + 1) (c + (zcd K V (.inr (t, yw))).length) s3 s4 := AB_tr (AB_e fun j a e => by
        show (if j = 35 then _ else if j = 34 then _ else s3.2.1 j) = _
        rw [if_neg (by omega), if_neg (by omega)]) h4
      have hh := h4'.1
      have a3 : ∀ k, s3.2.1 k = s2.2.1 k := fun k => by rw [f3.2]
      rw [← hbe] at hh
      refine ⟨by dsimp only; omega, fun i x hx => hLP s4 (AB_tr (by rw [← hbe]; exact fs3.2.2.1) (AB_le h4' (by omega) (by omega))) i x hx, ?_, c, ?_, ?_, ?_, by dsimp only; omega⟩
      · dsimp only
        rw [← hbe, hh 37 (by decide) (by decide) b (by omega) (by omega), a3, g2 37 (by decide) (by decide)]
        exact pk_us
      · dsimp only
        rw [← hbe, hh 40 (by decide) (by decide) b (by omega) (by omega), a3]
        exact i6
      · dsimp only
        rw [← hbe, hh 41 (by decide) (by decide) b (by omega) (by omega), a3]
        exact i7
      · exact SG_AB (SG_FL i2 (FL_FZ (sd := sd) (b := b) (c := c + (zcd K V (.inr (t, yw))).length) f3) hcr.1 (Nat.le_refl _)) h4' hcr.1 (Nat.le_refl _)
    · simp (disch := omega) only [il_0, il_1, il_2, il_3, il_4, il_5, il_6, il_7, il_8, il_9, il_10, il_11, il_12, il_13, il_14, il_15, il_16, il_17, il_18, il_19, il_20, il_21, il_22, il_23, il_24, il_25, il_26, il_27, il_28, il_29, il_30, il_31, il_32, il_40, il_41, il_42, il_43, il_44, il_45, il_46, il_47, il_48, il_52, il_56, il_57, il_59, il_60, il_61, il_63, il_64, il_68, il_72, il_75, il_76, il_82, il_88, il_89, il_90, il_92, il_96, il_97, il_99, il_100, il_101, il_102, il_103, il_104, il_105, il_107, il_108, il_109, il_110, il_111, il_112, il_114, il_115, il_116, il_117, il_118, il_119, il_121, il_122, il_130, il_200, il_255, il_256, il_260, il_276, il_400, il_403, il_420, il_840, il_999, il_1000, il_2000, il_2001, il_2668, il_2760, il_9999, il_12345, il_1000000, il_1103515245, ↓im_1, ↓im_2, ↓im_8, ↓im_1000, nI_add, pk_mul, pk_sub, ↓pk_rem, pk_div, nm_add, nI_clamp, nI_ltI, nI_leI, nI_eq, nm_eq, mn_eq, mm_eq, nm_lt, mn_lt, nm_le, mn_le, nl_T, nl_F, nle_T, nle_F, ne_T, ne_F, b2i_0, b2i_1, b2i_n, nb_0, nb_1, or_false, false_or, or_true, true_or, and_true, true_and, and_false, false_and, or_self, and_self, not_true_eq_false, not_false_eq_true, ↓reduceIte, if_true, if_false, ↓jv_bs, ↓jv_ol, ↓jv_or, jv_tl, jv_tn, jo_T, ck_2_166_17, ck_6_43_16, ck_6_43_17, ck_6_73_16, ck_7_65_17, ck_30_10_19, su_F, e30_12, e30_13, e30_16, e30_19, e30_20, e30_22, e30_25, e30_129, e30_130, e30_133, e30_134, e30_137, e30_138, e30_139, e30_140, e30_143, e30_144, e30_145, e30_148, e30_149, e30_152, e30_155, e30_156, e30_157, e30_160, e30_161, e30_162, e30_165, e30_166, e30_167, e30_168, e30_169, e30_170, e30_171, e30_174, e30_175, e30_176, e30_179, e30_180, e30_181, e30_182, e30_183, e30_186, e30_187, ↓tgb_13 hp, wi_13, ↓tgb_19 hp, wi_19, ↓tgb_34 hp, ↓trb_34 hp, ↓tub_34 hp, wa_34, ↓tgb_35 hp, ↓trb_35 hp, ↓tub_35 hp, wa_35, ↓tgb_36 hp, wi_36, ↓tgb_37 hp, ↓trb_37 hp, ↓tub_37 hp, wa_37, ↓tgb_38 hp, ↓trb_38 hp, ↓tub_38 hp, wa_38, ↓tgb_39 hp, ↓trb_39 hp, ↓tub_39 hp, wa_39, ↓tgb_42 hp, wi_42, ↓tw_rcb hp, q1, h36, g1, k19, k36, vb_0, ↓jbR gi, ↓jbR r2, ↓jbR r3, tw_a1, tw_a2, tw_a3, Nat.reduceEqDiff]
/-- from the ifs on to the end -/
theorem m_lawE (hp : p.length = 589) (hsd : sd < 2) {k first : Nat} (hk : k < 3) (hfi : 130 * sd ≤ first) : ∀ n t acc s b c w, ZQ s K F (.inr (t, w)) → TE s K V F N → acc.length + n = 4 → s.1 36 = nI b → b = first + acc.length → 4 * b + 2 ≤ 520 * sd + t → s.1 42 = nI c → (420 * sd ≤ c ∧ c ≤ 420 * sd + t) → LPx s sd first acc c → s.1 19 = nI sd → ∃ s', FX sd s s' ∧ (∀ j, 22 ≤ j → j ≤ 33 → s'.2.1 j = s.2.1 j) ∧ AB sd b c s s' ∧ s'.1 20 = s.1 20 ∧ s'.2.2 = s.2.2 ∧ (match qb (pIf K V n t acc) (fun t3 l => qm K 4 t3 fun t4 => (.inr (t4, l) : Pa Lw)) with
      | .inl e => ZQ s' K F (.inl e)
      | .inr x => ZQ s' K F (.inr (x.1, w)) ∧ t ≤ x.1 ∧ ∃ c', s'.1 36 = nI (first + x.2.1.length + 1) ∧ 4 * (first + x.2.1.length + 1) ≤ 520 * sd + x.1 ∧ s'.1 42 = nI c' ∧ c ≤ c' ∧ c' ≤ 420 * sd + x.1 ∧ first + x.2.1.length + 1 ≥ b ∧ s'.2.1 34 = upd (s.2.1 34) (3 * sd + k) (nI first) ∧ s'.2.1 35 = upd (s.2.1 35) (3 * sd + k) (nI (first + x.2.1.length + 1)) ∧ ∀ s2, AB sd (first + x.2.1.length + 1) c' s' s2 → LE s2 first x.2) ∧ jv_ev (d + 6) 30 12 [some (.ref 589), some (.int (nI k)), some (.int (nI first)), some (.int (nI acc.length))] [] (tw_h p s q) = some (.inl none, tw_h p s' q) := by
  intro n
  induction n with
  | zero =>
    intro t acc s b c w hz hte hl h36 hbe hb4 h42 hcr hLP h19
    obtain ⟨q1, q2, q3, q4, q5, q6, q7⟩ := id hz
    have ht4 : t ≤ 400 := q4.1
    by_cases hkt : K t = 29
    · have gi := m_isT (d := d + 5) (q := q) (k := 29) hp q1 q2 ht4 (hte t q4).1 (hte t q4).2.2.1 (by decide)
      rw [decide_eq_true hkt, b2i_t] at gi
      obtain ⟨s1, f1, z1, r1⟩ := z_fail (d := d + 5) (q := q) (k := 2) hp hz hte (by decide)
      have e : qb (pIf K V 0 t acc) (fun t3 l => qm K 4 t3 fun t4 => (.inr (t4, l) : Pa Lw)) = .inl (2, t) := by
        unfold pIf
        rw [if_pos hkt]
        rfl
      rw [e]
      have g1 := z1.1
      have g2 := z1.2.1
      refine ⟨s1, FX_FZ f1, fun j _ _ => by rw [f1.2], AB_e fun j _ _ => by rw [f1.2], f1.1 20 (by decide), by rw [f1.2], z1, ?_⟩
      have hl : acc.length = 4 := by omega
      rw [hl]
      simp (disch := omega) only [il_0, il_1, il_2, il_3, il_4, il_5, il_6, il_7, il_8, il_9, il_10, il_11, il_12, il_13, il_14, il_15, il_16, il_17, il_18, il_19, il_20, il_21, il_22, il_23, il_24, il_25, il_26, il_27, il_28, il_29, il_30, il_31, il_32, il_40, il_41, il_42, il_43, il_44, il_45, il_46, il_47, il_48, il_52, il_56, il_57, il_59, il_60, il_61, il_63, il_64, il_68, il_72, il_75, il_76, il_82, il_88, il_89, il_90, il_92, il_96, il_97, il_99, il_100, il_101, il_102, il_103, il_104, il_105, il_107, il_108, il_109, il_110, il_111, il_112, il_114, il_115, il_116, il_117, il_118, il_119, il_121, il_122, il_130, il_200, il_255, il_256, il_260, il_276, il_400, il_403, il_420, il_840, il_999, il_1000, il_2000, il_2001, il_2668, il_2760, il_9999, il_12345, il_1000000, il_1103515245, ↓im_1, ↓im_2, ↓im_8, ↓im_1000, nI_add, pk_mul, pk_sub, ↓pk_rem, pk_div, nm_add, nI_clamp, nI_ltI, nI_leI, nI_eq, nm_eq, mn_eq, mm_eq, nm_lt, mn_lt, nm_le, mn_le, nl_T, nl_F, nle_T, nle_F, ne_T, ne_F, b2i_0, b2i_1, b2i_n, nb_0, nb_1, or_false, false_or, or_true, true_or, and_true, true_and, and_false, false_and, or_self, and_self, not_true_eq_false, not_false_eq_true, ↓reduceIte, if_true, if_false, ↓jv_bs, ↓jv_ol, ↓jv_or, jv_tl, jv_tn, jo_T, ck_2_166_17, ck_6_43_16, ck_6_43_17, ck_6_73_16, ck_7_65_17, ck_30_10_19, su_F, e30_12, e30_13, e30_16, e30_19, e30_20, e30_22, e30_25, e30_28, e30_29, e30_30, e30_33, e30_34, e30_35, e30_38, e30_39, e30_42, e30_45, ↓tgb_13 hp, wi_13, ↓tgb_19 hp, wi_19, ↓tgb_34 hp, ↓trb_34 hp, ↓tub_34 hp, wa_34, ↓tgb_35 hp, ↓trb_35 hp, ↓tub_35 hp, wa_35, ↓tgb_36 hp, wi_36, ↓tgb_37 hp, ↓trb_37 hp, ↓tub_37 hp, wa_37, ↓tgb_38 hp, ↓trb_38 hp, ↓tub_38 hp, wa_38, ↓tgb_39 hp, ↓trb_39 hp, ↓tub_39 hp, wa_39, ↓tgb_42 hp, wi_42, ↓tw_rcb hp, q1, g1, ↓jbR gi, ↓jbR r1]
    · exact m_lawEnd hp hsd hk hfi hz hte (by omega) h36 hbe hb4 h42 hcr hLP h19 hkt
  | succ n ih =>
    intro t acc s b c w hz hte hl h36 hbe hb4 h42 hcr hLP h19
    have ht4 : t ≤ 400 := hz.2.2.2.1.1
    by_cases hkt : K t = 29
    · obtain ⟨s1, f1, g36, z7, d7, r1⟩ := m_if (d := d) (q := q) (b := b) (c := c) (n := acc.length) (x1 := some (.int (nI k))) (x2 := some (.int (nI first))) hp hz hte hsd hkt (by omega) h36 (by omega) h42 hcr rfl rfl rfl rfl rfl rfl rfl
      rw [pIf_c w hkt, r1]
      generalize zcd K V (zgo (.inr (t, w))) = A at d7 ⊢
      generalize zcd K V (zmu K 13 (zex K V (zgo (.inr (t, w))))) = B at d7 ⊢
      generalize zcd K V (zmu K 30 (zex K V (zmu K 13 (zex K V (zgo (.inr (t, w))))))) = C at d7 ⊢
      generalize zmu K 31 (zex K V (zmu K 30 (zex K V (zmu K 13 (zex K V (zgo (.inr (t, w)))))))) = zz at z7 d7 ⊢
      cases zz with
      | inl e =>
        obtain ⟨s2, f2, z2, r2⟩ := m_lawF (d := d + 1) (q := q) (b := b + 1) (c := c) (sd := sd) (x1 := some (.int (nI k))) (x2 := some (.int (nI first))) (x3 := some (.int (nI (acc.length + 1)))) hp z7 (TE_FL hte f1) hsd g36 (by omega) (by omega)
        have f12 := FL_tr f1 f2 (by omega) (Nat.le_refl _)
        exact ⟨s2, f12.1, fun j a e => f12.2.1 j a (by omega), f12.2.2.1, f12.2.2.2.1, f12.2.2.2.2, z2, r2⟩
      | inr y =>
        obtain ⟨i1, i2, i3, i4, i5, i6, i7, i8, i9, i10, i11, i12⟩ := d7 y rfl
        obtain ⟨yt, yw⟩ := y
        dsimp only at i1 i2 i3 i4 z7 ⊢
        subst i2
        have hal : (acc ++ [(A, B, C)]).length = acc.length + 1 := by rw [List.length_append]; rfl
        obtain ⟨s2, j1, j2, j3, j4, j5, j6, j7⟩ := ih yt (acc ++ [(A, B, C)]) s1 (b + 1) (c + A.length + B.length + C.length) yw z7 (TE_FL hte f1) (by omega) g36 (by omega) (by omega) i3 ⟨by omega, i4⟩ (by
          intro s3 h3 i x hx
          rw [hal] at h3
          by_cases hi : i < acc.length
          · rw [List.getElem?_append_left hi] at hx
            rw [hbe] at f1
            exact hLP s3 (AB_tr f1.2.2.1 (AB_le h3 (by omega) (by omega))) i x hx
          · have hi2 : i = acc.length := by
              have := (List.getElem?_eq_some_iff.mp hx).1
              omega
            subst hi2
            rw [List.getElem?_append_right (Nat.le_refl _), Nat.sub_self] at hx
            obtain rfl := Option.some.inj hx
            rw [← hbe]
            rw [show first + (acc.length + 1) = b + 1 by omega] at h3
            have hh := h3.1
            refine ⟨(hh 37 (by decide) (by decide) b (by omega) (by omega)).trans i5, c, (hh 38 (by decide) (by decide) b (by omega) (by omega)).trans i6, (hh 39 (by decide) (by decide) b (by omega) (by omega)).trans i7, (hh 40 (by decide) (by decide) b (by omega) (by omega)).trans i8, (hh 41 (by decide) (by decide) b (by omega) (by omega)).trans i9, SG_AB i10 h3 (by omega) (by dsimp only; omega), SG_AB i11 h3 (by omega) (by dsimp only; omega), SG_AB i12 h3 (by omega) (Nat.le_refl _), ?_⟩
            have : yt ≤ 400 := z7.2.2.2.1.1
            dsimp only
            omega) ((f1.1.1 19 (by unfold ch; omega)).trans h19)
        rw [hal] at j7
        refine ⟨s2, FX_tr f1.1 j1, fun j a e => (j2 j a e).trans (f1.2.1 j a (by omega)), AB_tr f1.2.2.1 (AB_le j3 (by omega) (by omega)), j4.trans f1.2.2.2.1, j5.trans f1.2.2.2.2, ?_, j7⟩
        unfold zK
        dsimp only
        generalize qb (pIf K V n yt (acc ++ [(A, B, C)])) (fun t3 l => qm K 4 t3 fun t4 => (.inr (t4, l) : Pa Lw)) = rr at j6 ⊢
        cases rr with
        | inl e => exact j6
        | inr x =>
          obtain ⟨k1, k2, c', k3, k4, k5, k6, k7, k8, k9, k10, k11⟩ := j6
          rw [f1.2.1 34 (by decide) (by decide)] at k9
          rw [f1.2.1 35 (by decide) (by decide)] at k10
          exact ⟨k1, by omega, c', k3, k4, k5, by omega, k7, by omega, k9, k10, k11⟩
    · exact m_lawEnd hp hsd hk hfi hz hte (by omega) h36 hbe hb4 h42 hcr hLP h19 hkt
/-- a law -/
theorem TP_L {k a c' b' : Nat} {l : Lw} (hk : k < 3) (h : TP s sd T w b c) (h19 : s'.1 19 = s.1 19) (he : ∀ j, 22 ≤ j → j ≤ 33 → s'.2.1 j = s.2.1 j) (hA : AB sd b c s s') (hb : b ≤ b') (hc : c ≤ c') (h34 : s'.2.1 34 = upd (s.2.1 34) (3 * sd + k) (nI a)) (h35 : s'.2.1 35 = upd (s.2.1 35) (3 * sd + k) (nI (a + l.1.length + 1))) (hl : ∀ s2, AB sd b' c' s' s2 → LE s2 a l) : TP s' sd (tL T k l) w b' c' := by
  obtain ⟨a1, a2, a3, a4, a5, a6, a7, a8, a9, a10, a11, a12⟩ := h
  unfold TP
  rw [h19, he 22 (by decide) (by decide), he 23 (by decide) (by decide), he 24 (by decide) (by decide), he 25 (by decide) (by decide), he 26 (by decide) (by decide), he 27 (by decide) (by decide), he 28 (by decide) (by decide), he 29 (by decide) (by decide), he 30 (by decide) (by decide), he 31 (by decide) (by decide), he 32 (by decide) (by decide), he 33 (by decide) (by decide)]
  refine ⟨a1, a2, a3, a4, a5, a6, a7, a8, a9, a10, a11, fun j hj => ?_⟩
  show LQ s' sd b' c' j (if j = k then some l else T.2.2 j)
  by_cases e : j = k
  · subst e
    rw [if_pos rfl]
    exact ⟨a, by rw [h34]; exact pk_us, by rw [h35]; exact pk_us, hl⟩
  · rw [if_neg e]
    have := a12 j hj
    change LQ s sd b c j (T.2.2 j) at this
    have g34 : s'.2.1 34 (3 * sd + j) = s.2.1 34 (3 * sd + j) := by rw [h34]; exact pk_un (by omega)
    have g35 : s'.2.1 35 (3 * sd + j) = s.2.1 35 (3 * sd + j) := by rw [h35]; exact pk_un (by omega)
    generalize T.2.2 j = o at this ⊢
    cases o with
    | none =>
      obtain ⟨x, h1, h2, h3⟩ := this
      exact ⟨x, h1, g34.trans h2, g35.trans h3⟩
    | some L =>
      obtain ⟨x, h1, h2, h3⟩ := this
      exact ⟨x, g34.trans h1, g35.trans h2, fun s2 h4 => h3 s2 (AB_tr hA (AB_le h4 hb hc))⟩
theorem tt_law (hp : p.length = 589) (hE : EN K V F N L R) (hS : PI s K V F N sd t S) (hk : 23 ≤ K t ∧ K t ≤ 25) : ∃ s', FX sd s s' ∧ PO s' K V F N sd (pOne K V N L R t S) ∧ jv_cd (d + 8) 18 [.ref 589] (tw_h p s q) = some (.inl none, tw_h p s' q) := by
  obtain ⟨hz, hte, hn, hsd, b, c, h36, h42, hb, hc, hT⟩ := hS
  obtain ⟨T, nm, w⟩ := S
  dsimp only at hz hn hT
  have h19 := hT.1
  have e : pOne K V N L R t (T, nm, w) = zK (fun y => qb (qb (pIf K V 4 y.1 []) (fun t3 l => qm K 4 t3 fun t4 => (.inr (t4, l) : Pa Lw))) fun t4 l => .inr (t4, (tL T (K t - 23) l, nm, w))) (zmu K 5 (zgo (.inr (t, w)))) := by
    unfold pOne
    rw [if_neg (by omega), if_neg (by omega), if_neg (by omega), if_neg (by omega), if_neg (by omega), if_neg (by omega), if_pos hk]
    refine hp_p (H := fun z => zK _ (zmu K 5 z)) (fun _ => rfl) (hp_m (H := fun z => zK (fun y => qb (qb (pIf K V 4 y.1 []) (fun t3 l => qm K 4 t3 fun t4 => (.inr (t4, l) : Pa Lw))) fun t4 l => .inr (t4, (tL T (K t - 23) l, nm, w))) z) (fun _ => rfl) ?_)
    unfold zK
    dsimp only
    generalize pIf K V 4 (t + 1 + 1) [] = r
    cases r with
    | inl e => rfl
    | inr x =>
      unfold qb
      dsimp only
      unfold qm qp
      split
      · split <;> rfl
      · rfl
  rw [e]
  obtain ⟨q1, q2, q3, q4, q5, q6, q7⟩ := id hz
  obtain ⟨k1, _, k3, _⟩ := hte t q4
  have ht4 : t ≤ 400 := q4.1
  obtain ⟨s1, f1, z1, r1⟩ := z_go (d := d + 5) (q := q) hp hz hte (fun y hy => by obtain rfl := Sum.inr.inj hy; dsimp only; omega)
  obtain ⟨s2, f2, z2, r2⟩ := z_mu (d := d + 3) (q := q) (k := 5) hp z1 (TE_FZ hte f1) (by decide)
  have f12 := FZ_tr f1 f2
  have k36 : s2.1 36 = nI b := (f12.1 36 (by decide)).trans h36
  have k42 : s2.1 42 = nI c := (f12.1 42 (by decide)).trans h42
  have k19 : s2.1 19 = nI sd := (f12.1 19 (by decide)).trans h19
  have run : ∀ {X : Option jv_R}, jv_ev (d + 6) 30 12 [some (.ref 589), some (.int (nI (K t - 23))), some (.int (nI b)), some (.int (nI 0))] [] (tw_h p s2 q) = X → (∀ v h, X = some (.inl v, h) → v = none) → ∀ h, X = some (.inl none, h) → jv_cd (d + 8) 18 [.ref 589] (tw_h p s q) = some (.inl none, h) := by
    intro X hX _ h hh
    have g : jv_cd (d + 7) 30 [.ref 589, .int (nI (K t - 23))] (tw_h p s1 q) = some (.inl none, h) := by
      rw [← hh, ← hX]
      simp (disch := omega) only [il_0, il_1, il_2, il_3, il_4, il_5, il_6, il_7, il_8, il_9, il_10, il_11, il_12, il_13, il_14, il_15, il_16, il_17, il_18, il_19, il_20, il_21, il_22, il_23, il_24, il_25, il_26, il_27, il_28, il_29, il_30, il_31, il_32, il_40, il_41, il_42, il_43, il_44, il_45, il_46, il_47, il_48, il_52, il_56, il_57, il_59, il_60, il_61, il_63, il_64, il_68, il_72, il_75, il_76, il_82, il_88, il_89, il_90, il_92, il_96, il_97, il_99, il_100, il_101, il_102, il_103, il_104, il_105, il_107, il_108, il_109, il_110, il_111, il_112, il_114, il_115, il_116, il_117, il_118, il_119, il_121, il_122, il_130, il_200, il_255, il_256, il_260, il_276, il_400, il_403, il_420, il_840, il_999, il_1000, il_2000, il_2001, il_2668, il_2760, il_9999, il_12345, il_1000000, il_1103515245, ↓im_1, ↓im_2, ↓im_8, ↓im_1000, nI_add, pk_mul, pk_sub, ↓pk_rem, pk_div, nm_add, nI_clamp, nI_ltI, nI_leI, nI_eq, nm_eq, mn_eq, mm_eq, nm_lt, mn_lt, nm_le, mn_le, nl_T, nl_F, nle_T, nle_F, ne_T, ne_F, b2i_0, b2i_1, b2i_n, nb_0, nb_1, or_false, false_or, or_true, true_or, and_true, true_and, and_false, false_and, or_self, and_self, not_true_eq_false, not_false_eq_true, ↓reduceIte, if_true, if_false, ↓jv_bs, ↓jv_ol, ↓jv_or, jv_tl, jv_tn, jo_T, ck_2_166_17, ck_6_43_16, ck_6_43_17, ck_6_73_16, ck_7_65_17, ck_30_10_19, su_F, e30_0, e30_1, e30_2, e30_5, e30_6, e30_9, e30_10, e30_11, ↓tgb_13 hp, wi_13, ↓tgb_19 hp, wi_19, ↓tgb_34 hp, ↓trb_34 hp, ↓tub_34 hp, wa_34, ↓tgb_35 hp, ↓trb_35 hp, ↓tub_35 hp, wa_35, ↓tgb_36 hp, wi_36, ↓tgb_37 hp, ↓trb_37 hp, ↓tub_37 hp, wa_37, ↓tgb_38 hp, ↓trb_38 hp, ↓tub_38 hp, wa_38, ↓tgb_39 hp, ↓trb_39 hp, ↓tub_39 hp, wa_39, ↓tgb_42 hp, wi_42, ↓tw_rcb hp, n30, k36, ↓jbR r2]
    have kk : K t = 23 ∨ K t = 24 ∨ K t = 25 := by omega
    rcases kk with kk | kk | kk
    · rw [kk] at k1 g
      simp (disch := omega) only [il_0, il_1, il_2, il_3, il_4, il_5, il_6, il_7, il_8, il_9, il_10, il_11, il_12, il_13, il_14, il_15, il_16, il_17, il_18, il_19, il_20, il_21, il_22, il_23, il_24, il_25, il_26, il_27, il_28, il_29, il_30, il_31, il_32, il_40, il_41, il_42, il_43, il_44, il_45, il_46, il_47, il_48, il_52, il_56, il_57, il_59, il_60, il_61, il_63, il_64, il_68, il_72, il_75, il_76, il_82, il_88, il_89, il_90, il_92, il_96, il_97, il_99, il_100, il_101, il_102, il_103, il_104, il_105, il_107, il_108, il_109, il_110, il_111, il_112, il_114, il_115, il_116, il_117, il_118, il_119, il_121, il_122, il_130, il_200, il_255, il_256, il_260, il_276, il_400, il_403, il_420, il_840, il_999, il_1000, il_2000, il_2001, il_2668, il_2760, il_9999, il_12345, il_1000000, il_1103515245, ↓im_1, ↓im_2, ↓im_8, ↓im_1000, nI_add, pk_mul, pk_sub, ↓pk_rem, pk_div, nm_add, nI_clamp, nI_ltI, nI_leI, nI_eq, nm_eq, mn_eq, mm_eq, nm_lt, mn_lt, nm_le, mn_le, nl_T, nl_F, nle_T, nle_F, ne_T, ne_F, b2i_0, b2i_1, b2i_n, nb_0, nb_1, or_false, false_or, or_true, true_or, and_true, true_and, and_false, false_and, or_self, and_self, not_true_eq_false, not_false_eq_true, ↓reduceIte, if_true, if_false, ↓jv_bs, ↓jv_ol, ↓jv_or, jv_tl, jv_tn, jo_T, ck_2_166_17, ck_6_43_16, ck_6_43_17, ck_6_73_16, ck_7_65_17, ck_30_10_19, su_F, e18_0, e18_1, e18_4, e18_5, e18_8, e18_9, e18_232, e18_233, e18_236, e18_237, e18_240, e18_241, e18_243, e18_244, e18_245, e18_246, e18_249, e18_250, e18_253, e18_254, e18_257, e18_258, e18_260, e18_263, e18_264, e18_265, e18_268, e18_269, e18_272, e18_275, e18_276, e18_277, e18_280, e18_281, e18_282, e18_285, ↓tgb_5 hp, ↓trb_5 hp, ↓tub_5 hp, wa_5, ↓tgb_11 hp, wi_11, ↓tgb_13 hp, wi_13, ↓tgb_19 hp, wi_19, ↓tgb_22 hp, ↓trb_22 hp, ↓tub_22 hp, wa_22, ↓tgb_25 hp, ↓trb_25 hp, ↓tub_25 hp, wa_25, ↓tgb_28 hp, ↓trb_28 hp, ↓tub_28 hp, wa_28, ↓tgb_31 hp, ↓trb_31 hp, ↓tub_31 hp, wa_31, ↓tgb_32 hp, ↓trb_32 hp, ↓tub_32 hp, wa_32, ↓tgb_33 hp, ↓trb_33 hp, ↓tub_33 hp, wa_33, ↓tw_rcb hp, n18, jv_tsl, q1, q2, k1, ↓jbR r1, ↓jbR g]
    · rw [kk] at k1 g
      simp (disch := omega) only [il_0, il_1, il_2, il_3, il_4, il_5, il_6, il_7, il_8, il_9, il_10, il_11, il_12, il_13, il_14, il_15, il_16, il_17, il_18, il_19, il_20, il_21, il_22, il_23, il_24, il_25, il_26, il_27, il_28, il_29, il_30, il_31, il_32, il_40, il_41, il_42, il_43, il_44, il_45, il_46, il_47, il_48, il_52, il_56, il_57, il_59, il_60, il_61, il_63, il_64, il_68, il_72, il_75, il_76, il_82, il_88, il_89, il_90, il_92, il_96, il_97, il_99, il_100, il_101, il_102, il_103, il_104, il_105, il_107, il_108, il_109, il_110, il_111, il_112, il_114, il_115, il_116, il_117, il_118, il_119, il_121, il_122, il_130, il_200, il_255, il_256, il_260, il_276, il_400, il_403, il_420, il_840, il_999, il_1000, il_2000, il_2001, il_2668, il_2760, il_9999, il_12345, il_1000000, il_1103515245, ↓im_1, ↓im_2, ↓im_8, ↓im_1000, nI_add, pk_mul, pk_sub, ↓pk_rem, pk_div, nm_add, nI_clamp, nI_ltI, nI_leI, nI_eq, nm_eq, mn_eq, mm_eq, nm_lt, mn_lt, nm_le, mn_le, nl_T, nl_F, nle_T, nle_F, ne_T, ne_F, b2i_0, b2i_1, b2i_n, nb_0, nb_1, or_false, false_or, or_true, true_or, and_true, true_and, and_false, false_and, or_self, and_self, not_true_eq_false, not_false_eq_true, ↓reduceIte, if_true, if_false, ↓jv_bs, ↓jv_ol, ↓jv_or, jv_tl, jv_tn, jo_T, ck_2_166_17, ck_6_43_16, ck_6_43_17, ck_6_73_16, ck_7_65_17, ck_30_10_19, su_F, e18_0, e18_1, e18_4, e18_5, e18_8, e18_9, e18_232, e18_233, e18_236, e18_237, e18_240, e18_241, e18_243, e18_244, e18_245, e18_246, e18_249, e18_250, e18_253, e18_254, e18_257, e18_258, e18_260, e18_263, e18_264, e18_265, e18_268, e18_269, e18_272, e18_275, e18_276, e18_277, e18_280, e18_281, e18_282, e18_285, ↓tgb_5 hp, ↓trb_5 hp, ↓tub_5 hp, wa_5, ↓tgb_11 hp, wi_11, ↓tgb_13 hp, wi_13, ↓tgb_19 hp, wi_19, ↓tgb_22 hp, ↓trb_22 hp, ↓tub_22 hp, wa_22, ↓tgb_25 hp, ↓trb_25 hp, ↓tub_25 hp, wa_25, ↓tgb_28 hp, ↓trb_28 hp, ↓tub_28 hp, wa_28, ↓tgb_31 hp, ↓trb_31 hp, ↓tub_31 hp, wa_31, ↓tgb_32 hp, ↓trb_32 hp, ↓tub_32 hp, wa_32, ↓tgb_33 hp, ↓trb_33 hp, ↓tub_33 hp, wa_33, ↓tw_rcb hp, n18, jv_tsl, q1, q2, k1, ↓jbR r1, ↓jbR g]
    · rw [kk] at k1 g
      simp (disch := omega) only [il_0, il_1, il_2, il_3, il_4, il_5, il_6, il_7, il_8, il_9, il_10, il_11, il_12, il_13, il_14, il_15, il_16, il_17, il_18, il_19, il_20, il_21, il_22, il_23, il_24, il_25, il_26, il_27, il_28, il_29, il_30, il_31, il_32, il_40, il_41, il_42, il_43, il_44, il_45, il_46, il_47, il_48, il_52, il_56, il_57, il_59, il_60, il_61, il_63, il_64, il_68, il_72, il_75, il_76, il_82, il_88, il_89, il_90, il_92, il_96, il_97, il_99, il_100, il_101, il_102, il_103, il_104, il_105, il_107, il_108, il_109, il_110, il_111, il_112, il_114, il_115, il_116, il_117, il_118, il_119, il_121, il_122, il_130, il_200, il_255, il_256, il_260, il_276, il_400, il_403, il_420, il_840, il_999, il_1000, il_2000, il_2001, il_2668, il_2760, il_9999, il_12345, il_1000000, il_1103515245, ↓im_1, ↓im_2, ↓im_8, ↓im_1000, nI_add, pk_mul, pk_sub, ↓pk_rem, pk_div, nm_add, nI_clamp, nI_ltI, nI_leI, nI_eq, nm_eq, mn_eq, mm_eq, nm_lt, mn_lt, nm_le, mn_le, nl_T, nl_F, nle_T, nle_F, ne_T, ne_F, b2i_0, b2i_1, b2i_n, nb_0, nb_1, or_false, false_or, or_true, true_or, and_true, true_and, and_false, false_and, or_self, and_self, not_true_eq_false, not_false_eq_true, ↓reduceIte, if_true, if_false, ↓jv_bs, ↓jv_ol, ↓jv_or, jv_tl, jv_tn, jo_T, ck_2_166_17, ck_6_43_16, ck_6_43_17, ck_6_73_16, ck_7_65_17, ck_30_10_19, su_F, e18_0, e18_1, e18_4, e18_5, e18_8, e18_9, e18_232, e18_233, e18_236, e18_237, e18_240, e18_241, e18_243, e18_244, e18_245, e18_246, e18_249, e18_250, e18_253, e18_254, e18_257, e18_258, e18_260, e18_263, e18_264, e18_265, e18_268, e18_269, e18_272, e18_275, e18_276, e18_277, e18_280, e18_281, e18_282, e18_285, ↓tgb_5 hp, ↓trb_5 hp, ↓tub_5 hp, wa_5, ↓tgb_11 hp, wi_11, ↓tgb_13 hp, wi_13, ↓tgb_19 hp, wi_19, ↓tgb_22 hp, ↓trb_22 hp, ↓tub_22 hp, wa_22, ↓tgb_25 hp, ↓trb_25 hp, ↓tub_25 hp, wa_25, ↓tgb_28 hp, ↓trb_28 hp, ↓tub_28 hp, wa_28, ↓tgb_31 hp, ↓trb_31 hp, ↓tub_31 hp, wa_31, ↓tgb_32 hp, ↓trb_32 hp, ↓tub_32 hp, wa_32, ↓tgb_33 hp, ↓trb_33 hp, ↓tub_33 hp, wa_33, ↓tw_rcb hp, n18, jv_tsl, q1, q2, k1, ↓jbR r1, ↓jbR g]
  generalize hzz : zmu K 5 (zgo (.inr (t, w))) = zz at z2 ⊢
  cases zz with
  | inl e =>
    obtain ⟨s3, f3, z3, r3⟩ := m_lawF (d := d + 1) (q := q) (b := b) (c := c) (sd := sd) (x1 := some (.int (nI (K t - 23)))) (x2 := some (.int (nI b))) (x3 := some (.int (nI 0))) hp z2 (TE_FZ hte f12) hsd k36 (by omega) (by omega)
    exact ⟨s3, FX_tr (FX_FZ f12) f3.1, z3, run r3 (fun v h hh => by obtain ⟨h1, _⟩ := Prod.mk.inj (Option.some.inj hh); exact (Sum.inl.inj h1).symm) _ rfl⟩
  | inr y =>
    obtain ⟨y1, hy1, rfl, _⟩ := zmu_i hzz
    obtain ⟨rfl, _⟩ := zgo_r hy1
    dsimp only at z2
    have hT2 : TP s2 sd T w b c := TP_c (s := s) (f12.1 19 (by decide)) (fun k _ _ => by rw [f12.2]) (AB_e fun k _ _ => by rw [f12.2]) (Nat.le_refl _) (Nat.le_refl _) id hT
    obtain ⟨s3, f3, j2, j3, j4, j5, j6, j7⟩ := m_lawE (d := d) (q := q) (k := K t - 23) (first := b) hp hsd (by omega) hb.1 4 (t + 1 + 1) [] s2 b c w z2 (TE_FZ hte f12) rfl k36 rfl (by omega) k42 (by omega) (fun s' _ i x hx => by simp at hx) k19
    refine ⟨s3, FX_tr (FX_FZ f12) f3, ?_, run j7 (fun v h hh => by obtain ⟨h1, _⟩ := Prod.mk.inj (Option.some.inj hh); exact (Sum.inl.inj h1).symm) _ rfl⟩
    show PO s3 K V F N sd (qb (qb (pIf K V 4 (t + 1 + 1) []) (fun t3 l => qm K 4 t3 fun t4 => (.inr (t4, l) : Pa Lw))) fun t4 l => .inr (t4, (tL T (K t - 23) l, nm, w)))
    generalize qb (pIf K V 4 (t + 1 + 1) []) (fun t3 l => qm K 4 t3 fun t4 => (.inr (t4, l) : Pa Lw)) = rr at j6 ⊢
    cases rr with
    | inl e => exact j6
    | inr x =>
      obtain ⟨i1, i2, c', i3, i4, i5, i6, i7, i8, i9, i10, i11⟩ := j6
      exact ⟨i1, TE_FX (TE_FZ hte f12) f3, NQ_c hn (j4.trans (f12.1 20 (by decide))) (by rw [j5, f12.2]), hsd, b + x.2.1.length + 1, c', i3, i5, ⟨by omega, i4⟩, ⟨by omega, i7⟩, TP_L (s := s2) (by omega) hT2 (f3.1 19 (by unfold ch; omega)) j2 j3 (by omega) i6 i9 i10 i11⟩
/-- one thing is told -/
theorem t_one (hp : p.length = 589) (hE : EN K V F N L R) (hS : PI s K V F N sd t S) (hX : WX S t) : ∃ s', FX sd s s' ∧ PO s' K V F N sd (pOne K V N L R t S) ∧ jv_cd (d + 8) 18 [.ref 589] (tw_h p s q) = some (.inl none, tw_h p s' q) := by
  by_cases h20 : K t = 20
  · exact t_row hp hE hS hX h20
  by_cases h21 : K t = 21
  · exact t_field hp hE hS hX h21
  by_cases h22 : K t = 22
  · exact t_loom hp hE hS hX h22
  by_cases h26 : K t = 26
  · exact t_store hp hE hS h26
  by_cases h27 : K t = 27
  · exact t_gusts hp hE hS h27
  by_cases h28 : K t = 28
  · exact t_seed hp hE hS h28
  by_cases hl : 23 ≤ K t ∧ K t ≤ 25
  · exact tt_law hp hE hS hl
  have e : pOne K V N L R t S = .inl (1, t) := by
    unfold pOne
    rw [if_neg h20, if_neg h21, if_neg h22, if_neg h26, if_neg h27, if_neg h28, if_neg hl]
  rw [e]
  obtain ⟨hz, hte, _⟩ := hS
  obtain ⟨q1, q2, q3, q4, q5, q6, q7⟩ := id hz
  obtain ⟨k1, _, k3, _⟩ := hte t q4
  have ht4 : t ≤ 400 := q4.1
  obtain ⟨s1, f1, z1, r1⟩ := z_fail (d := d + 6) (q := q) (k := 1) hp hz hte (by decide)
  have g1 := z1.1
  refine ⟨s1, FX_FZ f1, z1, ?_⟩
  by_cases h23 : K t < 23
  · have hs : s.2.1 5 t - nI 23 < nI 0 := by
      rw [k1, Int32.lt_iff_toInt_lt, Int32.toInt_sub, nI_toInt (by omega), nI_toInt (by omega), nI_toInt (by omega)]
      rw [Int.bmod_eq_of_le] <;> omega
    rw [k1] at hs
    simp (disch := omega) only [il_0, il_1, il_2, il_3, il_4, il_5, il_6, il_7, il_8, il_9, il_10, il_11, il_12, il_13, il_14, il_15, il_16, il_17, il_18, il_19, il_20, il_21, il_22, il_23, il_24, il_25, il_26, il_27, il_28, il_29, il_30, il_31, il_32, il_40, il_41, il_42, il_43, il_44, il_45, il_46, il_47, il_48, il_52, il_56, il_57, il_59, il_60, il_61, il_63, il_64, il_68, il_72, il_75, il_76, il_82, il_88, il_89, il_90, il_92, il_96, il_97, il_99, il_100, il_101, il_102, il_103, il_104, il_105, il_107, il_108, il_109, il_110, il_111, il_112, il_114, il_115, il_116, il_117, il_118, il_119, il_121, il_122, il_130, il_200, il_255, il_256, il_260, il_276, il_400, il_403, il_420, il_840, il_999, il_1000, il_2000, il_2001, il_2668, il_2760, il_9999, il_12345, il_1000000, il_1103515245, ↓im_1, ↓im_2, ↓im_8, ↓im_1000, nI_add, pk_mul, pk_sub, ↓pk_rem, pk_div, nm_add, nI_clamp, nI_ltI, nI_leI, nI_eq, nm_eq, mn_eq, mm_eq, nm_lt, mn_lt, nm_le, mn_le, nl_T, nl_F, nle_T, nle_F, ne_T, ne_F, b2i_0, b2i_1, b2i_n, nb_0, nb_1, or_false, false_or, or_true, true_or, and_true, true_and, and_false, false_and, or_self, and_self, not_true_eq_false, not_false_eq_true, ↓reduceIte, if_true, if_false, ↓jv_bs, ↓jv_ol, ↓jv_or, jv_tl, jv_tn, jo_T, ck_2_166_17, ck_6_43_16, ck_6_43_17, ck_6_73_16, ck_7_65_17, ck_30_10_19, su_F, e18_0, e18_1, e18_4, e18_5, e18_8, e18_9, e18_232, e18_233, e18_236, e18_237, e18_240, e18_241, e18_243, e18_244, e18_245, e18_246, e18_249, e18_250, e18_253, e18_254, e18_257, e18_258, e18_260, e18_263, e18_264, e18_265, e18_268, e18_269, e18_272, e18_275, ↓tgb_5 hp, ↓trb_5 hp, ↓tub_5 hp, wa_5, ↓tgb_11 hp, wi_11, ↓tgb_13 hp, wi_13, ↓tgb_19 hp, wi_19, ↓tgb_22 hp, ↓trb_22 hp, ↓tub_22 hp, wa_22, ↓tgb_25 hp, ↓trb_25 hp, ↓tub_25 hp, wa_25, ↓tgb_28 hp, ↓trb_28 hp, ↓tub_28 hp, wa_28, ↓tgb_31 hp, ↓trb_31 hp, ↓tub_31 hp, wa_31, ↓tgb_32 hp, ↓trb_32 hp, ↓tub_32 hp, wa_32, ↓tgb_33 hp, ↓trb_33 hp, ↓tub_33 hp, wa_33, ↓tw_rcb hp, n18, jv_tsl, q1, q2, k1, g1, hs, ↓jbR r1]
  · have h25 : 25 < K t := by omega
    simp (disch := omega) only [il_0, il_1, il_2, il_3, il_4, il_5, il_6, il_7, il_8, il_9, il_10, il_11, il_12, il_13, il_14, il_15, il_16, il_17, il_18, il_19, il_20, il_21, il_22, il_23, il_24, il_25, il_26, il_27, il_28, il_29, il_30, il_31, il_32, il_40, il_41, il_42, il_43, il_44, il_45, il_46, il_47, il_48, il_52, il_56, il_57, il_59, il_60, il_61, il_63, il_64, il_68, il_72, il_75, il_76, il_82, il_88, il_89, il_90, il_92, il_96, il_97, il_99, il_100, il_101, il_102, il_103, il_104, il_105, il_107, il_108, il_109, il_110, il_111, il_112, il_114, il_115, il_116, il_117, il_118, il_119, il_121, il_122, il_130, il_200, il_255, il_256, il_260, il_276, il_400, il_403, il_420, il_840, il_999, il_1000, il_2000, il_2001, il_2668, il_2760, il_9999, il_12345, il_1000000, il_1103515245, ↓im_1, ↓im_2, ↓im_8, ↓im_1000, nI_add, pk_mul, pk_sub, ↓pk_rem, pk_div, nm_add, nI_clamp, nI_ltI, nI_leI, nI_eq, nm_eq, mn_eq, mm_eq, nm_lt, mn_lt, nm_le, mn_le, nl_T, nl_F, nle_T, nle_F, ne_T, ne_F, b2i_0, b2i_1, b2i_n, nb_0, nb_1, or_false, false_or, or_true, true_or, and_true, true_and, and_false, false_and, or_self, and_self, not_true_eq_false, not_false_eq_true, ↓reduceIte, if_true, if_false, ↓jv_bs, ↓jv_ol, ↓jv_or, jv_tl, jv_tn, jo_T, ck_2_166_17, ck_6_43_16, ck_6_43_17, ck_6_73_16, ck_7_65_17, ck_30_10_19, su_F, e18_0, e18_1, e18_4, e18_5, e18_8, e18_9, e18_232, e18_233, e18_236, e18_237, e18_240, e18_241, e18_243, e18_244, e18_245, e18_246, e18_249, e18_250, e18_253, e18_254, e18_257, e18_258, e18_260, e18_263, e18_264, e18_265, e18_268, e18_269, e18_272, e18_275, ↓tgb_5 hp, ↓trb_5 hp, ↓tub_5 hp, wa_5, ↓tgb_11 hp, wi_11, ↓tgb_13 hp, wi_13, ↓tgb_19 hp, wi_19, ↓tgb_22 hp, ↓trb_22 hp, ↓tub_22 hp, wa_22, ↓tgb_25 hp, ↓trb_25 hp, ↓tub_25 hp, wa_25, ↓tgb_28 hp, ↓trb_28 hp, ↓tub_28 hp, wa_28, ↓tgb_31 hp, ↓trb_31 hp, ↓tub_31 hp, wa_31, ↓tgb_32 hp, ↓trb_32 hp, ↓tub_32 hp, wa_32, ↓tgb_33 hp, ↓trb_33 hp, ↓tub_33 hp, wa_33, ↓tw_rcb hp, n18, jv_tsl, q1, q2, k1, g1, ↓jbR r1]
end
