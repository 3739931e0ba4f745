/-! the reference: ifs of a law -/
/-- a branch with its test -/
def LEb (s : tw_S) (j : Nat) (t : Cd × Cd × Cd) : Prop := s.2.1 37 j = nI 1 ∧ ∃ f : Nat, s.2.1 38 j = nI f ∧ s.2.1 39 j = nI (f + t.1.length) ∧ s.2.1 40 j = nI (f + t.1.length + t.2.1.length) ∧ s.2.1 41 j = nI (f + t.1.length + t.2.1.length + t.2.2.length) ∧ SG s f t.1 ∧ SG s (f + t.1.length) t.2.1 ∧ SG s (f + t.1.length + t.2.1.length) t.2.2 ∧ f + t.1.length + t.2.1.length + t.2.2.length ≤ 840
/-- branches so far -/
def LPx (s : tw_S) (sd first : Nat) (acc : List (Cd × Cd × Cd)) (c : Nat) : Prop := ∀ s', AB sd (first + acc.length) c s s' → ∀ i t, acc[i]? = some t → LEb s' (first + i) t
section
variable {d sd t b c b' c' : Nat} {p q : jv_H} {s s' s2 : tw_S} {K V F N L : Nat → Nat} {R : Nat → Nat → Nat} {z : Zs} {S : Sx} {T : Tx} {w : Wt}
theorem zex_i {y : Nat × Wt} (h : zex K V z = .inr y) : ∃ x u cd, z = .inr x ∧ pT K V x.1 = .inr (u, cd) ∧ y = (u, x.2) ∧ zcd K V z = cd := by
  cases z with
  | inl e => cases h
  | inr x =>
    unfold zex at h
    unfold zcd
    dsimp only at h ⊢
    generalize hp : pT K V x.1 = r at h
    cases r with
    | inl e => cases h
    | inr y' => exact ⟨x, y'.1, y'.2, rfl, hp, (Sum.inr.inj h).symm, rfl⟩
theorem zcd_b (h : ∀ x, z = .inr x → x.1 ≤ 400 ∧ c ≤ 420 * sd + x.1) (hc : c < 420 * sd + 420) : c + (zcd K V z).length < 420 * sd + 420 := by
  cases z with
  | inl e => exact hc
  | inr x =>
    obtain ⟨h1, h2⟩ := h x rfl
    have hk := pT_k (K := K) (V := V) h1
    unfold zcd
    dsimp only
    generalize pT K V x.1 = r at hk ⊢
    cases r with
    | inl e => exact hc
    | inr y =>
      have h3 := hk.2.1
      have h4 := hk.2.2.2
      dsimp only
      omega
theorem ZQ_4 (h : ZQ s K F z) : ∀ x, z = .inr x → x.1 ≤ 400 := fun x hx => by
  subst hx
  exact h.2.2.2.1.1
theorem z_exA (hp : p.length = 589) (hz : ZQ s K F z) (hte : TE s K V F N) (hcr : 420 * sd ≤ c ∧ c < 420 * sd + 420) (hsd : sd < 2) (hc : ∀ x, z = .inr x → s.1 42 = nI c ∧ c ≤ 420 * sd + x.1) : ∃ s', FL sd b c s s' ∧ (∀ k, 37 ≤ k → k ≤ 41 → s'.2.1 k = s.2.1 k) ∧ s'.1 36 = s.1 36 ∧ ZQ s' K F (zex K V z) ∧ (∀ x y, z = .inr x → zex K V z = .inr y → s'.1 42 = nI (c + (zcd K V z).length) ∧ SG s' c (zcd K V z) ∧ c + (zcd K V z).length ≤ 420 * sd + y.1 ∧ x.1 + 1 ≤ y.1 ∧ y.2 = x.2) ∧ jv_cd (d + 4) 31 [.ref 589] (tw_h p s q) = some (.inl none, tw_h p s' q) := by
  cases z with
  | inl e => exact ⟨_, FL_i (j := 46) (by unfold ch; omega) (by decide), fun _ _ _ => rfl, rfl, ZQ_i hz (by decide), (fun x y h => by cases h), m_exprF hp hz.1 hz.2.1 rfl⟩
  | inr x =>
    obtain ⟨h42, hc⟩ := hc x rfl
    obtain ⟨s', g1, g2, g3, g4, g5, g6⟩ := z_exR (d := d) (q := q) (b := b) hp hz hte hcr hsd h42 hc
    exact ⟨s', g1, g2, g3, g4, fun x' y hx hy => by obtain rfl := Sum.inr.inj hx; exact g5 y hy, g6⟩
theorem m_if (hp : p.length = 589) (hz : ZQ s K F (.inr (t, w))) (hte : TE s K V F N) (hsd : sd < 2) (hk : K t = 29) {n : Nat} (hn : n < 4) (h36 : s.1 36 = nI b) (hb : 130 * sd ≤ b ∧ b < 130 * sd + 130) (h42 : s.1 42 = nI c) (hcr : 420 * sd ≤ c ∧ c ≤ 420 * sd + t) {x1 x2 : Option Value} {z1 z2 z3 z4 z5 z6 z7 : Zs} (e1 : zgo (.inr (t, w)) = z1) (e2 : zex K V z1 = z2) (e3 : zmu K 13 z2 = z3) (e4 : zex K V z3 = z4) (e5 : zmu K 30 z4 = z5) (e6 : zex K V z5 = z6) (e7 : zmu K 31 z6 = z7) : ∃ s', FL sd b c s s' ∧ s'.1 36 = nI (b + 1) ∧ ZQ s' K F z7 ∧ (∀ y, z7 = .inr y → t + 7 ≤ y.1 ∧ y.2 = w ∧ s'.1 42 = nI (c + (zcd K V z1).length + (zcd K V z3).length + (zcd K V z5).length) ∧ c + (zcd K V z1).length + (zcd K V z3).length + (zcd K V z5).length ≤ 420 * sd + y.1 ∧ s'.2.1 37 b = nI 1 ∧ s'.2.1 38 b = nI c ∧ s'.2.1 39 b = nI (c + (zcd K V z1).length) ∧ s'.2.1 40 b = nI (c + (zcd K V z1).length + (zcd K V z3).length) ∧ s'.2.1 41 b = nI (c + (zcd K V z1).length + (zcd K V z3).length + (zcd K V z5).length) ∧ SG s' c (zcd K V z1) ∧ SG s' (c + (zcd K V z1).length) (zcd K V z3) ∧ SG s' (c + (zcd K V z1).length + (zcd K V z3).length) (zcd K V z5)) ∧ jv_ev (d + 6) 30 12 [some (.ref 589), x1, x2, some (.int (nI n))] [] (tw_h p s q) = jv_ev (d + 6) 30 12 [some (.ref 589), x1, x2, some (.int (nI (n + 1)))] [] (tw_h p s' q) := by
  obtain ⟨q1, q2, q3, q4, q5, q6, q7⟩ := id hz
  have ht4 : t ≤ 400 := q4.1
  have gi := m_isT (d := d + 5) (q := q) (k := 29) hp q1 q2 ht4 (hte t q4).1 (hte t q4).2.2.1 (by decide)
  rw [decide_eq_true hk, b2i_t] at gi
  obtain ⟨s1, f1, w1, r1⟩ := z_go (d := d + 4) (q := q) hp hz hte (fun y hy => by obtain rfl := Sum.inr.inj hy; dsimp only; omega)
  rw [e1] at w1
  have k36 : s1.1 36 = nI b := (f1.1 36 (by decide)).trans h36
  have k42 : s1.1 42 = nI c := (f1.1 42 (by decide)).trans h42
  have fA : FL sd b c s1 (tw_a s1 37 (upd (s1.2.1 37) b (nI 1))) := FL_a (by decide) (by decide) (Nat.le_refl _) hb
  have fB : FL sd b c (tw_a s1 37 (upd (s1.2.1 37) b (nI 1))) (tw_a (tw_a s1 37 (upd (s1.2.1 37) b (nI 1))) 38 (upd (s1.2.1 38) b (nI c))) := FL_a (s := tw_a s1 37 (upd (s1.2.1 37) b (nI 1))) (by decide) (by decide) (Nat.le_refl _) hb
  have fAB := FL_tr (FL_FZ (sd := sd) (b := b) (c := c) f1) (FL_tr fA fB (Nat.le_refl _) (Nat.le_refl _)) (Nat.le_refl _) (Nat.le_refl _)
  have wB : ZQ (tw_a (tw_a s1 37 (upd (s1.2.1 37) b (nI 1))) 38 (upd (s1.2.1 38) b (nI c))) K F z1 := ZQ_a (ZQ_a w1)
  have hz1 : ∀ x, z1 = .inr x → x = (t + 1, w) := fun x hx => by
    rw [← e1] at hx
    exact (zgo_r hx).1
  obtain ⟨s2, f2, g2, g2', w2, d2, r2⟩ := z_exA (d := d + 2) (q := q) (b := b) (c := c) (sd := sd) hp wB (TE_FL hte fAB) ⟨hcr.1, by omega⟩ hsd (fun x hx => ⟨k42, by rw [hz1 x hx]; dsimp only; omega⟩)
  rw [e2] at w2 d2
  have c2b : c + (zcd K V z1).length < 420 * sd + 420 := zcd_b (fun x hx => ⟨ZQ_4 w1 x hx, by rw [hz1 x hx]; dsimp only; omega⟩) (by omega)
  generalize hA : zcd K V z1 = A at d2 c2b ⊢
  have fs2 := FL_tr fAB f2 (Nat.le_refl _) (Nat.le_refl _)
  have k36_2 : s2.1 36 = nI b := g2'.trans k36
  obtain ⟨s3, f3, w3, r3⟩ := z_mu (d := d + 3) (q := q) (k := 13) hp w2 (TE_FL hte fs2) (by decide)
  rw [e3] at w3
  have k36_3 : s3.1 36 = nI b := (f3.1 36 (by decide)).trans k36_2
  have fC : FL sd b (c + A.length) s3 (tw_a s3 39 (upd (s3.2.1 39) b (s3.1 42))) := FL_a (by decide) (by decide) (Nat.le_refl _) hb
  have f3C := FL_tr (FL_FZ (sd := sd) (b := b) (c := c + A.length) f3) fC (Nat.le_refl _) (Nat.le_refl _)
  have fsC := FL_tr fs2 f3C (Nat.le_refl _) (Nat.le_add_right _ _)
  have wC : ZQ (tw_a s3 39 (upd (s3.2.1 39) b (s3.1 42))) K F z3 := ZQ_a w3
  have hz3 : ∀ x, z3 = .inr x → ∃ y, z2 = .inr y ∧ x = (y.1 + 1, y.2) := fun x hx => by
    rw [← e3] at hx
    obtain ⟨y, h1, h2, _⟩ := zmu_i hx
    exact ⟨y, h1, h2⟩
  have hz2 : ∀ y, z2 = .inr y → ∃ x, z1 = .inr x := fun y hy => by
    rw [← e2] at hy
    obtain ⟨x, u, cd, h1, _⟩ := zex_i hy
    exact ⟨x, h1⟩
  have d3 : ∀ x, z3 = .inr x → s3.1 42 = nI (c + A.length) ∧ c + A.length ≤ 420 * sd + x.1 ∧ t + 3 ≤ x.1 ∧ x.2 = w ∧ SG s2 c A := fun x hx => by
    obtain ⟨y, hy, rfl⟩ := hz3 x hx
    obtain ⟨x0, hx0⟩ := hz2 y hy
    have hh := hz1 x0 hx0
    obtain ⟨j1, j2, j3, j4, j5⟩ := d2 x0 y hx0 hy
    rw [hh] at j4 j5
    dsimp only at j4 j5 ⊢
    exact ⟨(f3.1 42 (by decide)).trans j1, by omega, by omega, j5, j2⟩
  obtain ⟨s4, f4, g4, g4', w4, d4, r4⟩ : ∃ s4, FL sd b (c + A.length) (tw_a s3 39 (upd (s3.2.1 39) b (s3.1 42))) s4 ∧ (∀ k, 37 ≤ k → k ≤ 41 → s4.2.1 k = (tw_a s3 39 (upd (s3.2.1 39) b (s3.1 42))).2.1 k) ∧ s4.1 36 = nI b ∧ ZQ s4 K F z4 ∧ (∀ x y, z3 = .inr x → z4 = .inr y → s4.1 42 = nI (c + A.length + (zcd K V z3).length) ∧ SG s4 (c + A.length) (zcd K V z3) ∧ c + A.length + (zcd K V z3).length ≤ 420 * sd + y.1 ∧ x.1 + 1 ≤ y.1 ∧ y.2 = x.2) ∧ jv_ev (d + 6) 30 99 [some (.ref 589), x1, x2, some (.int (nI (n + 1)))] [] (tw_h p (tw_a s3 39 (upd (s3.2.1 39) b (s3.1 42))) q) = jv_ev (d + 6) 30 110 [some (.ref 589), x1, x2, some (.int (nI (n + 1)))] [] (tw_h p s4 q) := by
    cases z3 with
    | inl e =>
      have h0 := fe_0 w3.1 w3.2.1
      refine ⟨_, FL_id, fun _ _ _ => rfl, k36_3, by rw [← e4]; exact wC, (fun x y h => by cases h), ?_⟩
      simp (disch := omega) only [il_0, il_1, il_2, il_3, il_4, il_5, il_6, il_7, il_8, il_9, il_10, il_11, il_12, il_13, il_14, il_15, il_16, il_17, il_18, il_19, il_20, il_21, il_22, il_23, il_24, il_25, il_26, il_27, il_28, il_29, il_30, il_31, il_32, il_40, il_41, il_42, il_43, il_44, il_45, il_46, il_47, il_48, il_52, il_56, il_57, il_59, il_60, il_61, il_63, il_64, il_68, il_72, il_75, il_76, il_82, il_88, il_89, il_90, il_92, il_96, il_97, il_99, il_100, il_101, il_102, il_103, il_104, il_105, il_107, il_108, il_109, il_110, il_111, il_112, il_114, il_115, il_116, il_117, il_118, il_119, il_121, il_122, il_130, il_200, il_255, il_256, il_260, il_276, il_400, il_403, il_420, il_840, il_999, il_1000, il_2000, il_2001, il_2668, il_2760, il_9999, il_12345, il_1000000, il_1103515245, ↓im_1, ↓im_2, ↓im_8, ↓im_1000, nI_add, pk_mul, pk_sub, ↓pk_rem, pk_div, nm_add, nI_clamp, nI_ltI, nI_leI, nI_eq, nm_eq, mn_eq, mm_eq, nm_lt, mn_lt, nm_le, mn_le, nl_T, nl_F, nle_T, nle_F, ne_T, ne_F, b2i_0, b2i_1, b2i_n, nb_0, nb_1, or_false, false_or, or_true, true_or, and_true, true_and, and_false, false_and, or_self, and_self, not_true_eq_false, not_false_eq_true, ↓reduceIte, if_true, if_false, ↓jv_bs, ↓jv_ol, ↓jv_or, jv_tl, jv_tn, jo_T, ck_2_166_17, ck_6_43_16, ck_6_43_17, ck_6_73_16, ck_7_65_17, ck_30_10_19, su_F, e30_99, e30_100, e30_103, ↓tgb_13 hp, wi_13, ↓tgb_19 hp, wi_19, ↓tgb_34 hp, ↓trb_34 hp, ↓tub_34 hp, wa_34, ↓tgb_35 hp, ↓trb_35 hp, ↓tub_35 hp, wa_35, ↓tgb_36 hp, wi_36, ↓tgb_37 hp, ↓trb_37 hp, ↓tub_37 hp, wa_37, ↓tgb_38 hp, ↓trb_38 hp, ↓tub_38 hp, wa_38, ↓tgb_39 hp, ↓trb_39 hp, ↓tub_39 hp, wa_39, ↓tgb_42 hp, wi_42, ↓tw_rcb hp, h0, tw_a1]
    | inr x =>
      obtain ⟨j1, j2, _⟩ := d3 x rfl
      obtain ⟨s4, f4, g4, g4', w4, d4, r4⟩ := z_exR (d := d + 2) (q := q) (b := b) (c := c + A.length) (sd := sd) hp wC (TE_FL hte fsC) ⟨by omega, c2b⟩ hsd j1 j2
      rw [e4] at w4 d4
      have h0 : s3.1 13 = nI 0 := w3.1
      refine ⟨s4, f4, g4, g4'.trans k36_3, w4, fun x' y hx hy => ?_, ?_⟩
      · obtain rfl := Sum.inr.inj hx
        exact d4 y hy
      · simp (disch := omega) only [il_0, il_1, il_2, il_3, il_4, il_5, il_6, il_7, il_8, il_9, il_10, il_11, il_12, il_13, il_14, il_15, il_16, il_17, il_18, il_19, il_20, il_21, il_22, il_23, il_24, il_25, il_26, il_27, il_28, il_29, il_30, il_31, il_32, il_40, il_41, il_42, il_43, il_44, il_45, il_46, il_47, il_48, il_52, il_56, il_57, il_59, il_60, il_61, il_63, il_64, il_68, il_72, il_75, il_76, il_82, il_88, il_89, il_90, il_92, il_96, il_97, il_99, il_100, il_101, il_102, il_103, il_104, il_105, il_107, il_108, il_109, il_110, il_111, il_112, il_114, il_115, il_116, il_117, il_118, il_119, il_121, il_122, il_130, il_200, il_255, il_256, il_260, il_276, il_400, il_403, il_420, il_840, il_999, il_1000, il_2000, il_2001, il_2668, il_2760, il_9999, il_12345, il_1000000, il_1103515245, ↓im_1, ↓im_2, ↓im_8, ↓im_1000, nI_add, pk_mul, pk_sub, ↓pk_rem, pk_div, nm_add, nI_clamp, nI_ltI, nI_leI, nI_eq, nm_eq, mn_eq, mm_eq, nm_lt, mn_lt, nm_le, mn_le, nl_T, nl_F, nle_T, nle_F, ne_T, ne_F, b2i_0, b2i_1, b2i_n, nb_0, nb_1, or_false, false_or, or_true, true_or, and_true, true_and, and_false, false_and, or_self, and_self, not_true_eq_false, not_false_eq_true, ↓reduceIte, if_true, if_false, ↓jv_bs, ↓jv_ol, ↓jv_or, jv_tl, jv_tn, jo_T, ck_2_166_17, ck_6_43_16, ck_6_43_17, ck_6_73_16, ck_7_65_17, ck_30_10_19, su_F, e30_99, e30_100, e30_103, e30_106, e30_107, ↓tgb_13 hp, wi_13, ↓tgb_19 hp, wi_19, ↓tgb_34 hp, ↓trb_34 hp, ↓tub_34 hp, wa_34, ↓tgb_35 hp, ↓trb_35 hp, ↓tub_35 hp, wa_35, ↓tgb_36 hp, wi_36, ↓tgb_37 hp, ↓trb_37 hp, ↓tub_37 hp, wa_37, ↓tgb_38 hp, ↓trb_38 hp, ↓tub_38 hp, wa_38, ↓tgb_39 hp, ↓trb_39 hp, ↓tub_39 hp, wa_39, ↓tgb_42 hp, wi_42, ↓tw_rcb hp, h0, tw_a1, ↓jbR r4]
  have c3b : c + A.length + (zcd K V z3).length < 420 * sd + 420 := zcd_b (fun x hx => ⟨ZQ_4 w3 x hx, (d3 x hx).2.1⟩) c2b
  generalize hB : zcd K V z3 = B at d4 c3b ⊢
  have fs4 := FL_tr fsC f4 (Nat.le_refl _) (Nat.le_add_right _ _)
  obtain ⟨s5, f5, w5, r5⟩ := z_mu (d := d + 3) (q := q) (k := 30) hp w4 (TE_FL hte fs4) (by decide)
  rw [e5] at w5
  have fs5 := FL_tr fs4 (FL_FZ (sd := sd) (b := b) (c := c) f5) (Nat.le_refl _) (Nat.le_refl _)
  have k36_5 : s5.1 36 = nI b := (f5.1 36 (by decide)).trans g4'
  have d5 : ∀ x, z5 = .inr x → s5.1 42 = nI (c + A.length + B.length) ∧ c + A.length + B.length ≤ 420 * sd + x.1 ∧ t + 5 ≤ x.1 ∧ x.2 = w ∧ SG s2 c A ∧ SG s4 (c + A.length) B ∧ ∃ x', z3 = .inr x' := fun x hx => by
    rw [← e5] at hx
    obtain ⟨y, hy, rfl, _⟩ := zmu_i hx
    have hy' := hy
    rw [← e4] at hy'
    obtain ⟨x0, _, _, hx0, _⟩ := zex_i hy'
    obtain ⟨i1, i2, i3, i4, i5⟩ := d3 x0 hx0
    obtain ⟨j1, j2, j3, j4, j5⟩ := d4 x0 y hx0 hy
    dsimp only
    exact ⟨(f5.1 42 (by decide)).trans j1, by omega, by omega, j5.trans i4, i5, j2, x0, hx0⟩
  obtain ⟨s6, f6, g6, g6', w6, d6, r6⟩ := z_tm (d := d + 1) (q := q) (b := b) (c := c + A.length + B.length) (sd := sd) hp w5 (TE_FL hte fs5) hsd k36_5 hb ⟨by omega, c3b⟩ (fun x hx => ⟨(d5 x hx).1, (d5 x hx).2.1⟩)
  rw [e6] at w6 d6
  generalize hC : zcd K V z5 = C at d6 ⊢
  have fs6 := FL_tr fs5 f6 (Nat.le_refl _) (by omega)
  obtain ⟨s7, f7, w7, r7⟩ := z_mu (d := d + 3) (q := q) (k := 31) hp w6 (TE_FL hte fs6) (by decide)
  rw [e7] at w7
  have fs7 := FL_tr fs6 (FL_FZ (sd := sd) (b := b) (c := c) f7) (Nat.le_refl _) (Nat.le_refl _)
  refine ⟨s7, fs7, (f7.1 36 (by decide)).trans g6', w7, fun y hy => ?_, ?_⟩
  · rw [← e7] at hy
    obtain ⟨y6, hy6, rfl, _⟩ := zmu_i hy
    have hy6' := hy6
    rw [← e6] at hy6'
    obtain ⟨y5, _, _, hy5, _⟩ := zex_i hy6'
    obtain ⟨i1, i2, i3, i4, i5, i6, x3, hx3⟩ := d5 y5 hy5
    obtain ⟨j1, j2, j3, j4, j5, j6, j7⟩ := d6 y5 y6 hy5 hy6
    have a7 : ∀ k, s7.2.1 k = s6.2.1 k := fun k => by rw [f7.2]
    have a5 : ∀ k, s5.2.1 k = s4.2.1 k := fun k => by rw [f5.2]
    have a3 : ∀ k, s3.2.1 k = s2.2.1 k := fun k => by rw [f3.2]
    dsimp only
    refine ⟨by omega, j5.trans i4, (f7.1 42 (by decide)).trans j1, by omega, ?_, ?_, ?_, by rw [a7]; exact j6, by rw [a7]; exact j7, ?_, ?_, ?_⟩
    · rw [a7, g6 37 (by decide) (by decide), a5, g4 37 (by decide) (by decide)]
      show s3.2.1 37 b = _
      rw [a3, g2 37 (by decide) (by decide)]
      exact pk_us
    · rw [a7, g6 38 (by decide) (by decide), a5, g4 38 (by decide) (by decide)]
      show s3.2.1 38 b = _
      rw [a3, g2 38 (by decide) (by decide)]
      exact pk_us
    · rw [a7, g6 39 (by decide) (by decide), a5, g4 39 (by decide) (by decide)]
      show upd (s3.2.1 39) b (s3.1 42) b = _
      rw [pk_us, (d3 x3 hx3).1]
    · have u1 := SG_FL (sd := sd) (b := b) (c := c + A.length) i5 f3C hcr.1 (Nat.le_refl _)
      have u2 := SG_FL u1 f4 hcr.1 (Nat.le_refl _)
      have u3 := SG_FL u2 (FL_FZ (sd := sd) (b := b) (c := c + A.length) f5) hcr.1 (Nat.le_refl _)
      have u4 := SG_FL u3 f6 hcr.1 (Nat.le_add_right _ _)
      exact SG_FL u4 (FL_FZ (sd := sd) (b := b) (c := c + A.length) f7) hcr.1 (Nat.le_refl _)
    · have u3 := SG_FL i6 (FL_FZ (sd := sd) (b := b) (c := c + A.length + B.length) f5) (by omega) (Nat.le_refl _)
      have u4 := SG_FL u3 f6 (by omega) (Nat.le_refl _)
      exact SG_FL u4 (FL_FZ (sd := sd) (b := b) (c := c + A.length + B.length) f7) (by omega) (Nat.le_refl _)
    · exact SG_FL j2 (FL_FZ (sd := sd) (b := b) (c := c + A.length + B.length + C.length) f7) (by omega) (Nat.le_refl _)
  · have st0 : jv_ev (d + 6) 30 12 [some (.ref 589), x1, x2, some (.int (nI n))] [] (tw_h p s q) = jv_ev (d + 6) 30 99 [some (.ref 589), x1, x2, some (.int (nI (n + 1)))] [] (tw_h p (tw_a s3 39 (upd (s3.2.1 39) b (s3.1 42))) q) := by
      simp (disch := omega) only [il_0, il_1, il_2, il_3, il_4, il_5, il_6, il_7, il_8, il_9, il_10, il_11, il_12, il_13, il_14, il_15, il_16, il_17, il_18, il_19, il_20, il_21, il_22, il_23, il_24, il_25, il_26, il_27, il_28, il_29, il_30, il_31, il_32, il_40, il_41, il_42, il_43, il_44, il_45, il_46, il_47, il_48, il_52, il_56, il_57, il_59, il_60, il_61, il_63, il_64, il_68, il_72, il_75, il_76, il_82, il_88, il_89, il_90, il_92, il_96, il_97, il_99, il_100, il_101, il_102, il_103, il_104, il_105, il_107, il_108, il_109, il_110, il_111, il_112, il_114, il_115, il_116, il_117, il_118, il_119, il_121, il_122, il_130, il_200, il_255, il_256, il_260, il_276, il_400, il_403, il_420, il_840, il_999, il_1000, il_2000, il_2001, il_2668, il_2760, il_9999, il_12345, il_1000000, il_1103515245, ↓im_1, ↓im_2, ↓im_8, ↓im_1000, nI_add, pk_mul, pk_sub, ↓pk_rem, pk_div, nm_add, nI_clamp, nI_ltI, nI_leI, nI_eq, nm_eq, mn_eq, mm_eq, nm_lt, mn_lt, nm_le, mn_le, nl_T, nl_F, nle_T, nle_F, ne_T, ne_F, b2i_0, b2i_1, b2i_n, nb_0, nb_1, or_false, false_or, or_true, true_or, and_true, true_and, and_false, false_and, or_self, and_self, not_true_eq_false, not_false_eq_true, ↓reduceIte, if_true, if_false, ↓jv_bs, ↓jv_ol, ↓jv_or, jv_tl, jv_tn, jo_T, ck_2_166_17, ck_6_43_16, ck_6_43_17, ck_6_73_16, ck_7_65_17, ck_30_10_19, su_F, e30_12, e30_13, e30_16, e30_19, e30_20, e30_22, e30_25, e30_28, e30_29, e30_30, e30_33, e30_34, e30_35, e30_38, e30_39, e30_42, e30_45, e30_46, e30_49, e30_50, e30_53, e30_54, e30_57, e30_58, e30_61, e30_62, e30_63, e30_64, e30_67, e30_68, e30_71, e30_72, e30_75, e30_76, e30_77, e30_80, e30_81, e30_83, e30_86, e30_87, e30_90, e30_91, e30_94, e30_95, e30_98, ↓tgb_13 hp, wi_13, ↓tgb_19 hp, wi_19, ↓tgb_34 hp, ↓trb_34 hp, ↓tub_34 hp, wa_34, ↓tgb_35 hp, ↓trb_35 hp, ↓tub_35 hp, wa_35, ↓tgb_36 hp, wi_36, ↓tgb_37 hp, ↓trb_37 hp, ↓tub_37 hp, wa_37, ↓tgb_38 hp, ↓trb_38 hp, ↓tub_38 hp, wa_38, ↓tgb_39 hp, ↓trb_39 hp, ↓tub_39 hp, wa_39, ↓tgb_42 hp, wi_42, ↓tw_rcb hp, q1, k36, k42, k36_3, vb_1, ↓jbR gi, ↓jbR r1, ↓jbR r2, ↓jbR r3, tw_a1, tw_a2, tw_a3, Nat.reduceEqDiff]
    refine st0.trans (r4.trans ?_)
    simp (disch := omega) only [il_0, il_1, il_2, il_3, il_4, il_5, il_6, il_7, il_8, il_9, il_10, il_11, il_12, il_13, il_14, il_15, il_16, il_17, il_18, il_19, il_20, il_21, il_22, il_23, il_24, il_25, il_26, il_27, il_28, il_29, il_30, il_31, il_32, il_40, il_41, il_42, il_43, il_44, il_45, il_46, il_47, il_48, il_52, il_56, il_57, il_59, il_60, il_61, il_63, il_64, il_68, il_72, il_75, il_76, il_82, il_88, il_89, il_90, il_92, il_96, il_97, il_99, il_100, il_101, il_102, il_103, il_104, il_105, il_107, il_108, il_109, il_110, il_111, il_112, il_114, il_115, il_116, il_117, il_118, il_119, il_121, il_122, il_130, il_200, il_255, il_256, il_260, il_276, il_400, il_403, il_420, il_840, il_999, il_1000, il_2000, il_2001, il_2668, il_2760, il_9999, il_12345, il_1000000, il_1103515245, ↓im_1, ↓im_2, ↓im_8, ↓im_1000, nI_add, pk_mul, pk_sub, ↓pk_rem, pk_div, nm_add, nI_clamp, nI_ltI, nI_leI, nI_eq, nm_eq, mn_eq, mm_eq, nm_lt, mn_lt, nm_le, mn_le, nl_T, nl_F, nle_T, nle_F, ne_T, ne_F, b2i_0, b2i_1, b2i_n, nb_0, nb_1, or_false, false_or, or_true, true_or, and_true, true_and, and_false, false_and, or_self, and_self, not_true_eq_false, not_false_eq_true, ↓reduceIte, if_true, if_false, ↓jv_bs, ↓jv_ol, ↓jv_or, jv_tl, jv_tn, jo_T, ck_2_166_17, ck_6_43_16, ck_6_43_17, ck_6_73_16, ck_7_65_17, ck_30_10_19, su_F, e30_110, e30_111, e30_113, e30_116, e30_117, e30_120, e30_121, e30_123, e30_126, ↓tgb_13 hp, wi_13, ↓tgb_19 hp, wi_19, ↓tgb_34 hp, ↓trb_34 hp, ↓tub_34 hp, wa_34, ↓tgb_35 hp, ↓trb_35 hp, ↓tub_35 hp, wa_35, ↓tgb_36 hp, wi_36, ↓tgb_37 hp, ↓trb_37 hp, ↓tub_37 hp, wa_37, ↓tgb_38 hp, ↓trb_38 hp, ↓tub_38 hp, wa_38, ↓tgb_39 hp, ↓trb_39 hp, ↓tub_39 hp, wa_39, ↓tgb_42 hp, wi_42, ↓tw_rcb hp, ↓jbR r5, ↓jbR r6, ↓jbR r7]
end
