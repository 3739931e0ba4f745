/-! the reference: numbers, fields, looms are told (printed by gen_92.py) -/
def zP {α : Type} (f : Wt → α) (z : Zs) : Pa α := match z with
  | .inl e => .inl e
  | .inr x => .inr (x.1, f x.2)
section
variable {d sd t : Nat} {p q : jv_H} {s s' s2 : tw_S} {K V F N L : Nat → Nat} {R : Nat → Nat → Nat} {z : Zs} {S : Sx} {T : Tx}
theorem ZQ_a {k : Nat} {f : Nat → Int32} (h : ZQ s K F z) : ZQ (tw_a s k f) K F z := by
  cases z <;> exact h
theorem ZQ_nm {nm : List Nat} {x : Int64} (h : ZQ s K F z) : ZQ (nmS s nm x) K F z := by
  cases z <;> exact h
theorem NQ_c {nm : List Nat} (h : NQ s nm) (h1 : s'.1 20 = s.1 20) (h2 : s'.2.2 21 = s.2.2 21) : NQ s' nm := by
  unfold NQ
  rw [h1, h2]
  exact h
theorem zbd_w {lo hi : Nat} {x : Nat × Wt} {w' : Wt} (h : w' = if V x.1 < lo ∨ hi < V x.1 then wt x.2 5 x.1 else x.2) (h0 : w'.1 = 0) : x.2.1 = 0 := by
  subst h
  split at h0
  · exact absurd h0 (wt_0 (by decide))
  · exact h0

theorem t_store (hp : p.length = 589) (hE : EN K V F N L R) (hS : PI s K V F N sd t S) (hk : K t = 26) : ∃ s', FX sd s s' ∧ PO s' K V F N sd (pOne K V N L R t S) ∧ jv_cd (d + 7) 18 [.ref 589] (tw_h p s q) = some (.inl none, tw_h p s' q) := by
  obtain ⟨hz, hte, hn, hsd, b, c, h36, h42, hb, hc, hT⟩ := hS
  obtain ⟨T, nm, w⟩ := S
  dsimp only at hz hn hT
  have e : pOne K V N L R t (T, nm, w) = zP (fun w => (tI T 0 (nI (V (t + 1))), nm, w)) (zmu K 4 (zbd K V 0 9999 (zgo (.inr (t, w))))) := by
    unfold pOne
    rw [if_neg (by omega)]
    rw [if_neg (by omega)]
    rw [if_neg (by omega)]
    rw [if_pos hk]
    exact hp_p (H := fun z => zP _ (zmu K 4 (zbd K V 0 9999 z))) (fun _ => rfl) (hp_n (H := fun z => zP _ (zmu K 4 z)) (fun _ => rfl) fun w => hp_m (H := fun z => zP (fun w => (tI T 0 (nI (V (t + 1))), nm, w)) z) (fun _ => rfl) rfl)
  rw [e]
  obtain ⟨q1, q2, q3, q4, q5, q6, q7⟩ := id hz
  have k1 := (hte t q4).1
  rw [hk] at k1
  have ht4 := q4.1
  have h19 := hT.1
  obtain ⟨s1, f1, z1, r1⟩ := z_go (d := d + 4) (q := q) hp hz hte (fun y hy => by obtain rfl := Sum.inr.inj hy; dsimp only; omega)
  obtain ⟨s2, f2, z2, r2⟩ := z_bd (d := d + 3) (q := q) (lo := 0) (hi := 9999) hp hE z1 (TE_FZ hte f1) (by decide) (by decide)
  have g19 : s2.1 19 = nI sd := (f2.1 19 (by decide)).trans ((f1.1 19 (by decide)).trans h19)
  have g19' : s1.1 19 = nI sd := (f1.1 19 (by decide)).trans h19
  have hfx : FX sd s (tw_a s2 31 (upd (s2.2.1 31) sd (nI (zbv K V 0 (zgo (.inr (t, w))))))) := FX_tr (FX_FZ (FZ_tr f1 f2)) (FX_a (by decide) (by decide) (by show 1 * sd ≤ sd ∧ sd < 1 * sd + 1; omega))
  obtain ⟨s4, f4, z4, r4⟩ := z_mu (d := d + 3) (q := q) (k := 4) hp (ZQ_a z2) (TE_FX hte hfx) (by decide)
  refine ⟨s4, FX_tr hfx (FX_FZ f4), ?_, ?_⟩
  · generalize hz3 : zmu K 4 (zbd K V 0 9999 (zgo (.inr (t, w)))) = z3 at z4 ⊢
    cases z3 with
    | inl e => exact z4
    | inr x =>
      obtain ⟨x1, hx1, rfl, _, _⟩ := zmu_i hz3
      obtain ⟨x2, hx2, rfl, _, _, hv⟩ := zbd_i hx1
      obtain ⟨rfl, _⟩ := zgo_r hx2
      have hv : zbv K V 0 (zgo (.inr (t, w))) = V (t + 1) := hv
      rw [hv] at hfx f4
      have hT2 : TP s2 sd T w b c := (TP_c (s := s) (s' := s2) ((f2.1 19 (by decide)).trans (f1.1 19 (by decide))) (fun k _ _ => by rw [f2.2, f1.2]) (AB_e fun k _ _ => by rw [f2.2, f1.2]) (Nat.le_refl _) (Nat.le_refl _) id hT) |> id
      refine ⟨z4, TE_FX (TE_FX hte hfx) (FX_FZ (sd := sd) f4), NQ_c hn ((f4.1 20 (by decide)).trans ((f2.1 20 (by decide)).trans (f1.1 20 (by decide)))) (by rw [f4.2]; show s2.2.2 21 = _; rw [f2.2, f1.2]), hsd, b, c, (f4.1 36 (by decide)).trans ((f2.1 36 (by decide)).trans ((f1.1 36 (by decide)).trans h36)), (f4.1 42 (by decide)).trans ((f2.1 42 (by decide)).trans ((f1.1 42 (by decide)).trans h42)), ⟨hb.1, by dsimp only; omega⟩, ⟨hc.1, by dsimp only; omega⟩, ?_⟩
      exact TP_c (f4.1 19 (by decide)) (fun k _ _ => by rw [f4.2]) (AB_e fun k _ _ => by rw [f4.2]) (Nat.le_refl _) (Nat.le_refl _) (fun h0 => zbd_w rfl h0) (TP_I (k := 0) (by decide) hT2)
  · simp (disch := omega) only [il_0, il_1, il_2, il_3, il_4, il_5, il_6, il_7, il_8, il_9, il_10, il_11, il_12, il_13, il_14, il_15, il_16, il_17, il_18, il_19, il_20, il_21, il_22, il_23, il_24, il_25, il_26, il_27, il_28, il_29, il_30, il_31, il_32, il_40, il_41, il_42, il_43, il_44, il_45, il_46, il_47, il_48, il_52, il_56, il_57, il_59, il_60, il_61, il_63, il_64, il_68, il_72, il_75, il_76, il_82, il_88, il_89, il_90, il_92, il_96, il_97, il_99, il_100, il_101, il_102, il_103, il_104, il_105, il_107, il_108, il_109, il_110, il_111, il_112, il_114, il_115, il_116, il_117, il_118, il_119, il_121, il_122, il_130, il_200, il_255, il_256, il_260, il_276, il_400, il_403, il_420, il_840, il_999, il_1000, il_2000, il_2001, il_2668, il_2760, il_9999, il_12345, il_1000000, il_1103515245, ↓im_1, ↓im_2, ↓im_8, ↓im_1000, nI_add, pk_mul, pk_sub, ↓pk_rem, pk_div, nm_add, nI_clamp, nI_ltI, nI_leI, nI_eq, nm_eq, mn_eq, mm_eq, nm_lt, mn_lt, nm_le, mn_le, nl_T, nl_F, nle_T, nle_F, ne_T, ne_F, b2i_0, b2i_1, b2i_n, nb_0, nb_1, or_false, false_or, or_true, true_or, and_true, true_and, and_false, false_and, or_self, and_self, not_true_eq_false, not_false_eq_true, ↓reduceIte, if_true, if_false, ↓jv_bs, ↓jv_ol, ↓jv_or, jv_tl, jv_tn, jo_T, ck_2_166_17, ck_6_43_16, ck_6_43_17, ck_6_73_16, ck_7_65_17, ck_30_10_19, su_F, e18_0, e18_1, e18_4, e18_5, e18_8, e18_9, e18_146, e18_147, e18_150, e18_151, e18_154, e18_155, e18_158, e18_159, e18_160, e18_163, e18_166, e18_167, e18_168, e18_169, e18_172, e18_285, ↓tgb_5 hp, ↓trb_5 hp, ↓tub_5 hp, wa_5, ↓tgb_11 hp, wi_11, ↓tgb_13 hp, wi_13, ↓tgb_19 hp, wi_19, ↓tgb_22 hp, ↓trb_22 hp, ↓tub_22 hp, wa_22, ↓tgb_25 hp, ↓trb_25 hp, ↓tub_25 hp, wa_25, ↓tgb_28 hp, ↓trb_28 hp, ↓tub_28 hp, wa_28, ↓tgb_31 hp, ↓trb_31 hp, ↓tub_31 hp, wa_31, ↓tgb_32 hp, ↓trb_32 hp, ↓tub_32 hp, wa_32, ↓tgb_33 hp, ↓trb_33 hp, ↓tub_33 hp, wa_33, ↓tw_rcb hp, n18, jv_tsl, q2, k1, g19, g19', ↓jbR r1, ↓jbR r2, ↓jbR r4]

theorem t_gusts (hp : p.length = 589) (hE : EN K V F N L R) (hS : PI s K V F N sd t S) (hk : K t = 27) : ∃ s', FX sd s s' ∧ PO s' K V F N sd (pOne K V N L R t S) ∧ jv_cd (d + 7) 18 [.ref 589] (tw_h p s q) = some (.inl none, tw_h p s' q) := by
  obtain ⟨hz, hte, hn, hsd, b, c, h36, h42, hb, hc, hT⟩ := hS
  obtain ⟨T, nm, w⟩ := S
  dsimp only at hz hn hT
  have e : pOne K V N L R t (T, nm, w) = zP (fun w => (tI T 1 (nI (V (t + 1))), nm, w)) (zmu K 4 (zbd K V 0 100 (zgo (.inr (t, w))))) := by
    unfold pOne
    rw [if_neg (by omega)]
    rw [if_neg (by omega)]
    rw [if_neg (by omega)]
    rw [if_neg (by omega)]
    rw [if_pos hk]
    exact hp_p (H := fun z => zP _ (zmu K 4 (zbd K V 0 100 z))) (fun _ => rfl) (hp_n (H := fun z => zP _ (zmu K 4 z)) (fun _ => rfl) fun w => hp_m (H := fun z => zP (fun w => (tI T 1 (nI (V (t + 1))), nm, w)) z) (fun _ => rfl) rfl)
  rw [e]
  obtain ⟨q1, q2, q3, q4, q5, q6, q7⟩ := id hz
  have k1 := (hte t q4).1
  rw [hk] at k1
  have ht4 := q4.1
  have h19 := hT.1
  obtain ⟨s1, f1, z1, r1⟩ := z_go (d := d + 4) (q := q) hp hz hte (fun y hy => by obtain rfl := Sum.inr.inj hy; dsimp only; omega)
  obtain ⟨s2, f2, z2, r2⟩ := z_bd (d := d + 3) (q := q) (lo := 0) (hi := 100) hp hE z1 (TE_FZ hte f1) (by decide) (by decide)
  have g19 : s2.1 19 = nI sd := (f2.1 19 (by decide)).trans ((f1.1 19 (by decide)).trans h19)
  have g19' : s1.1 19 = nI sd := (f1.1 19 (by decide)).trans h19
  have hfx : FX sd s (tw_a s2 32 (upd (s2.2.1 32) sd (nI (zbv K V 0 (zgo (.inr (t, w))))))) := FX_tr (FX_FZ (FZ_tr f1 f2)) (FX_a (by decide) (by decide) (by show 1 * sd ≤ sd ∧ sd < 1 * sd + 1; omega))
  obtain ⟨s4, f4, z4, r4⟩ := z_mu (d := d + 3) (q := q) (k := 4) hp (ZQ_a z2) (TE_FX hte hfx) (by decide)
  refine ⟨s4, FX_tr hfx (FX_FZ f4), ?_, ?_⟩
  · generalize hz3 : zmu K 4 (zbd K V 0 100 (zgo (.inr (t, w)))) = z3 at z4 ⊢
    cases z3 with
    | inl e => exact z4
    | inr x =>
      obtain ⟨x1, hx1, rfl, _, _⟩ := zmu_i hz3
      obtain ⟨x2, hx2, rfl, _, _, hv⟩ := zbd_i hx1
      obtain ⟨rfl, _⟩ := zgo_r hx2
      have hv : zbv K V 0 (zgo (.inr (t, w))) = V (t + 1) := hv
      rw [hv] at hfx f4
      have hT2 : TP s2 sd T w b c := (TP_c (s := s) (s' := s2) ((f2.1 19 (by decide)).trans (f1.1 19 (by decide))) (fun k _ _ => by rw [f2.2, f1.2]) (AB_e fun k _ _ => by rw [f2.2, f1.2]) (Nat.le_refl _) (Nat.le_refl _) id hT) |> id
      refine ⟨z4, TE_FX (TE_FX hte hfx) (FX_FZ (sd := sd) f4), NQ_c hn ((f4.1 20 (by decide)).trans ((f2.1 20 (by decide)).trans (f1.1 20 (by decide)))) (by rw [f4.2]; show s2.2.2 21 = _; rw [f2.2, f1.2]), hsd, b, c, (f4.1 36 (by decide)).trans ((f2.1 36 (by decide)).trans ((f1.1 36 (by decide)).trans h36)), (f4.1 42 (by decide)).trans ((f2.1 42 (by decide)).trans ((f1.1 42 (by decide)).trans h42)), ⟨hb.1, by dsimp only; omega⟩, ⟨hc.1, by dsimp only; omega⟩, ?_⟩
      exact TP_c (f4.1 19 (by decide)) (fun k _ _ => by rw [f4.2]) (AB_e fun k _ _ => by rw [f4.2]) (Nat.le_refl _) (Nat.le_refl _) (fun h0 => zbd_w rfl h0) (TP_I (k := 1) (by decide) hT2)
  · simp (disch := omega) only [il_0, il_1, il_2, il_3, il_4, il_5, il_6, il_7, il_8, il_9, il_10, il_11, il_12, il_13, il_14, il_15, il_16, il_17, il_18, il_19, il_20, il_21, il_22, il_23, il_24, il_25, il_26, il_27, il_28, il_29, il_30, il_31, il_32, il_40, il_41, il_42, il_43, il_44, il_45, il_46, il_47, il_48, il_52, il_56, il_57, il_59, il_60, il_61, il_63, il_64, il_68, il_72, il_75, il_76, il_82, il_88, il_89, il_90, il_92, il_96, il_97, il_99, il_100, il_101, il_102, il_103, il_104, il_105, il_107, il_108, il_109, il_110, il_111, il_112, il_114, il_115, il_116, il_117, il_118, il_119, il_121, il_122, il_130, il_200, il_255, il_256, il_260, il_276, il_400, il_403, il_420, il_840, il_999, il_1000, il_2000, il_2001, il_2668, il_2760, il_9999, il_12345, il_1000000, il_1103515245, ↓im_1, ↓im_2, ↓im_8, ↓im_1000, nI_add, pk_mul, pk_sub, ↓pk_rem, pk_div, nm_add, nI_clamp, nI_ltI, nI_leI, nI_eq, nm_eq, mn_eq, mm_eq, nm_lt, mn_lt, nm_le, mn_le, nl_T, nl_F, nle_T, nle_F, ne_T, ne_F, b2i_0, b2i_1, b2i_n, nb_0, nb_1, or_false, false_or, or_true, true_or, and_true, true_and, and_false, false_and, or_self, and_self, not_true_eq_false, not_false_eq_true, ↓reduceIte, if_true, if_false, ↓jv_bs, ↓jv_ol, ↓jv_or, jv_tl, jv_tn, jo_T, ck_2_166_17, ck_6_43_16, ck_6_43_17, ck_6_73_16, ck_7_65_17, ck_30_10_19, su_F, e18_0, e18_1, e18_4, e18_5, e18_8, e18_9, e18_175, e18_176, e18_179, e18_180, e18_183, e18_184, e18_187, e18_188, e18_189, e18_191, e18_194, e18_195, e18_196, e18_197, e18_200, e18_285, ↓tgb_5 hp, ↓trb_5 hp, ↓tub_5 hp, wa_5, ↓tgb_11 hp, wi_11, ↓tgb_13 hp, wi_13, ↓tgb_19 hp, wi_19, ↓tgb_22 hp, ↓trb_22 hp, ↓tub_22 hp, wa_22, ↓tgb_25 hp, ↓trb_25 hp, ↓tub_25 hp, wa_25, ↓tgb_28 hp, ↓trb_28 hp, ↓tub_28 hp, wa_28, ↓tgb_31 hp, ↓trb_31 hp, ↓tub_31 hp, wa_31, ↓tgb_32 hp, ↓trb_32 hp, ↓tub_32 hp, wa_32, ↓tgb_33 hp, ↓trb_33 hp, ↓tub_33 hp, wa_33, ↓tw_rcb hp, n18, jv_tsl, q2, k1, g19, g19', ↓jbR r1, ↓jbR r2, ↓jbR r4]

theorem t_seed (hp : p.length = 589) (hE : EN K V F N L R) (hS : PI s K V F N sd t S) (hk : K t = 28) : ∃ s', FX sd s s' ∧ PO s' K V F N sd (pOne K V N L R t S) ∧ jv_cd (d + 7) 18 [.ref 589] (tw_h p s q) = some (.inl none, tw_h p s' q) := by
  obtain ⟨hz, hte, hn, hsd, b, c, h36, h42, hb, hc, hT⟩ := hS
  obtain ⟨T, nm, w⟩ := S
  dsimp only at hz hn hT
  have e : pOne K V N L R t (T, nm, w) = zP (fun w => (tI T 2 (nI (V (t + 1))), nm, w)) (zmu K 4 (zbd K V 0 9999 (zgo (.inr (t, w))))) := by
    unfold pOne
    rw [if_neg (by omega)]
    rw [if_neg (by omega)]
    rw [if_neg (by omega)]
    rw [if_neg (by omega)]
    rw [if_neg (by omega)]
    rw [if_pos hk]
    exact hp_p (H := fun z => zP _ (zmu K 4 (zbd K V 0 9999 z))) (fun _ => rfl) (hp_n (H := fun z => zP _ (zmu K 4 z)) (fun _ => rfl) fun w => hp_m (H := fun z => zP (fun w => (tI T 2 (nI (V (t + 1))), nm, w)) z) (fun _ => rfl) rfl)
  rw [e]
  obtain ⟨q1, q2, q3, q4, q5, q6, q7⟩ := id hz
  have k1 := (hte t q4).1
  rw [hk] at k1
  have ht4 := q4.1
  have h19 := hT.1
  obtain ⟨s1, f1, z1, r1⟩ := z_go (d := d + 4) (q := q) hp hz hte (fun y hy => by obtain rfl := Sum.inr.inj hy; dsimp only; omega)
  obtain ⟨s2, f2, z2, r2⟩ := z_bd (d := d + 3) (q := q) (lo := 0) (hi := 9999) hp hE z1 (TE_FZ hte f1) (by decide) (by decide)
  have g19 : s2.1 19 = nI sd := (f2.1 19 (by decide)).trans ((f1.1 19 (by decide)).trans h19)
  have g19' : s1.1 19 = nI sd := (f1.1 19 (by decide)).trans h19
  have hfx : FX sd s (tw_a s2 33 (upd (s2.2.1 33) sd (nI (zbv K V 0 (zgo (.inr (t, w))))))) := FX_tr (FX_FZ (FZ_tr f1 f2)) (FX_a (by decide) (by decide) (by show 1 * sd ≤ sd ∧ sd < 1 * sd + 1; omega))
  obtain ⟨s4, f4, z4, r4⟩ := z_mu (d := d + 3) (q := q) (k := 4) hp (ZQ_a z2) (TE_FX hte hfx) (by decide)
  refine ⟨s4, FX_tr hfx (FX_FZ f4), ?_, ?_⟩
  · generalize hz3 : zmu K 4 (zbd K V 0 9999 (zgo (.inr (t, w)))) = z3 at z4 ⊢
    cases z3 with
    | inl e => exact z4
    | inr x =>
      obtain ⟨x1, hx1, rfl, _, _⟩ := zmu_i hz3
      obtain ⟨x2, hx2, rfl, _, _, hv⟩ := zbd_i hx1
      obtain ⟨rfl, _⟩ := zgo_r hx2
      have hv : zbv K V 0 (zgo (.inr (t, w))) = V (t + 1) := hv
      rw [hv] at hfx f4
      have hT2 : TP s2 sd T w b c := (TP_c (s := s) (s' := s2) ((f2.1 19 (by decide)).trans (f1.1 19 (by decide))) (fun k _ _ => by rw [f2.2, f1.2]) (AB_e fun k _ _ => by rw [f2.2, f1.2]) (Nat.le_refl _) (Nat.le_refl _) id hT) |> id
      refine ⟨z4, TE_FX (TE_FX hte hfx) (FX_FZ (sd := sd) f4), NQ_c hn ((f4.1 20 (by decide)).trans ((f2.1 20 (by decide)).trans (f1.1 20 (by decide)))) (by rw [f4.2]; show s2.2.2 21 = _; rw [f2.2, f1.2]), hsd, b, c, (f4.1 36 (by decide)).trans ((f2.1 36 (by decide)).trans ((f1.1 36 (by decide)).trans h36)), (f4.1 42 (by decide)).trans ((f2.1 42 (by decide)).trans ((f1.1 42 (by decide)).trans h42)), ⟨hb.1, by dsimp only; omega⟩, ⟨hc.1, by dsimp only; omega⟩, ?_⟩
      exact TP_c (f4.1 19 (by decide)) (fun k _ _ => by rw [f4.2]) (AB_e fun k _ _ => by rw [f4.2]) (Nat.le_refl _) (Nat.le_refl _) (fun h0 => zbd_w rfl h0) (TP_I (k := 2) (by decide) hT2)
  · simp (disch := omega) only [il_0, il_1, il_2, il_3, il_4, il_5, il_6, il_7, il_8, il_9, il_10, il_11, il_12, il_13, il_14, il_15, il_16, il_17, il_18, il_19, il_20, il_21, il_22, il_23, il_24, il_25, il_26, il_27, il_28, il_29, il_30, il_31, il_32, il_40, il_41, il_42, il_43, il_44, il_45, il_46, il_47, il_48, il_52, il_56, il_57, il_59, il_60, il_61, il_63, il_64, il_68, il_72, il_75, il_76, il_82, il_88, il_89, il_90, il_92, il_96, il_97, il_99, il_100, il_101, il_102, il_103, il_104, il_105, il_107, il_108, il_109, il_110, il_111, il_112, il_114, il_115, il_116, il_117, il_118, il_119, il_121, il_122, il_130, il_200, il_255, il_256, il_260, il_276, il_400, il_403, il_420, il_840, il_999, il_1000, il_2000, il_2001, il_2668, il_2760, il_9999, il_12345, il_1000000, il_1103515245, ↓im_1, ↓im_2, ↓im_8, ↓im_1000, nI_add, pk_mul, pk_sub, ↓pk_rem, pk_div, nm_add, nI_clamp, nI_ltI, nI_leI, nI_eq, nm_eq, mn_eq, mm_eq, nm_lt, mn_lt, nm_le, mn_le, nl_T, nl_F, nle_T, nle_F, ne_T, ne_F, b2i_0, b2i_1, b2i_n, nb_0, nb_1, or_false, false_or, or_true, true_or, and_true, true_and, and_false, false_and, or_self, and_self, not_true_eq_false, not_false_eq_true, ↓reduceIte, if_true, if_false, ↓jv_bs, ↓jv_ol, ↓jv_or, jv_tl, jv_tn, jo_T, ck_2_166_17, ck_6_43_16, ck_6_43_17, ck_6_73_16, ck_7_65_17, ck_30_10_19, su_F, e18_0, e18_1, e18_4, e18_5, e18_8, e18_9, e18_203, e18_204, e18_207, e18_208, e18_211, e18_212, e18_215, e18_216, e18_217, e18_220, e18_223, e18_224, e18_225, e18_226, e18_229, e18_285, ↓tgb_5 hp, ↓trb_5 hp, ↓tub_5 hp, wa_5, ↓tgb_11 hp, wi_11, ↓tgb_13 hp, wi_13, ↓tgb_19 hp, wi_19, ↓tgb_22 hp, ↓trb_22 hp, ↓tub_22 hp, wa_22, ↓tgb_25 hp, ↓trb_25 hp, ↓tub_25 hp, wa_25, ↓tgb_28 hp, ↓trb_28 hp, ↓tub_28 hp, wa_28, ↓tgb_31 hp, ↓trb_31 hp, ↓tub_31 hp, wa_31, ↓tgb_32 hp, ↓trb_32 hp, ↓tub_32 hp, wa_32, ↓tgb_33 hp, ↓trb_33 hp, ↓tub_33 hp, wa_33, ↓tw_rcb hp, n18, jv_tsl, q2, k1, g19, g19', ↓jbR r1, ↓jbR r2, ↓jbR r4]

/-- room for one more -/
theorem z_room (hp : p.length = 589) {w : Wt} (hz : ZQ s K F (.inr (t, w))) (hte : TE s K V F N) (h0 : K t ≠ 0) {n m : Nat} (hn : n ≤ 99) (hm : m ≤ 99) : ∃ s', FZ s s' ∧ ZQ s' K F (if n = m then .inl (2, t) else zgo (.inr (t, w))) ∧ jv_cd (d + 3) 19 [.ref 589, .int (nI n), .int (nI m)] (tw_h p s q) = some (.inl none, tw_h p s' q) := by
  obtain ⟨q1, q2, q3, q4, q5, q6, q7⟩ := id hz
  by_cases h : n = m
  · rw [if_pos h]
    obtain ⟨s1, f1, z1, r1⟩ := z_fail (d := d + 1) (q := q) (k := 2) hp hz hte (by decide)
    obtain ⟨g1, g2, _⟩ := id z1
    have g0 := fe_0 g1 g2
    refine ⟨s1, f1, z1, ?_⟩
    subst h
    simp (disch := omega) only [il_0, il_1, il_2, il_3, il_4, il_5, il_6, il_7, il_8, il_9, il_10, il_11, il_12, il_13, il_14, il_15, il_16, il_17, il_18, il_19, il_20, il_21, il_22, il_23, il_24, il_25, il_26, il_27, il_28, il_29, il_30, il_31, il_32, il_40, il_41, il_42, il_43, il_44, il_45, il_46, il_47, il_48, il_52, il_56, il_57, il_59, il_60, il_61, il_63, il_64, il_68, il_72, il_75, il_76, il_82, il_88, il_89, il_90, il_92, il_96, il_97, il_99, il_100, il_101, il_102, il_103, il_104, il_105, il_107, il_108, il_109, il_110, il_111, il_112, il_114, il_115, il_116, il_117, il_118, il_119, il_121, il_122, il_130, il_200, il_255, il_256, il_260, il_276, il_400, il_403, il_420, il_840, il_999, il_1000, il_2000, il_2001, il_2668, il_2760, il_9999, il_12345, il_1000000, il_1103515245, ↓im_1, ↓im_2, ↓im_8, ↓im_1000, nI_add, pk_mul, pk_sub, ↓pk_rem, pk_div, nm_add, nI_clamp, nI_ltI, nI_leI, nI_eq, nm_eq, mn_eq, mm_eq, nm_lt, mn_lt, nm_le, mn_le, nl_T, nl_F, nle_T, nle_F, ne_T, ne_F, b2i_0, b2i_1, b2i_n, nb_0, nb_1, or_false, false_or, or_true, true_or, and_true, true_and, and_false, false_and, or_self, and_self, not_true_eq_false, not_false_eq_true, ↓reduceIte, if_true, if_false, ↓jv_bs, ↓jv_ol, ↓jv_or, jv_tl, jv_tn, jo_T, ck_2_166_17, ck_6_43_16, ck_6_43_17, ck_6_73_16, ck_7_65_17, ck_30_10_19, su_F, e19_0, e19_1, e19_2, e19_5, e19_6, e19_7, e19_10, e19_11, e19_14, e19_17, e19_18, e19_21, ↓tgb_13 hp, wi_13, ↓tw_rcb hp, n19, g0, ↓jbR r1]
  · rw [if_neg h]
    obtain ⟨s1, f1, z1, r1⟩ := z_go (d := d) (q := q) hp hz hte (fun y hy => by obtain rfl := Sum.inr.inj hy; exact h0)
    refine ⟨s1, f1, z1, ?_⟩
    simp (disch := omega) only [il_0, il_1, il_2, il_3, il_4, il_5, il_6, il_7, il_8, il_9, il_10, il_11, il_12, il_13, il_14, il_15, il_16, il_17, il_18, il_19, il_20, il_21, il_22, il_23, il_24, il_25, il_26, il_27, il_28, il_29, il_30, il_31, il_32, il_40, il_41, il_42, il_43, il_44, il_45, il_46, il_47, il_48, il_52, il_56, il_57, il_59, il_60, il_61, il_63, il_64, il_68, il_72, il_75, il_76, il_82, il_88, il_89, il_90, il_92, il_96, il_97, il_99, il_100, il_101, il_102, il_103, il_104, il_105, il_107, il_108, il_109, il_110, il_111, il_112, il_114, il_115, il_116, il_117, il_118, il_119, il_121, il_122, il_130, il_200, il_255, il_256, il_260, il_276, il_400, il_403, il_420, il_840, il_999, il_1000, il_2000, il_2001, il_2668, il_2760, il_9999, il_12345, il_1000000, il_1103515245, ↓im_1, ↓im_2, ↓im_8, ↓im_1000, nI_add, pk_mul, pk_sub, ↓pk_rem, pk_div, nm_add, nI_clamp, nI_ltI, nI_leI, nI_eq, nm_eq, mn_eq, mm_eq, nm_lt, mn_lt, nm_le, mn_le, nl_T, nl_F, nle_T, nle_F, ne_T, ne_F, b2i_0, b2i_1, b2i_n, nb_0, nb_1, or_false, false_or, or_true, true_or, and_true, true_and, and_false, false_and, or_self, and_self, not_true_eq_false, not_false_eq_true, ↓reduceIte, if_true, if_false, ↓jv_bs, ↓jv_ol, ↓jv_or, jv_tl, jv_tn, jo_T, ck_2_166_17, ck_6_43_16, ck_6_43_17, ck_6_73_16, ck_7_65_17, ck_30_10_19, su_F, e19_0, e19_1, e19_2, e19_5, e19_6, e19_7, e19_10, e19_11, e19_14, e19_17, e19_18, e19_21, ↓tgb_13 hp, wi_13, ↓tw_rcb hp, n19, h, q1, ↓jbR r1]
theorem znm_i {nm : List Nat} {t : Nat} {w : Wt} {y : Nat × Wt} (h : znm K N nm t w = .inr y) : y = (t + 1, if N t ∈ nm then wt w 3 t else w) ∧ K t = 1 := by
  unfold znm at h
  generalize hz : zmu K 1 (.inr (t, w)) = z at h
  cases z with
  | inl e => cases h
  | inr x =>
    obtain ⟨rfl, h1, _⟩ := zmu_r hz
    exact ⟨(Sum.inr.inj h).symm, h1⟩
theorem znm_w {nm : List Nat} {t : Nat} {w w' : Wt} (h : w' = if N t ∈ nm then wt w 3 t else w) (h0 : w'.1 = 0) : w.1 = 0 := by
  subst h
  split at h0
  · exact absurd h0 (wt_0 (by decide))
  · exact h0

def zP2 {α : Type} (f : Nat → Pa α) (z : Zs) : Pa α := match z with
  | .inl e => .inl e
  | .inr x => f x.1

theorem m_field (hp : p.length = 589) (hE : EN K V F N L R) {nm : List Nat} {w : Wt} {b c : Nat} (hz : ZQ s K F (.inr (t, w))) (hte : TE s K V F N) (hn : NQ s nm) (hsd : sd < 2) (hT : TP s sd T w b c) (hnf : t_nf T < 6) (hl : nm.length < 10) (h6 : t_nf T ≤ 6) : ∃ s', FX sd s s' ∧ (s'.1 36 = s.1 36 ∧ s'.1 42 = s.1 42) ∧ (match zmu K 4 (zbd K V 0 999 (zbd K V 0 99 (znm K N nm t w))) with
    | .inl e => ZQ s' K F (.inl e)
    | .inr x => ZQ s' K F (.inr x) ∧ NQ s' (nm ++ [N t]) ∧ TP s' sd (fdT T (V (t + 1)) (V (t + 1 + 1))) x.2 b c) ∧ jv_cd (d + 5) 25 [.ref 589] (tw_h p s q) = some (.inl none, tw_h p s' q) := by
  obtain ⟨q1, q2, q3, q4, q5, q6, q7⟩ := id hz
  have ht4 := q4.1
  have h19 := hT.1
  have hcnt : s.2.1 25 sd = nI (t_nf T) := hT.2.2.2.1
  obtain ⟨s1, f1, z1, r1⟩ := z_nm (d := d) (q := q) hp hE hz hte hn
  have hte1 := TE_FZ hte f1
  obtain ⟨s2, f2, z2, r2⟩ := z_bd (d := d + 1) (q := q) (lo := 0) (hi := 99) hp hE z1 hte1 (by decide) (by decide)
  generalize hv1 : zbv K V 0 (znm K N nm t w) = v1 at r2
  have hfx3 : FX sd s (tw_a s2 26 (upd (s2.2.1 26) (6 * sd + t_nf T) (nI v1))) := FX_tr (FX_FZ (FZ_tr f1 f2)) (FX_a (by decide) (by decide) (by show 6 * sd ≤ _ ∧ _ < 6 * sd + 6; omega))
  obtain ⟨s4, f4, z4, r4⟩ := z_bd (d := d + 1) (q := q) (lo := 0) (hi := 999) hp hE (ZQ_a z2) (TE_FX hte hfx3) (by decide) (by decide)
  generalize hv2 : zbv K V 0 (zbd K V 0 99 (znm K N nm t w)) = v2 at r4
  have hfx5 : FX sd s (tw_a s4 27 (upd (s4.2.1 27) (6 * sd + t_nf T) (nI v2))) := FX_tr hfx3 (FX_tr (FX_FZ f4) (FX_a (by decide) (by decide) (by show 6 * sd ≤ _ ∧ _ < 6 * sd + 6; omega)))
  have hn5 : NQ (tw_a s4 27 (upd (s4.2.1 27) (6 * sd + t_nf T) (nI v2))) nm := NQ_c hn ((f4.1 20 (by decide)).trans ((f2.1 20 (by decide)).trans (f1.1 20 (by decide)))) (by show s4.2.2 21 = _; rw [f4.2]; show s2.2.2 21 = _; rw [f2.2, f1.2])
  have g19_1 : s1.1 19 = nI sd := (f1.1 19 (by decide)).trans h19
  have g19_2 : s2.1 19 = nI sd := (f2.1 19 (by decide)).trans g19_1
  have g19_4 : s4.1 19 = nI sd := (f4.1 19 (by decide)).trans g19_2
  by_cases hkt : K t = 0
  · have hzf : znm K N nm t w = .inl (1, t) := by
      unfold znm zmu
      dsimp only
      rw [if_neg (by omega)]
    rw [hzf] at z4 ⊢
    obtain ⟨g1, g2, _⟩ := id z4
    have r6 := m_endsF (d := d) (q := q) (s := tw_a s4 27 (upd (s4.2.1 27) (6 * sd + t_nf T) (nI v2))) (t := t) hp g1 g2
    have g0 := fe_0 g1 g2
    refine ⟨_, hfx5, ⟨(f4.1 36 (by decide)).trans ((f2.1 36 (by decide)).trans (f1.1 36 (by decide))), (f4.1 42 (by decide)).trans ((f2.1 42 (by decide)).trans (f1.1 42 (by decide)))⟩, ZQ_a z4, ?_⟩
    simp (disch := omega) only [il_0, il_1, il_2, il_3, il_4, il_5, il_6, il_7, il_8, il_9, il_10, il_11, il_12, il_13, il_14, il_15, il_16, il_17, il_18, il_19, il_20, il_21, il_22, il_23, il_24, il_25, il_26, il_27, il_28, il_29, il_30, il_31, il_32, il_40, il_41, il_42, il_43, il_44, il_45, il_46, il_47, il_48, il_52, il_56, il_57, il_59, il_60, il_61, il_63, il_64, il_68, il_72, il_75, il_76, il_82, il_88, il_89, il_90, il_92, il_96, il_97, il_99, il_100, il_101, il_102, il_103, il_104, il_105, il_107, il_108, il_109, il_110, il_111, il_112, il_114, il_115, il_116, il_117, il_118, il_119, il_121, il_122, il_130, il_200, il_255, il_256, il_260, il_276, il_400, il_403, il_420, il_840, il_999, il_1000, il_2000, il_2001, il_2668, il_2760, il_9999, il_12345, il_1000000, il_1103515245, ↓im_1, ↓im_2, ↓im_8, ↓im_1000, nI_add, pk_mul, pk_sub, ↓pk_rem, pk_div, nm_add, nI_clamp, nI_ltI, nI_leI, nI_eq, nm_eq, mn_eq, mm_eq, nm_lt, mn_lt, nm_le, mn_le, nl_T, nl_F, nle_T, nle_F, ne_T, ne_F, b2i_0, b2i_1, b2i_n, nb_0, nb_1, or_false, false_or, or_true, true_or, and_true, true_and, and_false, false_and, or_self, and_self, not_true_eq_false, not_false_eq_true, ↓reduceIte, if_true, if_false, ↓jv_bs, ↓jv_ol, ↓jv_or, jv_tl, jv_tn, jo_T, ck_2_166_17, ck_6_43_16, ck_6_43_17, ck_6_73_16, ck_7_65_17, ck_30_10_19, su_F, e25_0, e25_2, e25_3, e25_6, e25_7, e25_8, e25_11, e25_12, e25_15, e25_16, e25_17, e25_18, e25_19, e25_22, e25_23, e25_24, e25_27, e25_28, e25_29, e25_30, e25_32, e25_35, e25_36, e25_37, e25_40, e25_41, e25_42, e25_43, e25_46, e25_49, e25_50, e25_51, e25_52, e25_55, e25_56, e25_59, e25_62, e25_63, e25_66, e25_67, e25_70, e25_71, e25_72, e25_73, e25_74, e25_75, ↓tgb_13 hp, wi_13, ↓tgb_19 hp, wi_19, ↓tgb_25 hp, ↓trb_25 hp, ↓tub_25 hp, wa_25, ↓tgb_26 hp, ↓trb_26 hp, ↓tub_26 hp, wa_26, ↓tgb_27 hp, ↓trb_27 hp, ↓tub_27 hp, wa_27, ↓tw_rcb hp, n25, h19, hcnt, g0, ↓jbR r1, ↓jbR r2, ↓jbR r4, ↓jbR r6, tw_a1, tw_a2, tw_a3, Nat.reduceEqDiff]
  · obtain ⟨s6, f6, z6, r6⟩ := z_ends (d := d) (q := q) hp (ZQ_a z4) (TE_FX hte hfx5) hn5 hl q4 hkt
    have g19_6 : s6.1 19 = nI sd := (f6.1 19 (by decide)).trans g19_4
    have gcnt_6 : s6.2.1 25 sd = nI (t_nf T) := by
      rw [f6.2]; show s4.2.1 25 sd = _; rw [f4.2]; show s2.2.1 25 sd = _; rw [f2.2, f1.2]; exact hcnt
    generalize hzz : zmu K 4 (zbd K V 0 999 (zbd K V 0 99 (znm K N nm t w))) = zz at z6 r6 ⊢
    cases zz with
    | inl e =>
      dsimp only at r6 ⊢
      obtain ⟨g1, g2, _⟩ := id z6
      have g0 := fe_0 g1 g2
      refine ⟨s6, FX_tr hfx5 (FX_FZ f6), ⟨(f6.1 36 (by decide)).trans ((f4.1 36 (by decide)).trans ((f2.1 36 (by decide)).trans (f1.1 36 (by decide)))), (f6.1 42 (by decide)).trans ((f4.1 42 (by decide)).trans ((f2.1 42 (by decide)).trans (f1.1 42 (by decide))))⟩, z6, ?_⟩
      simp (disch := omega) only [il_0, il_1, il_2, il_3, il_4, il_5, il_6, il_7, il_8, il_9, il_10, il_11, il_12, il_13, il_14, il_15, il_16, il_17, il_18, il_19, il_20, il_21, il_22, il_23, il_24, il_25, il_26, il_27, il_28, il_29, il_30, il_31, il_32, il_40, il_41, il_42, il_43, il_44, il_45, il_46, il_47, il_48, il_52, il_56, il_57, il_59, il_60, il_61, il_63, il_64, il_68, il_72, il_75, il_76, il_82, il_88, il_89, il_90, il_92, il_96, il_97, il_99, il_100, il_101, il_102, il_103, il_104, il_105, il_107, il_108, il_109, il_110, il_111, il_112, il_114, il_115, il_116, il_117, il_118, il_119, il_121, il_122, il_130, il_200, il_255, il_256, il_260, il_276, il_400, il_403, il_420, il_840, il_999, il_1000, il_2000, il_2001, il_2668, il_2760, il_9999, il_12345, il_1000000, il_1103515245, ↓im_1, ↓im_2, ↓im_8, ↓im_1000, nI_add, pk_mul, pk_sub, ↓pk_rem, pk_div, nm_add, nI_clamp, nI_ltI, nI_leI, nI_eq, nm_eq, mn_eq, mm_eq, nm_lt, mn_lt, nm_le, mn_le, nl_T, nl_F, nle_T, nle_F, ne_T, ne_F, b2i_0, b2i_1, b2i_n, nb_0, nb_1, or_false, false_or, or_true, true_or, and_true, true_and, and_false, false_and, or_self, and_self, not_true_eq_false, not_false_eq_true, ↓reduceIte, if_true, if_false, ↓jv_bs, ↓jv_ol, ↓jv_or, jv_tl, jv_tn, jo_T, ck_2_166_17, ck_6_43_16, ck_6_43_17, ck_6_73_16, ck_7_65_17, ck_30_10_19, su_F, e25_0, e25_2, e25_3, e25_6, e25_7, e25_8, e25_11, e25_12, e25_15, e25_16, e25_17, e25_18, e25_19, e25_22, e25_23, e25_24, e25_27, e25_28, e25_29, e25_30, e25_32, e25_35, e25_36, e25_37, e25_40, e25_41, e25_42, e25_43, e25_46, e25_49, e25_50, e25_51, e25_52, e25_55, e25_56, e25_59, e25_62, e25_63, e25_66, e25_67, e25_70, e25_71, e25_72, e25_73, e25_74, e25_75, ↓tgb_13 hp, wi_13, ↓tgb_19 hp, wi_19, ↓tgb_25 hp, ↓trb_25 hp, ↓tub_25 hp, wa_25, ↓tgb_26 hp, ↓trb_26 hp, ↓tub_26 hp, wa_26, ↓tgb_27 hp, ↓trb_27 hp, ↓tub_27 hp, wa_27, ↓tw_rcb hp, n25, h19, hcnt, g0, ↓jbR r1, ↓jbR r2, ↓jbR r4, ↓jbR r6, tw_a1, tw_a2, tw_a3, Nat.reduceEqDiff]
    | inr x =>
      dsimp only at r6 ⊢
      obtain ⟨g1, g2, _⟩ := id z6
      obtain ⟨y1, hy1, rfl, _, _⟩ := zmu_i hzz
      obtain ⟨y2, hy2, rfl, _, _, e2⟩ := zbd_i hy1
      obtain ⟨y3, hy3, rfl, _, _, e1⟩ := zbd_i hy2
      obtain ⟨rfl, _⟩ := znm_i hy3
      rw [hv1] at e1
      rw [hv2] at e2
      dsimp only at e1 e2
      subst e1 e2
      refine ⟨tw_a (nmS s6 nm (nL (N t))) 25 (upd (s6.2.1 25) sd (nI (t_nf T + 1))), FX_tr hfx5 (FX_tr (FX_FZ f6) (FX_tr FX_nm (FX_a (s := nmS s6 nm (nL (N t))) (by decide) (by decide) (by show 1 * sd ≤ sd ∧ sd < 1 * sd + 1; omega)))), ⟨(f6.1 36 (by decide)).trans ((f4.1 36 (by decide)).trans ((f2.1 36 (by decide)).trans (f1.1 36 (by decide)))), (f6.1 42 (by decide)).trans ((f4.1 42 (by decide)).trans ((f2.1 42 (by decide)).trans (f1.1 42 (by decide))))⟩, ⟨ZQ_a (ZQ_nm z6), NQ_s (s := s6) (NQ_FZ hn5 f6) hl (hE.2.2.2.2.1 t), ?_⟩, ?_⟩
      · have a6 : ∀ j, s6.2.1 j = (tw_a s4 27 (upd (s4.2.1 27) (6 * sd + t_nf T) (nI (V (t + 1 + 1))))).2.1 j := fun j => by rw [f6.2]
        have a4 : ∀ j, s4.2.1 j = (tw_a s2 26 (upd (s2.2.1 26) (6 * sd + t_nf T) (nI (V (t + 1))))).2.1 j := fun j => by rw [f4.2]
        have a2 : ∀ j, s2.2.1 j = s.2.1 j := fun j => by rw [f2.2, f1.2]
        refine TP_F hnf hT (g19_6.trans h19.symm) ?_ ?_ ?_ (fun j h1 h2 h3 => ?_) (fun h0 => znm_w rfl (zbd_w rfl (zbd_w rfl h0)))
        · show upd (s6.2.1 25) sd _ = _
          rw [a6]; show upd (s4.2.1 25) sd _ = _; rw [a4]; show upd (s2.2.1 25) sd _ = _; rw [a2]
        · show s6.2.1 26 = _
          rw [a6]; show s4.2.1 26 = _; rw [a4]; show upd (s2.2.1 26) _ _ = _; rw [a2]
        · show s6.2.1 27 = _
          rw [a6]; show upd (s4.2.1 27) _ _ = _; rw [a4]; show upd (s2.2.1 27) _ _ = _; rw [a2]
        · rw [tw_a2, if_neg (by omega)]
          show s6.2.1 j = _
          rw [a6, tw_a2, if_neg (by omega), a4, tw_a2, if_neg (by omega), a2]
      · have g19n : (nmS s6 nm (nL (N t))).1 19 = nI sd := g19_6
        have gcn : (nmS s6 nm (nL (N t))).2.1 25 = s6.2.1 25 := rfl
        have g13n : (nmS s6 nm (nL (N t))).1 13 = nI 0 := g1
        generalize nmS s6 nm (nL (N t)) = s7 at r6 g19n gcn g13n ⊢
        simp (disch := omega) only [il_0, il_1, il_2, il_3, il_4, il_5, il_6, il_7, il_8, il_9, il_10, il_11, il_12, il_13, il_14, il_15, il_16, il_17, il_18, il_19, il_20, il_21, il_22, il_23, il_24, il_25, il_26, il_27, il_28, il_29, il_30, il_31, il_32, il_40, il_41, il_42, il_43, il_44, il_45, il_46, il_47, il_48, il_52, il_56, il_57, il_59, il_60, il_61, il_63, il_64, il_68, il_72, il_75, il_76, il_82, il_88, il_89, il_90, il_92, il_96, il_97, il_99, il_100, il_101, il_102, il_103, il_104, il_105, il_107, il_108, il_109, il_110, il_111, il_112, il_114, il_115, il_116, il_117, il_118, il_119, il_121, il_122, il_130, il_200, il_255, il_256, il_260, il_276, il_400, il_403, il_420, il_840, il_999, il_1000, il_2000, il_2001, il_2668, il_2760, il_9999, il_12345, il_1000000, il_1103515245, ↓im_1, ↓im_2, ↓im_8, ↓im_1000, nI_add, pk_mul, pk_sub, ↓pk_rem, pk_div, nm_add, nI_clamp, nI_ltI, nI_leI, nI_eq, nm_eq, mn_eq, mm_eq, nm_lt, mn_lt, nm_le, mn_le, nl_T, nl_F, nle_T, nle_F, ne_T, ne_F, b2i_0, b2i_1, b2i_n, nb_0, nb_1, or_false, false_or, or_true, true_or, and_true, true_and, and_false, false_and, or_self, and_self, not_true_eq_false, not_false_eq_true, ↓reduceIte, if_true, if_false, ↓jv_bs, ↓jv_ol, ↓jv_or, jv_tl, jv_tn, jo_T, ck_2_166_17, ck_6_43_16, ck_6_43_17, ck_6_73_16, ck_7_65_17, ck_30_10_19, su_F, e25_0, e25_2, e25_3, e25_6, e25_7, e25_8, e25_11, e25_12, e25_15, e25_16, e25_17, e25_18, e25_19, e25_22, e25_23, e25_24, e25_27, e25_28, e25_29, e25_30, e25_32, e25_35, e25_36, e25_37, e25_40, e25_41, e25_42, e25_43, e25_46, e25_49, e25_50, e25_51, e25_52, e25_55, e25_56, e25_59, e25_62, e25_63, e25_66, e25_67, e25_70, e25_71, e25_72, e25_73, e25_74, e25_75, ↓tgb_13 hp, wi_13, ↓tgb_19 hp, wi_19, ↓tgb_25 hp, ↓trb_25 hp, ↓tub_25 hp, wa_25, ↓tgb_26 hp, ↓trb_26 hp, ↓tub_26 hp, wa_26, ↓tgb_27 hp, ↓trb_27 hp, ↓tub_27 hp, wa_27, ↓tw_rcb hp, n25, h19, hcnt, g13n, g19n, gcn, gcnt_6, ↓jbR r1, ↓jbR r2, ↓jbR r4, ↓jbR r6, tw_a1, tw_a2, tw_a3, Nat.reduceEqDiff]
theorem t_field (hp : p.length = 589) (hE : EN K V F N L R) (hS : PI s K V F N sd t S) (hX : WX S t) (hk : K t = 21) : ∃ s', FX sd s s' ∧ PO s' K V F N sd (pOne K V N L R t S) ∧ jv_cd (d + 7) 18 [.ref 589] (tw_h p s q) = some (.inl none, tw_h p s' q) := by
  obtain ⟨hz, hte, hn, hsd, b, c, h36, h42, hb, hc, hT⟩ := hS
  obtain ⟨T, nm, w⟩ := S
  dsimp only at hz hn hT
  obtain ⟨⟨x1, x2, x3, x4⟩, x5, _⟩ := hX
  dsimp only at x1 x2 x3 x4 x5
  have e : pOne K V N L R t (T, nm, w) = if t_nf T = 6 then .inl (2, t) else zP2 (fun t1 => zP (fun w => (fdT T (V (t1 + 1)) (V (t1 + 1 + 1)), nm ++ [N t1], w)) (zmu K 4 (zbd K V 0 999 (zbd K V 0 99 (znm K N nm t1 w))))) (zgo (.inr (t, w))) := by
    unfold pOne
    rw [if_neg (by omega)]
    rw [if_pos hk]
    dsimp only
    by_cases h6 : t_nf T = 6
    · rw [if_pos h6, if_pos h6]
    · rw [if_neg h6, if_neg h6]
      refine hp_p (H := fun z => zP2 _ z) (fun _ => rfl) ?_
      exact hp_nm (H := fun z => zP (fun w => (fdT T (V (t + 1 + 1)) (V (t + 1 + 1 + 1)), nm ++ [N (t + 1)], w)) (zmu K 4 (zbd K V 0 999 (zbd K V 0 99 z)))) (fun _ => rfl) (hp_n (H := fun z => zP (fun w => (fdT T (V (t + 1 + 1)) (V (t + 1 + 1 + 1)), nm ++ [N (t + 1)], w)) (zmu K 4 (zbd K V 0 999 z))) (fun _ => rfl) fun w => hp_n (H := fun z => zP (fun w => (fdT T (V (t + 1 + 1)) (V (t + 1 + 1 + 1)), nm ++ [N (t + 1)], w)) (zmu K 4 z)) (fun _ => rfl) fun w => hp_m (H := fun z => zP (fun w => (fdT T (V (t + 1 + 1)) (V (t + 1 + 1 + 1)), nm ++ [N (t + 1)], w)) z) (fun _ => rfl) rfl)
  rw [e]
  obtain ⟨q1, q2, q3, q4, q5, q6, q7⟩ := id hz
  have k1 := (hte t q4).1
  rw [hk] at k1
  have ht4 := q4.1
  have h19 := hT.1
  have hcnt : s.2.1 25 sd = nI (t_nf T) := hT.2.2.2.1
  obtain ⟨s1, f1, z1, r1⟩ := z_room (d := d + 3) (q := q) (n := t_nf T) (m := 6) hp hz hte (by omega) (by omega) (by decide)
  have g1 : s1.1 36 = s.1 36 := f1.1 36 (by decide)
  have g2 : s1.1 42 = s.1 42 := f1.1 42 (by decide)
  by_cases h6 : t_nf T = 6
  · rw [if_pos h6] at z1 ⊢
    refine ⟨s1, FX_FZ f1, z1, ?_⟩
    have g0 := fe_0 z1.1 z1.2.1
    simp (disch := omega) only [il_0, il_1, il_2, il_3, il_4, il_5, il_6, il_7, il_8, il_9, il_10, il_11, il_12, il_13, il_14, il_15, il_16, il_17, il_18, il_19, il_20, il_21, il_22, il_23, il_24, il_25, il_26, il_27, il_28, il_29, il_30, il_31, il_32, il_40, il_41, il_42, il_43, il_44, il_45, il_46, il_47, il_48, il_52, il_56, il_57, il_59, il_60, il_61, il_63, il_64, il_68, il_72, il_75, il_76, il_82, il_88, il_89, il_90, il_92, il_96, il_97, il_99, il_100, il_101, il_102, il_103, il_104, il_105, il_107, il_108, il_109, il_110, il_111, il_112, il_114, il_115, il_116, il_117, il_118, il_119, il_121, il_122, il_130, il_200, il_255, il_256, il_260, il_276, il_400, il_403, il_420, il_840, il_999, il_1000, il_2000, il_2001, il_2668, il_2760, il_9999, il_12345, il_1000000, il_1103515245, ↓im_1, ↓im_2, ↓im_8, ↓im_1000, nI_add, pk_mul, pk_sub, ↓pk_rem, pk_div, nm_add, nI_clamp, nI_ltI, nI_leI, nI_eq, nm_eq, mn_eq, mm_eq, nm_lt, mn_lt, nm_le, mn_le, nl_T, nl_F, nle_T, nle_F, ne_T, ne_F, b2i_0, b2i_1, b2i_n, nb_0, nb_1, or_false, false_or, or_true, true_or, and_true, true_and, and_false, false_and, or_self, and_self, not_true_eq_false, not_false_eq_true, ↓reduceIte, if_true, if_false, ↓jv_bs, ↓jv_ol, ↓jv_or, jv_tl, jv_tn, jo_T, ck_2_166_17, ck_6_43_16, ck_6_43_17, ck_6_73_16, ck_7_65_17, ck_30_10_19, su_F, e18_0, e18_1, e18_4, e18_5, e18_8, e18_9, e18_89, e18_90, e18_91, e18_94, e18_95, e18_98, e18_99, e18_101, e18_104, e18_105, e18_108, e18_111, e18_112, e18_115, e18_285, ↓tgb_5 hp, ↓trb_5 hp, ↓tub_5 hp, wa_5, ↓tgb_11 hp, wi_11, ↓tgb_13 hp, wi_13, ↓tgb_19 hp, wi_19, ↓tgb_22 hp, ↓trb_22 hp, ↓tub_22 hp, wa_22, ↓tgb_25 hp, ↓trb_25 hp, ↓tub_25 hp, wa_25, ↓tgb_28 hp, ↓trb_28 hp, ↓tub_28 hp, wa_28, ↓tgb_31 hp, ↓trb_31 hp, ↓tub_31 hp, wa_31, ↓tgb_32 hp, ↓trb_32 hp, ↓tub_32 hp, wa_32, ↓tgb_33 hp, ↓trb_33 hp, ↓tub_33 hp, wa_33, ↓tw_rcb hp, n18, jv_tsl, q2, k1, h19, hcnt, g0, ↓jbR r1]
  · rw [if_neg h6] at z1 ⊢
    generalize hzg : zgo (.inr (t, w)) = zg at z1 ⊢
    cases zg with
    | inl e =>
      refine ⟨s1, FX_FZ f1, z1, ?_⟩
      have g0 := fe_0 z1.1 z1.2.1
      simp (disch := omega) only [il_0, il_1, il_2, il_3, il_4, il_5, il_6, il_7, il_8, il_9, il_10, il_11, il_12, il_13, il_14, il_15, il_16, il_17, il_18, il_19, il_20, il_21, il_22, il_23, il_24, il_25, il_26, il_27, il_28, il_29, il_30, il_31, il_32, il_40, il_41, il_42, il_43, il_44, il_45, il_46, il_47, il_48, il_52, il_56, il_57, il_59, il_60, il_61, il_63, il_64, il_68, il_72, il_75, il_76, il_82, il_88, il_89, il_90, il_92, il_96, il_97, il_99, il_100, il_101, il_102, il_103, il_104, il_105, il_107, il_108, il_109, il_110, il_111, il_112, il_114, il_115, il_116, il_117, il_118, il_119, il_121, il_122, il_130, il_200, il_255, il_256, il_260, il_276, il_400, il_403, il_420, il_840, il_999, il_1000, il_2000, il_2001, il_2668, il_2760, il_9999, il_12345, il_1000000, il_1103515245, ↓im_1, ↓im_2, ↓im_8, ↓im_1000, nI_add, pk_mul, pk_sub, ↓pk_rem, pk_div, nm_add, nI_clamp, nI_ltI, nI_leI, nI_eq, nm_eq, mn_eq, mm_eq, nm_lt, mn_lt, nm_le, mn_le, nl_T, nl_F, nle_T, nle_F, ne_T, ne_F, b2i_0, b2i_1, b2i_n, nb_0, nb_1, or_false, false_or, or_true, true_or, and_true, true_and, and_false, false_and, or_self, and_self, not_true_eq_false, not_false_eq_true, ↓reduceIte, if_true, if_false, ↓jv_bs, ↓jv_ol, ↓jv_or, jv_tl, jv_tn, jo_T, ck_2_166_17, ck_6_43_16, ck_6_43_17, ck_6_73_16, ck_7_65_17, ck_30_10_19, su_F, e18_0, e18_1, e18_4, e18_5, e18_8, e18_9, e18_89, e18_90, e18_91, e18_94, e18_95, e18_98, e18_99, e18_101, e18_104, e18_105, e18_108, e18_111, e18_112, e18_115, e18_285, ↓tgb_5 hp, ↓trb_5 hp, ↓tub_5 hp, wa_5, ↓tgb_11 hp, wi_11, ↓tgb_13 hp, wi_13, ↓tgb_19 hp, wi_19, ↓tgb_22 hp, ↓trb_22 hp, ↓tub_22 hp, wa_22, ↓tgb_25 hp, ↓trb_25 hp, ↓tub_25 hp, wa_25, ↓tgb_28 hp, ↓trb_28 hp, ↓tub_28 hp, wa_28, ↓tgb_31 hp, ↓trb_31 hp, ↓tub_31 hp, wa_31, ↓tgb_32 hp, ↓trb_32 hp, ↓tub_32 hp, wa_32, ↓tgb_33 hp, ↓trb_33 hp, ↓tub_33 hp, wa_33, ↓tw_rcb hp, n18, jv_tsl, q2, k1, h19, hcnt, g0, ↓jbR r1]
    | inr y =>
      obtain ⟨rfl, hne⟩ := zgo_r hzg
      have hT1 : TP s1 sd T w b c := TP_c (s := s) (f1.1 19 (by decide)) (fun k _ _ => by rw [f1.2]) (AB_e fun k _ _ => by rw [f1.2]) (Nat.le_refl _) (Nat.le_refl _) id hT
      obtain ⟨s2, f2, ⟨g3, g4⟩, o2, r2⟩ := m_field (d := d + 1) (q := q) (b := b) (c := c) hp hE z1 (TE_FZ hte f1) (NQ_FZ hn f1) hsd hT1 (by omega) (by omega) x3
      have g0 : s1.1 13 = nI 0 := z1.1
      refine ⟨s2, FX_tr (FX_FZ f1) f2, ?_, ?_⟩
      · show PO s2 K V F N sd (zP (fun w => (fdT T (V (t + 1 + 1)) (V (t + 1 + 1 + 1)), nm ++ [N (t + 1)], w)) (zmu K 4 (zbd K V 0 999 (zbd K V 0 99 (znm K N nm (t + 1) w)))))
        change (match zmu K 4 (zbd K V 0 999 (zbd K V 0 99 (znm K N nm (t + 1) w))) with | .inl e => _ | .inr x => _) at o2
        generalize hzz : zmu K 4 (zbd K V 0 999 (zbd K V 0 99 (znm K N nm (t + 1) w))) = zz at o2 ⊢
        cases zz with
        | inl e => exact o2
        | inr x =>
          obtain ⟨y1, hy1, rfl, _, _⟩ := zmu_i hzz
          obtain ⟨y2, hy2, rfl, _, _, _⟩ := zbd_i hy1
          obtain ⟨y3, hy3, rfl, _, _, _⟩ := zbd_i hy2
          obtain ⟨rfl, _⟩ := znm_i hy3
          exact ⟨o2.1, TE_FX (TE_FZ hte f1) f2, o2.2.1, hsd, b, c, g3.trans (g1.trans h36), g4.trans (g2.trans h42), ⟨hb.1, by dsimp only; omega⟩, ⟨hc.1, by dsimp only; omega⟩, o2.2.2⟩
      · simp (disch := omega) only [il_0, il_1, il_2, il_3, il_4, il_5, il_6, il_7, il_8, il_9, il_10, il_11, il_12, il_13, il_14, il_15, il_16, il_17, il_18, il_19, il_20, il_21, il_22, il_23, il_24, il_25, il_26, il_27, il_28, il_29, il_30, il_31, il_32, il_40, il_41, il_42, il_43, il_44, il_45, il_46, il_47, il_48, il_52, il_56, il_57, il_59, il_60, il_61, il_63, il_64, il_68, il_72, il_75, il_76, il_82, il_88, il_89, il_90, il_92, il_96, il_97, il_99, il_100, il_101, il_102, il_103, il_104, il_105, il_107, il_108, il_109, il_110, il_111, il_112, il_114, il_115, il_116, il_117, il_118, il_119, il_121, il_122, il_130, il_200, il_255, il_256, il_260, il_276, il_400, il_403, il_420, il_840, il_999, il_1000, il_2000, il_2001, il_2668, il_2760, il_9999, il_12345, il_1000000, il_1103515245, ↓im_1, ↓im_2, ↓im_8, ↓im_1000, nI_add, pk_mul, pk_sub, ↓pk_rem, pk_div, nm_add, nI_clamp, nI_ltI, nI_leI, nI_eq, nm_eq, mn_eq, mm_eq, nm_lt, mn_lt, nm_le, mn_le, nl_T, nl_F, nle_T, nle_F, ne_T, ne_F, b2i_0, b2i_1, b2i_n, nb_0, nb_1, or_false, false_or, or_true, true_or, and_true, true_and, and_false, false_and, or_self, and_self, not_true_eq_false, not_false_eq_true, ↓reduceIte, if_true, if_false, ↓jv_bs, ↓jv_ol, ↓jv_or, jv_tl, jv_tn, jo_T, ck_2_166_17, ck_6_43_16, ck_6_43_17, ck_6_73_16, ck_7_65_17, ck_30_10_19, su_F, e18_0, e18_1, e18_4, e18_5, e18_8, e18_9, e18_89, e18_90, e18_91, e18_94, e18_95, e18_98, e18_99, e18_101, e18_104, e18_105, e18_108, e18_111, e18_112, e18_115, e18_285, ↓tgb_5 hp, ↓trb_5 hp, ↓tub_5 hp, wa_5, ↓tgb_11 hp, wi_11, ↓tgb_13 hp, wi_13, ↓tgb_19 hp, wi_19, ↓tgb_22 hp, ↓trb_22 hp, ↓tub_22 hp, wa_22, ↓tgb_25 hp, ↓trb_25 hp, ↓tub_25 hp, wa_25, ↓tgb_28 hp, ↓trb_28 hp, ↓tub_28 hp, wa_28, ↓tgb_31 hp, ↓trb_31 hp, ↓tub_31 hp, wa_31, ↓tgb_32 hp, ↓trb_32 hp, ↓tub_32 hp, wa_32, ↓tgb_33 hp, ↓trb_33 hp, ↓tub_33 hp, wa_33, ↓tw_rcb hp, n18, jv_tsl, q2, k1, h19, hcnt, g0, ↓jbR r1, ↓jbR r2]

theorem m_loom (hp : p.length = 589) (hE : EN K V F N L R) {nm : List Nat} {w : Wt} {b c : Nat} (hz : ZQ s K F (.inr (t, w))) (hte : TE s K V F N) (hn : NQ s nm) (hsd : sd < 2) (hT : TP s sd T w b c) (hnf : t_nl T < 4) (hl : nm.length < 10) (h6 : t_nf T ≤ 6) : ∃ s', FX sd s s' ∧ (s'.1 36 = s.1 36 ∧ s'.1 42 = s.1 42) ∧ (match zmu K 4 (zbd K V 0 99 (zbd K V 1 8 (znm K N nm t w))) with
    | .inl e => ZQ s' K F (.inl e)
    | .inr x => ZQ s' K F (.inr x) ∧ NQ s' (nm ++ [N t]) ∧ TP s' sd (lmT T (V (t + 1)) (V (t + 1 + 1))) x.2 b c) ∧ jv_cd (d + 5) 29 [.ref 589] (tw_h p s q) = some (.inl none, tw_h p s' q) := by
  obtain ⟨q1, q2, q3, q4, q5, q6, q7⟩ := id hz
  have ht4 := q4.1
  have h19 := hT.1
  have hcnt : s.2.1 28 sd = nI (t_nl T) := hT.2.2.2.2.1
  obtain ⟨s1, f1, z1, r1⟩ := z_nm (d := d) (q := q) hp hE hz hte hn
  have hte1 := TE_FZ hte f1
  obtain ⟨s2, f2, z2, r2⟩ := z_bd (d := d + 1) (q := q) (lo := 1) (hi := 8) hp hE z1 hte1 (by decide) (by decide)
  generalize hv1 : zbv K V 1 (znm K N nm t w) = v1 at r2
  have hfx3 : FX sd s (tw_a s2 29 (upd (s2.2.1 29) (4 * sd + t_nl T) (nI v1))) := FX_tr (FX_FZ (FZ_tr f1 f2)) (FX_a (by decide) (by decide) (by show 4 * sd ≤ _ ∧ _ < 4 * sd + 4; omega))
  obtain ⟨s4, f4, z4, r4⟩ := z_bd (d := d + 1) (q := q) (lo := 0) (hi := 99) hp hE (ZQ_a z2) (TE_FX hte hfx3) (by decide) (by decide)
  generalize hv2 : zbv K V 0 (zbd K V 1 8 (znm K N nm t w)) = v2 at r4
  have hfx5 : FX sd s (tw_a s4 30 (upd (s4.2.1 30) (4 * sd + t_nl T) (nI v2))) := FX_tr hfx3 (FX_tr (FX_FZ f4) (FX_a (by decide) (by decide) (by show 4 * sd ≤ _ ∧ _ < 4 * sd + 4; omega)))
  have hn5 : NQ (tw_a s4 30 (upd (s4.2.1 30) (4 * sd + t_nl T) (nI v2))) nm := NQ_c hn ((f4.1 20 (by decide)).trans ((f2.1 20 (by decide)).trans (f1.1 20 (by decide)))) (by show s4.2.2 21 = _; rw [f4.2]; show s2.2.2 21 = _; rw [f2.2, f1.2])
  have g19_1 : s1.1 19 = nI sd := (f1.1 19 (by decide)).trans h19
  have g19_2 : s2.1 19 = nI sd := (f2.1 19 (by decide)).trans g19_1
  have g19_4 : s4.1 19 = nI sd := (f4.1 19 (by decide)).trans g19_2
  by_cases hkt : K t = 0
  · have hzf : znm K N nm t w = .inl (1, t) := by
      unfold znm zmu
      dsimp only
      rw [if_neg (by omega)]
    rw [hzf] at z4 ⊢
    obtain ⟨g1, g2, _⟩ := id z4
    have r6 := m_endsF (d := d) (q := q) (s := tw_a s4 30 (upd (s4.2.1 30) (4 * sd + t_nl T) (nI v2))) (t := t) hp g1 g2
    have g0 := fe_0 g1 g2
    refine ⟨_, hfx5, ⟨(f4.1 36 (by decide)).trans ((f2.1 36 (by decide)).trans (f1.1 36 (by decide))), (f4.1 42 (by decide)).trans ((f2.1 42 (by decide)).trans (f1.1 42 (by decide)))⟩, ZQ_a z4, ?_⟩
    simp (disch := omega) only [il_0, il_1, il_2, il_3, il_4, il_5, il_6, il_7, il_8, il_9, il_10, il_11, il_12, il_13, il_14, il_15, il_16, il_17, il_18, il_19, il_20, il_21, il_22, il_23, il_24, il_25, il_26, il_27, il_28, il_29, il_30, il_31, il_32, il_40, il_41, il_42, il_43, il_44, il_45, il_46, il_47, il_48, il_52, il_56, il_57, il_59, il_60, il_61, il_63, il_64, il_68, il_72, il_75, il_76, il_82, il_88, il_89, il_90, il_92, il_96, il_97, il_99, il_100, il_101, il_102, il_103, il_104, il_105, il_107, il_108, il_109, il_110, il_111, il_112, il_114, il_115, il_116, il_117, il_118, il_119, il_121, il_122, il_130, il_200, il_255, il_256, il_260, il_276, il_400, il_403, il_420, il_840, il_999, il_1000, il_2000, il_2001, il_2668, il_2760, il_9999, il_12345, il_1000000, il_1103515245, ↓im_1, ↓im_2, ↓im_8, ↓im_1000, nI_add, pk_mul, pk_sub, ↓pk_rem, pk_div, nm_add, nI_clamp, nI_ltI, nI_leI, nI_eq, nm_eq, mn_eq, mm_eq, nm_lt, mn_lt, nm_le, mn_le, nl_T, nl_F, nle_T, nle_F, ne_T, ne_F, b2i_0, b2i_1, b2i_n, nb_0, nb_1, or_false, false_or, or_true, true_or, and_true, true_and, and_false, false_and, or_self, and_self, not_true_eq_false, not_false_eq_true, ↓reduceIte, if_true, if_false, ↓jv_bs, ↓jv_ol, ↓jv_or, jv_tl, jv_tn, jo_T, ck_2_166_17, ck_6_43_16, ck_6_43_17, ck_6_73_16, ck_7_65_17, ck_30_10_19, su_F, e29_0, e29_1, e29_2, e29_5, e29_6, e29_7, e29_10, e29_11, e29_14, e29_15, e29_16, e29_17, e29_18, e29_21, e29_22, e29_23, e29_26, e29_27, e29_28, e29_29, e29_31, e29_34, e29_35, e29_36, e29_39, e29_40, e29_41, e29_42, e29_44, e29_47, e29_48, e29_49, e29_50, e29_53, e29_54, e29_57, e29_60, e29_61, e29_64, e29_65, e29_68, e29_69, e29_70, e29_71, e29_72, e29_73, ↓tgb_13 hp, wi_13, ↓tgb_19 hp, wi_19, ↓tgb_28 hp, ↓trb_28 hp, ↓tub_28 hp, wa_28, ↓tgb_29 hp, ↓trb_29 hp, ↓tub_29 hp, wa_29, ↓tgb_30 hp, ↓trb_30 hp, ↓tub_30 hp, wa_30, ↓tw_rcb hp, n29, h19, hcnt, g0, ↓jbR r1, ↓jbR r2, ↓jbR r4, ↓jbR r6, tw_a1, tw_a2, tw_a3, Nat.reduceEqDiff]
  · obtain ⟨s6, f6, z6, r6⟩ := z_ends (d := d) (q := q) hp (ZQ_a z4) (TE_FX hte hfx5) hn5 hl q4 hkt
    have g19_6 : s6.1 19 = nI sd := (f6.1 19 (by decide)).trans g19_4
    have gcnt_6 : s6.2.1 28 sd = nI (t_nl T) := by
      rw [f6.2]; show s4.2.1 28 sd = _; rw [f4.2]; show s2.2.1 28 sd = _; rw [f2.2, f1.2]; exact hcnt
    generalize hzz : zmu K 4 (zbd K V 0 99 (zbd K V 1 8 (znm K N nm t w))) = zz at z6 r6 ⊢
    cases zz with
    | inl e =>
      dsimp only at r6 ⊢
      obtain ⟨g1, g2, _⟩ := id z6
      have g0 := fe_0 g1 g2
      refine ⟨s6, FX_tr hfx5 (FX_FZ f6), ⟨(f6.1 36 (by decide)).trans ((f4.1 36 (by decide)).trans ((f2.1 36 (by decide)).trans (f1.1 36 (by decide)))), (f6.1 42 (by decide)).trans ((f4.1 42 (by decide)).trans ((f2.1 42 (by decide)).trans (f1.1 42 (by decide))))⟩, z6, ?_⟩
      simp (disch := omega) only [il_0, il_1, il_2, il_3, il_4, il_5, il_6, il_7, il_8, il_9, il_10, il_11, il_12, il_13, il_14, il_15, il_16, il_17, il_18, il_19, il_20, il_21, il_22, il_23, il_24, il_25, il_26, il_27, il_28, il_29, il_30, il_31, il_32, il_40, il_41, il_42, il_43, il_44, il_45, il_46, il_47, il_48, il_52, il_56, il_57, il_59, il_60, il_61, il_63, il_64, il_68, il_72, il_75, il_76, il_82, il_88, il_89, il_90, il_92, il_96, il_97, il_99, il_100, il_101, il_102, il_103, il_104, il_105, il_107, il_108, il_109, il_110, il_111, il_112, il_114, il_115, il_116, il_117, il_118, il_119, il_121, il_122, il_130, il_200, il_255, il_256, il_260, il_276, il_400, il_403, il_420, il_840, il_999, il_1000, il_2000, il_2001, il_2668, il_2760, il_9999, il_12345, il_1000000, il_1103515245, ↓im_1, ↓im_2, ↓im_8, ↓im_1000, nI_add, pk_mul, pk_sub, ↓pk_rem, pk_div, nm_add, nI_clamp, nI_ltI, nI_leI, nI_eq, nm_eq, mn_eq, mm_eq, nm_lt, mn_lt, nm_le, mn_le, nl_T, nl_F, nle_T, nle_F, ne_T, ne_F, b2i_0, b2i_1, b2i_n, nb_0, nb_1, or_false, false_or, or_true, true_or, and_true, true_and, and_false, false_and, or_self, and_self, not_true_eq_false, not_false_eq_true, ↓reduceIte, if_true, if_false, ↓jv_bs, ↓jv_ol, ↓jv_or, jv_tl, jv_tn, jo_T, ck_2_166_17, ck_6_43_16, ck_6_43_17, ck_6_73_16, ck_7_65_17, ck_30_10_19, su_F, e29_0, e29_1, e29_2, e29_5, e29_6, e29_7, e29_10, e29_11, e29_14, e29_15, e29_16, e29_17, e29_18, e29_21, e29_22, e29_23, e29_26, e29_27, e29_28, e29_29, e29_31, e29_34, e29_35, e29_36, e29_39, e29_40, e29_41, e29_42, e29_44, e29_47, e29_48, e29_49, e29_50, e29_53, e29_54, e29_57, e29_60, e29_61, e29_64, e29_65, e29_68, e29_69, e29_70, e29_71, e29_72, e29_73, ↓tgb_13 hp, wi_13, ↓tgb_19 hp, wi_19, ↓tgb_28 hp, ↓trb_28 hp, ↓tub_28 hp, wa_28, ↓tgb_29 hp, ↓trb_29 hp, ↓tub_29 hp, wa_29, ↓tgb_30 hp, ↓trb_30 hp, ↓tub_30 hp, wa_30, ↓tw_rcb hp, n29, h19, hcnt, g0, ↓jbR r1, ↓jbR r2, ↓jbR r4, ↓jbR r6, tw_a1, tw_a2, tw_a3, Nat.reduceEqDiff]
    | inr x =>
      dsimp only at r6 ⊢
      obtain ⟨g1, g2, _⟩ := id z6
      obtain ⟨y1, hy1, rfl, _, _⟩ := zmu_i hzz
      obtain ⟨y2, hy2, rfl, _, _, e2⟩ := zbd_i hy1
      obtain ⟨y3, hy3, rfl, _, _, e1⟩ := zbd_i hy2
      obtain ⟨rfl, _⟩ := znm_i hy3
      rw [hv1] at e1
      rw [hv2] at e2
      dsimp only at e1 e2
      subst e1 e2
      refine ⟨tw_a (nmS s6 nm (nL (N t))) 28 (upd (s6.2.1 28) sd (nI (t_nl T + 1))), FX_tr hfx5 (FX_tr (FX_FZ f6) (FX_tr FX_nm (FX_a (s := nmS s6 nm (nL (N t))) (by decide) (by decide) (by show 1 * sd ≤ sd ∧ sd < 1 * sd + 1; omega)))), ⟨(f6.1 36 (by decide)).trans ((f4.1 36 (by decide)).trans ((f2.1 36 (by decide)).trans (f1.1 36 (by decide)))), (f6.1 42 (by decide)).trans ((f4.1 42 (by decide)).trans ((f2.1 42 (by decide)).trans (f1.1 42 (by decide))))⟩, ⟨ZQ_a (ZQ_nm z6), NQ_s (s := s6) (NQ_FZ hn5 f6) hl (hE.2.2.2.2.1 t), ?_⟩, ?_⟩
      · have a6 : ∀ j, s6.2.1 j = (tw_a s4 30 (upd (s4.2.1 30) (4 * sd + t_nl T) (nI (V (t + 1 + 1))))).2.1 j := fun j => by rw [f6.2]
        have a4 : ∀ j, s4.2.1 j = (tw_a s2 29 (upd (s2.2.1 29) (4 * sd + t_nl T) (nI (V (t + 1))))).2.1 j := fun j => by rw [f4.2]
        have a2 : ∀ j, s2.2.1 j = s.2.1 j := fun j => by rw [f2.2, f1.2]
        refine TP_M hnf hT (g19_6.trans h19.symm) ?_ ?_ ?_ (fun j h1 h2 h3 => ?_) (fun h0 => znm_w rfl (zbd_w rfl (zbd_w rfl h0))) h6
        · show upd (s6.2.1 28) sd _ = _
          rw [a6]; show upd (s4.2.1 28) sd _ = _; rw [a4]; show upd (s2.2.1 28) sd _ = _; rw [a2]
        · show s6.2.1 29 = _
          rw [a6]; show s4.2.1 29 = _; rw [a4]; show upd (s2.2.1 29) _ _ = _; rw [a2]
        · show s6.2.1 30 = _
          rw [a6]; show upd (s4.2.1 30) _ _ = _; rw [a4]; show upd (s2.2.1 30) _ _ = _; rw [a2]
        · rw [tw_a2, if_neg (by omega)]
          show s6.2.1 j = _
          rw [a6, tw_a2, if_neg (by omega), a4, tw_a2, if_neg (by omega), a2]
      · have g19n : (nmS s6 nm (nL (N t))).1 19 = nI sd := g19_6
        have gcn : (nmS s6 nm (nL (N t))).2.1 28 = s6.2.1 28 := rfl
        have g13n : (nmS s6 nm (nL (N t))).1 13 = nI 0 := g1
        generalize nmS s6 nm (nL (N t)) = s7 at r6 g19n gcn g13n ⊢
        simp (disch := omega) only [il_0, il_1, il_2, il_3, il_4, il_5, il_6, il_7, il_8, il_9, il_10, il_11, il_12, il_13, il_14, il_15, il_16, il_17, il_18, il_19, il_20, il_21, il_22, il_23, il_24, il_25, il_26, il_27, il_28, il_29, il_30, il_31, il_32, il_40, il_41, il_42, il_43, il_44, il_45, il_46, il_47, il_48, il_52, il_56, il_57, il_59, il_60, il_61, il_63, il_64, il_68, il_72, il_75, il_76, il_82, il_88, il_89, il_90, il_92, il_96, il_97, il_99, il_100, il_101, il_102, il_103, il_104, il_105, il_107, il_108, il_109, il_110, il_111, il_112, il_114, il_115, il_116, il_117, il_118, il_119, il_121, il_122, il_130, il_200, il_255, il_256, il_260, il_276, il_400, il_403, il_420, il_840, il_999, il_1000, il_2000, il_2001, il_2668, il_2760, il_9999, il_12345, il_1000000, il_1103515245, ↓im_1, ↓im_2, ↓im_8, ↓im_1000, nI_add, pk_mul, pk_sub, ↓pk_rem, pk_div, nm_add, nI_clamp, nI_ltI, nI_leI, nI_eq, nm_eq, mn_eq, mm_eq, nm_lt, mn_lt, nm_le, mn_le, nl_T, nl_F, nle_T, nle_F, ne_T, ne_F, b2i_0, b2i_1, b2i_n, nb_0, nb_1, or_false, false_or, or_true, true_or, and_true, true_and, and_false, false_and, or_self, and_self, not_true_eq_false, not_false_eq_true, ↓reduceIte, if_true, if_false, ↓jv_bs, ↓jv_ol, ↓jv_or, jv_tl, jv_tn, jo_T, ck_2_166_17, ck_6_43_16, ck_6_43_17, ck_6_73_16, ck_7_65_17, ck_30_10_19, su_F, e29_0, e29_1, e29_2, e29_5, e29_6, e29_7, e29_10, e29_11, e29_14, e29_15, e29_16, e29_17, e29_18, e29_21, e29_22, e29_23, e29_26, e29_27, e29_28, e29_29, e29_31, e29_34, e29_35, e29_36, e29_39, e29_40, e29_41, e29_42, e29_44, e29_47, e29_48, e29_49, e29_50, e29_53, e29_54, e29_57, e29_60, e29_61, e29_64, e29_65, e29_68, e29_69, e29_70, e29_71, e29_72, e29_73, ↓tgb_13 hp, wi_13, ↓tgb_19 hp, wi_19, ↓tgb_28 hp, ↓trb_28 hp, ↓tub_28 hp, wa_28, ↓tgb_29 hp, ↓trb_29 hp, ↓tub_29 hp, wa_29, ↓tgb_30 hp, ↓trb_30 hp, ↓tub_30 hp, wa_30, ↓tw_rcb hp, n29, h19, hcnt, g13n, g19n, gcn, gcnt_6, ↓jbR r1, ↓jbR r2, ↓jbR r4, ↓jbR r6, tw_a1, tw_a2, tw_a3, Nat.reduceEqDiff]
theorem t_loom (hp : p.length = 589) (hE : EN K V F N L R) (hS : PI s K V F N sd t S) (hX : WX S t) (hk : K t = 22) : ∃ s', FX sd s s' ∧ PO s' K V F N sd (pOne K V N L R t S) ∧ jv_cd (d + 7) 18 [.ref 589] (tw_h p s q) = some (.inl none, tw_h p s' q) := by
  obtain ⟨hz, hte, hn, hsd, b, c, h36, h42, hb, hc, hT⟩ := hS
  obtain ⟨T, nm, w⟩ := S
  dsimp only at hz hn hT
  obtain ⟨⟨x1, x2, x3, x4⟩, x5, _⟩ := hX
  dsimp only at x1 x2 x3 x4 x5
  have e : pOne K V N L R t (T, nm, w) = if t_nl T = 4 then .inl (2, t) else zP2 (fun t1 => zP (fun w => (lmT T (V (t1 + 1)) (V (t1 + 1 + 1)), nm ++ [N t1], w)) (zmu K 4 (zbd K V 0 99 (zbd K V 1 8 (znm K N nm t1 w))))) (zgo (.inr (t, w))) := by
    unfold pOne
    rw [if_neg (by omega)]
    rw [if_neg (by omega)]
    rw [if_pos hk]
    dsimp only
    by_cases h6 : t_nl T = 4
    · rw [if_pos h6, if_pos h6]
    · rw [if_neg h6, if_neg h6]
      refine hp_p (H := fun z => zP2 _ z) (fun _ => rfl) ?_
      exact hp_nm (H := fun z => zP (fun w => (lmT T (V (t + 1 + 1)) (V (t + 1 + 1 + 1)), nm ++ [N (t + 1)], w)) (zmu K 4 (zbd K V 0 99 (zbd K V 1 8 z)))) (fun _ => rfl) (hp_n (H := fun z => zP (fun w => (lmT T (V (t + 1 + 1)) (V (t + 1 + 1 + 1)), nm ++ [N (t + 1)], w)) (zmu K 4 (zbd K V 0 99 z))) (fun _ => rfl) fun w => hp_n (H := fun z => zP (fun w => (lmT T (V (t + 1 + 1)) (V (t + 1 + 1 + 1)), nm ++ [N (t + 1)], w)) (zmu K 4 z)) (fun _ => rfl) fun w => hp_m (H := fun z => zP (fun w => (lmT T (V (t + 1 + 1)) (V (t + 1 + 1 + 1)), nm ++ [N (t + 1)], w)) z) (fun _ => rfl) rfl)
  rw [e]
  obtain ⟨q1, q2, q3, q4, q5, q6, q7⟩ := id hz
  have k1 := (hte t q4).1
  rw [hk] at k1
  have ht4 := q4.1
  have h19 := hT.1
  have hcnt : s.2.1 28 sd = nI (t_nl T) := hT.2.2.2.2.1
  obtain ⟨s1, f1, z1, r1⟩ := z_room (d := d + 3) (q := q) (n := t_nl T) (m := 4) hp hz hte (by omega) (by omega) (by decide)
  have g1 : s1.1 36 = s.1 36 := f1.1 36 (by decide)
  have g2 : s1.1 42 = s.1 42 := f1.1 42 (by decide)
  by_cases h6 : t_nl T = 4
  · rw [if_pos h6] at z1 ⊢
    refine ⟨s1, FX_FZ f1, z1, ?_⟩
    have g0 := fe_0 z1.1 z1.2.1
    simp (disch := omega) only [il_0, il_1, il_2, il_3, il_4, il_5, il_6, il_7, il_8, il_9, il_10, il_11, il_12, il_13, il_14, il_15, il_16, il_17, il_18, il_19, il_20, il_21, il_22, il_23, il_24, il_25, il_26, il_27, il_28, il_29, il_30, il_31, il_32, il_40, il_41, il_42, il_43, il_44, il_45, il_46, il_47, il_48, il_52, il_56, il_57, il_59, il_60, il_61, il_63, il_64, il_68, il_72, il_75, il_76, il_82, il_88, il_89, il_90, il_92, il_96, il_97, il_99, il_100, il_101, il_102, il_103, il_104, il_105, il_107, il_108, il_109, il_110, il_111, il_112, il_114, il_115, il_116, il_117, il_118, il_119, il_121, il_122, il_130, il_200, il_255, il_256, il_260, il_276, il_400, il_403, il_420, il_840, il_999, il_1000, il_2000, il_2001, il_2668, il_2760, il_9999, il_12345, il_1000000, il_1103515245, ↓im_1, ↓im_2, ↓im_8, ↓im_1000, nI_add, pk_mul, pk_sub, ↓pk_rem, pk_div, nm_add, nI_clamp, nI_ltI, nI_leI, nI_eq, nm_eq, mn_eq, mm_eq, nm_lt, mn_lt, nm_le, mn_le, nl_T, nl_F, nle_T, nle_F, ne_T, ne_F, b2i_0, b2i_1, b2i_n, nb_0, nb_1, or_false, false_or, or_true, true_or, and_true, true_and, and_false, false_and, or_self, and_self, not_true_eq_false, not_false_eq_true, ↓reduceIte, if_true, if_false, ↓jv_bs, ↓jv_ol, ↓jv_or, jv_tl, jv_tn, jo_T, ck_2_166_17, ck_6_43_16, ck_6_43_17, ck_6_73_16, ck_7_65_17, ck_30_10_19, su_F, e18_0, e18_1, e18_4, e18_5, e18_8, e18_9, e18_118, e18_119, e18_120, e18_123, e18_124, e18_127, e18_128, e18_129, e18_132, e18_133, e18_136, e18_139, e18_140, e18_143, e18_285, ↓tgb_5 hp, ↓trb_5 hp, ↓tub_5 hp, wa_5, ↓tgb_11 hp, wi_11, ↓tgb_13 hp, wi_13, ↓tgb_19 hp, wi_19, ↓tgb_22 hp, ↓trb_22 hp, ↓tub_22 hp, wa_22, ↓tgb_25 hp, ↓trb_25 hp, ↓tub_25 hp, wa_25, ↓tgb_28 hp, ↓trb_28 hp, ↓tub_28 hp, wa_28, ↓tgb_31 hp, ↓trb_31 hp, ↓tub_31 hp, wa_31, ↓tgb_32 hp, ↓trb_32 hp, ↓tub_32 hp, wa_32, ↓tgb_33 hp, ↓trb_33 hp, ↓tub_33 hp, wa_33, ↓tw_rcb hp, n18, jv_tsl, q2, k1, h19, hcnt, g0, ↓jbR r1]
  · rw [if_neg h6] at z1 ⊢
    generalize hzg : zgo (.inr (t, w)) = zg at z1 ⊢
    cases zg with
    | inl e =>
      refine ⟨s1, FX_FZ f1, z1, ?_⟩
      have g0 := fe_0 z1.1 z1.2.1
      simp (disch := omega) only [il_0, il_1, il_2, il_3, il_4, il_5, il_6, il_7, il_8, il_9, il_10, il_11, il_12, il_13, il_14, il_15, il_16, il_17, il_18, il_19, il_20, il_21, il_22, il_23, il_24, il_25, il_26, il_27, il_28, il_29, il_30, il_31, il_32, il_40, il_41, il_42, il_43, il_44, il_45, il_46, il_47, il_48, il_52, il_56, il_57, il_59, il_60, il_61, il_63, il_64, il_68, il_72, il_75, il_76, il_82, il_88, il_89, il_90, il_92, il_96, il_97, il_99, il_100, il_101, il_102, il_103, il_104, il_105, il_107, il_108, il_109, il_110, il_111, il_112, il_114, il_115, il_116, il_117, il_118, il_119, il_121, il_122, il_130, il_200, il_255, il_256, il_260, il_276, il_400, il_403, il_420, il_840, il_999, il_1000, il_2000, il_2001, il_2668, il_2760, il_9999, il_12345, il_1000000, il_1103515245, ↓im_1, ↓im_2, ↓im_8, ↓im_1000, nI_add, pk_mul, pk_sub, ↓pk_rem, pk_div, nm_add, nI_clamp, nI_ltI, nI_leI, nI_eq, nm_eq, mn_eq, mm_eq, nm_lt, mn_lt, nm_le, mn_le, nl_T, nl_F, nle_T, nle_F, ne_T, ne_F, b2i_0, b2i_1, b2i_n, nb_0, nb_1, or_false, false_or, or_true, true_or, and_true, true_and, and_false, false_and, or_self, and_self, not_true_eq_false, not_false_eq_true, ↓reduceIte, if_true, if_false, ↓jv_bs, ↓jv_ol, ↓jv_or, jv_tl, jv_tn, jo_T, ck_2_166_17, ck_6_43_16, ck_6_43_17, ck_6_73_16, ck_7_65_17, ck_30_10_19, su_F, e18_0, e18_1, e18_4, e18_5, e18_8, e18_9, e18_118, e18_119, e18_120, e18_123, e18_124, e18_127, e18_128, e18_129, e18_132, e18_133, e18_136, e18_139, e18_140, e18_143, e18_285, ↓tgb_5 hp, ↓trb_5 hp, ↓tub_5 hp, wa_5, ↓tgb_11 hp, wi_11, ↓tgb_13 hp, wi_13, ↓tgb_19 hp, wi_19, ↓tgb_22 hp, ↓trb_22 hp, ↓tub_22 hp, wa_22, ↓tgb_25 hp, ↓trb_25 hp, ↓tub_25 hp, wa_25, ↓tgb_28 hp, ↓trb_28 hp, ↓tub_28 hp, wa_28, ↓tgb_31 hp, ↓trb_31 hp, ↓tub_31 hp, wa_31, ↓tgb_32 hp, ↓trb_32 hp, ↓tub_32 hp, wa_32, ↓tgb_33 hp, ↓trb_33 hp, ↓tub_33 hp, wa_33, ↓tw_rcb hp, n18, jv_tsl, q2, k1, h19, hcnt, g0, ↓jbR r1]
    | inr y =>
      obtain ⟨rfl, hne⟩ := zgo_r hzg
      have hT1 : TP s1 sd T w b c := TP_c (s := s) (f1.1 19 (by decide)) (fun k _ _ => by rw [f1.2]) (AB_e fun k _ _ => by rw [f1.2]) (Nat.le_refl _) (Nat.le_refl _) id hT
      obtain ⟨s2, f2, ⟨g3, g4⟩, o2, r2⟩ := m_loom (d := d + 1) (q := q) (b := b) (c := c) hp hE z1 (TE_FZ hte f1) (NQ_FZ hn f1) hsd hT1 (by omega) (by omega) x3
      have g0 : s1.1 13 = nI 0 := z1.1
      refine ⟨s2, FX_tr (FX_FZ f1) f2, ?_, ?_⟩
      · show PO s2 K V F N sd (zP (fun w => (lmT T (V (t + 1 + 1)) (V (t + 1 + 1 + 1)), nm ++ [N (t + 1)], w)) (zmu K 4 (zbd K V 0 99 (zbd K V 1 8 (znm K N nm (t + 1) w)))))
        change (match zmu K 4 (zbd K V 0 99 (zbd K V 1 8 (znm K N nm (t + 1) w))) with | .inl e => _ | .inr x => _) at o2
        generalize hzz : zmu K 4 (zbd K V 0 99 (zbd K V 1 8 (znm K N nm (t + 1) w))) = zz at o2 ⊢
        cases zz with
        | inl e => exact o2
        | inr x =>
          obtain ⟨y1, hy1, rfl, _, _⟩ := zmu_i hzz
          obtain ⟨y2, hy2, rfl, _, _, _⟩ := zbd_i hy1
          obtain ⟨y3, hy3, rfl, _, _, _⟩ := zbd_i hy2
          obtain ⟨rfl, _⟩ := znm_i hy3
          exact ⟨o2.1, TE_FX (TE_FZ hte f1) f2, o2.2.1, hsd, b, c, g3.trans (g1.trans h36), g4.trans (g2.trans h42), ⟨hb.1, by dsimp only; omega⟩, ⟨hc.1, by dsimp only; omega⟩, o2.2.2⟩
      · simp (disch := omega) only [il_0, il_1, il_2, il_3, il_4, il_5, il_6, il_7, il_8, il_9, il_10, il_11, il_12, il_13, il_14, il_15, il_16, il_17, il_18, il_19, il_20, il_21, il_22, il_23, il_24, il_25, il_26, il_27, il_28, il_29, il_30, il_31, il_32, il_40, il_41, il_42, il_43, il_44, il_45, il_46, il_47, il_48, il_52, il_56, il_57, il_59, il_60, il_61, il_63, il_64, il_68, il_72, il_75, il_76, il_82, il_88, il_89, il_90, il_92, il_96, il_97, il_99, il_100, il_101, il_102, il_103, il_104, il_105, il_107, il_108, il_109, il_110, il_111, il_112, il_114, il_115, il_116, il_117, il_118, il_119, il_121, il_122, il_130, il_200, il_255, il_256, il_260, il_276, il_400, il_403, il_420, il_840, il_999, il_1000, il_2000, il_2001, il_2668, il_2760, il_9999, il_12345, il_1000000, il_1103515245, ↓im_1, ↓im_2, ↓im_8, ↓im_1000, nI_add, pk_mul, pk_sub, ↓pk_rem, pk_div, nm_add, nI_clamp, nI_ltI, nI_leI, nI_eq, nm_eq, mn_eq, mm_eq, nm_lt, mn_lt, nm_le, mn_le, nl_T, nl_F, nle_T, nle_F, ne_T, ne_F, b2i_0, b2i_1, b2i_n, nb_0, nb_1, or_false, false_or, or_true, true_or, and_true, true_and, and_false, false_and, or_self, and_self, not_true_eq_false, not_false_eq_true, ↓reduceIte, if_true, if_false, ↓jv_bs, ↓jv_ol, ↓jv_or, jv_tl, jv_tn, jo_T, ck_2_166_17, ck_6_43_16, ck_6_43_17, ck_6_73_16, ck_7_65_17, ck_30_10_19, su_F, e18_0, e18_1, e18_4, e18_5, e18_8, e18_9, e18_118, e18_119, e18_120, e18_123, e18_124, e18_127, e18_128, e18_129, e18_132, e18_133, e18_136, e18_139, e18_140, e18_143, e18_285, ↓tgb_5 hp, ↓trb_5 hp, ↓tub_5 hp, wa_5, ↓tgb_11 hp, wi_11, ↓tgb_13 hp, wi_13, ↓tgb_19 hp, wi_19, ↓tgb_22 hp, ↓trb_22 hp, ↓tub_22 hp, wa_22, ↓tgb_25 hp, ↓trb_25 hp, ↓tub_25 hp, wa_25, ↓tgb_28 hp, ↓trb_28 hp, ↓tub_28 hp, wa_28, ↓tgb_31 hp, ↓trb_31 hp, ↓tub_31 hp, wa_31, ↓tgb_32 hp, ↓trb_32 hp, ↓tub_32 hp, wa_32, ↓tgb_33 hp, ↓trb_33 hp, ↓tub_33 hp, wa_33, ↓tw_rcb hp, n18, jv_tsl, q2, k1, h19, hcnt, g0, ↓jbR r1, ↓jbR r2]

end
