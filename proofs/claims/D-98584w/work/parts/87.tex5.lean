/-! the reference: a term, by the plain parser -/
/-- signs of a part that wait; of a sum; what may lie below -/
def pdN (l : List Nat) : Prop := l = []
def pdM (l : List Nat) : Prop := l = [] ∨ ∃ k, l = [k] ∧ (k = 10 ∨ k = 15)
def pdS (l : List Nat) : Prop := ∃ a b, l = a ++ b ∧ pdM a ∧ (b = [] ∨ ∃ k, b = [k] ∧ (k = 8 ∨ k = 9))
def btM (l : List Nat) : Prop := l = [] ∨ (∃ r, l = 6 :: r) ∨ ∃ k r, l = k :: r ∧ (k = 8 ∨ k = 9)
def btS (l : List Nat) : Prop := l = [] ∨ ∃ r, l = 6 :: r
theorem pdM_l {l : List Nat} (h : pdM l) : l.length ≤ 1 ∧ ∀ k ∈ l, k = 10 ∨ k = 15 := by
  rcases h with rfl | ⟨k, rfl, h⟩
  · exact ⟨Nat.zero_le _, fun k hk => absurd hk (List.not_mem_nil)⟩
  · exact ⟨Nat.le_refl _, fun x hx => by rw [List.mem_singleton] at hx; rw [hx]; exact h⟩
theorem pdS_l {l : List Nat} (h : pdS l) : l.length ≤ 2 ∧ ∀ k ∈ l, (k = 10 ∨ k = 15) ∨ (k = 8 ∨ k = 9) := by
  obtain ⟨a, b, rfl, h1, h2⟩ := h
  obtain ⟨h3, h4⟩ := pdM_l h1
  rcases h2 with rfl | ⟨k, rfl, h⟩
  · exact ⟨by simp; omega, fun k hk => Or.inl (h4 k (by simpa using hk))⟩
  · refine ⟨by simp; omega, fun x hx => ?_⟩
    rcases List.mem_append.mp hx with hx | hx
    · exact Or.inl (h4 x hx)
    · rw [List.mem_singleton] at hx; rw [hx]; exact Or.inr h
theorem btM_s {l : List Nat} (h : btS l) : btM l := by
  rcases h with h | h
  · exact Or.inl h
  · exact Or.inr (Or.inl h)
section
variable {d c0 : Nat} {p q : jv_H} {s0 : tw_S} {K V F N : Nat → Nat}
def XX (d c0 : Nat) (p q : jv_H) (s0 : tw_S) (K F : Nat → Nat) (P : List Nat → Prop) (r : Pr) (o : Nat) (em : Cd) (stk : List Nat) (run : Option jv_R) : Prop := match r with
  | .inl e => e.1 = 9 ∨ FE c0 s0 F p q run e.1 e.2
  | .inr x => ∃ s' em' pd, ES c0 s0 s' x.1 o em' (pd ++ stk) ∧ P pd ∧ em' ++ pd.map okp = em ++ x.2 ∧ RC K x.1 ∧ run = xB d p q s'
theorem X_bd {P P' : List Nat → Prop} {r : Pr} {f : Nat → Cd → Pr} {o o' : Nat} {em em2 : Cd} {stk stk2 : List Nat} {run : Option jv_R} (h : XX d c0 p q s0 K F P r o em stk run) (hf : ∀ u c s' em' pd, r = .inr (u, c) → ES c0 s0 s' u o em' (pd ++ stk) → P pd → em' ++ pd.map okp = em ++ c → RC K u → run = xB d p q s' → XX d c0 p q s0 K F P' (f u c) o' em2 stk2 run) : XX d c0 p q s0 K F P' (pbd r f) o' em2 stk2 run := by
  cases r with
  | inl e => exact h
  | inr x =>
    obtain ⟨s', em', pd, h1, h2, h3, h4, h5⟩ := h
    exact hf x.1 x.2 s' em' pd rfl h1 h2 h3 h4 h5
theorem x_12T {s : tw_S} (hp : p.length = 589) (hf : s.1 13 = nI 0) : jv_ev (d + 3) 31 12 [some (.ref 589), some (.int (nI 0)), some (.int (nI 1))] [] (tw_h p s q) = xA d p q s := by
  simp (disch := omega) only [il_0, il_1, il_2, il_3, il_4, il_5, il_6, il_7, il_8, il_9, il_10, il_11, il_12, il_13, il_14, il_15, il_16, il_17, il_18, il_19, il_20, il_21, il_22, il_23, il_24, il_25, il_26, il_27, il_28, il_29, il_30, il_31, il_32, il_40, il_41, il_42, il_43, il_44, il_45, il_46, il_47, il_48, il_52, il_56, il_57, il_59, il_60, il_61, il_63, il_64, il_68, il_72, il_75, il_76, il_82, il_88, il_89, il_90, il_92, il_96, il_97, il_99, il_100, il_101, il_102, il_103, il_104, il_105, il_107, il_108, il_109, il_110, il_111, il_112, il_114, il_115, il_116, il_117, il_118, il_119, il_121, il_122, il_130, il_200, il_255, il_256, il_260, il_276, il_400, il_403, il_420, il_840, il_999, il_1000, il_2000, il_2001, il_2668, il_2760, il_9999, il_12345, il_1000000, il_1103515245, ↓im_1, ↓im_2, ↓im_8, ↓im_1000, nI_add, pk_mul, pk_sub, ↓pk_rem, pk_div, nm_add, nI_clamp, nI_ltI, nI_leI, nI_eq, nm_eq, mn_eq, mm_eq, nm_lt, mn_lt, nm_le, mn_le, nl_T, nl_F, nle_T, nle_F, ne_T, ne_F, b2i_0, b2i_1, b2i_n, nb_0, nb_1, or_false, false_or, or_true, true_or, and_true, true_and, and_false, false_and, or_self, and_self, not_true_eq_false, not_false_eq_true, ↓reduceIte, if_true, if_false, ↓jv_bs, ↓jv_ol, ↓jv_or, jv_tl, jv_tn, jo_T, ck_2_166_17, ck_6_43_16, ck_6_43_17, ck_6_73_16, ck_7_65_17, ck_30_10_19, su_F, e31_12, e31_13, e31_16, e31_17, e31_20, ↓tgb_5 hp, ↓trb_5 hp, ↓tub_5 hp, wa_5, ↓tgb_11 hp, wi_11, ↓tgb_12 hp, wi_12, ↓tpb_12 hp, ↓tgb_13 hp, wi_13, ↓tgb_45 hp, ↓trb_45 hp, ↓tub_45 hp, wa_45, ↓tgb_46 hp, wi_46, ↓tpb_46 hp, ↓tw_rcb hp, hf]
/-- the run ends behind a close sign, no token left -/
theorem x_BFe {s : tw_S} {o e : Nat} {stk : List Nat} {c : Nat} (hp : p.length = 589) (hE : EF c0 s0 s) (hf : s.1 13 = nI e) (he : 1 ≤ e ∧ e ≤ 9) {u : Nat} (h14 : s.1 14 = nI (F u)) (ho : s.1 12 = nI o) (ho6 : o ≤ 9) (hs : SW s stk) (hl : stk.length ≤ 60) (hk : ∀ k ∈ stk, sgn k) (h42 : s.1 42 = nI c) (hc0 : c0 ≤ c) (hc : c + stk.length < 420 * (c0 / 420 + 1)) (hc8 : c0 < 840) (h11 : ∃ t, t ≤ 400 ∧ s.1 11 = nI t) : FE c0 s0 F p q (xB d p q s) e u := by
  obtain ⟨a, b, rfl, h1, h2⟩ := sp_l stk hk
  have hl2 : (a ++ b).length = a.length + b.length := List.length_append
  have g := m_co (d := d + 1) (q := q) (b := false) (c := c) hp hs hl h1 (by rcases h2 with h2 | h2; exact Or.inl h2; exact Or.inr (Or.inl h2)) h42 (by omega)
  obtain ⟨k1, _, _, _⟩ := coS_1 a s c (a ++ b).length
  exact ⟨_, EF_tr hE (EF_co a s _ _ hc0 (by omega)), (k1 13 (by decide) (by decide)).trans hf, (k1 14 (by decide) (by decide)).trans h14, h11.imp fun t h => ⟨h.1, (k1 11 (by decide) (by decide)).trans h.2⟩, x_BF hp hf he ho ho6 g⟩
theorem x_all (hp : p.length = 589) (hte : TE s0 K V F N) : ∀ f,
    (∀ t o s em stk acc, ES c0 s0 s t o em stk → RC K t → o ≤ 6 → stk.length ≤ 3 * o + 2 → XX d c0 p q s0 K F pdN (px K V f 0 t o acc) o em stk (xA d p q s)) ∧
    (∀ t o s em stk acc, ES c0 s0 s t o em stk → RC K t → o ≤ 6 → stk.length ≤ 3 * o + 1 → btM stk → XX d c0 p q s0 K F pdM (px K V f 1 t o acc) o em stk (xA d p q s)) ∧
    (∀ t o s em stk acc, ES c0 s0 s t o em stk → RC K t → o ≤ 6 → stk.length ≤ 3 * o → btS stk → XX d c0 p q s0 K F pdS (px K V f 2 t o acc) o em stk (xA d p q s)) ∧
    (∀ t o s em em0 pd stk acc, ES c0 s0 s t o em (pd ++ stk) → pdM pd → em ++ pd.map okp = em0 ++ acc → RC K t → o ≤ 6 → stk.length ≤ 3 * o + 1 → btM stk → XX d c0 p q s0 K F pdM (px K V f 3 t o acc) o em0 stk (xB d p q s)) ∧
    (∀ t o s em em0 pd stk acc, ES c0 s0 s t o em (pd ++ stk) → pdS pd → em ++ pd.map okp = em0 ++ acc → RC K t → o ≤ 6 → stk.length ≤ 3 * o → btS stk → XX d c0 p q s0 K F pdS (px K V f 4 t o acc) o em0 stk (xB d p q s)) := by
  intro f
  induction f with
  | zero => exact ⟨fun _ _ _ _ _ _ _ _ _ _ => Or.inl rfl, fun _ _ _ _ _ _ _ _ _ _ _ => Or.inl rfl, fun _ _ _ _ _ _ _ _ _ _ _ => Or.inl rfl, fun _ _ _ _ _ _ _ _ _ _ _ _ _ _ _ => Or.inl rfl, fun _ _ _ _ _ _ _ _ _ _ _ _ _ _ _ => Or.inl rfl⟩
  | succ f ih =>
    obtain ⟨i0, i1, i2, i3, i4⟩ := ih
    refine ⟨fun t o s em stk acc h hr ho hl => ?_, fun t o s em stk acc h hr ho hl hb => ?_, fun t o s em stk acc h hr ho hl hb => ?_, fun t o s em em0 pd stk acc h hpd hem hr ho hl hb => ?_, fun t o s em em0 pd stk acc h hpd hem hr ho hl hb => ?_⟩
    · have hts := TE_EF hte h.1
      have hK4 := (hts t hr).2.2.1
      have ht4 := hr.1
      unfold px
      rw [if_pos rfl]
      by_cases h2 : K t = 2
      · rw [if_pos h2]
        obtain ⟨u1, u2, _⟩ := x_unit (d := d) (q := q) hp h hts hr (by omega)
        unfold ps
        by_cases h4 : t = 400
        · rw [if_pos h4]
          exact Or.inr (u2 ⟨Or.inl h2, h4⟩)
        · rw [if_neg h4]
          have u1 := u1 ⟨Or.inl h2, by omega⟩
          rw [if_pos h2, if_pos h2] at u1
          exact ⟨_, _, [], ES_em h (by omega), rfl, by simp, RC_s hr h4 (by omega), u1⟩
      · rw [if_neg h2]
        by_cases h32 : 32 ≤ K t ∧ K t ≤ 40
        · rw [if_pos h32]
          obtain ⟨u1, u2, _⟩ := x_unit (d := d) (q := q) hp h hts hr (by omega)
          unfold ps
          by_cases h4 : t = 400
          · rw [if_pos h4]
            exact Or.inr (u2 ⟨Or.inr h32.1, h4⟩)
          · rw [if_neg h4]
            have u1 := u1 ⟨Or.inr h32.1, by omega⟩
            rw [if_neg h2, if_neg h2] at u1
            exact ⟨_, _, [], ES_em h (by omega), rfl, by simp, RC_s hr h4 (by omega), u1⟩
        · rw [if_neg h32]
          by_cases h6 : K t = 6
          · rw [if_pos h6]
            by_cases ho6 : o = 6
            · rw [if_pos ho6]
              exact Or.inr (x_openF hp h hts hr h6 (by omega) ho (Or.inl ho6))
            · rw [if_neg ho6]
              unfold ps
              by_cases h4 : t = 400
              · rw [if_pos h4]
                exact Or.inr (x_openF hp h hts hr h6 (by omega) ho (Or.inr h4))
              · rw [if_neg h4]
                have g := i2 (t + 1) (o + 1) _ em (6 :: stk) [] (ES_pushO h (by omega)) (RC_s hr h4 (by omega)) (by omega) (by rw [List.length_cons]; omega) (Or.inr ⟨stk, rfl⟩)
                rw [← x_open (d := d) (q := q) (n := stk.length) hp h.2.1 h.2.2.1 h.2.2.2.1 h.2.2.2.2.2.2.1.1 (by omega) (hts t hr).1 h6 (by omega) (by omega)] at g
                refine X_bd g fun u c s' em' pd hpx hE hpd hem hru hrun => ?_
                rw [hrun]
                have hts' := TE_EF hte hE.1
                have hu4 := hru.1
                obtain ⟨hpl, hpk⟩ := pdS_l hpd
                have hlen : (pd ++ 6 :: stk).length ≤ 60 := by rw [List.length_append, List.length_cons]; omega
                have hl2 : (pd ++ 6 :: stk).length = pd.length + (stk.length + 1) := by rw [List.length_append, List.length_cons]
                have hcb := hE.2.2.2.2.2.2.2.1
                by_cases h7 : K u = 7
                · rw [if_pos h7]
                  have g := m_co (d := d + 1) (q := q) (b := false) (c := c0 + em'.length) hp hE.2.2.2.2.2.2.1 hlen (fun k hk => by have := hpk k hk; simpa using this) (Or.inr (Or.inl ⟨stk, rfl⟩)) hE.2.2.2.2.1 (by omega)
                  have hE2 := ES_pop hE
                  rw [hem] at hE2
                  generalize coS s' (c0 + em'.length) (pd ++ 6 :: stk).length pd = s2 at g hE2
                  rw [x_close hp hE.2.1 hE.2.2.1 hu4 hE.2.2.2.1 (by omega) (hts' u hru).1 h7 g hE2.2.1 hE2.2.2.1 hE2.2.2.2.1 hE2.2.2.2.2.2.2.1.1 (by omega)]
                  have hE3 := ES_unO hE2
                  by_cases h4u : u = 400
                  · rw [if_pos h4u, if_pos h4u]
                    refine Or.inr (x_BFe (stk := stk) (o := o) (c := c0 + (em ++ c).length) hp (EF_tr hE3.1 EF_f) rfl (by decide) ((TE_EF hte hE2.1) u hru).2.1 rfl (by omega) hE3.2.2.2.2.2.2.1 (by omega) hE3.2.2.2.2.2.2.2.2 hE3.2.2.2.2.1 (by omega) ?_ ?_ ⟨u, hu4, hE3.2.2.1⟩)
                    · have := hE3.2.2.2.2.2.2.2.1
                      omega
                    · omega
                  · rw [if_neg h4u, if_neg h4u]
                    exact ⟨_, _, [], ES_t hE3 (by omega), rfl, by simp, RC_s hru h4u (by omega), rfl⟩
                · rw [if_neg h7]
                  have hke := px_e2 hpx
                  have g := m_co (d := d + 1) (q := q) (s := flS s' 1 (s'.2.1 6 u)) (b := false) (c := c0 + em'.length) hp hE.2.2.2.2.2.2.1 hlen (fun k hk => by have := hpk k hk; simpa using this) (Or.inr (Or.inl ⟨stk, rfl⟩)) hE.2.2.2.2.1 (by omega)
                  obtain ⟨k1, _, _, _⟩ := coS_1 pd (flS s' 1 (s'.2.1 6 u)) (c0 + em'.length) (pd ++ 6 :: stk).length
                  refine Or.inr ⟨_, EF_tr (EF_tr hE.1 EF_f) (EF_co pd _ _ _ (by omega) (by omega)), (k1 13 (by decide) (by decide)).trans rfl, (k1 14 (by decide) (by decide)).trans (hts' u hru).2.1, ⟨u, hu4, (k1 11 (by decide) (by decide)).trans hE.2.2.1⟩, x_end (o := o + 1) hp hE.2.1 hE.2.2.1 hu4 hE.2.2.2.1 (by omega) (hts' u hru).1 (hts' u hru).2.2.1 (by omega) (fun h => absurd h h7) ?_⟩
                  rw [if_neg (by omega)]
                  exact g
          · rw [if_neg h6]
            exact Or.inr ((x_unit (d := d) (q := q) hp h hts hr h6).2.2 (by omega))
    · unfold px
      rw [if_neg (by decide), if_pos rfl]
      refine X_bd (i0 t o s em stk [] h hr ho (by omega)) fun u c s' em' pd _ hE hpd hem hru hrun => ?_
      rw [hrun]
      exact i3 u o s' em' em pd stk c hE (by rw [hpd]; exact Or.inl rfl) hem hru ho hl hb
    · unfold px
      rw [if_neg (by decide), if_neg (by decide), if_pos rfl]
      refine X_bd (i1 t o s em stk [] h hr ho (by omega) (btM_s hb)) fun u c s' em' pd _ hE hpd hem hru hrun => ?_
      rw [hrun]
      exact i4 u o s' em' em pd stk c hE ⟨pd, [], (List.append_nil _).symm, hpd, Or.inl rfl⟩ hem hru ho hl hb
    · unfold px
      rw [if_neg (by decide), if_neg (by decide), if_neg (by decide), if_pos rfl]
      by_cases hk : K t = 10 ∨ K t = 15
      · rw [if_pos hk]
        have hts := TE_EF hte h.1
        have ht4 := hr.1
        obtain ⟨hpl, hpk⟩ := pdM_l hpd
        have hl2 : (pd ++ stk).length = pd.length + stk.length := List.length_append
        have hcb := h.2.2.2.2.2.2.2.1
        have g := m_co (d := d + 1) (q := q) (b := true) (c := c0 + em.length) hp h.2.2.2.2.2.2.1 (by omega) (fun k hk => Or.inl (hpk k hk)) (by rcases hb with hb | hb | hb; exact Or.inl hb; exact Or.inr (Or.inl hb); exact Or.inr (Or.inr ⟨rfl, hb⟩)) h.2.2.2.2.1 (by omega)
        have hE2 := ES_pop h
        rw [hem] at hE2
        generalize coS s (c0 + em.length) (pd ++ stk).length pd = s2 at g hE2
        have hts2 := TE_EF hte hE2.1
        rw [x_sign (n := stk.length) hp h.2.1 h.2.2.1 ht4 (hts t hr).1 (by omega) (by rw [decide_eq_true hk]; exact g) hE2.2.1 hE2.2.2.1 (hts2 t hr).1 hE2.2.2.2.2.2.2.1.1 (by omega)]
        unfold ps
        by_cases h4 : t = 400
        · rw [if_pos h4, if_pos h4]
          exact Or.inr ⟨_, EF_tr (EF_tr (EF_tr hE2.1 EF_w) (EF_i (j := 46) (by omega))) EF_f, rfl, (hts2 t hr).2.1, ⟨t, ht4, hE2.2.2.1⟩, x_12F hp rfl (by decide)⟩
        · rw [if_neg h4, if_neg h4]
          have hE3 := ES_push (k := K t) hE2 (by omega) (by unfold sgn; omega)
          rw [x_12T hp hE3.2.1]
          refine X_bd (i0 (t + 1) o _ (em0 ++ acc) (K t :: stk) [] hE3 (RC_s hr h4 (by omega)) ho (by rw [List.length_cons]; omega)) fun u c s' em' pd' _ hE hpd' hem' hru hrun => ?_
          rw [hrun]
          rw [hpd'] at hE hem'
          refine i3 u o s' em' em0 [K t] stk _ hE (Or.inr ⟨_, rfl, hk⟩) ?_ hru ho hl hb
          rw [List.map_nil, List.append_nil] at hem'
          rw [hem']
          simp
      · rw [if_neg hk]
        exact ⟨s, em, pd, h, hpd, hem, hr, rfl⟩
    · unfold px
      rw [if_neg (by decide), if_neg (by decide), if_neg (by decide), if_neg (by decide)]
      by_cases hk : K t = 8 ∨ K t = 9
      · rw [if_pos hk]
        have hts := TE_EF hte h.1
        have ht4 := hr.1
        obtain ⟨hpl, hpk⟩ := pdS_l hpd
        have hl2 : (pd ++ stk).length = pd.length + stk.length := List.length_append
        have hcb := h.2.2.2.2.2.2.2.1
        have g := m_co (d := d + 1) (q := q) (b := false) (c := c0 + em.length) hp h.2.2.2.2.2.2.1 (by omega) (fun k hk => by have := hpk k hk; simpa using this) (by rcases hb with hb | hb; exact Or.inl hb; exact Or.inr (Or.inl hb)) h.2.2.2.2.1 (by omega)
        have hE2 := ES_pop h
        rw [hem] at hE2
        generalize coS s (c0 + em.length) (pd ++ stk).length pd = s2 at g hE2
        have hts2 := TE_EF hte hE2.1
        rw [x_sign (n := stk.length) hp h.2.1 h.2.2.1 ht4 (hts t hr).1 (by omega) (by rw [decide_eq_false (by omega)]; exact g) hE2.2.1 hE2.2.2.1 (hts2 t hr).1 hE2.2.2.2.2.2.2.1.1 (by omega)]
        unfold ps
        by_cases h4 : t = 400
        · rw [if_pos h4, if_pos h4]
          exact Or.inr ⟨_, EF_tr (EF_tr (EF_tr hE2.1 EF_w) (EF_i (j := 46) (by omega))) EF_f, rfl, (hts2 t hr).2.1, ⟨t, ht4, hE2.2.2.1⟩, x_12F hp rfl (by decide)⟩
        · rw [if_neg h4, if_neg h4]
          have hE3 := ES_push (k := K t) hE2 (by omega) (by unfold sgn; omega)
          rw [x_12T hp hE3.2.1]
          refine X_bd (i1 (t + 1) o _ (em0 ++ acc) (K t :: stk) [] hE3 (RC_s hr h4 (by omega)) ho (by rw [List.length_cons]; omega) (Or.inr (Or.inr ⟨_, _, rfl, hk⟩))) fun u c s' em' pd' _ hE hpd' hem' hru hrun => ?_
          rw [hrun]
          refine i4 u o s' em' em0 (pd' ++ [K t]) stk _ (by rw [List.append_assoc]; exact hE) ⟨pd', [K t], rfl, hpd', Or.inr ⟨_, rfl, hk⟩⟩ ?_ hru ho hl hb
          rw [List.map_append, ← List.append_assoc, hem']
          simp
      · rw [if_neg hk]
        exact ⟨s, em, pd, h, hpd, hem, hr, rfl⟩
/-- what a term tells -/
def pT (K V : Nat → Nat) (t : Nat) : Pr := px K V 2000 2 t 0 []
theorem pT_k {t : Nat} (ht : t ≤ 400) : pk (pT K V t) t (t + 1) t := (px_k 2000 t 0 [] ht).2.2.1 (by omega)
theorem m_expr {s : tw_S} {t c : Nat} (hp : p.length = 589) (hte : TE s K V F N) (hr : RC K t) (hf : s.1 13 = nI 0) (ht : s.1 11 = nI t) (ho : s.1 12 = nI 0) (hc : s.1 42 = nI c) (hc4 : c ≤ 420 * (c / 420) + t) (hc8 : c < 840) : match pT K V t with
    | .inl e => ∃ s', EF c s s' ∧ s'.1 13 = nI e.1 ∧ s'.1 14 = nI (F e.2) ∧ (∃ t, t ≤ 400 ∧ s'.1 11 = nI t) ∧ jv_cd (d + 4) 31 [.ref 589] (tw_h p s q) = some (.inl none, tw_h p s' q)
    | .inr x => ∃ s', EF c s s' ∧ s'.1 13 = nI 0 ∧ s'.1 11 = nI x.1 ∧ s'.1 12 = nI 0 ∧ s'.1 42 = nI (c + x.2.length) ∧ SG s' c x.2 ∧ RC K x.1 ∧ c + x.2.length ≤ 420 * (c / 420) + x.1 ∧ jv_cd (d + 4) 31 [.ref 589] (tw_h p s q) = some (.inl none, tw_h p s' q) := by
  have hE0 : ES c s (tw_i s 46 (nI 0)) t 0 [] [] := ⟨EF_i (by omega), hf, ht, ho, hc, fun j e he => by simp at he, ⟨rfl, fun i hi => absurd hi (Nat.not_lt_zero _)⟩, ⟨by simpa using hc4, hc8, hr.1⟩, fun k hk => absurd hk (List.not_mem_nil)⟩
  have hst : jv_cd (d + 4) 31 [.ref 589] (tw_h p s q) = xA d p q (tw_i s 46 (nI 0)) := by
    simp (disch := omega) only [il_0, il_1, il_2, il_3, il_4, il_5, il_6, il_7, il_8, il_9, il_10, il_11, il_12, il_13, il_14, il_15, il_16, il_17, il_18, il_19, il_20, il_21, il_22, il_23, il_24, il_25, il_26, il_27, il_28, il_29, il_30, il_31, il_32, il_40, il_41, il_42, il_43, il_44, il_45, il_46, il_47, il_48, il_52, il_56, il_57, il_59, il_60, il_61, il_63, il_64, il_68, il_72, il_75, il_76, il_82, il_88, il_89, il_90, il_92, il_96, il_97, il_99, il_100, il_101, il_102, il_103, il_104, il_105, il_107, il_108, il_109, il_110, il_111, il_112, il_114, il_115, il_116, il_117, il_118, il_119, il_121, il_122, il_130, il_200, il_255, il_256, il_260, il_276, il_400, il_403, il_420, il_840, il_999, il_1000, il_2000, il_2001, il_2668, il_2760, il_9999, il_12345, il_1000000, il_1103515245, ↓im_1, ↓im_2, ↓im_8, ↓im_1000, nI_add, pk_mul, pk_sub, ↓pk_rem, pk_div, nm_add, nI_clamp, nI_ltI, nI_leI, nI_eq, nm_eq, mn_eq, mm_eq, nm_lt, mn_lt, nm_le, mn_le, nl_T, nl_F, nle_T, nle_F, ne_T, ne_F, b2i_0, b2i_1, b2i_n, nb_0, nb_1, or_false, false_or, or_true, true_or, and_true, true_and, and_false, false_and, or_self, and_self, not_true_eq_false, not_false_eq_true, ↓reduceIte, if_true, if_false, ↓jv_bs, ↓jv_ol, ↓jv_or, jv_tl, jv_tn, jo_T, ck_2_166_17, ck_6_43_16, ck_6_43_17, ck_6_73_16, ck_7_65_17, ck_30_10_19, su_F, e31_0, e31_1, e31_2, e31_5, e31_6, e31_9, e31_10, e31_11, e31_12, e31_13, e31_16, e31_17, e31_20, ↓tgb_5 hp, ↓trb_5 hp, ↓tub_5 hp, wa_5, ↓tgb_11 hp, wi_11, ↓tgb_12 hp, wi_12, ↓tpb_12 hp, ↓tgb_13 hp, wi_13, ↓tgb_45 hp, ↓trb_45 hp, ↓tub_45 hp, wa_45, ↓tgb_46 hp, wi_46, ↓tpb_46 hp, ↓tw_rcb hp, n31, ho, hf, tw_i1, tw_i2, Nat.reduceEqDiff]
  have g := (x_all (d := d) (q := q) (c0 := c) hp hte 2000).2.2.1 t 0 _ [] [] [] hE0 hr (by omega) (Nat.le_refl _) (Or.inl rfl)
  have hk := pT_k (K := K) (V := V) hr.1
  have hend : ∀ {c u}, pT K V t = .inr (u, c) → (K u ≠ 10 ∧ K u ≠ 15) ∧ K u ≠ 8 ∧ K u ≠ 9 := fun h => px_e2 h
  change XX d c p q s K F pdS (pT K V t) 0 [] [] _ at g
  rw [hst]
  generalize pT K V t = r at g hk hend ⊢
  cases r with
  | inl e =>
    rcases g with g | ⟨s', g1, g2, g3, g4, g5⟩
    · exact absurd hk.1 (by omega)
    · exact ⟨s', g1, g2, g3, g4, g5⟩
  | inr x =>
    obtain ⟨s', em', pd, hE, hpd, hem, hru, hrun⟩ := g
    obtain ⟨hpl, hpk⟩ := pdS_l hpd
    have hke := hend (c := x.2) (u := x.1) rfl
    have hl2 : (pd ++ []).length = pd.length := by rw [List.append_nil]
    have hu4 := hru.1
    have hcb := hE.2.2.2.2.2.2.2.1
    have g := m_co (d := d + 1) (q := q) (b := false) (c := c + em'.length) hp hE.2.2.2.2.2.2.1 (by omega) (fun k hk => by have := hpk k hk; simpa using this) (Or.inl rfl) hE.2.2.2.2.1 (by omega)
    have hE2 := ES_pop hE
    rw [hem] at hE2
    generalize coS s' (c + em'.length) (pd ++ []).length pd = s2 at g hE2
    have hts' := TE_EF hte hE.1
    rw [List.nil_append] at hE2
    obtain ⟨z1, z2, z3, z4, z5, z6, z7, z8, z9⟩ := hE2
    refine ⟨s2, z1, z2, z3, z4, z5, z6, hru, by simpa using z8.1, ?_⟩
    rw [hrun]
    refine x_end (o := 0) hp hE.2.1 hE.2.2.1 hu4 hE.2.2.2.1 (by omega) (hts' x.1 hru).1 (hts' x.1 hru).2.2.1 (by omega) (fun _ => rfl) ?_
    rw [if_pos rfl]
    exact g
end
