/-! soundness: new cells, casts, constants, switches -/
theorem jv_find_mem {α : Type} {t : List (Nat × Nat × α)} {o idx : Nat} {v : α} (h : jv_find t o idx = some v) : (o, idx, v) ∈ t := by
  induction t with
  | nil => cases h
  | cons e r ih =>
    unfold jv_find at h
    split at h
    next hc =>
      obtain ⟨e1, e2, e3⟩ := e
      obtain ⟨rfl, rfl⟩ := hc
      cases h
      exact List.mem_cons_self
    next => exact List.mem_cons_of_mem _ (ih h)
def sn_NOK : Prop := ∀ e ∈ jt_N, ∃ (own C : String) (T : u_T) (N : Nat), jt_R[e.1]? = some own ∧ jt_cl[e.2.2]? = some (C, T, N) ∧ Cond.classLink own e.2.1 C ∈ lw_all
def sn_ANOK : Prop := ∀ e ∈ jt_AN, ∃ own C : String, jt_R[e.1]? = some own ∧ jt_at[e.2.2]? = some (.object C) ∧ Cond.classLink own e.2.1 C ∈ lw_all ∧ Cond.arrayOver (.object C) ∈ sn_nw
def sn_ACOK : Prop := ∀ (tc : Nat) (ty : FieldType), tc < 5 → jt_at[tc]? = some ty → Cond.arrayClass ty ∈ lw_all
def sn_ASOK : Prop := ∀ e ∈ jt_as, ∃ (C C2 : String) (T : u_T) (N : Nat), jt_cl[e.2]? = some (C, T, N) ∧ jt_at[e.1]? = some (.object C2) ∧ (C = C2 ∨ Cond.castable C C2 ∈ sn_nw)
def sn_CKOK : Prop := ∀ e ∈ jt_CK, ∃ (own C nm : String) (T : u_T) (N : Nat), jt_R[e.1]? = some own ∧ jt_cl[e.2.2]? = some (C, T, N) ∧ Cond.classLink own e.2.1 nm ∈ lw_all ∧ (C = nm ∨ Cond.castable C nm ∈ sn_nw)
def sn_KOK : Prop := ∀ e ∈ jt_K, ∃ own : String, jt_R[e.1]? = some own ∧ (∀ v, e.2.2 = .int v → Cond.constant own e.2.1 v ∈ lw_all) ∧ (∀ v, e.2.2 = .long v → Cond.constantLong own e.2.1 v ∈ lw_all) ∧ ((∃ v, e.2.2 = .int v) ∨ (∃ v, e.2.2 = .long v) ∨ ∃ r, e.2.2 = .ref r)
def sn_MAOK : Prop := (∀ e ∈ jt_MA, ∃ own : String, jt_R[e.1]? = some own ∧ Cond.classLink own e.2 ("[" ++ (FieldType.array .int).toString) ∈ lw_all) ∧ Cond.arrayOver (.array .int) ∈ sn_nw
theorem sn_z_push {h : jv_H} {c : jv_C} : sn_z (h ++ [c]) = sn_z h + sn_cz c := by unfold sn_z; simp
theorem sn_v_dflt {ao : Nat → Option Nat} {ty : FieldType} : sn_v ao (defaultValue ty) = defaultValue ty := by cases ty <;> rfl
section
variable {G : sn_G} {n0 z0 nL : Nat} {p : Program} {l : Launch} {e : Env} {R : Room} {s : State} {m : MethodId} {args : Array Value} {below : List Frame} {meth : Method} {c : Code} {Q : State → Prop}
variable {cc : ByteArray} {pc : Nat} {lc : jv_L} {st : List Value} {h : jv_H} {cf : Nat × jv_L × List Value × jv_H}
theorem sn_aast (hx : p.tables.exec = Jvm.exec) (hb : c.code = cc) (hts : ∀ w ∈ lw_all, w.before args s = true) (hC : sn_COK) (hAS : sn_ASOK) (hK : sn_K G s) (hd : decode cc pc = .ok (.aastore, 1)) {a x : Nat} {r : List Value} {j : Int32} {h' : jv_H} (hv : jv_rp h a j x = some h') (K : sn_W G n0 z0 nL p l e R s m args below meth c Q (pc + 1, lc, r, h')) : sn_W G n0 z0 nL p l e R s m args below meth c Q (pc, lc, .ref x :: .int j :: .ref a :: r, h) := by
  intro ls H locs hL hP hS
  have hK0 := hK
  unfold jv_rp at hv
  split at hv
  next tc n f hc =>
    split at hv
    next hi =>
      cases hv
      obtain ⟨ha, hft, hi⟩ := hi
      unfold jv_fitA at hft
      split at hft
      next ci fs hcx =>
        obtain ⟨C, C2, T, N, g1, g2, g3⟩ := hAS (tc, ci) (List.contains_iff_mem.mp hft)
        dsimp only at g1 g2
        obtain ⟨hK1, hK2, hK3, hK4, hK5, hK6, hK7⟩ := hK
        obtain ⟨hA, kA, comp, r1, r2, r3, r4⟩ := hK1.2 tc _ (sn_t_at g2)
        dsimp only at hA r1 r2 r3 r4
        rcases sn_read hts (fun ci q hq => (hC ci q hq).1) hK0 hP hcx with hdm | ⟨y, hy, -⟩ | hat
        · exact absurd (sn_dm_cls (h := h) (a := a) hdm) (sn_cl_lt g1)
        · cases hy
        · obtain ⟨ad, C', T', N', cellv, q1, q2, q3, q4, q5, q6, q7⟩ := hat
          cases g1.symm.trans q2
          obtain ⟨kv, hkv, -⟩ := Vm.findClass_spec q6
          obtain ⟨kcomp, hkcomp, -⟩ := Vm.findClass_spec r3
          have hinst : s.vm.assignable cellv.cls comp = true := by
            rcases g3 with g3 | g3
            · subst g3
              cases r3.symm.trans q6
              exact va_asg _ _
            · obtain ⟨c0, t0, f1, f2, f3⟩ := Cond.castable_spec (va_Nw.use (A := args) rfl (hK7 _ g3))
              cases q6.symm.trans f1
              cases r3.symm.trans f2
              exact f3
          have hw : H[gB G + (a - jt_off)]? = some (vp_cell (gA G tc) (n, .inr (.inr (.inr (.inr (fun k => (f k).bind (gO G))))))) := hP.1 _ _ (sn_w_at ha hc)
          have hlt : j.toNatClampNeg < n := Nat.not_le.mp fun q => hi (Or.inr q)
          show W p l e R s m args below meth c H locs _ _ Q (F0 m pc ls (va_rf (gO G x) :: .int j :: va_rf (gO G a) :: r.map (sn_v (gO G))))
          rw [hK2 a ha, q1]
          refine W.aast hx hb hw (fun q z => by cases z) (fun z => by cases z) r1 r2 rfl hkcomp ⟨fun z => hi (Or.inl z), by show _ < (arrV _ _ _).slots.size; rw [arrV_size]; exact hlt⟩ q3 (fun q z => by rw [z] at q4; cases q4) hkv hinst rfl rfl hd (fun H' e1 e2 e3 => ?_)
          rw [sn_cell_q] at e1
          have e4 : (fun k => (va_up f j.toNatClampNeg (some x) k).bind (gO G)) = va_up (fun k => (f k).bind (gO G)) j.toNatClampNeg (some ad) := by
            funext k
            unfold va_up
            by_cases hk : k = j.toNatClampNeg
            · rw [if_pos hk, if_pos hk]
              exact q1
            · rw [if_neg hk, if_neg hk]
          rw [← e4] at e1
          have := K ls H' (locs ++ [⟨gB G + (a - jt_off), j.toNatClampNeg⟩]) hL (hP.set (c := .inl (tc, n, .inr (.inr (.inr (.inr (va_up f j.toNatClampNeg (some x))))))) ha (List.getElem?_eq_some_iff.mp hc).1 e1 e2 e3) (hS.put e2 e3 (Nat.le_add_right _ _))
          dsimp only at this
          rw [List.length_set, sn_set_z hc (by rfl)] at this
          exact this
      next => cases hft
    next => cases hv
  next => cases hv
theorem sn_new {o idx ci : Nat} {fs : List Value} {own : String} (hx : p.tables.exec = Jvm.exec) (hb : c.code = cc) (hts : ∀ w ∈ lw_all, w.before args s = true) (hN : sn_NOK) (hC : sn_COK) (hown : s.vm.findClass own = some m.cls) (ho : jt_R[o]? = some own) (hK : sn_K G s) (hd : decode cc pc = .ok (.new idx, 3)) (h1 : jv_find jt_N o idx = some ci) (h2 : jt_D[ci]? = some fs) (hn : n0 ≤ h.length) (hz : z0 ≤ sn_z h) (hR1 : (h ++ [(.inr (ci, fs) : jv_C)]).length - n0 ≤ R.cells) (hR2 : sn_z (h ++ [.inr (ci, fs)]) - z0 ≤ R.slots)
    (K : sn_W G n0 z0 nL p l e R s m args below meth c Q (pc + 3, lc, .ref h.length :: st, h ++ [.inr (ci, fs)])) : sn_W G n0 z0 nL p l e R s m args below meth c Q (pc, lc, st, h) := by
  intro ls H locs hL hP hS
  obtain ⟨own', C, T, N, g1, g2, g3⟩ := hN _ (jv_find_mem h1)
  dsimp only at g1 g2 g3
  cases ho.symm.trans g1
  obtain ⟨hin0, ⟨ty0, hty, hnm, fs', hfs, hfl, hfd⟩, hins, hini⟩ := hC ci _ g2
  cases h2.symm.trans hfs
  dsimp only at hin0 hty hnm hfl hfd hins hini
  have hK0 := hK
  obtain ⟨hK1, hK2, -⟩ := hK
  have hKn := hK1.1 ci _ g2
  have hoff : jt_off ≤ h.length := hP.2.2.1
  rw [List.length_append, List.length_singleton] at hR1
  rw [sn_z_push] at hR2
  have hcz : sn_cz (.inr (ci, fs)) = N := hfl
  rw [hcz] at hR2
  change W p l e R s m args below meth c H locs (h.length - n0) (sn_z h - z0) Q (F0 m pc ls (st.map (sn_v (gO G))))
  refine W.newcK hx hb hown (hts _ g3) (hts _ hins) (hts _ hini) rfl hd (by omega) (by omega) hKn.2.1 rfl fun H1 kC hkC e1 z1 o1 => ?_
  have hPn : sn_P G (h ++ [.inr (ci, fs)]) H1 := by
    refine hP.push ?_ z1 o1
    rw [← hP.2.1]
    refine ⟨_, g2, (u_born ty0 hts hin0 hKn hkC e1 hty).to (fun k hk => ?_)⟩
    show _ = vp_V (fs.map (sn_v (gO G))) k
    have : (fs.map (sn_v (gO G)))[k]? = some (defaultValue (ty0 k)) := by rw [List.getElem?_map, hfd k hk]; exact congrArg some sn_v_dflt
    simp [vp_V, this]
  have := K ls H1 locs hL hPn (sn_S.new hS (by omega) o1)
  have ea : gO G h.length = some H.size := by rw [hK2 _ hoff, ← hP.2.1]
  dsimp only [List.map_cons] at this
  change W p l e R s m args below meth c H1 locs _ _ Q (F0 m (pc + 3) ls (va_rf (gO G h.length) :: st.map (sn_v (gO G)))) at this
  rw [ea] at this
  refine W.cs ?_ ?_ this
  · rw [List.length_append, List.length_singleton]; omega
  · rw [sn_z_push, hcz]; omega
theorem sn_alloc {c' : jv_C} {ty : FieldType} {tc n pc' : Nat} {st' : List Value} (hK : sn_K G s) (hn : n0 ≤ h.length) (hz : z0 ≤ sn_z h) (hcz : sn_cz c' = n) (hc : sn_e G c' = .inl (gA G tc, (sn_e G c').elim (fun q => q.2) (fun _ => (0, .inl fun _ => 0))))
    {ls : Array Slot} {H H1 : Heap} {locs : List Loc} (hL : sn_L (gO G) lc ls nL) (hP : sn_P G h H) (hS : va_S (fun q => gB G ≤ q) s.heap H locs) (e1 : va_at (gD G) jt_cl (H.size, sn_e G c') H1) (z1 : H1.size = H.size + 1) (o1 : ∀ q, q < H.size → H1[q]? = H[q]?)
    (K : sn_W G n0 z0 nL p l e R s m args below meth c Q (pc', lc, .ref h.length :: st', h ++ [c'])) : W p l e R s m args below meth c H1 locs (h.length - n0 + 1) (sn_z h - z0 + n) Q (F0 m pc' ls (.ref H.size :: st'.map (sn_v (gO G)))) := by
  obtain ⟨hK1, hK2, -⟩ := hK
  have hoff : jt_off ≤ h.length := hP.2.2.1
  have hPn : sn_P G (h ++ [c']) H1 := by
    refine hP.push ?_ z1 o1
    rw [← hP.2.1]
    exact e1
  have := K ls H1 locs hL hPn (sn_S.new hS (by omega) o1)
  have ea : gO G h.length = some H.size := by rw [hK2 _ hoff, ← hP.2.1]
  dsimp only [List.map_cons] at this
  change W p l e R s m args below meth c H1 locs _ _ Q (F0 m pc' ls (va_rf (gO G h.length) :: st'.map (sn_v (gO G)))) at this
  rw [ea] at this
  refine W.cs ?_ ?_ this
  · rw [List.length_append, List.length_singleton]; omega
  · rw [sn_z_push, hcz]; omega
theorem sn_newa {ty : ArrayType} {n : Int32} {r : List Value} {c' : jv_C} (hx : p.tables.exec = Jvm.exec) (hb : c.code = cc) (hts : ∀ w ∈ lw_all, w.before args s = true) (hA : sn_ACOK) (hK : sn_K G s) (hd : decode cc pc = .ok (.newarray ty, 2)) (h0 : ¬ (n < 0 ∨ 100000 < n.toNatClampNeg)) (h1 : jv_newa ty n.toNatClampNeg = some c') (hn : n0 ≤ h.length) (hz : z0 ≤ sn_z h) (hR1 : (h ++ [c']).length - n0 ≤ R.cells) (hR2 : sn_z (h ++ [c']) - z0 ≤ R.slots)
    (K : sn_W G n0 z0 nL p l e R s m args below meth c Q (pc + 2, lc, .ref h.length :: r, h ++ [c'])) : sn_W G n0 z0 nL p l e R s m args below meth c Q (pc, lc, .int n :: r, h) := by
  intro ls H locs hL hP hS
  have hK0 := hK
  obtain ⟨hK1, hK2, -⟩ := hK
  rw [List.length_append, List.length_singleton] at hR1
  rw [sn_z_push] at hR2
  have hle : n.toNatClampNeg ≤ 100000 := by omega
  have key : ∀ (tc : Nat) (fty : FieldType), tc < 5 → jt_at[tc]? = some fty → newarray.typeOf ty = fty → (∀ cA : ClassId, (∃ a, sn_e G c' = .inl (gA G tc, a) ∧ (gA G tc = cA → vp_cell cA a = arrV cA n.toNatClampNeg (fun _ => defaultValue fty)))) → sn_cz c' = n.toNatClampNeg → n.toNatClampNeg * componentBytes fty ≤ 536870912 → W p l e R s m args below meth c H locs (h.length - n0) (sn_z h - z0) Q (F0 m pc ls ((Value.int n :: r).map (sn_v (gO G)))) := by
    intro tc fty htc hty hto hce hcz hby
    subst hto
    rw [hcz] at hR2
    refine va_newaK hx hb (hts _ (hA tc _ htc hty)) rfl hd rfl (fun q => h0 (Or.inl q)) rfl hby (by omega) (by omega) rfl fun H1 cA e1 z1 o1 hAr hNm => ?_
    have hra := (hK1.2 tc _ (sn_t_at hty)).2
    have hcA : gA G tc = cA := by
      have hra' : s.vm.findClass ("[" ++ (newarray.typeOf ty).toString) = some (gA G tc) := by
        cases ty <;> exact hra
      exact Option.some.inj (hra'.symm.trans hNm)
    obtain ⟨a, ha1, ha2⟩ := hce cA
    refine sn_alloc (tc := tc) (ty := newarray.typeOf ty) hK0 hn hz hcz (by rw [ha1]; rfl) hL hP hS ?_ z1 o1 K
    rw [ha1]
    show H1[H.size]? = some (vp_cell (gA G tc) a)
    rw [hcA, ha2 hcA]
    exact e1
  cases ty with
  | int => cases h1; exact key 0 .int (by decide) rfl rfl (fun cA => ⟨_, rfl, fun _ => rfl⟩) rfl (by show _ * 4 ≤ _; omega)
  | byte => cases h1; exact key 1 .byte (by decide) rfl rfl (fun cA => ⟨_, rfl, fun _ => rfl⟩) rfl (by show _ * 1 ≤ _; omega)
  | boolean => cases h1; exact key 2 .boolean (by decide) rfl rfl (fun cA => ⟨_, rfl, fun _ => rfl⟩) rfl (by show _ * 1 ≤ _; omega)
  | short => cases h1; exact key 3 .short (by decide) rfl rfl (fun cA => ⟨_, rfl, fun _ => rfl⟩) rfl (by show _ * 2 ≤ _; omega)
  | long => cases h1; exact key 4 .long (by decide) rfl rfl (fun cA => ⟨_, rfl, fun _ => rfl⟩) rfl (by show _ * 8 ≤ _; omega)
  | _ => cases h1
theorem sn_anew {o idx tc : Nat} {own : String} {n : Int32} {r : List Value} (hx : p.tables.exec = Jvm.exec) (hb : c.code = cc) (hts : ∀ w ∈ lw_all, w.before args s = true) (hAN : sn_ANOK) (hown : s.vm.findClass own = some m.cls) (ho : jt_R[o]? = some own) (hK : sn_K G s) (hd : decode cc pc = .ok (.anewarray idx, 3)) (h0 : ¬ (n < 0 ∨ 100000 < n.toNatClampNeg)) (h1 : jv_find jt_AN o idx = some tc) (hn : n0 ≤ h.length) (hz : z0 ≤ sn_z h)
    (hR1 : (h ++ [(.inl (tc, n.toNatClampNeg, .inr (.inr (.inr (.inr (fun _ => none))))) : jv_C)]).length - n0 ≤ R.cells) (hR2 : sn_z (h ++ [.inl (tc, n.toNatClampNeg, .inr (.inr (.inr (.inr (fun _ => none)))))]) - z0 ≤ R.slots)
    (K : sn_W G n0 z0 nL p l e R s m args below meth c Q (pc + 3, lc, .ref h.length :: r, h ++ [.inl (tc, n.toNatClampNeg, .inr (.inr (.inr (.inr (fun _ => none)))))])) : sn_W G n0 z0 nL p l e R s m args below meth c Q (pc, lc, .int n :: r, h) := by
  intro ls H locs hL hP hS
  obtain ⟨own', C, g1, g2, g3, g4⟩ := hAN _ (jv_find_mem h1)
  dsimp only at g1 g2 g3 g4
  cases ho.symm.trans g1
  have hK0 := hK
  obtain ⟨hK1, hK2, hK3, hK4, hK5, hK6, hK7⟩ := hK
  rw [List.length_append, List.length_singleton] at hR1
  rw [sn_z_push] at hR2
  have hR2' : sn_z h + n.toNatClampNeg - z0 ≤ R.slots := hR2
  have hle : n.toNatClampNeg ≤ 100000 := by omega
  change W p l e R s m args below meth c H locs (h.length - n0) (sn_z h - z0) Q (F0 m pc ls (.int n :: r.map (sn_v (gO G))))
  have hover : (Cond.arrayOver (.object C)).before args s = true := (hK7 _ g4 : va_AO C s)
  refine W.anew hx hb hown (hts _ g3) hover rfl hd rfl (fun q => h0 (Or.inl q)) (by omega) (by omega) (by omega) fun cA kA comp k1 k2 k3 k4 => ?_
  have hra := (hK1.2 tc _ (sn_t_at g2)).2
  obtain ⟨kA', comp', q1, q2, q3, q4⟩ := hra
  have hcA : gA G tc = cA := Option.some.inj (q4.symm.trans k1)
  refine sn_alloc (c' := .inl (tc, n.toNatClampNeg, .inr (.inr (.inr (.inr (fun _ => none)))))) (tc := tc) (ty := .object C) hK0 hn hz rfl rfl hL hP hS ?_ (by simp) (fun q hq => by rw [Array.getElem?_push, if_neg (Nat.ne_of_lt hq)]) K
  show (H.push _)[H.size]? = some (vp_cell (gA G tc) _)
  rw [hcA]
  simp only [Array.getElem?_push_size]
  rw [arrV_new]
  rfl
end
