/-! soundness: calls -/
def sn_VOK : Prop := ∀ e ∈ jt_V, ∀ q ∈ e.2.2.2, ∃ (own C : String) (T : u_T) (N : Nat) (r : jv_M), jt_R[e.1]? = some own ∧ jt_cl[q.1]? = some (C, T, N) ∧ jt_M[q.2]? = some r ∧ r.2.2.2.1 ≤ 45 ∧ sn_LV own e.2.1 e.2.2.1 C r
def sn_SOK : Prop := ∀ o idx n y : Nat, (o, idx, n, some y) ∈ jt_S → ∃ (own : String) (r : jv_M), jt_R[o]? = some own ∧ jt_M[y]? = some r ∧ r.2.2.2.1 ≤ 45 ∧ sn_LS own idx n r
def sn_POK : Prop := ∀ o idx n y : Nat, (o, idx, n, some y) ∈ jt_P → ∃ (own : String) (r : jv_M), jt_R[o]? = some own ∧ jt_M[y]? = some r ∧ r.2.2.2.1 ≤ 45 ∧ ((jt_SU.contains y = true ∧ sn_LU own idx n r) ∨ (jt_SU.contains y = false ∧ sn_LP own idx n r))
theorem sn_st {ao : Nat → Option Nat} {n : Nat} {st : List Value} : st.map (sn_v ao) = ((jv_args n st).map (sn_v ao)).reverse ++ (st.drop n).map (sn_v ao) := by
  unfold jv_args
  rw [List.map_reverse, List.reverse_reverse, ← List.map_append, List.take_append_drop]
theorem sn_args_len {ao : Nat → Option Nat} {n : Nat} {st : List Value} (h : n ≤ st.length) : ((jv_args n st).map (sn_v ao)).length = n := by
  unfold jv_args
  rw [List.length_map, List.length_reverse, List.length_take]
  omega
section
variable {G : sn_G} {n0 z0 nL : Nat} {p : Program} {l : Launch} {e : Env} {R : Room} {s : State} {m : MethodId} {args : Array Value} {below : List Frame} {meth : Method} {c : Code} {Q : State → Prop}
variable {cc : ByteArray} {pc : Nat} {lc : jv_L} {st : List Value} {h : jv_H} {cf : Nat × jv_L × List Value × jv_H}
theorem sn_pre {as : List Value} {H : Heap} {b : Nat} {As : List Value} (hK : sn_K G s) (hP : sn_P G h H) (hA : as.map (sn_v (gO G)) = As) : ∀ U : State, U.heap = H → s.WarmedH U.vm → sn_Pc G as h As.toArray U := fun U hU hW => ⟨by rw [hA], by rw [hU]; exact hP, hK.warm hW⟩
theorem sn_call {mi len d y : Nat} {i : Instr} {own : String} {as rest : List Value} {q : jv_R} (hx : p.tables.exec = Jvm.exec) (hb : c.code = cc) (hml : c.maxLocals = nL) (hts : ∀ w ∈ lw_all, w.before args s = true) (hC : sn_COK) (hV : sn_VOK) (hSO : sn_SOK) (hPO : sn_POK) (hown : s.vm.findClass own = some m.cls) (ho : jt_R[jv_own mi]? = some own) (hK : sn_K G s) (hfr : d + 2 ≤ R.frames) (hlo : 64 * (d + 2) ≤ R.locals) (hn : n0 ≤ h.length) (hz : z0 ≤ sn_z h)
    (hd : decode cc pc = .ok (i, len)) (ha : jv_act mi pc len i lc st h = some (.inr (.inl (y, as, rest)))) (hg : sn_gr h q.2) (hR1 : q.2.length - n0 ≤ R.cells) (hR2 : sn_z q.2 - z0 ≤ R.slots) (hM : sn_Met G l d y as h q) {ls : Array Slot} {H : Heap} {locs : List Loc} (hL : sn_L (gO G) lc ls nL) (hP : sn_P G h H) :
    ∃ a, jx_Run p l e R s m args below meth c H locs (h.length - n0) (sn_z h - z0) (q.2.length - h.length) (sn_z q.2 - sn_z h) (F0 m pc ls (st.map (sn_v (gO G)))) (rest.map (sn_v (gO G))) (sn_Qc G q a) (sn_XC G q) (fun q => gB G ≤ q) := by
  have hroom : h.length - n0 + (q.2.length - h.length) ≤ R.cells ∧ sn_z h - z0 + (sn_z q.2 - sn_z h) ≤ R.slots := by
    have := hg.1
    have := hg.2
    omega
  have hS9 : CallFix p m c cc nL s args lw_all own := ⟨hx, hb, hml, hown, hts⟩
  by_cases h1 : ∃ idx, i = .invokevirtual idx
  · obtain ⟨idx, rfl⟩ := h1
    unfold jv_act at ha
    split at ha <;> first | (rename_i hq; cases hq; done) | skip
    next idx' hii =>
      cases hii
      obtain ⟨⟨n, V⟩, he, ha⟩ := Option.bind_eq_some_iff.mp ha
      obtain ⟨⟨b, r0⟩, hrv, ha⟩ := Option.bind_eq_some_iff.mp ha
      obtain ⟨y', hrc, ha⟩ := Option.bind_eq_some_iff.mp ha
      dsimp only at hrv hrc ha
      split at ha
      next hlen =>
        unfold jv_call at ha
        split at ha
        next h4 =>
          cases ha
          have hdrop : st.drop n = .ref b :: rest := by
            unfold jv_rv at hrv
            split at hrv
            next b' r' hq => cases hrv; exact hq
            next => cases hrv
          unfold jv_rc at hrc
          split at hrc
          next ci fs hcell =>
            obtain ⟨own', C, T, N, r, g1, g2, g3, g4, g5⟩ := hV _ (jv_find_mem he) (ci, y) (sn_lookup hrc)
            dsimp only at g1 g2 g3 g5
            cases ho.symm.trans g1
            have hcls : jv_cls h b = some ci := by unfold jv_cls; rw [hcell]
            obtain ⟨ad, cell, q1, q2, q3, q4⟩ := sn_obj hts hC hK hP g2 hcls
            have hst : st.map (sn_v (gO G)) = ((jv_args n st).map (sn_v (gO G))).reverse ++ .ref ad :: rest.map (sn_v (gO G)) := by
              rw [sn_st (n := n), hdrop]
              show _ ++ (va_rf (gO G b) :: _) = _
              rw [q1]
              rfl
            refine ⟨_, g5 p l e R s m args below meth c H locs _ _ _ _ nL cc _ _ _ _ _ ad ((jv_args n st).map (sn_v (gO G))) _ _ hK.2.2.2.2.2.2 hS9 (hM r g3) rfl rfl ⟨hfr, ?_⟩ ⟨sn_blind, ⟨cell, q2, q3, q4⟩, sn_pre (b := ad) hK hP (by show va_rf (gO G b) :: _ = _; rw [q1]; rfl)⟩ rfl (sn_args_len hlen) hL.2.1 hst (by have := sn_cat8s (ao := gO G) h4; show 2 * 0 + _ ≤ 8; omega) hd hroom⟩
            show 8 + (r.2.2.2.1 + 11) + 64 * (d + 1) ≤ _
            omega
          next => cases hrc
        next => cases ha
      next => cases ha
    next => cases ha
  by_cases h2 : ∃ idx, i = .invokestatic idx
  · obtain ⟨idx, rfl⟩ := h2
    unfold jv_act at ha
    split at ha <;> first | (rename_i hq; cases hq; done) | skip
    next idx' hii =>
      cases hii
      obtain ⟨⟨n, yo⟩, he, ha⟩ := Option.bind_eq_some_iff.mp ha
      dsimp only at ha
      cases yo with
      | none =>
        dsimp only at ha
        split at ha
        · split at ha
          · obtain ⟨z, -, ha⟩ := Option.bind_eq_some_iff.mp ha
            cases ha
          · cases ha
        · cases ha
      | some y' =>
        dsimp only at ha
        split at ha
        next hlen =>
          unfold jv_call at ha
          split at ha
          next h4 =>
            cases ha
            obtain ⟨own', r, g1, g3, g4, g5⟩ := hSO _ _ _ _ (jv_find_mem he)
            cases ho.symm.trans g1
            refine ⟨_, g5 p l e R s m args below meth c H locs _ _ _ _ nL cc _ _ _ _ _ ((jv_args n st).map (sn_v (gO G))) _ _ hK.2.2.2.2.2.2 hS9 (hM r g3) rfl rfl ⟨hfr, ?_⟩ ⟨sn_blind, sn_pre (b := 0) hK hP rfl⟩ rfl (sn_args_len hlen) hL.2.1 sn_st (by have := sn_cat8s (ao := gO G) h4; show 2 * 0 + _ ≤ 8; omega) hd hroom⟩
            show 8 + (r.2.2.2.1 + 11) + 64 * (d + 1) ≤ _
            omega
          next => cases ha
        next => cases ha
    next => cases ha
  by_cases h3 : ∃ idx, i = .invokespecial idx
  · obtain ⟨idx, rfl⟩ := h3
    unfold jv_act at ha
    split at ha <;> first | (rename_i hq; cases hq; done) | skip
    next idx' hii =>
      cases hii
      obtain ⟨⟨n, yo⟩, he, ha⟩ := Option.bind_eq_some_iff.mp ha
      dsimp only at ha
      cases yo with
      | none =>
        dsimp only at ha
        split at ha
        · split at ha
          · cases ha
          · cases ha
        · cases ha
      | some y' =>
        dsimp only at ha
        obtain ⟨⟨b, r0⟩, hrv, ha⟩ := Option.bind_eq_some_iff.mp ha
        dsimp only at hrv ha
        split at ha
        next hlen =>
          obtain ⟨hlen, hoff, hsu⟩ := hlen
          unfold jv_call at ha
          split at ha
          next h4 =>
            cases ha
            have hdrop : st.drop n = .ref b :: rest := by
              unfold jv_rv at hrv
              split at hrv
              next b' r' hq => cases hrv; exact hq
              next => cases hrv
            obtain ⟨own', r, g1, g3, g4, g5⟩ := hPO _ _ _ _ (jv_find_mem he)
            cases ho.symm.trans g1
            have q1 := hK.2.1 b hoff
            have hst : st.map (sn_v (gO G)) = ((jv_args n st).map (sn_v (gO G))).reverse ++ .ref (gB G + (b - jt_off)) :: rest.map (sn_v (gO G)) := by
              rw [sn_st (n := n), hdrop]
              show _ ++ (va_rf (gO G b) :: _) = _
              rw [q1]
              rfl
            have hpre : ∀ U : State, U.heap = H → s.WarmedH U.vm → sn_Pc G (.ref b :: jv_args n st) h (Value.ref (gB G + (b - jt_off)) :: (jv_args n st).map (sn_v (gO G))).toArray U := sn_pre (b := b) hK hP (by show va_rf (gO G b) :: _ = _; rw [q1]; rfl)
            rcases g5 with ⟨hc, g5⟩ | ⟨hc, g5⟩
            · have hcl : jv_cls h b = some 20 := by
                rcases hsu with hsu | hsu
                · rw [hc] at hsu; cases hsu
                · exact hsu
              obtain ⟨ad, cell, w1, w2, w3, w4⟩ := sn_obj hts hC hK hP (ci := 20) rfl hcl
              cases q1.symm.trans w1
              refine ⟨_, g5 p l e R s m args below meth c H locs _ _ _ _ nL cc _ _ _ _ _ _ _ _ ((jv_args n st).map (sn_v (gO G))) _ _ (hK.1.1 20 _ rfl).2 hS9 (hM r g3) rfl rfl ⟨hfr, ?_⟩ ⟨sn_blind, ⟨cell, w2, w3, w4⟩, hpre⟩ rfl (sn_args_len hlen) hL.2.1 hst (by have := sn_cat8s (ao := gO G) h4; show 2 * 0 + _ ≤ 8; omega) hd hroom⟩
              show 8 + (r.2.2.2.1 + 11) + 64 * (d + 1) ≤ _
              omega
            · refine ⟨_, g5 p l e R s m args below meth c H locs _ _ _ _ nL cc _ _ _ _ _ (gB G + (b - jt_off)) ((jv_args n st).map (sn_v (gO G))) _ _ hK.2.2.2.2.2.2 hS9 (hM r g3) rfl rfl ⟨hfr, ?_⟩ ⟨sn_blind, hpre⟩ rfl (sn_args_len hlen) hL.2.1 hst (by have := sn_cat8s (ao := gO G) h4; show 2 * 0 + _ ≤ 8; omega) hd hroom⟩
              show 8 + (r.2.2.2.1 + 11) + 64 * (d + 1) ≤ _
              omega
          next => cases ha
        next => cases ha
    next => cases ha
  have hno : i = .ireturn ∨ i = .lreturn ∨ i = .areturn ∨ i = .return_ ∨ i = .athrow := by
    by_cases k4 : i = .ireturn
    · exact Or.inl k4
    by_cases k5 : i = .lreturn
    · exact Or.inr (Or.inl k5)
    by_cases k6 : i = .areturn
    · exact Or.inr (Or.inr (Or.inl k6))
    by_cases k7 : i = .return_
    · exact Or.inr (Or.inr (Or.inr (Or.inl k7)))
    by_cases k8 : i = .athrow
    · exact Or.inr (Or.inr (Or.inr (Or.inr k8)))
    have := jn_act (mi := mi) (pc := pc) (len := len) (i := i) (lc := lc) (st := st) (h := h) (fun idx z => h1 ⟨idx, z⟩) (fun idx z => h2 ⟨idx, z⟩) (fun idx z => h3 ⟨idx, z⟩) k4 k5 k6 k7 k8
    rw [ha] at this
    exact this.elim
  rcases hno with rfl | rfl | rfl | rfl | rfl
  · unfold jv_act at ha
    split at ha <;> first | (rename_i hq; cases hq; done) | skip
    · split at ha
      · obtain ⟨_, -, ha⟩ := Option.bind_eq_some_iff.mp ha
        split at ha
        · cases ha
        · cases ha
      · cases ha
    · cases ha
  · unfold jv_act at ha
    split at ha <;> first | (rename_i hq; cases hq; done) | skip
    · split at ha
      · split at ha
        · cases ha
        · cases ha
      · cases ha
    · cases ha
  · unfold jv_act at ha
    split at ha <;> first | (rename_i hq; cases hq; done) | skip
    · split at ha
      · obtain ⟨_, -, ha⟩ := Option.bind_eq_some_iff.mp ha
        split at ha
        · cases ha
        · cases ha
      · cases ha
    · cases ha
  · unfold jv_act at ha
    split at ha <;> first | (rename_i hq; cases hq; done) | skip
    · split at ha
      · split at ha
        · cases ha
        · cases ha
      · cases ha
    · cases ha
  · unfold jv_act at ha
    split at ha <;> first | (rename_i hq; cases hq; done) | skip
    · split at ha
      · obtain ⟨_, -, ha⟩ := Option.bind_eq_some_iff.mp ha
        split at ha
        · cases ha
        · cases ha
      · cases ha
    · cases ha
/-- behind a call -/
theorem sn_after {res : jv_R} {a : Array Value} {rest0 st0 : List Value} {mc ms : Nat} {ls : Array Slot} {H : Heap} {locs : List Loc} (hr : jx_Run p l e R s m args below meth c H locs (h.length - n0) (sn_z h - z0) mc ms (F0 m pc ls st0) rest0 (sn_Qc G res a) (sn_XC G res) (fun q => gB G ≤ q)) (hP : sn_P G h H) (hS : va_S (fun q => gB G ≤ q) s.heap H locs) (hg : sn_gr h res.2)
    (kk : ∀ v, res.1 = .inl v → ∀ (H1 : Heap) (locs1 : List Loc), sn_P G res.2 H1 → va_S (fun q => gB G ≤ q) s.heap H1 locs1 → W p l e R s m args below meth c H1 locs1 (h.length - n0 + mc) (sn_z h - z0 + ms) Q (F0 m (pc + 3) ls ((v.map (sn_v (gO G))).toList ++ rest0)))
    (kx : ∀ (r q : Nat) (ce : Cell), res.1 = .inr r → gO G r = some q → ∀ (H1 : Heap) (locs1 : List Loc), sn_P G res.2 H1 → va_S (fun q => gB G ≤ q) s.heap H1 locs1 → H1[q]? = some ce → ce.vm = .none → s.vm.findClass RX1 = some ce.cls → jx_W p l e R s m args below meth c H1 locs1 (h.length - n0 + mc) (sn_z h - z0 + ms) Q (F0 m pc ls rest0) q) :
    W p l e R s m args below meth c H locs (h.length - n0) (sn_z h - z0) Q (F0 m pc ls st0) := by
  have hSn : ∀ (H1 : Heap) (L : List Loc), sn_P G res.2 H1 → (∀ q ∈ L, gB G ≤ q.base) → va_S (fun q => gB G ≤ q) s.heap H1 (locs ++ L) := by
    intro H1 L hP1 hL
    refine ⟨Nat.le_trans hS.1 ?_, fun q h1 h2 => ?_, fun q hq => ?_⟩
    · have a1 := hP.2.1
      have a2 := hP1.2.1
      have a3 := hg.1
      rw [a1, a2]
      omega
    · have hq : q < gB G := Nat.not_le.mp h2
      rw [hP1.2.2.2.2 q hq, ← hP.2.2.2.2 q hq]
      exact hS.2.1 q h1 h2
    · rcases List.mem_append.mp hq with h1 | h1
      · exact hS.2.2 q h1
      · exact hL q h1
  intro T hT X
  rcases hr T hT X with ⟨v, st₀, t, T', L, h0, X', hL, e1, e2, ⟨v', hv1, hv2, hPn⟩, st⟩ | ⟨q, st₀, t, T', L, E, ce, h0, X', hL, e1, e2, ⟨r, hr1, hr2, rfl, hPn⟩, hce, hcv, hcl, st⟩
  · cases hv2
    rw [← e1] at hPn
    obtain ⟨t2, a1, b1⟩ := kk v' hv1 T'.heap (locs ++ L) hPn (hSn _ _ hPn hL) T' rfl X'
    exact ⟨t2, st t2 a1, b1⟩
  · rw [← e1] at hPn
    obtain ⟨t2, a1, b1⟩ := kx r q ce hr1 hr2 T'.heap (locs ++ L) hPn (hSn _ _ hPn hL) (by rw [e1]; exact hce) hcv hcl T' rfl X'
    exact ⟨t2, st.trans a1, b1⟩
/-- the whole run of a body -/
theorem sn_body {d mi : Nat} {r : jv_M} {own : String} {res : jv_R} (hx : p.tables.exec = Jvm.exec) (hb : c.code = cc) (hml : c.maxLocals = nL) (hts : ∀ w ∈ lw_all, w.before args s = true) (hT : sn_TOK) (hV : sn_VOK) (hSO : sn_SOK) (hPO : sn_POK) (hrow : jt_M[mi]? = some r) (hcc : r.2.2.1 = cc) (hown : s.vm.findClass own = some m.cls) (ho : jt_R[jv_own mi]? = some own) (hin : jv_init mi = true → meth.name = "<init>") (hK : sn_K G s) (hfr : d + 1 ≤ R.frames) (hlo : 64 * (d + 1) ≤ R.locals)
    (hIH : ∀ y as h q, jv_cd d y as h = some q → ∃ d', d = d' + 1 ∧ sn_Met G l d' y as h q) (hRc : res.2.length - n0 ≤ R.cells) (hRs : sn_z res.2 - z0 ≤ R.slots)
    (hdone : ∀ (pc : Nat) (lc : jv_L) (st : List Value) (h : jv_H) (i : Instr) (len : Nat), decode cc pc = .ok (i, len) → jv_act mi pc len i lc st h = some (.inr (.inr res)) → sn_W G n0 z0 nL p l e R s m args below meth c Q (pc, lc, st, h))
    (hthr : ∀ (pc : Nat) (ls : Array Slot) (H : Heap) (locs : List Loc) (x q : Nat) (ce : Cell) (rest : List Value), jv_catch mi pc = none → res.1 = .inr x → gO G x = some q → sn_P G res.2 H → va_S (fun q => gB G ≤ q) s.heap H locs → H[q]? = some ce → ce.vm = .none → s.vm.findClass RX1 = some ce.cls → jx_W p l e R s m args below meth c H locs (res.2.length - n0) (sn_z res.2 - z0) Q (F0 m pc ls rest) q)
    (hcat : ∀ (pc hp : Nat) (ls : Array Slot) (H : Heap) (locs : List Loc) (q : Nat) (ce : Cell) (rest : List Value) (cells slots : Nat), jv_catch mi pc = some hp → H[q]? = some ce → ce.vm = .none → s.vm.findClass RX1 = some ce.cls → W p l e R s m args below meth c H locs cells slots Q (F0 m hp ls [.ref q]) → jx_W p l e R s m args below meth c H locs cells slots Q (F0 m pc ls rest) q) :
    ∀ (F pc : Nat) (lc : jv_L) (st : List Value) (h : jv_H), jv_run (jv_cd d) mi F pc lc st h = some res → n0 ≤ h.length → z0 ≤ sn_z h → sn_W G n0 z0 nL p l e R s m args below meth c Q (pc, lc, st, h) := by
  intro F
  induction F with
  | zero => intro pc lc st h ee; cases ee
  | succ F ih =>
    intro pc lc st h ee hn hz
    change jv_body (jv_cd d) mi (jv_run (jv_cd d) mi F) pc lc st h = some res at ee
    unfold jv_body at ee
    cases hs : jv_step mi pc lc st h with
    | none => rw [hs] at ee; cases ee
    | some a =>
      rw [hs] at ee
      have hs' := hs
      unfold jv_step at hs'
      cases hins : jv_ins mi pc with
      | none => rw [hins] at hs'; cases hs'
      | some il =>
        rw [hins] at hs'
        obtain ⟨i, len⟩ := il
        change jv_act mi pc len i lc st h = some a at hs'
        have hd : decode cc pc = .ok (i, len) := by
          unfold jv_ins at hins
          rw [hrow] at hins
          dsimp only at hins
          rw [hcc] at hins
          split at hins
          next i' hq => cases hins; exact hq
          next => cases hins
        match a, hs', ee with
        | .inl cf, hs', ee =>
          have hg1 := jg_act hs'
          have hg2 := jg_run (jg_cd d) _ _ _ _ _ _ ee
          have hA := hg2.1
          have hB := hg2.2
          have hC := hg1.1
          have hD := hg1.2
          exact sn_next hx hb hml hts hT hown ho hin hK (by omega) (by omega) hn hz hd hs' (by omega) (by omega) (ih _ _ _ _ ee (Nat.le_trans hn hC) (Nat.le_trans hz hD))
        | .inr (.inl (y, as, rest)), hs', ee =>
          dsimp only at ee
          cases hc : jv_cd d y as h with
          | none => rw [hc] at ee; cases ee
          | some q =>
            rw [hc] at ee
            obtain ⟨d', rfl, hM⟩ := hIH _ _ _ _ hc
            have hg1 := jg_cd _ _ _ _ _ hc
            have hg2 : sn_gr q.2 res.2 := by
              obtain ⟨o, h'⟩ := q
              cases o with
              | inl v => exact jg_run (jg_cd _) _ _ _ _ _ _ ee
              | inr x =>
                change (match jv_catch mi pc with | none => some (.inr x, h') | some hp => jv_run (jv_cd (d' + 1)) mi F hp lc [.ref x] h') = some res at ee
                cases hk : jv_catch mi pc with
                | none => rw [hk] at ee; cases ee; exact sn_gr.rf
                | some hp => rw [hk] at ee; exact jg_run (jg_cd _) _ _ _ _ _ _ ee
            have hA := hg2.1
            have hB := hg2.2
            have hC := hg1.1
            have hD := hg1.2
            intro ls H locs hL hP hS
            obtain ⟨a9, hrun⟩ := sn_call hx hb hml hts hT.2.1 hV hSO hPO hown ho hK hfr hlo hn hz hd hs' hg1 (by omega) (by omega) hM hL hP (locs := locs)
            have ec : h.length - n0 + (q.2.length - h.length) = q.2.length - n0 := by omega
            have ez : sn_z h - z0 + (sn_z q.2 - sn_z h) = sn_z q.2 - z0 := by omega
            refine sn_after hrun hP hS hg1 (fun v hv H1 locs1 hP1 hS1 => ?_) (fun x qa ce hr1 hr2 H1 locs1 hP1 hS1 hce hcv hcl => ?_)
            · obtain ⟨o, h'⟩ := q
              dsimp only at hv
              subst hv
              rw [ec, ez]
              have := ih (pc + 3) lc (v.toList ++ rest) h' ee (Nat.le_trans hn hC) (Nat.le_trans hz hD) ls H1 locs1 hL hP1 hS1
              dsimp only at this
              rw [List.map_append] at this
              cases v with
              | none => exact this
              | some v => exact this
            · obtain ⟨o, h'⟩ := q
              dsimp only at hr1
              subst hr1
              rw [ec, ez]
              change (match jv_catch mi pc with | none => some (.inr x, h') | some hp => jv_run (jv_cd (d' + 1)) mi F hp lc [.ref x] h') = some res at ee
              cases hk : jv_catch mi pc with
              | none =>
                rw [hk] at ee
                cases ee
                exact hthr pc ls H1 locs1 x qa ce _ hk rfl hr2 hP1 hS1 hce hcv hcl
              | some hp =>
                rw [hk] at ee
                refine hcat pc hp ls H1 locs1 qa ce _ _ _ hk hce hcv hcl ?_
                have := ih hp lc [.ref x] h' ee (Nat.le_trans hn hC) (Nat.le_trans hz hD) ls H1 locs1 hL hP1 hS1
                dsimp only at this
                change W p l e R s m args below meth c H1 locs1 _ _ Q (F0 m hp ls [va_rf (gO G x)]) at this
                rw [hr2] at this
                exact this
        | .inr (.inr q), hs', ee =>
          cases ee
          exact hdone pc lc st h i len hd hs'
end
