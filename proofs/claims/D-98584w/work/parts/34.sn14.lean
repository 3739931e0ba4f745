/-! soundness: every method's contract -/
theorem jv_own_of {mi : Nat} {r : jv_M} (h : jt_M[mi]? = some r) : jv_own mi = r.1 := by unfold jv_own; rw [h]
theorem jv_ret_of {mi : Nat} {r : jv_M} (h : jt_M[mi]? = some r) : jv_ret mi = r.2.2.2.2.1 := by unfold jv_ret; rw [h]
theorem jv_hh_of {mi : Nat} {r : jv_M} (h : jt_M[mi]? = some r) : jv_hh mi = r.2.2.2.2.2 := by unfold jv_hh; rw [h]
theorem jv_ml_of {mi : Nat} {r : jv_M} (h : jt_M[mi]? = some r) : jv_ml mi = r.2.2.2.1 := by unfold jv_ml; rw [h]
theorem jv_init_of {mi : Nat} {r : jv_M} (h : jt_M[mi]? = some r) (hi : jv_init mi = true) : r.2.1.name = "<init>" := by
  unfold jv_init at hi
  rw [h] at hi
  simpa using hi
set_option maxHeartbeats 1000000 in
theorem sn_sound1 {G : sn_G} {l : Launch} {d : Nat} (hT : sn_TOK) (hV : sn_VOK) (hSO : sn_SOK) (hPO : sn_POK) (hMO : sn_MOK) (hIH : ∀ y as h q, jv_cd d y as h = some q → ∃ d', d = d' + 1 ∧ sn_Met G l d' y as h q) {mi : Nat} {as : List Value} {h : jv_H} {res : jv_R} (hcd : jv_cd (d + 1) mi as h = some res) : sn_Met G l d mi as h res := by
  intro r hrow
  obtain ⟨own, g1, g2, g3, g4⟩ := hMO mi r hrow
  rw [jv_cd_succ] at hcd
  split at hcd
  next hen =>
    rw [jv_ev_iff] at hcd
    obtain ⟨F, hF⟩ := hcd
    rw [jv_ml_of hrow] at hen
    have body : ∀ (p : Program) (e : Env) (s : State) (m : MethodId) (args : Array Value) (below : List Frame) (meth : Method) (c : Code), p.tables.exec = Jvm.exec → c.code = r.2.2.1 → c.maxLocals = r.2.2.2.1 → (∀ w ∈ lw_all, w.before args s = true) → s.vm.findClass r.2.1.cls = some m.cls → meth.name = r.2.1.name → meth.sig.returnType = r.2.2.2.2.1 → meth.locks = false → (r.2.2.2.2.2 = [] → ∀ x ∈ c.exceptionTable.toList, False) → (∀ x, r.2.2.2.2.2 = [x] → c.exceptionTable.toList = tableOf [x]) → sn_Pc G as h args s →
        W p l e (sn_rm d (res.2.length - h.length) (sn_z res.2 - sn_z h)) s m args below meth c s.heap [] 0 0 (jx_MQ below (sn_Qc G res) (sn_XC G res) args s (res.2.length - h.length) (sn_z res.2 - sn_z h) (fun q => gB G ≤ q)) (entryFrame m args r.2.2.2.1) := by
      intro p e s m args below meth c hx hb hml hts hown hnm hr hlocks ht1 ht2 hPc
      obtain ⟨rfl, hP, hK⟩ := hPc
      have hS : va_S (fun q => gB G ≤ q) s.heap s.heap [] := va_S.rf
      rw [g2] at hown
      have hthr : ∀ (pc : Nat) (ls : Array Slot) (H : Heap) (locs : List Loc) (x q : Nat) (ce : Cell) (rest : List Value), jv_catch mi pc = none → res.1 = .inr x → gO G x = some q → sn_P G res.2 H → va_S (fun q => gB G ≤ q) s.heap H locs → H[q]? = some ce → ce.vm = .none → s.vm.findClass RX1 = some ce.cls → jx_W p l e (sn_rm d (res.2.length - h.length) (sn_z res.2 - sn_z h)) s m (as.map (sn_v (gO G))).toArray below meth c H locs (res.2.length - h.length) (sn_z res.2 - sn_z h) (jx_MQ below (sn_Qc G res) (sn_XC G res) (as.map (sn_v (gO G))).toArray s (res.2.length - h.length) (sn_z res.2 - sn_z h) (fun q => gB G ≤ q)) (F0 m pc ls rest) q := by
        intro pc ls H locs x q ce rest hk hx1 hx2 hPn hSn hce hcv hcl
        refine jx_out (E := RX1) (ce := ce) ?_ hlocks hce hcv hcl (fun t ht hvm => ⟨x, hx1, hx2, rfl, by rw [ht]; exact hPn⟩) hSn.2.2 (Nat.le_refl _) (Nat.le_refl _)
        intro z hz
        rcases g4 with g4 | ⟨y, g4, -⟩
        · exact (ht1 g4 z hz).elim
        · rw [ht2 y g4] at hz
          have hz' : z = ⟨y.1, y.2.1, y.2.2.1, y.2.2.2⟩ := List.mem_singleton.mp hz
          unfold jv_catch at hk
          rw [jv_hh_of hrow, g4] at hk
          dsimp only at hk
          split at hk
          · cases hk
          next hno =>
            rw [hz']
            simp only [covers]
            have h9 : y.1 ≤ pc → y.2.1 ≤ pc := fun ha => Nat.not_lt.mp fun hb => hno ⟨ha, hb⟩
            simpa using h9
      have hcat : ∀ (pc hp : Nat) (ls : Array Slot) (H : Heap) (locs : List Loc) (q : Nat) (ce : Cell) (rest : List Value) (cells slots : Nat), jv_catch mi pc = some hp → H[q]? = some ce → ce.vm = .none → s.vm.findClass RX1 = some ce.cls → W p l e (sn_rm d (res.2.length - h.length) (sn_z res.2 - sn_z h)) s m (as.map (sn_v (gO G))).toArray below meth c H locs cells slots (jx_MQ below (sn_Qc G res) (sn_XC G res) (as.map (sn_v (gO G))).toArray s (res.2.length - h.length) (sn_z res.2 - sn_z h) (fun q => gB G ≤ q)) (F0 m hp ls [.ref q]) → jx_W p l e (sn_rm d (res.2.length - h.length) (sn_z res.2 - sn_z h)) s m (as.map (sn_v (gO G))).toArray below meth c H locs cells slots (jx_MQ below (sn_Qc G res) (sn_XC G res) (as.map (sn_v (gO G))).toArray s (res.2.length - h.length) (sn_z res.2 - sn_z h) (fun q => gB G ≤ q)) (F0 m pc ls rest) q := by
        intro pc hp ls H locs q ce rest cells slots hk hce hcv hcl hw
        unfold jv_catch at hk
        rw [jv_hh_of hrow] at hk
        rcases g4 with g4 | ⟨y, g4, g5, g6, g7⟩
        · rw [g4] at hk; cases hk
        · rw [g4] at hk
          dsimp only at hk
          split at hk
          next hin =>
            cases hk
            refine jx_catch (name := RX1) (E := RX1) hown [] ⟨y.1, y.2.1, y.2.2.1, y.2.2.2⟩ [] (ht2 y g4) (fun z hz => by cases hz) ?_ g5 (hts _ g6) (va_Nw.use rfl (hK.2.2.2.2.2.2 _ g7)) hce hcv hcl hw
            simp only [covers]
            simpa using hin
          · cases hk
      have key := sn_body (n0 := h.length) (z0 := sn_z h) (nL := r.2.2.2.1) (R := sn_rm d (res.2.length - h.length) (sn_z res.2 - sn_z h)) (Q := jx_MQ below (sn_Qc G res) (sn_XC G res) (as.map (sn_v (gO G))).toArray s (res.2.length - h.length) (sn_z res.2 - sn_z h) (fun q => gB G ≤ q)) (p := p) (l := l) (e := e) (m := m) (below := below) (meth := meth) hx hb hml hts hT hV hSO hPO hrow rfl hown (by rw [jv_own_of hrow]; exact g1) (fun q => by rw [hnm]; exact jv_init_of hrow q) hK (Nat.le_refl _) (Nat.le_refl _) hIH (Nat.le_refl _) (Nat.le_refl _)
        (fun pc lc st h' i len hd ha => sn_done hx hb (by rw [hr, jv_ret_of hrow]) hlocks (fun _ q => ht1 (by rw [← jv_hh_of hrow]; exact q)) hK hd ha) hthr hcat F 0 (jv_ent mi as) [] h hF (Nat.le_refl _) (Nat.le_refl _)
      have := key _ s.heap [] (sn_entry (jv_ml_of hrow) hen) hP hS
      rw [lg_entry_eq]
      refine W.cs ?_ ?_ this
      · exact (Nat.sub_self _).symm
      · exact (Nat.sub_self _).symm
    rcases g4 with g4 | ⟨y, g4, -⟩
    · have hws : sn_ws r = ws_ r.2.1 r.2.2.1 r.2.2.2.1 r.2.2.2.2.1 := if_pos g4
      rw [hws]
      refine jx_ofW (cc := r.2.2.1) (maxL := r.2.2.2.1) (ret := r.2.2.2.2.1) g3 rfl ?_
      intro p e s m args below meth c s₁ B hml ht hPc
      have hts := atoms_spec (ws := ws_ r.2.1 r.2.2.1 r.2.2.2.1 r.2.2.2.2.1) B.pre
      exact body p e s m args below meth c B.exec B.bytes hml (fun w hw => hts w (List.mem_cons_of_mem _ hw)) (findClass_of_methodNamed B.named) (name_of_methodNamed B.named B.method).1 B.returns B.notSynchronized (fun _ => ht) (fun x hx => by rw [g4] at hx; cases hx) hPc
    · have hne : r.2.2.2.2.2 ≠ [] := by rw [g4]; exact fun q => by cases q
      have hws : sn_ws r = wsW_ r.2.1 r.2.2.1 r.2.2.2.1 r.2.2.2.2.1 r.2.2.2.2.2 := if_neg hne
      rw [hws]
      refine jx_ofWH (cc := r.2.2.1) (maxL := r.2.2.2.1) (ret := r.2.2.2.2.1) (hh := r.2.2.2.2.2) g3 rfl ?_
      intro p e s m args below meth c s₁ B hml hPc
      have hts := atoms_spec (ws := wsW_ r.2.1 r.2.2.1 r.2.2.2.1 r.2.2.2.2.1 r.2.2.2.2.2) B.pre
      have htab := jx_table (x := r.2.1) B (hts _ List.mem_cons_self)
      exact body p e s m args below meth c B.exec B.bytes hml (fun w hw => hts w (List.mem_cons_of_mem _ hw)) (findClass_of_methodNamed B.named) (name_of_methodNamed B.named B.method).1 B.returns B.notSynchronized (fun q => absurd q hne) (fun x hx => by rw [htab, hx]) hPc
  next => cases hcd
set_option maxHeartbeats 1000000 in
theorem sn_sound {G : sn_G} {l : Launch} (hT : sn_TOK) (hV : sn_VOK) (hSO : sn_SOK) (hPO : sn_POK) (hMO : sn_MOK) : ∀ (d mi : Nat) (as : List Value) (h : jv_H) (res : jv_R), jv_cd (d + 1) mi as h = some res → sn_Met G l d mi as h res := by
  intro d
  induction d with
  | zero =>
    intro mi as h res hcd r hrow
    exact sn_sound1 hT hV hSO hPO hMO (fun y as h q hq => by cases hq) hcd r hrow
  | succ d ih =>
    intro mi as h res hcd r hrow
    exact sn_sound1 hT hV hSO hPO hMO (fun y as h q hq => ⟨d, rfl, ih y as h q hq⟩) hcd r hrow
