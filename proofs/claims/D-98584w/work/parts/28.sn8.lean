/-! soundness: one instruction that goes on in the method -/
theorem sn_inj {B o x y : Nat} (h1 : o ≤ x) (h2 : o ≤ y) (h : B + (x - o) = B + (y - o)) : x = y := by omega
def sn_OBOK : Prop := (∀ (o idx n : Nat), (o, idx, n, (none : Option Nat)) ∈ jt_P → ∃ own : String, jt_R[o]? = some own ∧ Cond.methodLink own idx Lib.objectInit ∈ lw_all) ∧ Cond.instanceMethod Lib.objectInit ∈ lw_all ∧ Cond.code Lib.objectInit ⟨#[0xb1]⟩ 1 none ∈ lw_all
def sn_TOK : Prop := (∀ e ∈ jt_F, sn_FOK e) ∧ sn_COK ∧ sn_NOK ∧ sn_ANOK ∧ sn_ACOK ∧ sn_ASOK ∧ sn_CKOK ∧ sn_KOK ∧ sn_MAOK ∧ sn_SYOK ∧ sn_SYS ∧ sn_OBOK
section
variable {G : sn_G} {n0 z0 nL : Nat} {p : Program} {l : Launch} {e : Env} {R : Room} {s : State} {m : MethodId} {args : Array Value} {below : List Frame} {meth : Method} {c : Code} {Q : State → Prop}
variable {cc : ByteArray} {pc : Nat} {lc : jv_L} {st : List Value} {h : jv_H} {cf : Nat × jv_L × List Value × jv_H}
theorem sn_plain {pc' : Nat} {st' : List Value} (row : ∀ (H : Heap) (locs : List Loc) (cells slots : Nat) (ls : Array Slot), W p l e R s m args below meth c H locs cells slots Q (F0 m pc' ls (st'.map (sn_v (gO G)))) → W p l e R s m args below meth c H locs cells slots Q (F0 m pc ls (st.map (sn_v (gO G))))) (K : sn_W G n0 z0 nL p l e R s m args below meth c Q (pc', lc, st', h)) : sn_W G n0 z0 nL p l e R s m args below meth c Q (pc, lc, st, h) := fun ls H locs hL hP hS => row _ _ _ _ _ (K ls H locs hL hP hS)
theorem sn_cat8 {ao : Nat → Option Nat} {r : List Value} (hr : r.length ≤ 4) : ((r.map (sn_v ao)).map fun v => v.category).sum ≤ 8 := by
  have key : ∀ (l : List Value), (l.map fun v => v.category).sum ≤ 2 * l.length := by
    intro l
    induction l with
    | nil => simp
    | cons v l ih =>
      have := lv_cat v
      simp only [List.map_cons, List.sum_cons, List.length_cons]
      omega
  have := key (r.map (sn_v ao))
  rw [List.length_map] at this
  omega
theorem sn_cat8s {ao : Nat → Option Nat} {r : List Value} (hr : jv_sm r = true) : ((r.map (sn_v ao)).map fun v => v.category).sum ≤ 8 := by
  unfold jv_sm at hr
  rcases (Bool.or_eq_true _ _).mp hr with h | h
  · exact sn_cat8 (of_decide_eq_true h)
  · have h1 := of_decide_eq_true h
    have h2 : ((r.map (sn_v ao)).map fun v => v.category) = r.map fun v => v.category := by
      rw [List.map_map]
      exact List.map_congr_left fun v _ => sn_v_cat
    rw [h2]
    exact h1
theorem sn_obi {o idx n : Nat} {own : String} {r : List Value} {x : Nat} (hx : p.tables.exec = Jvm.exec) (hb : c.code = cc) (hml : c.maxLocals = nL) (hts : ∀ w ∈ lw_all, w.before args s = true) (hown : s.vm.findClass own = some m.cls) (ho : jt_R[o]? = some own) (hK : sn_K G s) (hfr : 1 ≤ R.frames) (hlo : 40 ≤ R.locals) (tOB : sn_OBOK) (hd : decode cc pc = .ok (.invokespecial idx, 3)) (hm : jv_find jt_P o idx = some (n, none)) (hr : r.length ≤ 4 ∧ jt_off ≤ x) (K : sn_W G n0 z0 nL p l e R s m args below meth c Q (pc + 3, lc, r, h)) : sn_W G n0 z0 nL p l e R s m args below meth c Q (pc, lc, .ref x :: r, h) := by
  intro ls H locs hL hP hS
  obtain ⟨own', g1, g2⟩ := tOB.1 _ _ _ (jv_find_mem hm)
  cases ho.symm.trans g1
  show W p l e R s m args below meth c H locs _ _ Q (F0 m pc ls (va_rf (gO G x) :: r.map (sn_v (gO G))))
  rw [hK.2.1 x hr.2]
  have hc8 := sn_cat8 (ao := gO G) hr.1
  refine W.objInit hx hb hown (hts _ g2) (hts _ tOB.2.1) (hts _ tOB.2.2) rfl (by show ls.size = _; rw [hml]; exact hL.2.1) rfl hd hfr (by show 2 * 0 + _ + 12 ≤ _; omega) (K ls H locs hL hP hS)
theorem sn_call_no {y : Nat} {as rest : List Value} (ha : jv_call y as rest = some (.inl cf)) : False := by
  unfold jv_call at ha
  split at ha
  · cases ha
  · cases ha
set_option maxHeartbeats 4000000 in
theorem sn_next {mi len : Nat} {i : Instr} {own : String} (hx : p.tables.exec = Jvm.exec) (hb : c.code = cc) (hml : c.maxLocals = nL) (hts : ∀ w ∈ lw_all, w.before args s = true) (hT : sn_TOK) (hown : s.vm.findClass own = some m.cls) (ho : jt_R[jv_own mi]? = some own) (hin : jv_init mi = true → meth.name = "<init>") (hK : sn_K G s) (hfr : 1 ≤ R.frames) (hlo : 40 ≤ R.locals) (hn : n0 ≤ h.length) (hz : z0 ≤ sn_z h)
    (hd : decode cc pc = .ok (i, len)) (ha : jv_act mi pc len i lc st h = some (.inl cf)) (hR1 : cf.2.2.2.length - n0 ≤ R.cells) (hR2 : sn_z cf.2.2.2 - z0 ≤ R.slots) (K : sn_W G n0 z0 nL p l e R s m args below meth c Q cf) : sn_W G n0 z0 nL p l e R s m args below meth c Q (pc, lc, st, h) := by
  obtain ⟨tF, tC, tN, tAN, tAC, tAS, tCK, tK, tMA, tSY, tSS, tOB⟩ := hT
  unfold jv_act at ha
  split at ha
  · obtain rfl := sn_nx ha; exact sn_plain (fun _ _ _ _ _ k => lv_iconst hx hb hd rfl k) K
  · obtain rfl := sn_nx ha; exact sn_plain (fun _ _ _ _ _ k => lv_bipush hx hb hd rfl k) K
  · obtain rfl := sn_nx ha; exact sn_plain (fun _ _ _ _ _ k => lv_sipush hx hb hd rfl k) K
  · obtain rfl := sn_nx ha; exact sn_plain (fun _ _ _ _ _ k => lv_lconst hx hb hd rfl k) K
  · obtain rfl := sn_nx ha; exact sn_plain (fun _ _ _ _ _ k => lv_null hx hb hd k) K
  · obtain ⟨v, hv, ha⟩ := Option.bind_eq_some_iff.mp ha
    split at ha
    next hc =>
      obtain rfl := sn_nx ha
      exact sn_ldc hx hb hts tK hown ho hK hd hv (fun x q => by rw [q] at hc; cases hc) K
    next => cases ha
  · obtain ⟨v, hv, ha⟩ := Option.bind_eq_some_iff.mp ha
    obtain ⟨x, hx', ha⟩ := Option.bind_eq_some_iff.mp ha
    obtain rfl := sn_nx ha
    cases v <;> first | cases hx' | skip
    exact sn_ldcw hx hb hts tK hown ho hd hv K
  · obtain ⟨v, hv, ha⟩ := Option.bind_eq_some_iff.mp ha
    obtain ⟨x, hx', ha⟩ := Option.bind_eq_some_iff.mp ha
    obtain rfl := sn_nx ha
    cases v <;> first | cases hx' | skip
    exact sn_ldc2 hx hb hts tK hown ho hd hv K
  · exact sn_il (fun _ _ _ _ _ _ _ q k => lv_iload_n hx hb hd rfl q k) ha K
  · exact sn_il (fun _ _ _ _ _ _ _ q k => lv_iload hx hb hd q k) ha K
  · exact sn_ll (fun _ _ _ _ _ _ _ q k => lv_lload_n hx hb hd rfl q k) ha K
  · exact sn_ll (fun _ _ _ _ _ _ _ q k => lv_lload hx hb hd q k) ha K
  · exact sn_aL (fun _ _ _ _ _ _ _ q k => lv_aload_n hx hb hd rfl q k) (fun _ _ _ _ _ _ q k => lv_aload_nN hx hb hd rfl q k) ha K
  · exact sn_aL (fun _ _ _ _ _ _ _ q k => lv_aload hx hb hd q k) (fun _ _ _ _ _ _ q k => lv_aloadN hx hb hd q k) ha K
  · exact sn_is (fun _ _ _ _ _ _ _ _ q1 q2 k => lv_istore_n hx hb hd rfl q1 q2 rfl k) ha K
  · exact sn_is (fun _ _ _ _ _ _ _ _ q1 q2 k => lv_istore hx hb hd q1 q2 rfl k) ha K
  · exact sn_ls (fun _ _ _ _ _ _ _ _ q1 q2 k => lv_lstore_n hx hb hd rfl q1 q2 rfl k) ha K
  · exact sn_ls (fun _ _ _ _ _ _ _ _ q1 q2 k => lv_lstore hx hb hd q1 q2 rfl k) ha K
  · exact sn_aS (fun _ _ _ _ _ _ _ _ q1 q2 k => lv_astore_n hx hb hd rfl q1 q2 rfl k) (fun _ _ _ _ _ _ _ q1 q2 k => lv_astore_nN hx hb hd rfl q1 q2 rfl k) ha K
  · exact sn_aS (fun _ _ _ _ _ _ _ _ q1 q2 k => lv_astore hx hb hd q1 q2 rfl k) (fun _ _ _ _ _ _ _ q1 q2 k => lv_astoreN hx hb hd q1 q2 rfl k) ha K
  · split at ha
    next x hx' =>
      obtain rfl := sn_nx ha
      intro ls H locs hL hP hS
      have hk := (List.getElem?_eq_some_iff.mp hx').1
      obtain ⟨k9, hk9⟩ := List.getElem?_of_mem (sn_al_mem.mpr ⟨_, hx', Or.inl rfl, rfl⟩)
      exact lv_iinc hx hb hd hL.2 hk9 rfl (hL.1 ▸ hk) rfl (fun ls' h' => K ls' H locs (hL.st1 hk h') hP hS)
    next => cases ha
  · exact sn_i2 (fun _ _ _ _ _ _ _ _ k => lv_iadd hx hb hd k) ha K
  · exact sn_i2 (fun _ _ _ _ _ _ _ _ k => lv_isub hx hb hd k) ha K
  · exact sn_i2 (fun _ _ _ _ _ _ _ _ k => lv_imul hx hb hd k) ha K
  · exact sn_i2 (fun _ _ _ _ _ _ _ _ k => lv_iand hx hb hd k) ha K
  · exact sn_i2 (fun _ _ _ _ _ _ _ _ k => lv_ior hx hb hd k) ha K
  · exact sn_i2 (fun _ _ _ _ _ _ _ _ k => lv_ixor hx hb hd k) ha K
  · exact sn_i2 (fun _ _ _ _ _ _ _ _ k => lv_ishl hx hb hd k) ha K
  · exact sn_i2 (fun _ _ _ _ _ _ _ _ k => lv_ishr hx hb hd k) ha K
  · exact sn_i2 (fun _ _ _ _ _ _ _ _ k => lv_iushr hx hb hd rfl k) ha K
  · exact sn_d2 (fun _ _ _ _ _ _ _ _ q k => lv_idiv hx hb hd q k) ha K
  · exact sn_d2 (fun _ _ _ _ _ _ _ _ q k => lv_irem hx hb hd q k) ha K
  · exact sn_i1 (fun _ _ _ _ _ _ _ k => lv_ineg hx hb hd k) ha K
  · exact sn_i1 (fun _ _ _ _ _ _ _ k => lv_i2b hx hb hd rfl k) ha K
  · exact sn_i1 (fun _ _ _ _ _ _ _ k => lv_i2s hx hb hd rfl k) ha K
  · exact sn_i1 (fun _ _ _ _ _ _ _ k => lv_i2c hx hb hd rfl k) ha K
  · exact sn_l2 (fun _ _ _ _ _ _ _ _ k => lv_ladd hx hb hd k) ha K
  · exact sn_l2 (fun _ _ _ _ _ _ _ _ k => lv_lmul hx hb hd k) ha K
  · exact sn_ld2 (fun _ _ _ _ _ _ _ _ q k => lv_ldiv hx hb hd q k) ha K
  · exact sn_ld2 (fun _ _ _ _ _ _ _ _ q k => lv_lrem hx hb hd q k) ha K
  · split at ha
    next y x r => obtain rfl := sn_nx ha; exact sn_plain (fun _ _ _ _ _ k => W.lcmp hx hb hd k) K
    next => cases ha
  · split at ha
    next x r => obtain rfl := sn_nx ha; exact sn_plain (fun _ _ _ _ _ k => lv_i2l hx hb hd rfl k) K
    next => cases ha
  · split at ha
    next x r => obtain rfl := sn_nx ha; exact sn_plain (fun _ _ _ _ _ k => lv_l2i hx hb hd rfl k) K
    next => cases ha
  · split at ha
    next v r =>
      split at ha
      next hc => obtain rfl := sn_nx ha; exact sn_plain (fun _ _ _ _ _ k => lv_dup hx hb hd (sn_v_cat.trans hc) k) K
      next => cases ha
    next => cases ha
  · split at ha
    next v r =>
      split at ha
      next hc => obtain rfl := sn_nx ha; exact sn_plain (fun _ _ _ _ _ k => lv_pop hx hb hd (sn_v_cat.trans hc) k) K
      next => cases ha
    next => cases ha
  · split at ha
    next v w r =>
      split at ha
      next hc => obtain rfl := sn_nx ha; exact sn_plain (fun _ _ _ _ _ k => lv_dup_x1 hx hb hd (sn_v_cat.trans hc.1) (sn_v_cat.trans hc.2) k) K
      next => cases ha
    next => cases ha
  · split at ha
    next v w r =>
      split at ha
      next hc => obtain rfl := sn_nx ha; exact sn_plain (fun _ _ _ _ _ k => lv_dup2_11 hx hb hd (sn_v_cat.trans hc.1) (sn_v_cat.trans hc.2) k) K
      next => cases ha
    next => cases ha
  · split at ha
    next off h0 =>
      obtain rfl := sn_nx ha
      exact sn_plain (fun _ _ _ _ _ k => lv_goto hx hb hd (by unfold jv_br; omega) k) K
    next => cases ha
  · split at ha
    next x r =>
      split at ha
      · exact sn_if ha K (fun _ _ _ _ _ _ ht kt kf => lv_if_eq hx hb hd ht kt kf)
      · exact sn_if ha K (fun _ _ _ _ _ _ ht kt kf => lv_if_ne hx hb hd ht kt (fun q => kf (fun z => z q)))
      · exact sn_if ha K (fun _ _ _ _ _ _ ht kt kf => lv_if_lt hx hb hd ht kt kf)
      · exact sn_if ha K (fun _ _ _ _ _ _ ht kt kf => lv_if_ge hx hb hd ht kt kf)
      · exact sn_if ha K (fun _ _ _ _ _ _ ht kt kf => lv_if_gt hx hb hd ht kt kf)
      · exact sn_if ha K (fun _ _ _ _ _ _ ht kt kf => lv_if_le hx hb hd ht kt kf)
    next => cases ha
  · split at ha
    next y x r =>
      split at ha
      · exact sn_if ha K (fun _ _ _ _ _ _ ht kt kf => lv_icmp_eq hx hb hd ht kt kf)
      · exact sn_if ha K (fun _ _ _ _ _ _ ht kt kf => lv_icmp_ne hx hb hd ht kt (fun q => kf (fun z => z q)))
      · exact sn_if ha K (fun _ _ _ _ _ _ ht kt kf => lv_icmp_lt hx hb hd ht kt kf)
      · exact sn_if ha K (fun _ _ _ _ _ _ ht kt kf => lv_icmp_ge hx hb hd ht kt kf)
      · exact sn_if ha K (fun _ _ _ _ _ _ ht kt kf => lv_icmp_gt hx hb hd ht kt kf)
      · exact sn_if ha K (fun _ _ _ _ _ _ ht kt kf => lv_icmp_le hx hb hd ht kt kf)
    next => cases ha
  · split at ha
    next y x r =>
      split at ha
      next hxy =>
        have e1 : (gO G x = gO G y) = (x = y) := by
          rcases hxy with hxy | hxy
          · rw [hK.2.1 x hxy.1, hK.2.1 y hxy.2]
            refine propext ⟨fun q => ?_, fun q => by rw [q]⟩
            have := Option.some.inj q
            have h1 := hxy.1
            have h2 := hxy.2
            exact sn_inj h1 h2 this
          · exact propext ⟨fun _ => hxy, fun _ => by rw [hxy]⟩
        split at ha
        · exact sn_if ha K (fun _ _ _ _ _ _ ht kt kf => lv_acmp_eq (rx := gO G x) (ry := gO G y) hx hb hd ht (by rw [e1]; exact kt) (by rw [e1]; exact kf))
        · exact sn_if ha K (fun _ _ _ _ _ _ ht kt kf => lv_acmp_ne (rx := gO G x) (ry := gO G y) hx hb hd ht (by rw [e1]; exact kt) (by rw [e1]; exact fun q => kf (fun z => z q)))
      next => cases ha
    next => cases ha
  · split at ha
    next x r =>
      split at ha
      next h0 =>
        obtain rfl := sn_nx ha
        refine sn_plain (fun H locs cells slots ls k => ?_) K
        show W p l e R s m args below meth c H locs cells slots Q (F0 m pc ls (va_rf (gO G x) :: r.map (sn_v (gO G))))
        rw [hK.2.1 x h0]
        exact lv_ifnull hx hb hd k
      next => cases ha
    next r =>
      split at ha
      next h0 =>
        obtain rfl := sn_nx ha
        exact sn_plain (fun _ _ _ _ _ k => lv_ifnullN hx hb hd (by unfold jv_br; omega) k) K
      next => cases ha
    next => cases ha
  · split at ha
    next r =>
      obtain rfl := sn_nx ha
      exact sn_plain (fun _ _ _ _ _ k => lv_ifnonnullN hx hb hd k) K
    next x r =>
      split at ha
      next h0 =>
        obtain rfl := sn_nx ha
        refine sn_plain (fun H locs cells slots ls k => ?_) K
        show W p l e R s m args below meth c H locs cells slots Q (F0 m pc ls (va_rf (gO G x) :: r.map (sn_v (gO G))))
        rw [hK.2.1 x h0.2]
        exact lv_ifnonnull hx hb hd (by unfold jv_br; omega) k
      next => cases ha
    next => cases ha
  · split at ha
    next x r =>
      split at ha
      next h0 =>
        obtain rfl := sn_nx ha
        refine sn_plain (fun H locs cells slots ls k => ?_) K
        obtain ⟨h1, h2⟩ := h0
        unfold jv_sw at h1 k
        split at h1
        next hq =>
          rw [if_pos hq] at k
          exact lv_tableOut hx hb hd hq (by omega) k
        next hq =>
          rw [if_neg hq] at k
          rw [not_or] at hq
          have h3 := h2 (by omega) (by omega)
          rw [Array.getElem?_eq_getElem h3] at h1 k
          exact lv_tableIn hx hb hd hq.1 hq.2 (Array.getElem?_eq_getElem h3) (by dsimp only [Option.getD] at h1 ⊢; omega) k
      next => cases ha
    next => cases ha
  · split at ha
    next x r =>
      split at ha
      next h0 =>
        obtain rfl := sn_nx ha
        exact sn_plain (fun H locs cells slots ls k => lv_lookup hx hb hd h0.2 rfl (by omega) k) K
      next => cases ha
    next => cases ha
  · split at ha
    next a r =>
      obtain ⟨v, hv, ha⟩ := Option.bind_eq_some_iff.mp ha
      obtain rfl := sn_nx ha
      exact sn_getf hx hb hts tF tC hown ho hK hd hv K
    next => cases ha
  · split at ha
    next v a r =>
      obtain ⟨h', hv, ha⟩ := Option.bind_eq_some_iff.mp ha
      obtain rfl := sn_nx ha
      exact sn_putf hx hb hts tF tC hown ho hin hK hd hv K
    next => cases ha
  · obtain ⟨v, hv, ha⟩ := Option.bind_eq_some_iff.mp ha
    obtain rfl := sn_nx ha
    exact sn_gets hx hb hts hown ho hK hd hv K
  · split at ha
    next a r =>
      obtain ⟨v, hv, ha⟩ := Option.bind_eq_some_iff.mp ha
      obtain rfl := sn_nx ha
      exact sn_alen hx hb hts tC hK hd hv K
    next => cases ha
  · split at ha
    next j a r =>
      obtain ⟨x, hv, ha⟩ := Option.bind_eq_some_iff.mp ha
      obtain rfl := sn_nx ha
      refine sn_ald hts tC hK (by decide) (by decide) (fun H locs cells slots ls a tc ty cell j v rest ht hty q1 q2 q3 q4 q5 k => ?_) hv K
      rcases ht with rfl | rfl <;> (cases hty; exact W.iald hx hb q1 q2 q3 q4 q5 rfl rfl hd k)
    next => cases ha
  · split at ha
    next j a r =>
      obtain ⟨x, hv, ha⟩ := Option.bind_eq_some_iff.mp ha
      obtain rfl := sn_nx ha
      refine sn_ald hts tC hK (by decide) (by decide) (fun H locs cells slots ls a tc ty cell j v rest ht hty q1 q2 q3 q4 q5 k => ?_) hv K
      rcases ht with rfl | rfl
      · cases hty; exact W.bald hx hb q1 q2 q3 q4 q5 rfl rfl hd k
      · cases hty; exact W.zald hx hb q1 q2 q3 q4 q5 rfl rfl hd k
    next => cases ha
  · split at ha
    next j a r =>
      obtain ⟨x, hv, ha⟩ := Option.bind_eq_some_iff.mp ha
      obtain rfl := sn_nx ha
      refine sn_ald hts tC hK (by decide) (by decide) (fun H locs cells slots ls a tc ty cell j v rest ht hty q1 q2 q3 q4 q5 k => ?_) hv K
      rcases ht with rfl | rfl <;> (cases hty; exact W.sald hx hb q1 q2 q3 q4 q5 rfl rfl hd k)
    next => cases ha
  · split at ha
    next j a r =>
      obtain ⟨x, hv, ha⟩ := Option.bind_eq_some_iff.mp ha
      obtain rfl := sn_nx ha
      exact sn_lald hx hb hts tC hK hd hv K
    next => cases ha
  · split at ha
    next j a r =>
      obtain ⟨x, hv, ha⟩ := Option.bind_eq_some_iff.mp ha
      obtain rfl := sn_nx ha
      exact sn_aald hx hb hts tC hK hd hv K
    next => cases ha
  · split at ha
    next x j a r =>
      obtain ⟨h', hv, ha⟩ := Option.bind_eq_some_iff.mp ha
      obtain rfl := sn_nx ha
      refine sn_ast hK (by decide) (by decide) (fun H locs cells slots ls a tc ty cell j x rest ht hty q1 q2 q3 q4 k => ?_) hv K
      rcases ht with rfl | rfl <;> (cases hty; exact W.iast hx hb q1 q2 q3 q4 rfl rfl hd k)
    next => cases ha
  · split at ha
    next x j a r =>
      obtain ⟨h', hv, ha⟩ := Option.bind_eq_some_iff.mp ha
      obtain rfl := sn_nx ha
      refine sn_ast hK (by decide) (by decide) (fun H locs cells slots ls a tc ty cell j x rest ht hty q1 q2 q3 q4 k => ?_) hv K
      rcases ht with rfl | rfl
      · cases hty; exact W.bast hx hb q1 q2 q3 q4 rfl rfl hd k
      · cases hty; exact W.zast hx hb q1 q2 q3 q4 rfl rfl hd k
    next => cases ha
  · split at ha
    next x j a r =>
      obtain ⟨h', hv, ha⟩ := Option.bind_eq_some_iff.mp ha
      obtain rfl := sn_nx ha
      refine sn_ast hK (by decide) (by decide) (fun H locs cells slots ls a tc ty cell j x rest ht hty q1 q2 q3 q4 k => ?_) hv K
      rcases ht with rfl | rfl <;> (cases hty; exact W.sast hx hb q1 q2 q3 q4 rfl rfl hd k)
    next => cases ha
  · split at ha
    next x j a r =>
      obtain ⟨h', hv, ha⟩ := Option.bind_eq_some_iff.mp ha
      obtain rfl := sn_nx ha
      exact sn_last hx hb hK hd hv K
    next => cases ha
  · split at ha
    next x j a r =>
      obtain ⟨h', hv, ha⟩ := Option.bind_eq_some_iff.mp ha
      obtain rfl := sn_nx ha
      exact sn_aast hx hb hts tC tAS hK hd hv K
    next => cases ha
  · obtain ⟨ci, hv, ha⟩ := Option.bind_eq_some_iff.mp ha
    obtain ⟨fs, hv2, ha⟩ := Option.bind_eq_some_iff.mp ha
    obtain rfl := sn_nx ha
    exact sn_new hx hb hts tN tC hown ho hK hd hv hv2 hn hz hR1 hR2 K
  · split at ha
    next n r =>
      split at ha
      next => cases ha
      next h0 =>
        obtain ⟨c', hv, ha⟩ := Option.bind_eq_some_iff.mp ha
        obtain rfl := sn_nx ha
        exact sn_newa hx hb hts tAC hK hd h0 hv hn hz hR1 hR2 K
    next => cases ha
  · split at ha
    next n r =>
      split at ha
      next => cases ha
      next h0 =>
        obtain ⟨tc, hv, ha⟩ := Option.bind_eq_some_iff.mp ha
        obtain rfl := sn_nx ha
        exact sn_anew hx hb hts tAN hown ho hK hd h0 hv hn hz hR1 hR2 K
    next => cases ha
  · split at ha
    next k n r =>
      split at ha
      next h0 =>
        obtain rfl := sn_nx ha
        obtain ⟨rfl, h1, h2⟩ := h0
        exact sn_ma hx hb hts tMA tAC hown ho hK hd h1 h2 hn hz rfl rfl rfl hR1 hR2 K
      next => cases ha
    next => cases ha
  · split at ha
    next a r =>
      obtain ⟨ci, hv, ha⟩ := Option.bind_eq_some_iff.mp ha
      split at ha
      next h0 =>
        obtain rfl := sn_nx ha
        exact sn_cast hx hb hts tC tCK hown ho hK hd hv h0 K
      next => cases ha
    next r =>
      obtain rfl := sn_nx ha
      exact sn_plain (fun _ _ _ _ _ k => lv_castN hx hb hd k) K
    next => cases ha
  · split at ha
    next a r =>
      obtain ⟨ci, hv, ha⟩ := Option.bind_eq_some_iff.mp ha
      split at ha
      next h0 =>
        obtain rfl := sn_nx ha
        exact sn_inst hx hb hts tC tCK hown ho hK hd hv h0 K
      next => cases ha
    next => cases ha
  · obtain ⟨e9, -, ha⟩ := Option.bind_eq_some_iff.mp ha
    obtain ⟨b9, -, ha⟩ := Option.bind_eq_some_iff.mp ha
    obtain ⟨y9, -, ha⟩ := Option.bind_eq_some_iff.mp ha
    split at ha
    · exact (sn_call_no ha).elim
    · cases ha
  · obtain ⟨e9, he9, ha⟩ := Option.bind_eq_some_iff.mp ha
    obtain ⟨n9, y9⟩ := e9
    dsimp only at ha
    split at ha
    · split at ha
      · exact (sn_call_no ha).elim
      · cases ha
    · split at ha
      next n dp dst sp src r =>
        split at ha
        next hr =>
          obtain ⟨h', hv, ha⟩ := Option.bind_eq_some_iff.mp ha
          obtain rfl := sn_nx ha
          exact sn_cp hx hb hml hts tSY tSS hown ho hK hfr hlo hd he9 hr hv K
        next => cases ha
      next => cases ha
  · obtain ⟨e9, he9, ha⟩ := Option.bind_eq_some_iff.mp ha
    obtain ⟨n9, y9⟩ := e9
    dsimp only at ha
    split at ha
    · obtain ⟨b9, -, ha⟩ := Option.bind_eq_some_iff.mp ha
      split at ha
      · exact (sn_call_no ha).elim
      · cases ha
    · split at ha
      next x r =>
        split at ha
        next hr =>
          obtain rfl := sn_nx ha
          exact sn_obi hx hb hml hts hown ho hK hfr hlo tOB hd he9 hr K
        next => cases ha
      next => cases ha
  · split at ha
    · obtain ⟨ty, -, ha⟩ := Option.bind_eq_some_iff.mp ha
      split at ha
      · cases ha
      · cases ha
    · cases ha
  · split at ha
    · split at ha
      · cases ha
      · cases ha
    · cases ha
  · split at ha
    · obtain ⟨ty, -, ha⟩ := Option.bind_eq_some_iff.mp ha
      split at ha
      · cases ha
      · cases ha
    · cases ha
  · split at ha
    · split at ha
      · cases ha
      · cases ha
    · cases ha
  · split at ha
    · obtain ⟨ty, -, ha⟩ := Option.bind_eq_some_iff.mp ha
      split at ha
      · cases ha
      · cases ha
    · cases ha
  · cases ha
end
