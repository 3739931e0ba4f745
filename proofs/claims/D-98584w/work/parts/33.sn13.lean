/-! soundness: ends, and every method's contract -/
def sn_MOK : Prop := ∀ (mi : Nat) (r : jv_M), jt_M[mi]? = some r → ∃ own : String, jt_R[r.1]? = some own ∧ r.2.1.cls = own ∧ plainFor r.2.1 = true ∧ (r.2.2.2.2.2 = [] ∨ ∃ x, r.2.2.2.2.2 = [x] ∧ x.2.2.2 ≠ 0 ∧ Cond.classLink own x.2.2.2 RX1 ∈ lw_all ∧ Cond.castable RX1 RX1 ∈ sn_nw)
theorem sn_fault_cl : jt_cl[jt_fault]? = some (RX1, TX1, 8) := rfl
section
variable {G : sn_G} {n0 z0 nL : Nat} {p : Program} {l : Launch} {e : Env} {R : Room} {s : State} {m : MethodId} {args : Array Value} {below : List Frame} {meth : Method} {c : Code}
variable {cc : ByteArray} {pc : Nat} {lc : jv_L} {st : List Value} {h : jv_H}
theorem sn_done {mi len : Nat} {i : Instr} {res : jv_R} (hx : p.tables.exec = Jvm.exec) (hb : c.code = cc) (hr : meth.sig.returnType = jv_ret mi) (hlocks : meth.locks = false) (htab : (∃ x, res.1 = .inr x) → jv_hh mi = [] → ∀ x ∈ c.exceptionTable.toList, False) (hK : sn_K G s)
    (hd : decode cc pc = .ok (i, len)) (ha : jv_act mi pc len i lc st h = some (.inr (.inr res))) : sn_W G n0 z0 nL p l e R s m args below meth c (jx_MQ below (sn_Qc G res) (sn_XC G res) args s (res.2.length - n0) (sn_z res.2 - z0) (fun q => gB G ≤ q)) (pc, lc, st, h) := by
  intro ls H locs hL hP hS
  change sn_P G h H at hP
  by_cases k4 : i = .ireturn
  · subst k4
    unfold jv_act at ha
    split at ha <;> first | (rename_i hq; cases hq; done) | skip
    · split at ha
      next v =>
        obtain ⟨ty, hty, ha⟩ := Option.bind_eq_some_iff.mp ha
        split at ha
        next hc =>
          cases ha
          rw [hty] at hr
          exact jx_ret (W.zret hx hb hr hc.1 (fun t ht hW => ⟨_, rfl, rfl, by rw [ht]; exact hP⟩) hS.2.2 hd hlocks)
        next => cases ha
      next => cases ha
    · cases ha
  by_cases k5 : i = .lreturn
  · subst k5
    unfold jv_act at ha
    split at ha <;> first | (rename_i hq; cases hq; done) | skip
    · split at ha
      next v =>
        split at ha
        next hc =>
          cases ha
          rw [hc] at hr
          exact jx_ret (W.lret hx hb hr (fun t ht hW => ⟨_, rfl, rfl, by rw [ht]; exact hP⟩) hS.2.2 hd hlocks)
        next => cases ha
      next => cases ha
    · cases ha
  by_cases k6 : i = .areturn
  · subst k6
    unfold jv_act at ha
    split at ha <;> first | (rename_i hq; cases hq; done) | skip
    · split at ha
      next v =>
        obtain ⟨ty, hty, ha⟩ := Option.bind_eq_some_iff.mp ha
        split at ha
        next hc =>
          cases ha
          rw [hty] at hr
          refine jx_ret (W.aret (v := va_rf (gO G v)) hx hb hr ?_ ?_ (fun t ht hW => ⟨_, rfl, rfl, by rw [ht]; exact hP⟩) hS.2.2 hd hlocks)
          · cases ty with
            | object n => exact Or.inl ⟨n, rfl⟩
            | array t => exact Or.inr ⟨t, rfl⟩
            | _ => cases hc
          · cases gO G v with
            | none => exact Or.inl rfl
            | some a => exact Or.inr ⟨a, rfl⟩
        next => cases ha
      next => cases ha
    · cases ha
  by_cases k7 : i = .return_
  · subst k7
    unfold jv_act at ha
    split at ha <;> first | (rename_i hq; cases hq; done) | skip
    · split at ha
      next =>
        split at ha
        next hc =>
          cases ha
          rw [hc] at hr
          exact jx_ret (W.vret hx hb hr (fun t ht hW => ⟨_, rfl, rfl, by rw [ht]; exact hP⟩) hS.2.2 hd hlocks)
        next => cases ha
      next => cases ha
    · cases ha
  by_cases k8 : i = .athrow
  · subst k8
    unfold jv_act at ha
    split at ha <;> first | (rename_i hq; cases hq; done) | skip
    · split at ha
      next q rest =>
        obtain ⟨ci, hci, ha⟩ := Option.bind_eq_some_iff.mp ha
        split at ha
        next hc =>
          cases ha
          obtain ⟨hoff, hhh, rfl⟩ := hc
          obtain ⟨fs, hfs⟩ := sn_cls_at hci
          obtain ⟨r9, h1, cell, q1, q2, q3, q4⟩ := hP.1 _ _ (sn_w_at hoff hfs)
          cases sn_fault_cl.symm.trans h1
          have hfc := (hK.1.1 jt_fault _ sn_fault_cl).2.1
          show W p l e R s m args below meth c H locs _ _ _ (F0 m pc ls (va_rf (gO G q) :: rest.map (sn_v (gO G))))
          rw [hK.2.1 q hoff]
          refine jx_athrow hx hb hd (jx_out (E := RX1) (ce := cell) (fun x hx' => (htab ⟨_, rfl⟩ hhh x hx').elim) hlocks q1 q3 (by rw [q2]; exact hfc) (fun t ht hvm => ⟨q, rfl, hK.2.1 q hoff, rfl, by rw [ht]; exact hP⟩) hS.2.2 (Nat.le_refl _) (Nat.le_refl _))
        next => cases ha
      next => cases ha
    · cases ha
  by_cases h1 : ∃ idx, i = .invokevirtual idx
  · obtain ⟨idx, rfl⟩ := h1
    unfold jv_act at ha
    split at ha <;> first | (rename_i hq; cases hq; done) | skip
    · obtain ⟨_, -, ha⟩ := Option.bind_eq_some_iff.mp ha
      obtain ⟨_, -, ha⟩ := Option.bind_eq_some_iff.mp ha
      obtain ⟨_, -, ha⟩ := Option.bind_eq_some_iff.mp ha
      split at ha
      · unfold jv_call at ha
        split at ha
        · cases ha
        · cases ha
      · cases ha
    · cases ha
  by_cases h2 : ∃ idx, i = .invokestatic idx
  · obtain ⟨idx, rfl⟩ := h2
    unfold jv_act at ha
    split at ha <;> first | (rename_i hq; cases hq; done) | skip
    · obtain ⟨_, -, ha⟩ := Option.bind_eq_some_iff.mp ha
      split at ha
      · split at ha
        · unfold jv_call at ha
          split at ha
          · cases ha
          · cases ha
        · cases ha
      · split at ha
        · split at ha
          · obtain ⟨_, -, ha⟩ := Option.bind_eq_some_iff.mp ha
            cases ha
          · cases ha
        · cases ha
    · cases ha
  by_cases h3 : ∃ idx, i = .invokespecial idx
  · obtain ⟨idx, rfl⟩ := h3
    unfold jv_act at ha
    split at ha <;> first | (rename_i hq; cases hq; done) | skip
    · obtain ⟨_, -, ha⟩ := Option.bind_eq_some_iff.mp ha
      split at ha
      · obtain ⟨_, -, ha⟩ := Option.bind_eq_some_iff.mp ha
        split at ha
        · unfold jv_call at ha
          split at ha
          · cases ha
          · cases ha
        · cases ha
      · split at ha
        · split at ha
          · cases ha
          · cases ha
        · cases ha
    · cases ha
  have := jn_act (mi := mi) (pc := pc) (len := len) (i := i) (lc := lc) (st := st) (h := h) (fun idx z => h1 ⟨idx, z⟩) (fun idx z => h2 ⟨idx, z⟩) (fun idx z => h3 ⟨idx, z⟩) k4 k5 k6 k7 k8
  rw [ha] at this
  exact this.elim
end
theorem sn_en_len {ao : Nat → Option Nat} : ∀ as : List Value, (jv_en as).length = (lg_sl (as.map (sn_v ao))).length
  | [] => rfl
  | v :: r => by
    have ih := sn_en_len (ao := ao) r
    have e1 : jv_en (v :: r) = if v.category = 2 then some v :: none :: jv_en r else some v :: jv_en r := rfl
    have e2 : lg_sl ((v :: r).map (sn_v ao)) = (if (sn_v ao v).category = 2 then [Slot.val (sn_v ao v), Slot.second] else [Slot.val (sn_v ao v)]) ++ lg_sl (r.map (sn_v ao)) := rfl
    rw [e1, e2, sn_v_cat, List.length_append, ← ih]
    by_cases hc : v.category = 2
    · rw [if_pos hc, if_pos hc]
      simp only [List.length_cons, List.length_nil]
      omega
    · rw [if_neg hc, if_neg hc]
      simp only [List.length_cons, List.length_nil]
      omega
theorem sn_en_args {ao : Nat → Option Nat} : ∀ (as : List Value) (k j : Nat) (v : Value), (jv_en as)[j]? = some (some v) → (k + j, sn_v ao v) ∈ lv_args k (as.map (sn_v ao))
  | [], k, j, v, h => by cases h
  | w :: r, k, j, v, h => by
    rw [List.map_cons]
    unfold lv_args
    unfold jv_en at h
    rw [sn_v_cat]
    by_cases hc : w.category = 2
    · rw [if_pos hc] at h ⊢
      match j, h with
      | 0, h => cases h; exact List.mem_cons_self
      | 1, h => cases h
      | j + 2, h =>
        have := sn_en_args (ao := ao) r (k + 2) j v h
        rw [show k + (j + 2) = k + 2 + j by omega]
        exact List.mem_cons_of_mem _ this
    · rw [if_neg hc] at h ⊢
      match j, h with
      | 0, h => cases h; exact List.mem_cons_self
      | j + 1, h =>
        have := sn_en_args (ao := ao) r (k + 1) j v h
        rw [show k + (j + 1) = k + 1 + j by omega]
        exact List.mem_cons_of_mem _ this
theorem sn_entry {ao : Nat → Option Nat} {mi nL : Nat} {as : List Value} (hn : jv_ml mi = nL) (hl : (jv_en as).length ≤ nL) : sn_L ao (jv_ent mi as) ((lg_sl (as.map (sn_v ao)) ++ List.replicate (nL - (lg_sl (as.map (sn_v ao))).length) Slot.unset).toArray) nL := by
  refine ⟨by unfold jv_ent; rw [List.length_append, List.length_replicate, hn]; omega, sn_has (lv_entry _ (by rw [← sn_en_len]; exact hl)) ?_⟩
  rintro ⟨k, w⟩ hq
  obtain ⟨v, h1, -, rfl⟩ := sn_al_mem.mp hq
  unfold jv_ent at h1
  by_cases hk : k < (jv_en as).length
  · rw [List.getElem?_append_left hk] at h1
    have := sn_en_args (ao := ao) as 0 k v h1
    rw [Nat.zero_add] at this
    exact this
  · rw [List.getElem?_append_right (by omega), List.getElem?_replicate] at h1
    split at h1
    · cases h1
    · cases h1
