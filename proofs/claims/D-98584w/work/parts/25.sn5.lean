/-! soundness: instructions that write -/
theorem sn_w_get {G : sn_G} {h : jv_H} {j : Nat} : (sn_w G h)[j]? = (h[jt_off + j]?).map fun c => (gB G + j, sn_e G c) := by
  unfold sn_w
  rw [List.getElem?_mapIdx, List.getElem?_drop]
theorem sn_P.set {G : sn_G} {h : jv_H} {H H' : Heap} {k : Nat} {c : jv_C} (hP : sn_P G h H) (hk : jt_off ≤ k) (hlt : k < h.length) (hat : va_at (gD G) jt_cl (gB G + (k - jt_off), sn_e G c) H') (hz : H'.size = H.size) (ho : ∀ q : Nat, q ≠ gB G + (k - jt_off) → H'[q]? = H[q]?) : sn_P G (h.set k c) H' := by
  obtain ⟨h1, h2, h3, h4, h5⟩ := hP
  refine ⟨fun j q hq => ?_, by rw [hz, List.length_set]; exact h2, by rw [List.length_set]; exact h3, ?_, fun q hq => by rw [ho q (by omega)]; exact h5 q hq⟩
  · rw [sn_w_get] at hq
    by_cases hj : jt_off + j = k
    · subst hj
      rw [List.getElem?_set_self hlt] at hq
      rw [Nat.add_sub_cancel_left] at hat
      cases hq
      exact hat
    · rw [List.getElem?_set_ne (Ne.symm hj)] at hq
      have hq' : (sn_w G h)[j]? = some q := by rw [sn_w_get]; exact hq
      have := h1 j q hq'
      refine this.kept (ho _ ?_)
      cases hc : h[jt_off + j]? with
      | none => rw [hc] at hq; cases hq
      | some c' => rw [hc] at hq; cases hq; show gB G + j ≠ _; omega
  · rw [List.take_set_of_le hk]
    exact h4
theorem sn_P.push {G : sn_G} {h : jv_H} {H H' : Heap} {c : jv_C} (hP : sn_P G h H) (hat : va_at (gD G) jt_cl (gB G + (h.length - jt_off), sn_e G c) H') (hz : H'.size = H.size + 1) (ho : ∀ q : Nat, q < H.size → H'[q]? = H[q]?) : sn_P G (h ++ [c]) H' := by
  obtain ⟨h1, h2, h3, h4, h5⟩ := hP
  refine ⟨fun j q hq => ?_, by rw [hz, h2, List.length_append]; simp; omega, by rw [List.length_append]; omega, ?_, fun q hq => by rw [ho q (by omega)]; exact h5 q hq⟩
  · rw [sn_w_get] at hq
    by_cases hj : jt_off + j < h.length
    · rw [List.getElem?_append_left hj] at hq
      have hq' : (sn_w G h)[j]? = some q := by rw [sn_w_get]; exact hq
      have := h1 j q hq'
      exact this.kept (ho _ this.lt)
    · rw [List.getElem?_append_right (by omega)] at hq
      by_cases hj2 : jt_off + j = h.length
      · rw [← hj2, Nat.sub_self] at hq
        cases hq
        rw [← hj2, Nat.add_sub_cancel_left] at hat
        exact hat
      · have hgt : 1 ≤ jt_off + j - h.length := by omega
        rw [List.getElem?_eq_none (by simp; omega)] at hq
        cases hq
  · rw [List.take_append_of_le_length h3]
    exact h4
theorem sn_S.new {A : Nat → Prop} {H0 H H' : Heap} {locs : List Loc} (hS : va_S A H0 H locs) (hz : H.size ≤ H'.size) (ho : ∀ q : Nat, q < H.size → H'[q]? = H[q]?) : va_S A H0 H' locs :=
  ⟨Nat.le_trans hS.1 hz, fun q h1 h2 => (ho q (Nat.lt_of_lt_of_le h1 hS.1)).trans (hS.2.1 q h1 h2), hS.2.2⟩
theorem sn_nar {ao : Nat → Option Nat} {ty : FieldType} {v : Value} (h : narrow ty v = v) : narrow ty (sn_v ao v) = sn_v ao v := by
  cases v with
  | ref r =>
    show narrow ty (va_rf (ao r)) = va_rf (ao r)
    cases ao r <;> cases ty <;> rfl
  | _ => exact h
theorem sn_fit {ao : Nat → Option Nat} {ty : FieldType} {v : Value} (h : fits ty v = true) : fits ty (sn_v ao v) = true := by
  cases v with
  | ref r =>
    show fits ty (va_rf (ao r)) = true
    cases ao r <;> cases ty <;> first | rfl | cases h
  | _ => exact h
theorem sn_set_z {h : jv_H} {k : Nat} {c c' : jv_C} (hc : h[k]? = some c) (hz : sn_cz c' = sn_cz c) : sn_z (h.set k c') = sn_z h := by
  have key : ∀ (h : jv_H) (k : Nat), h[k]? = some c → (h.set k c').map sn_cz = h.map sn_cz := by
    intro h
    induction h with
    | nil => intro k hk; cases hk
    | cons x h ih =>
      intro k hk
      cases k with
      | zero => cases hk; simp [hz]
      | succ k => simp [ih k hk]
  unfold sn_z
  rw [key h k hc]
section
variable {G : sn_G} {n0 z0 nL : Nat} {p : Program} {l : Launch} {e : Env} {R : Room} {s : State} {m : MethodId} {args : Array Value} {below : List Frame} {meth : Method} {c : Code} {Q : State → Prop}
variable {cc : ByteArray} {pc : Nat} {lc : jv_L} {st : List Value} {h : jv_H} {cf : Nat × jv_L × List Value × jv_H}
theorem sn_putf {o idx : Nat} {ini : Bool} {own : String} (hx : p.tables.exec = Jvm.exec) (hb : c.code = cc) (hts : ∀ w ∈ lw_all, w.before args s = true) (hF : ∀ e ∈ jt_F, sn_FOK e) (hC : sn_COK) (hown : s.vm.findClass own = some m.cls) (ho : jt_R[o]? = some own) (hin : ini = true → meth.name = "<init>") (hK : sn_K G s) (hd : decode cc pc = .ok (.putfield idx, 3))
    {a : Nat} {r : List Value} {v : Value} {h' : jv_H} (hv : jv_pf h a (jv_FP o ini idx) v = some h') (K : sn_W G n0 z0 nL p l e R s m args below meth c Q (pc + 3, lc, r, h')) : sn_W G n0 z0 nL p l e R s m args below meth c Q (pc, lc, v :: .ref a :: r, h) := by
  intro ls H locs hL hP hS
  unfold jv_pf at hv
  split at hv
  next ci fs hc =>
    split at hv
    next k hk =>
      obtain ⟨k, ty⟩ := k
      split at hv
      next hq =>
        cases hv
        obtain ⟨ha, hkl, hnar, hfit⟩ := hq
        dsimp only at hkl hnar hfit
        obtain ⟨fin, hm, hfi, hfo⟩ := sn_FP_mem hk
        obtain ⟨own', C, T, N, rc, g1, g2, g3, g4, g45, g5, g6, g7⟩ := hF _ hm
        dsimp only at g2 g3 g4 g45 g5 g6 g7
        replace g7 := fun q => g7 q hfo
        cases ho.symm.trans g1
        obtain ⟨hK1, hK2, -⟩ := hK
        obtain ⟨hin0, ⟨ty0, hty, hnm, -⟩, -⟩ := hC ci _ g2
        dsimp only at hin0 hty hnm
        obtain ⟨r9, h1, cell, q1, q2, q3, q4⟩ := hP.1 _ _ (sn_w_at ha hc)
        cases g2.symm.trans h1
        obtain ⟨hS9, hfc, kC, hkC, hkind⟩ := hK1.1 ci _ h1
        obtain ⟨cf', kf, fi, f, hi, hsl⟩ := hS9 k g3
        have hap := va_apart (own := own) hts hin0 ty0 hty hnm hK1 h1
        have hst := (u_facts hfc hkC (u_lays hts hin0 g3) hi).1
        have hlt : k < (fs.map (sn_v (gO G))).length := by rw [List.length_map]; exact hkl
        have hlen : a < h.length := (List.getElem?_eq_some_iff.mp hc).1
        have fin1 : ∀ H' : Heap, H'[gB G + (a - jt_off)]? = some (cell.setSlot f.slot (sn_v (gO G) v)) → H'.size = H.size → (∀ q, q ≠ gB G + (a - jt_off) → H'[q]? = H[q]?) → W p l e R s m args below meth c H' (locs ++ [⟨gB G + (a - jt_off), f.slot⟩]) (h.length - n0) (sn_z h - z0) Q (F0 m (pc + 3) ls (r.map (sn_v (gO G)))) := by
          intro H' e1 e2 e3
          have hPn : sn_P G (h.set a (.inr (ci, fs.set k v))) H' := by
            refine hP.set ha hlen ⟨_, h1, ?_⟩ e2 e3
            rw [hsl] at e1
            have e4 : (fs.set k v).map (sn_v (gO G)) = (fs.map (sn_v (gO G))).set k (sn_v (gO G) v) := List.map_set
            show t_OB _ _ _ _ _ (vp_V ((fs.set k v).map (sn_v (gO G))))
            rw [e4]
            exact t_OB.to (V := updV (vp_V (fs.map (sn_v (gO G)))) k (sn_v (gO G) v)) ⟨_, e1, q2, q3, t_set q4 hap g3 _⟩ (fun j _ => vp_updV_set hlt _ j)
          have := K ls H' (locs ++ [⟨gB G + (a - jt_off), f.slot⟩]) hL hPn (hS.put e2 e3 (Nat.le_add_right _ _))
          dsimp only at this
          rw [List.length_set, sn_set_z hc (by simp [sn_cz])] at this
          exact this
        show W p l e R s m args below meth c H locs _ _ Q (F0 m pc ls (sn_v (gO G) v :: va_rf (gO G a) :: r.map (sn_v (gO G))))
        rw [hK2 a ha]
        cases fin with
        | false =>
          have hlay := hts _ (hin0 _ (u_in_lay g3))
          unfold u_lay at hlay
          rw [if_neg (by rw [g6]; decide)] at hlay
          have h6 := u_store hfc hkC hkind hlay hi g5 (sn_nar (ao := gO G) hnar) (sn_fit (ao := gO G) hfit)
          exact W.putK hx hb (f := f) ⟨hown, hts _ g4, ⟨_, _, _, sn_rc hts g45 hi⟩, hst⟩ (by rw [q2]; exact h6) q1 q3 (by rw [hsl]; exact k2_hasslot (q4 k g3)) rfl rfl hd fin1
        | true =>
          have hlay := hts _ (hin0 _ (u_in_lay g3))
          unfold u_lay at hlay
          rw [if_pos g6] at hlay
          have hcf : m.cls = cf' := by
            obtain ⟨_, _, c', _, _, _, -, -, hf', -, -, -, hown2, -⟩ := Cond.laysFinal_spec hlay
            have e1 : c' = cf' := by have := hi.symm.trans hf'; simp at this; exact this.1.symm
            rw [g7 rfl] at hown2
            rw [← e1]; exact Option.some.inj (hown.symm.trans hown2)
          have h6 := u_fits hfc hkC hkind (Or.inr hlay) hi g5 (sn_nar (ao := gO G) hnar) (sn_fit (ao := gO G) hfit)
          exact W.putFinK hx hb hown (hts _ g4) (sn_rc hts g45 hi) hst hcf (hin (hfi rfl)) (by rw [q2]; exact h6) q1 q3 (by rw [hsl]; exact k2_hasslot (q4 k g3)) rfl rfl hd fin1
      next => cases hv
    next => cases hv
  next => cases hv
theorem sn_cell_i {cA : ClassId} {n i : Nat} {f : Nat → Int32} {y : Int32} : (vp_cell cA (n, .inl f)).setSlot i (.int y) = vp_cell cA (n, .inl (upd f i y)) := by
  rw [vp_cell_i, vp_cell_i, arrV_store]
  congr 2
  funext q
  by_cases hq : q = i
  · subst hq
    simp [updV, upd]
  · simp [updV, upd, hq]
theorem sn_cell_l {cA : ClassId} {n i : Nat} {f : Nat → Int64} {y : Int64} : (vp_cell cA (n, .inr (.inl f))).setSlot i (.long y) = vp_cell cA (n, .inr (.inl (vp_updL f i y))) := by
  rw [vp_cell_l, vp_cell_l, arrV_store]
  congr 2
  funext q
  by_cases hq : q = i
  · subst hq
    simp [updV, vp_updL]
  · simp [updV, vp_updL, hq]
theorem sn_cell_q {cA : ClassId} {n i : Nat} {f : Nat → Option Nat} {y : Nat} : (vp_cell cA (n, .inr (.inr (.inr (.inr f))))).setSlot i (.ref y) = vp_cell cA (n, .inr (.inr (.inr (.inr (va_up f i (some y)))))) := by
  rw [vp_cell_q, vp_cell_q, arrV_store]
  congr 2
  funext q
  by_cases hq : q = i
  · subst hq
    simp [updV, va_up, va_rf]
  · simp [updV, va_up, hq]
theorem sn_ast {t u : Nat} (hK : sn_K G s) (ht : t < 12) (hu : u < 12)
    (row : ∀ (H : Heap) (locs : List Loc) (cells slots : Nat) (ls : Array Slot) (a : Nat) (tc : Nat) (ty : FieldType) (cell : Cell) (j x : Int32) (rest : List Value), tc = t ∨ tc = u → jt_at[tc]? = some ty → H[a]? = some cell → s.isArrayOf cell ty → cell.vm ≠ .unknown → ¬ (j < 0 ∨ cell.slots.size ≤ j.toNatClampNeg) → (∀ H' : Heap, H'[a]? = some (cell.setSlot j.toNatClampNeg (.int (jv_nar tc x))) → H'.size = H.size → (∀ q, q ≠ a → H'[q]? = H[q]?) → W p l e R s m args below meth c H' (locs ++ [⟨a, j.toNatClampNeg⟩]) cells slots Q (F0 m (pc + 1) ls rest)) → W p l e R s m args below meth c H locs cells slots Q (F0 m pc ls (.int x :: .int j :: .ref a :: rest)))
    {a : Nat} {r : List Value} {j x : Int32} {h' : jv_H} (hv : jv_ip h a t u j x = some h') (K : sn_W G n0 z0 nL p l e R s m args below meth c Q (pc + 1, lc, r, h')) : sn_W G n0 z0 nL p l e R s m args below meth c Q (pc, lc, .int x :: .int j :: .ref a :: r, h) := by
  intro ls H locs hL hP hS
  unfold jv_ip at hv
  split at hv
  next tc n f hc =>
    split at hv
    next hi =>
      cases hv
      obtain ⟨ha, htc, hi⟩ := hi
      obtain ⟨hK1, hK2, -⟩ := hK
      have h12 : tc < 12 := by rcases htc with q | q <;> omega
      have hty : ∃ ty, jt_at[tc]? = some ty := ⟨_, List.getElem?_eq_getElem (show tc < jt_at.length from h12)⟩
      obtain ⟨ty, hty⟩ := hty
      have hA := (hK1.2 tc _ (sn_t_at hty)).1
      have hw : H[gB G + (a - jt_off)]? = some (vp_cell (gA G tc) (n, .inl f)) := hP.1 _ _ (sn_w_at ha hc)
      show W p l e R s m args below meth c H locs _ _ Q (F0 m pc ls (.int x :: .int j :: va_rf (gO G a) :: r.map (sn_v (gO G))))
      rw [hK2 a ha]
      refine row _ _ _ _ _ _ tc ty _ j x _ htc hty hw (hA n (fun j => .int (f j))) (fun q => by cases q) (by show ¬ (j < 0 ∨ (arrV _ _ _).slots.size ≤ _); rw [arrV_size]; exact hi) (fun H' e1 e2 e3 => ?_)
      rw [sn_cell_i] at e1
      have := K ls H' (locs ++ [⟨gB G + (a - jt_off), j.toNatClampNeg⟩]) hL (hP.set (c := .inl (tc, n, .inl (upd f j.toNatClampNeg (jv_nar tc x)))) ha (List.getElem?_eq_some_iff.mp hc).1 e1 e2 e3) (hS.put e2 e3 (Nat.le_add_right _ _))
      dsimp only at this
      rw [List.length_set, sn_set_z hc (by rfl)] at this
      exact this
    next => cases hv
  next => cases hv
theorem sn_last (hx : p.tables.exec = Jvm.exec) (hb : c.code = cc) (hK : sn_K G s) (hd : decode cc pc = .ok (.lastore, 1)) {a : Nat} {r : List Value} {j : Int32} {x : Int64} {h' : jv_H} (hv : jv_lp h a j x = some h') (K : sn_W G n0 z0 nL p l e R s m args below meth c Q (pc + 1, lc, r, h')) : sn_W G n0 z0 nL p l e R s m args below meth c Q (pc, lc, .long x :: .int j :: .ref a :: r, h) := by
  intro ls H locs hL hP hS
  unfold jv_lp at hv
  split at hv
  next tc n f hc =>
    split at hv
    next hi =>
      cases hv
      obtain ⟨ha, rfl, hi⟩ := hi
      obtain ⟨hK1, hK2, -⟩ := hK
      have hA := (hK1.2 4 _ (sn_t_at (ty := .long) rfl)).1
      have hw : H[gB G + (a - jt_off)]? = some (vp_cell (gA G 4) (n, .inr (.inl f))) := hP.1 _ _ (sn_w_at ha hc)
      show W p l e R s m args below meth c H locs _ _ Q (F0 m pc ls (.long x :: .int j :: va_rf (gO G a) :: r.map (sn_v (gO G))))
      rw [hK2 a ha]
      refine W.last hx hb hw (hA n (fun j => .long (f j))) (fun q => by cases q) (by show ¬ (j < 0 ∨ (arrV _ _ _).slots.size ≤ _); rw [arrV_size]; exact hi) rfl rfl hd (fun H' e1 e2 e3 => ?_)
      rw [sn_cell_l] at e1
      have := K ls H' (locs ++ [⟨gB G + (a - jt_off), j.toNatClampNeg⟩]) hL (hP.set (c := .inl (4, n, .inr (.inl (vp_updL f j.toNatClampNeg x)))) ha (List.getElem?_eq_some_iff.mp hc).1 e1 e2 e3) (hS.put e2 e3 (Nat.le_add_right _ _))
      dsimp only at this
      rw [List.length_set, sn_set_z hc (by rfl)] at this
      exact this
    next => cases hv
  next => cases hv
end
