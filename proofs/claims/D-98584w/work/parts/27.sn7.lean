/-! soundness: grids, arraycopy, casts, constants -/
def sn_SYOK : Prop := ∀ (o idx n : Nat), (o, idx, n, (none : Option Nat)) ∈ jt_S → ∃ own : String, jt_R[o]? = some own ∧ Cond.methodLink own idx arraycopyName ∈ lw_all
def sn_SYS : Prop := Cond.native arraycopyName ∈ lw_all ∧ Cond.static arraycopyName ∈ lw_all ∧ Cond.initialized "java/lang/System" ∈ lw_all
theorem sn_outer {c : ClassId} {N h0 : Nat} : ∀ i, Jvm.Free.Multi.outerC c N h0 i = arrV c N (fun j => if j < i then .ref (h0 + 1 + j) else .null)
  | 0 => by
    show ({ cls := c, slots := Array.replicate N .null, vm := .none } : Cell) = _
    rw [arrV_new]
    rfl
  | i + 1 => by
    show (Jvm.Free.Multi.outerC c N h0 i).setSlot i (.ref (h0 + 1 + i)) = _
    rw [sn_outer i, arrV_store]
    congr 1
    funext j
    unfold updV
    by_cases hj : j = i
    · subst hj
      rw [if_pos rfl, if_pos (by omega)]
    · rw [if_neg hj]
      dsimp only
      by_cases hj2 : j < i
      · rw [if_pos hj2, if_pos (by omega)]
      · rw [if_neg hj2, if_neg (by omega)]
theorem sn_P.many {G : sn_G} {c : jv_C} {H' : Heap} : ∀ (n : Nat) {h : jv_H}, va_P (gD G) jt_cl (sn_w G h) H' → jt_off ≤ h.length → (∀ j, j < n → va_at (gD G) jt_cl (gB G + (h.length - jt_off) + j, sn_e G c) H') → va_P (gD G) jt_cl (sn_w G (h ++ List.replicate n c)) H' := by
  intro n h h1 h3 h2 j q hq
  rw [sn_w_get] at hq
  by_cases hj : jt_off + j < h.length
  · rw [List.getElem?_append_left hj] at hq
    exact h1 j q (by rw [sn_w_get]; exact hq)
  · rw [List.getElem?_append_right (by omega)] at hq
    by_cases hj2 : jt_off + j - h.length < n
    · rw [List.getElem?_replicate, if_pos hj2] at hq
      cases hq
      have := h2 _ hj2
      rw [show gB G + (h.length - jt_off) + (jt_off + j - h.length) = gB G + j by omega] at this
      exact this
    · rw [List.getElem?_replicate, if_neg hj2] at hq
      cases hq
theorem sn_z_app {h h' : jv_H} : sn_z (h ++ h') = sn_z h + sn_z h' := by unfold sn_z; simp
theorem sn_z_rep {c : jv_C} : ∀ n : Nat, sn_z (List.replicate n c) = n * sn_cz c
  | 0 => by simp [sn_z]
  | n + 1 => by
    have ih := sn_z_rep (c := c) n
    unfold sn_z at ih ⊢
    rw [List.replicate_succ, List.map_cons, List.sum_cons, ih, Nat.succ_mul]
    omega
section
variable {G : sn_G} {n0 z0 nL : Nat} {p : Program} {l : Launch} {e : Env} {R : Room} {s : State} {m : MethodId} {args : Array Value} {below : List Frame} {meth : Method} {c : Code} {Q : State → Prop}
variable {cc : ByteArray} {pc : Nat} {lc : jv_L} {st : List Value} {h : jv_H} {cf : Nat × jv_L × List Value × jv_H}
theorem sn_ma {o idx : Nat} {own : String} {n k : Int32} {r : List Value} (hx : p.tables.exec = Jvm.exec) (hb : c.code = cc) (hts : ∀ w ∈ lw_all, w.before args s = true) (hMA : sn_MAOK) (hA : sn_ACOK) (hown : s.vm.findClass own = some m.cls) (ho : jt_R[o]? = some own) (hK : sn_K G s) (hd : decode cc pc = .ok (.multianewarray idx 2, 4)) (hm : jt_MA.contains (o, idx) = true) (h0 : ¬ (n < 0 ∨ k < 0 ∨ 1000 < n.toNatClampNeg ∨ 1000 < k.toNatClampNeg)) (hn : n0 ≤ h.length) (hz : z0 ≤ sn_z h) {hf : jv_H}
    {oc ic : jv_C} (hoc : oc = .inl (11, n.toNatClampNeg, .inr (.inr (.inr (.inr (fun j => if j < n.toNatClampNeg then some (h.length + 1 + j) else none)))))) (hic : ic = .inl (0, k.toNatClampNeg, .inl (fun _ => 0))) (hhf : hf = h ++ (oc :: List.replicate n.toNatClampNeg ic))
    (hR1 : hf.length - n0 ≤ R.cells) (hR2 : sn_z hf - z0 ≤ R.slots) (K : sn_W G n0 z0 nL p l e R s m args below meth c Q (pc + 4, lc, .ref h.length :: r, hf)) : sn_W G n0 z0 nL p l e R s m args below meth c Q (pc, lc, .int k :: .int n :: r, h) := by
  intro ls H locs hL hP hS
  change sn_P G h H at hP
  change W p l e R s m args below meth c H locs (h.length - n0) (sn_z h - z0) Q (F0 m pc ls (.int k :: .int n :: r.map (sn_v (gO G))))
  obtain ⟨own', g1, g2⟩ := hMA.1 _ (List.contains_iff_mem.mp hm)
  dsimp only at g1 g2
  cases ho.symm.trans g1
  obtain ⟨hK1, hK2, hK3, hK4, hK5, hK6, hK7⟩ := hK
  have hoff : jt_off ≤ h.length := hP.2.2.1
  generalize hN : n.toNatClampNeg = N at *
  generalize hM : k.toNatClampNeg = M at *
  have hlen : hf.length = h.length + (1 + N) := by rw [hhf]; simp; omega
  have hzz : sn_z hf = sn_z h + (N + N * M) := by
    have e1 : sn_z (oc :: List.replicate N ic) = sn_cz oc + sn_z (List.replicate N ic) := by unfold sn_z; rw [List.map_cons, List.sum_cons]
    rw [hhf, sn_z_app, e1, sn_z_rep, hoc, hic]
    rfl
  intro T hT X
  subst hT
  have hover : (Cond.arrayOver (.array .int)).before args s = true := hK7 _ hMA.2
  obtain ⟨vm₁, cA, comp, hW, hfA, hfC, hO, hI, X1, step⟩ := X.multianewarray2F hx hown (hts _ g2) hover (hts _ (hA 0 .int (by decide) rfl)) (g := F0 m pc ls (.int k :: .int n :: r.map (sn_v (gO G)))) rfl (by rw [hb]; exact hd) rfl (fun q => h0 (Or.inl q)) (fun q => h0 (Or.inr (Or.inl q))) (by rw [hN]; omega) (by rw [hM]; show _ * 4 ≤ _; omega) (by rw [hM]; omega) rfl rfl (by rw [hN]; omega) (by rw [hN, hM]; omega)
  generalize hU : Jvm.Free.Multi.fill (T.setVm vm₁) cA comp n.toNatClampNeg k.toNatClampNeg (defaultValue .int) n.toNatClampNeg = U at X1 step
  rw [hN, hM] at hU X1
  obtain ⟨f1, f2, -, -⟩ := Jvm.Free.Multi.fill_facts (T.setVm vm₁) cA comp N M (defaultValue .int) N
  have f3 : ∀ a, a < T.heap.size → (Jvm.Free.Multi.fill (T.setVm vm₁) cA comp N M (defaultValue .int) N).heap[a]? = T.heap[a]? := fun a ha => Jvm.Free.Multi.fill_old (T.setVm vm₁) cA comp N M (defaultValue .int) ha N
  have f4 := Jvm.Free.Multi.fill_inner (T.setVm vm₁) cA comp N M (defaultValue .int) N
  rw [hU] at f1 f2 f3 f4
  change U.heap.size = T.heap.size + 1 + N at f1
  change U.heap[T.heap.size]? = some (Jvm.Free.Multi.outerC cA N T.heap.size N) at f2
  have r11 : s.vm.findClass ("[" ++ (FieldType.array .int).toString) = some (gA G 11) := (hK1.2 11 _ (sn_t_at (ty := .array .int) rfl)).2
  have r0 : s.vm.findClass ("[" ++ FieldType.int.toString) = some (gA G 0) := (hK1.2 0 _ (sn_t_at (ty := .int) rfl)).2
  have e11 : gA G 11 = cA := Option.some.inj (r11.symm.trans hfA)
  have e0 : gA G 0 = comp := Option.some.inj (r0.symm.trans hfC)
  have hsz := hP.2.1
  have hP1 : va_P (gD G) jt_cl (sn_w G h) U.heap := fun j q hq => (hP.1 j q hq).kept (f3 _ (hP.1 j q hq).lt)
  have ho1 : va_at (gD G) jt_cl (gB G + (h.length - jt_off), sn_e G oc) U.heap := by
    rw [← hsz, hoc]
    show U.heap[T.heap.size]? = some (vp_cell (gA G 11) (N, .inr (.inr (.inr (.inr (fun j => (if j < N then some (h.length + 1 + j) else none).bind (gO G)))))))
    rw [f2, sn_outer, e11, vp_cell_q]
    congr 2
    funext j
    by_cases hj : j < N
    · rw [if_pos hj, if_pos hj]
      show _ = va_rf (gO G (h.length + 1 + j))
      rw [hK2 _ (by omega), show gB G + (h.length + 1 + j - jt_off) = T.heap.size + 1 + j by omega]
      rfl
    · rw [if_neg hj, if_neg hj]
      rfl
  have hP2 : va_P (gD G) jt_cl (sn_w G (h ++ [oc])) U.heap := sn_P.many 1 hP1 hoff (fun j hj => by rw [show j = 0 by omega]; exact ho1)
  have hP3 : va_P (gD G) jt_cl (sn_w G hf) U.heap := by
    have hl1 : (h ++ [oc]).length = h.length + 1 := by rw [List.length_append]; rfl
    have hin : ∀ j, j < N → va_at (gD G) jt_cl (gB G + ((h ++ [oc]).length - jt_off) + j, sn_e G ic) U.heap := by
      intro j hj
      have h4 := f4 j hj
      change U.heap[T.heap.size + 1 + j]? = some ({ cls := comp, slots := Array.replicate M (.int 0), vm := .none } : Cell) at h4
      rw [hl1, show gB G + (h.length + 1 - jt_off) + j = T.heap.size + 1 + j by omega, hic]
      show U.heap[T.heap.size + 1 + j]? = some (vp_cell (gA G 0) (M, .inl fun _ => 0))
      rw [h4, e0, arrV_new]
      rfl
    have := sn_P.many (c := ic) N hP2 (by omega) hin
    rw [List.append_assoc] at this
    rw [hhf]
    exact this
  have hPn : sn_P G hf U.heap := ⟨hP3, by rw [f1, hlen]; omega, by omega, by rw [hhf, List.take_append_of_le_length hoff]; exact hP.2.2.2.1, fun q hq => by rw [f3 q (by omega)]; exact hP.2.2.2.2 q hq⟩
  have hk := K ls U.heap locs hL hPn (sn_S.new hS (by omega) f3)
  have ea : gO G h.length = some T.heap.size := by rw [hK2 _ hoff, ← hsz]
  dsimp only [List.map_cons] at hk
  change W p l e R s m args below meth c U.heap locs _ _ Q (F0 m (pc + 4) ls (va_rf (gO G h.length) :: r.map (sn_v (gO G)))) at hk
  rw [ea] at hk
  have hk2 : W p l e R s m args below meth c U.heap locs (h.length - n0 + 1 + N) (sn_z h - z0 + N + N * M) Q (F0 m (pc + 4) ls (.ref T.heap.size :: r.map (sn_v (gO G)))) := by
    refine W.cs ?_ ?_ hk
    · omega
    · omega
  obtain ⟨t, a1, b1⟩ := hk2 U rfl X1
  exact ⟨t, step t a1, b1⟩
theorem sn_cp {o idx n1 : Nat} {own : String} {sp dp n : Int32} {src dst : Nat} {r : List Value} {h' : jv_H} (hx : p.tables.exec = Jvm.exec) (hb : c.code = cc) (hml : c.maxLocals = nL) (hts : ∀ w ∈ lw_all, w.before args s = true) (hY : sn_SYOK) (hY2 : sn_SYS) (hown : s.vm.findClass own = some m.cls) (ho : jt_R[o]? = some own) (hK : sn_K G s) (hfr : 1 ≤ R.frames) (hlo : 40 ≤ R.locals) (hd : decode cc pc = .ok (.invokestatic idx, 3)) (hm : jv_find jt_S o idx = some (n1, none)) (hrl : r.length ≤ 4) (hv : jv_cp h src sp dst dp n = some h') (K : sn_W G n0 z0 nL p l e R s m args below meth c Q (pc + 3, lc, r, h')) : sn_W G n0 z0 nL p l e R s m args below meth c Q (pc, lc, .int n :: .int dp :: .ref dst :: .int sp :: .ref src :: r, h) := by
  intro ls H locs hL hP hS
  obtain ⟨own', g1, g2⟩ := hY _ _ _ (jv_find_mem hm)
  cases ho.symm.trans g1
  obtain ⟨hK1, hK2, -⟩ := hK
  unfold jv_cp at hv
  split at hv
  next tc ns f td nd g hc hcd =>
    split at hv
    next hq =>
      cases hv
      obtain ⟨rfl, htc, hsrc, hdst, hne, h1, h2, h3, h4, h5, h6⟩ := hq
      have hty : ∃ ty, jt_at[tc]? = some ty ∧ refKind ty = false ∧ ∀ i, i < n.toNatClampNeg → fits ty (.int (f (sp.toNatClampNeg + i))) = true := by
        have : tc = 0 ∨ tc = 1 := by omega
        rcases this with rfl | rfl
        · exact ⟨.int, rfl, rfl, fun i _ => rfl⟩
        · refine ⟨.byte, rfl, rfl, fun i hi => ?_⟩
          rcases h6 with h6 | h6
          · cases h6
          · exact List.all_eq_true.mp h6 i (List.mem_range.mpr hi)
      obtain ⟨ty, hty, hprim, hfit⟩ := hty
      have nn : ∀ z : Int32, ¬ z < 0 → z.toInt = (z.toNatClampNeg : Int) := by
        intro z hz
        have hz0 : (0 : Int) ≤ z.toInt := by
          have := Int32.not_lt.mp hz
          simpa using Int32.le_iff_toInt_le.mp this
        show z.toInt = ((z.toInt.toNat : Nat) : Int)
        omega
      have hc0 : H[gB G + (src - jt_off)]? = some (vp_cell (gA G tc) (ns, .inl f)) := hP.1 _ _ (sn_w_at hsrc hc)
      have hc1 : H[gB G + (dst - jt_off)]? = some (vp_cell (gA G tc) (nd, .inl g)) := hP.1 _ _ (sn_w_at hdst hcd)
      have hA := (hK1.2 tc _ (sn_t_at hty)).1
      dsimp only at hA
      obtain ⟨-, k0, hk0, cm0, hkk0⟩ := hA ns (fun j => .int (f j))
      obtain ⟨-, k1, hk1, cm1, hkk1⟩ := hA nd (fun j => .int (g j))
      show W p l e R s m args below meth c H locs _ _ Q (F0 m pc ls (.int n :: .int dp :: va_rf (gO G dst) :: .int sp :: va_rf (gO G src) :: r.map (sn_v (gO G))))
      rw [hK2 _ hsrc, hK2 _ hdst]
      intro T hT X
      have hcat : ((r.map (sn_v (gO G))).map fun v => v.category).sum ≤ 8 := by
        have key : ∀ (l : List Value), (l.map fun v => v.category).sum ≤ 2 * l.length := by
          intro l
          induction l with
          | nil => simp
          | cons v l ih =>
            have := lv_cat v
            simp only [List.map_cons, List.sum_cons, List.length_cons]
            omega
        have := key (r.map (sn_v (gO G)))
        rw [List.length_map] at this
        omega
      obtain ⟨vm', X', step⟩ := X.arraycopy hx hown (hts _ g2) (hts _ hY2.1) (hts _ hY2.2.1) (hts _ hY2.2.2) (src := gB G + (src - jt_off)) (dst := gB G + (dst - jt_off)) (cs := vp_cell (gA G tc) (ns, .inl f)) (cd := vp_cell (gA G tc) (nd, .inl g)) (srcPos := sp) (destPos := dp) (n := n) (by rw [hT]; exact hc0) (by rw [hT]; exact hc1)
        (fun _ h => by cases h) (fun _ h => by cases h) (fun h => by cases h) (fun h => by cases h) hk0 hk1 hkk0 hkk1 (by simp [hprim]) h1 h2 h3
        (by rw [nn sp h1, nn n h3]; show ¬ _ > ((arrV _ ns (fun j => .int (f j))).slots.size : Int); rw [arrV_size]; omega)
        (by rw [nn dp h2, nn n h3]; show ¬ _ > ((arrV _ nd (fun j => .int (g j))).slots.size : Int); rw [arrV_size]; omega)
        (fun vm₁ _ i hi => by
          have e : (vp_cell (gA G tc) (ns, .inl f)).slots.getD (sp.toNatClampNeg + i) .null = .int (f (sp.toNatClampNeg + i)) := by
            show (arrV _ ns (fun j => .int (f j))).slots.getD _ _ = _
            rw [Array.getD_eq_getD_getElem?, arrV_read _ _ (by omega)]
            rfl
          refine ⟨?_, ?_⟩
          · rw [e]
            exact hfit i hi
          · rw [e]
            exact trivial)
        (g := F0 m pc ls (.int n :: .int dp :: .ref (gB G + (dst - jt_off)) :: .int sp :: .ref (gB G + (src - jt_off)) :: r.map (sn_v (gO G)))) rfl (by show ls.size = _; rw [hml]; exact hL.2.1) (rest := r.map (sn_v (gO G))) rfl (by rw [hb]; exact hd) hfr (by show 2 * 0 + _ + (nativeFrameWords "java/lang/System" "arraycopy" 5 + 11) ≤ _; have : nativeFrameWords "java/lang/System" "arraycopy" 5 = 7 := (by decide); omega)
      have e1 : copied (vp_cell (gA G tc) (ns, .inl f)) (vp_cell (gA G tc) (nd, .inl g)) sp dp n = vp_cell (gA G tc) (nd, .inl (va_cpy f g sp.toNatClampNeg dp.toNatClampNeg n.toNatClampNeg)) := va_copied (fun z => .int z) _ _ f g h4
      rw [e1] at X' step
      have hl : gB G + (dst - jt_off) < H.size := (Array.getElem?_eq_some_iff.mp hc1).1
      have hheap : ((T.setVm vm').setCell (gB G + (dst - jt_off)) (vp_cell (gA G tc) (nd, .inl (va_cpy f g sp.toNatClampNeg dp.toNatClampNeg n.toNatClampNeg)))).heap = H.setIfInBounds (gB G + (dst - jt_off)) (vp_cell (gA G tc) (nd, .inl (va_cpy f g sp.toNatClampNeg dp.toNatClampNeg n.toNatClampNeg))) := by rw [← hT]; rfl
      have oq : ∀ q : Nat, q ≠ gB G + (dst - jt_off) → (H.setIfInBounds (gB G + (dst - jt_off)) (vp_cell (gA G tc) (nd, .inl (va_cpy f g sp.toNatClampNeg dp.toNatClampNeg n.toNatClampNeg))))[q]? = H[q]? := fun q hq => by simp [Array.getElem?_setIfInBounds, Ne.symm hq]
      have hPn : sn_P G (h.set dst (.inl (tc, nd, .inl (va_cpy f g sp.toNatClampNeg dp.toNatClampNeg n.toNatClampNeg)))) (H.setIfInBounds (gB G + (dst - jt_off)) (vp_cell (gA G tc) (nd, .inl (va_cpy f g sp.toNatClampNeg dp.toNatClampNeg n.toNatClampNeg)))) :=
        hP.set hdst (List.getElem?_eq_some_iff.mp hcd).1 (show (H.setIfInBounds _ _)[_]? = some _ by simp only [Array.getElem?_setIfInBounds_self_of_lt hl]; rfl) (by simp) oq
      have hk := fun locs' hS' => K ls _ locs' hL hPn hS'
      dsimp only at hk
      rw [List.length_set, sn_set_z hcd (by rfl)] at hk
      obtain ⟨t, a1, b1⟩ := hk _ ⟨by simp; exact hS.1, fun q g1 g2 => by
          rw [oq q (fun e => g2 (by rw [e]; exact Nat.le_add_right _ _))]
          exact hS.2.1 q g1 g2, fun q hq => by
          rcases List.mem_append.mp hq with h | h
          · exact hS.2.2 q h
          · obtain ⟨z, -, hz⟩ := List.mem_map.mp h
            rw [← hz]
            exact Nat.le_add_right _ _⟩ _ hheap X'
      exact ⟨t, step t a1, b1⟩
    next => cases hv
  next => cases hv
theorem sn_cls_at {h : jv_H} {a ci : Nat} (hc : jv_cls h a = some ci) : ∃ fs, h[a]? = some (.inr (ci, fs)) := by
  unfold jv_cls at hc
  split at hc
  next ci' fs hq => cases hc; exact ⟨fs, hq⟩
  next => cases hc
/-- the object at a of the class ci: its cell -/
theorem sn_obj {H : Heap} {a ci : Nat} (hts : ∀ w ∈ lw_all, w.before args s = true) (hC : sn_COK) (hK : sn_K G s) (hP : sn_P G h H) {q : vw_C} (hq : jt_cl[ci]? = some q) (hc : jv_cls h a = some ci) : ∃ (ad : Nat) (cell : Cell), gO G a = some ad ∧ H[ad]? = some cell ∧ cell.vm.isStatics = false ∧ s.vm.findClass q.1 = some cell.cls := by
  obtain ⟨fs, hfs⟩ := sn_cls_at hc
  rcases sn_read hts (fun ci q hq => (hC ci q hq).1) hK hP hfs with hdm | ⟨y, hy, -⟩ | hat
  · exact absurd (sn_dm_cls (h := h) (a := a) hdm) (sn_cl_lt hq)
  · cases hy
  · obtain ⟨ad, C', T', N', cell, q1, q2, q3, q4, q5, q6, q7⟩ := hat
    cases hq.symm.trans q2
    exact ⟨ad, cell, q1, q3, q4, q6⟩
theorem sn_cast {o idx a ci : Nat} {own : String} {r : List Value} (hx : p.tables.exec = Jvm.exec) (hb : c.code = cc) (hts : ∀ w ∈ lw_all, w.before args s = true) (hC : sn_COK) (hCK : sn_CKOK) (hown : s.vm.findClass own = some m.cls) (ho : jt_R[o]? = some own) (hK : sn_K G s) (hd : decode cc pc = .ok (.checkcast idx, 3)) (h1 : jv_cls h a = some ci) (h2 : jt_CK.contains (o, idx, ci) = true) (K : sn_W G n0 z0 nL p l e R s m args below meth c Q (pc + 3, lc, .ref a :: r, h)) : sn_W G n0 z0 nL p l e R s m args below meth c Q (pc, lc, .ref a :: r, h) := by
  intro ls H locs hL hP hS
  obtain ⟨own', C, nm, T, N, g1, g2, g3, g4⟩ := hCK _ (List.contains_iff_mem.mp h2)
  dsimp only at g1 g2 g3
  cases ho.symm.trans g1
  obtain ⟨ad, cell, q1, q2, q3, q4⟩ := sn_obj hts hC hK hP g2 h1
  have hk := K ls H locs hL hP hS
  change W p l e R s m args below meth c H locs _ _ Q (F0 m (pc + 3) ls (va_rf (gO G a) :: r.map (sn_v (gO G)))) at hk
  show W p l e R s m args below meth c H locs _ _ Q (F0 m pc ls (va_rf (gO G a) :: r.map (sn_v (gO G))))
  rw [q1] at hk ⊢
  rcases g4 with g4 | g4
  · subst g4
    exact va_castE hx hb hown (hts _ g3) ⟨cell, q2, q3, q4⟩ hd hk
  · exact va_castY hx hb hown (hts _ g3) (hK.2.2.2.2.2.2 _ g4) ⟨cell, q2, q3, q4⟩ hd hk
theorem sn_inst {o idx a ci : Nat} {own : String} {r : List Value} (hx : p.tables.exec = Jvm.exec) (hb : c.code = cc) (hts : ∀ w ∈ lw_all, w.before args s = true) (hC : sn_COK) (hCK : sn_CKOK) (hown : s.vm.findClass own = some m.cls) (ho : jt_R[o]? = some own) (hK : sn_K G s) (hd : decode cc pc = .ok (.instanceof idx, 3)) (h1 : jv_cls h a = some ci) (h2 : jt_CK.contains (o, idx, ci) = true) (K : sn_W G n0 z0 nL p l e R s m args below meth c Q (pc + 3, lc, .int 1 :: r, h)) : sn_W G n0 z0 nL p l e R s m args below meth c Q (pc, lc, .ref a :: r, h) := by
  intro ls H locs hL hP hS
  obtain ⟨own', C, nm, T, N, g1, g2, g3, g4⟩ := hCK _ (List.contains_iff_mem.mp h2)
  dsimp only at g1 g2 g3
  cases ho.symm.trans g1
  obtain ⟨ad, cell, q1, q2, q3, q4⟩ := sn_obj hts hC hK hP g2 h1
  have hk := K ls H locs hL hP hS
  show W p l e R s m args below meth c H locs _ _ Q (F0 m pc ls (va_rf (gO G a) :: r.map (sn_v (gO G))))
  rw [q1]
  rcases g4 with g4 | g4
  · subst g4
    exact va_instE hx hb hown (hts _ g3) ⟨cell, q2, q3, q4⟩ hd hk
  · exact va_instY hx hb hown (hts _ g3) (hK.2.2.2.2.2.2 _ g4) ⟨cell, q2, q3, q4⟩ hd hk
theorem sn_ldc {o idx : Nat} {own : String} {v : Value} (hx : p.tables.exec = Jvm.exec) (hb : c.code = cc) (hts : ∀ w ∈ lw_all, w.before args s = true) (hKO : sn_KOK) (hown : s.vm.findClass own = some m.cls) (ho : jt_R[o]? = some own) (hK : sn_K G s) (hd : decode cc pc = .ok (.ldc idx, 2)) (h1 : jv_find jt_K o idx = some v) (hnl : ∀ x, v ≠ .long x) (K : sn_W G n0 z0 nL p l e R s m args below meth c Q (pc + 2, lc, v :: st, h)) : sn_W G n0 z0 nL p l e R s m args below meth c Q (pc, lc, st, h) := by
  intro ls H locs hL hP hS
  obtain ⟨own', g1, g2, g3, g4⟩ := hKO _ (jv_find_mem h1)
  dsimp only at g1 g2 g3 g4
  cases ho.symm.trans g1
  rcases g4 with ⟨x, hx'⟩ | ⟨x, hx'⟩ | ⟨r, hr⟩
  · subst hx'
    exact lv_ldc hx hb hown (hts _ (g2 x rfl)) hd (K ls H locs hL hP hS)
  · exact absurd hx' (hnl x)
  · subst hr
    obtain ⟨own2, tx, a, q1, q2, q3⟩ := hK.2.2.2.2.1 _ (jv_find_mem h1) r rfl
    dsimp only at q1 q2
    cases ho.symm.trans q1
    have hk := K ls H locs hL hP hS
    change W p l e R s m args below meth c H locs _ _ Q (F0 m (pc + 2) ls (va_rf (gO G r) :: st.map (sn_v (gO G)))) at hk
    rw [q3] at hk
    exact va_ldcS hx hb hown q2 hd hk
theorem sn_ldcw {o idx : Nat} {own : String} {v : Int32} (hx : p.tables.exec = Jvm.exec) (hb : c.code = cc) (hts : ∀ w ∈ lw_all, w.before args s = true) (hKO : sn_KOK) (hown : s.vm.findClass own = some m.cls) (ho : jt_R[o]? = some own) (hd : decode cc pc = .ok (.ldc_w idx, 3)) (h1 : jv_find jt_K o idx = some (.int v)) (K : sn_W G n0 z0 nL p l e R s m args below meth c Q (pc + 3, lc, .int v :: st, h)) : sn_W G n0 z0 nL p l e R s m args below meth c Q (pc, lc, st, h) := by
  intro ls H locs hL hP hS
  obtain ⟨own', g1, g2, g3, g4⟩ := hKO _ (jv_find_mem h1)
  dsimp only at g1 g2 g3 g4
  cases ho.symm.trans g1
  exact lv_ldcw hx hb hown (hts _ (g2 v rfl)) hd (K ls H locs hL hP hS)
theorem sn_ldc2 {o idx : Nat} {own : String} {v : Int64} (hx : p.tables.exec = Jvm.exec) (hb : c.code = cc) (hts : ∀ w ∈ lw_all, w.before args s = true) (hKO : sn_KOK) (hown : s.vm.findClass own = some m.cls) (ho : jt_R[o]? = some own) (hd : decode cc pc = .ok (.ldc2_w idx, 3)) (h1 : jv_find jt_K o idx = some (.long v)) (K : sn_W G n0 z0 nL p l e R s m args below meth c Q (pc + 3, lc, .long v :: st, h)) : sn_W G n0 z0 nL p l e R s m args below meth c Q (pc, lc, st, h) := by
  intro ls H locs hL hP hS
  obtain ⟨own', g1, g2, g3, g4⟩ := hKO _ (jv_find_mem h1)
  dsimp only at g1 g2 g3 g4
  cases ho.symm.trans g1
  exact lv_ldc2 hx hb hown (hts _ (g3 v rfl)) hd (K ls H locs hL hP hS)
theorem sn_gets {o idx : Nat} {own : String} {v : Value} (hx : p.tables.exec = Jvm.exec) (hb : c.code = cc) (hts : ∀ w ∈ lw_all, w.before args s = true) (hown : s.vm.findClass own = some m.cls) (ho : jt_R[o]? = some own) (hK : sn_K G s) (hd : decode cc pc = .ok (.getstatic idx, 3)) (h1 : jv_find jt_G o idx = some v) (K : sn_W G n0 z0 nL p l e R s m args below meth c Q (pc + 3, lc, v :: st, h)) : sn_W G n0 z0 nL p l e R s m args below meth c Q (pc, lc, st, h) := by
  intro ls H locs hL hP hS
  obtain ⟨own2, C, n, d, q1, q2, q3⟩ := hK.2.2.2.2.2.1 _ (jv_find_mem h1)
  dsimp only at q1 q2 q3
  cases ho.symm.trans q1
  obtain ⟨cf, kf, fi, f, a, cell, h1, h2, h3, h4, h5, h6, h7, h8⟩ := q3
  exact W.gets hx hb hown (hts _ q2) h1 h2 h3 h4 (by rw [hP.2.2.2.2 a (Nat.not_le.mp h8)]; exact h5) (fun e => by rw [e] at h6; cases h6) h7 rfl hd (K ls H locs hL hP hS)
end
