/-! soundness: instructions that read the heap -/
def sn_FOK (e : Nat × Nat × Nat × Nat × FieldType × Bool) : Prop := ∃ (own C : String) (T : u_T) (N : Nat) (rc : String), jt_R[e.1]? = some own ∧ jt_cl[e.2.2.1]? = some (C, T, N) ∧ e.2.2.2.1 < N ∧ Cond.fieldLink own e.2.1 rc (T e.2.2.2.1).2.1 (T e.2.2.2.1).2.2.1 ∈ lw_all ∧ (rc = (T e.2.2.2.1).1 ∨ Cond.sameField rc (T e.2.2.2.1).1 (T e.2.2.2.1).2.1 (T e.2.2.2.1).2.2.1 ∈ lw_all) ∧ parseFieldDescriptor (T e.2.2.2.1).2.2.1 = some e.2.2.2.2.1 ∧ (T e.2.2.2.1).2.2.2 = e.2.2.2.2.2 ∧ (e.2.2.2.2.2 = true → jt_fo.contains (e.1, e.2.1) = false → (T e.2.2.2.1).1 = own)
/-- of a class its words, types, what a new object holds -/
def sn_COK : Prop := ∀ (ci : Nat) (q : vw_C), jt_cl[ci]? = some q → (∀ w ∈ u_ws q.1 q.2.1 q.2.2, w ∈ lw_all) ∧ (∃ ty : Nat → FieldType, (∀ k, k < q.2.2 → parseFieldDescriptor (q.2.1 k).2.2.1 = some (ty k)) ∧ (∀ a, a < q.2.2 → ∀ b, b < q.2.2 → a ≠ b → (q.2.1 a).2.1 ≠ (q.2.1 b).2.1) ∧ ∃ fs, jt_D[ci]? = some fs ∧ fs.length = q.2.2 ∧ ∀ j, j < q.2.2 → fs[j]? = some (defaultValue (ty j))) ∧ Cond.instantiable q.1 q.2.2 ∈ lw_all ∧ Cond.initialized q.1 ∈ lw_all
theorem sn_rc {args : Array Value} {s : State} {rc A nm ds : String} (hts : ∀ w ∈ lw_all, w.before args s = true) (h : rc = A ∨ Cond.sameField rc A nm ds ∈ lw_all) {x : ClassId × Class × Nat × Field} (hi : s.fieldFound? A nm ds = some x) : s.fieldFound? rc nm ds = some x := by
  rcases h with h | h
  · rw [h]; exact hi
  · exact u_same (hts _ h) x hi
theorem sn_lookup {α : Type} {l : List (Nat × α)} {k : Nat} {v : α} (h : l.lookup k = some v) : (k, v) ∈ l := by
  induction l with
  | nil => cases h
  | cons q l ih =>
    obtain ⟨a, b⟩ := q
    rw [List.lookup_cons] at h
    split at h
    next e =>
      have : k = a := by simpa using e
      subst this
      cases h
      exact List.mem_cons_self
    next => exact List.mem_cons_of_mem _ (ih h)
theorem sn_F_mem {o idx ci k : Nat} {ty : FieldType} (h : (jv_F o idx).lookup ci = some (k, ty)) : ∃ fin, (o, idx, ci, k, ty, fin) ∈ jt_F := by
  have h1 := sn_lookup h
  unfold jv_F at h1
  obtain ⟨e, he, h2⟩ := List.mem_filterMap.mp h1
  split at h2
  next hc =>
    obtain ⟨e1, e2, e3, e4, e5, e6⟩ := e
    obtain ⟨rfl, rfl⟩ := hc
    cases h2
    exact ⟨e6, he⟩
  next => cases h2
theorem sn_FP_mem {o idx ci k : Nat} {ini : Bool} {ty : FieldType} (h : (jv_FP o ini idx).lookup ci = some (k, ty)) : ∃ fin, (o, idx, ci, k, ty, fin) ∈ jt_F ∧ (fin = true → ini = true) ∧ jt_fo.contains (o, idx) = false := by
  have h1 := sn_lookup h
  unfold jv_FP at h1
  split at h1
  · cases h1
  next hfo =>
    obtain ⟨e, he, h2⟩ := List.mem_filterMap.mp h1
    split at h2
    next hc =>
      obtain ⟨e1, e2, e3, e4, e5, e6⟩ := e
      obtain ⟨rfl, rfl, h3⟩ := hc
      cases h2
      exact ⟨e6, he, h3, by simpa using hfo⟩
    next => cases h2
section
variable {G : sn_G} {n0 z0 nL : Nat} {p : Program} {l : Launch} {e : Env} {R : Room} {s : State} {m : MethodId} {args : Array Value} {below : List Frame} {meth : Method} {c : Code} {Q : State → Prop}
variable {cc : ByteArray} {pc : Nat} {lc : jv_L} {st : List Value} {h : jv_H} {cf : Nat × jv_L × List Value × jv_H}
theorem sn_dm_cls {h : jv_H} {a ci : Nat} {fs : List Value} (hd : sn_dm (.inr (ci, fs))) : ci = 9999 := by
  unfold sn_dm at hd
  cases hd
  rfl
theorem sn_cl_lt {ci : Nat} {q : vw_C} (h : jt_cl[ci]? = some q) : ci ≠ 9999 := by
  intro e
  subst e
  exact absurd (List.getElem?_eq_some_iff.mp h).1 (by decide)
theorem sn_getf {o idx : Nat} {own : String} (hx : p.tables.exec = Jvm.exec) (hb : c.code = cc) (hts : ∀ w ∈ lw_all, w.before args s = true) (hF : ∀ e ∈ jt_F, sn_FOK e) (hC : sn_COK) (hown : s.vm.findClass own = some m.cls) (ho : jt_R[o]? = some own) (hK : sn_K G s) (hd : decode cc pc = .ok (.getfield idx, 3))
    {a : Nat} {r : List Value} {v : Value} (hv : jv_gf h a (jv_F o idx) = some v) (K : sn_W G n0 z0 nL p l e R s m args below meth c Q (pc + 3, lc, v :: r, h)) : sn_W G n0 z0 nL p l e R s m args below meth c Q (pc, lc, .ref a :: r, h) := by
  intro ls H locs hL hP hS
  unfold jv_gf at hv
  split at hv
  next ci fs hc =>
    split at hv
    next k hk =>
      obtain ⟨k, ty⟩ := k
      obtain ⟨fin, hm⟩ := sn_F_mem hk
      obtain ⟨own', C, T, N, rc, g1, g2, g3, g4, g45, g5, g6, g7⟩ := hF _ hm
      cases ho.symm.trans g1
      rcases sn_read hts (fun ci q hq => (hC ci q hq).1) hK hP hc with hdm | ⟨x, hx', -⟩ | hat
      · exact absurd (sn_dm_cls (h := h) (a := a) hdm) (sn_cl_lt g2)
      · cases hx'
      · obtain ⟨ad, C', T', N', cell, q1, q2, q3, q4, q5, q6, q7⟩ := hat
        cases g2.symm.trans q2
        obtain ⟨cf', kf, fi, f, w1, w2, w3⟩ := q7 k v hv g3
        show W p l e R s m args below meth c H locs _ _ Q (F0 m pc ls (va_rf (gO G a) :: r.map (sn_v (gO G))))
        rw [q1]
        exact W.getf hx hb hown (hts _ g4) (sn_rc hts g45 w1) w2 q3 q5 (v := sn_v (gO G) v) w3 rfl rfl hd (K ls H locs hL hP hS)
    next => cases hv
  next => cases hv
theorem sn_alen (hx : p.tables.exec = Jvm.exec) (hb : c.code = cc) (hts : ∀ w ∈ lw_all, w.before args s = true) (hC : sn_COK) (hK : sn_K G s) (hd : decode cc pc = .ok (.arraylength, 1))
    {a : Nat} {r : List Value} {n : Int32} (hv : jv_al h a = some n) (K : sn_W G n0 z0 nL p l e R s m args below meth c Q (pc + 1, lc, .int n :: r, h)) : sn_W G n0 z0 nL p l e R s m args below meth c Q (pc, lc, .ref a :: r, h) := by
  intro ls H locs hL hP hS
  unfold jv_al at hv
  split at hv
  next tc n' f hc =>
    split at hv
    next htc =>
      cases hv
      rcases sn_read hts (fun ci q hq => (hC ci q hq).1) hK hP hc with hdm | ⟨x, hx', h12⟩ | hat
      · cases hdm
      · cases hx'; exact absurd htc (Nat.not_lt.mpr h12)
      · obtain ⟨ad, ty, cell, q1, q2, q3, q4, q5, q6, q7, q8⟩ := hat
        show W p l e R s m args below meth c H locs _ _ Q (F0 m pc ls (va_rf (gO G a) :: r.map (sn_v (gO G))))
        rw [q1]
        exact W.alen (n := Int32.ofNat n') hx hb q3 q4 q7 rfl rfl hd (K ls H locs hL hP hS)
    next => cases hv
  next => cases hv
theorem sn_ald {t u : Nat} (hts : ∀ w ∈ lw_all, w.before args s = true) (hC : sn_COK) (hK : sn_K G s) (ht : t < 12) (hu : u < 12)
    (row : ∀ (H : Heap) (locs : List Loc) (cells slots : Nat) (ls : Array Slot) (a : Nat) (tc : Nat) (ty : FieldType) (cell : Cell) (j : Int32) (v : Value) (rest : List Value), tc = t ∨ tc = u → jt_at[tc]? = some ty → H[a]? = some cell → s.isArrayOf cell ty → cell.vm ≠ .unknown → ¬ (j < 0 ∨ cell.slots.size ≤ j.toNatClampNeg) → cell.slots[j.toNatClampNeg]? = some v → W p l e R s m args below meth c H locs cells slots Q (F0 m (pc + 1) ls (v :: rest)) → W p l e R s m args below meth c H locs cells slots Q (F0 m pc ls (.int j :: .ref a :: rest)))
    {a : Nat} {r : List Value} {j x : Int32} (hv : jv_ig h a t u j = some x) (K : sn_W G n0 z0 nL p l e R s m args below meth c Q (pc + 1, lc, .int x :: r, h)) : sn_W G n0 z0 nL p l e R s m args below meth c Q (pc, lc, .int j :: .ref a :: r, h) := by
  intro ls H locs hL hP hS
  unfold jv_ig at hv
  split at hv
  next tc n f hc =>
    split at hv
    next hi =>
      cases hv
      rcases sn_read hts (fun ci q hq => (hC ci q hq).1) hK hP hc with hdm | ⟨x, hx', h12⟩ | hat
      · cases hdm
      · cases hx'; exact absurd h12 (by rcases hi.1 with q | q <;> (dsimp only; omega))
      · obtain ⟨ad, ty, cell, q1, q2, q3, q4, q5, q6, q7, q8⟩ := hat
        have hlt : j.toNatClampNeg < n := Nat.not_le.mp fun q => hi.2 (Or.inr q)
        show W p l e R s m args below meth c H locs _ _ Q (F0 m pc ls (.int j :: va_rf (gO G a) :: r.map (sn_v (gO G))))
        rw [q1]
        exact row _ _ _ _ _ _ tc ty cell j _ _ hi.1 q2 q3 q4 q5 (fun q => hi.2 (q.elim Or.inl (fun z => Or.inr (Nat.le_trans q6 z)))) (q8 _ hlt) (K ls H locs hL hP hS)
    next => cases hv
  next => cases hv
theorem sn_lald (hx : p.tables.exec = Jvm.exec) (hb : c.code = cc) (hts : ∀ w ∈ lw_all, w.before args s = true) (hC : sn_COK) (hK : sn_K G s) (hd : decode cc pc = .ok (.laload, 1)) {a : Nat} {r : List Value} {j : Int32} {x : Int64} (hv : jv_lg h a j = some x) (K : sn_W G n0 z0 nL p l e R s m args below meth c Q (pc + 1, lc, .long x :: r, h)) : sn_W G n0 z0 nL p l e R s m args below meth c Q (pc, lc, .int j :: .ref a :: r, h) := by
  intro ls H locs hL hP hS
  unfold jv_lg at hv
  split at hv
  next tc n f hc =>
    split at hv
    next hi =>
      cases hv
      obtain ⟨rfl, hi⟩ := hi
      rcases sn_read hts (fun ci q hq => (hC ci q hq).1) hK hP hc with hdm | ⟨x, hx', h12⟩ | hat
      · cases hdm
      · cases hx'; exact absurd (show 12 ≤ 4 from h12) (by decide)
      · obtain ⟨ad, ty, cell, q1, q2, q3, q4, q5, q6, q7, q8⟩ := hat
        cases q2
        have hlt : j.toNatClampNeg < n := Nat.not_le.mp fun q => hi (Or.inr q)
        show W p l e R s m args below meth c H locs _ _ Q (F0 m pc ls (.int j :: va_rf (gO G a) :: r.map (sn_v (gO G))))
        rw [q1]
        exact W.lald hx hb q3 q4 q5 (fun q => hi (q.elim Or.inl (fun z => Or.inr (Nat.le_trans q6 z)))) (q8 _ hlt) rfl rfl hd (K ls H locs hL hP hS)
    next => cases hv
  next => cases hv
theorem sn_ref_ty {tc : Nat} {ty : FieldType} (h5 : 5 ≤ tc) (h12 : tc < 12) (h : jt_at[tc]? = some ty) : ty.isReference = true := by
  have : tc = 5 ∨ tc = 6 ∨ tc = 7 ∨ tc = 8 ∨ tc = 9 ∨ tc = 10 ∨ tc = 11 := by omega
  rcases this with rfl | rfl | rfl | rfl | rfl | rfl | rfl <;> (cases h; rfl)
theorem sn_aald (hx : p.tables.exec = Jvm.exec) (hb : c.code = cc) (hts : ∀ w ∈ lw_all, w.before args s = true) (hC : sn_COK) (hK : sn_K G s) (hd : decode cc pc = .ok (.aaload, 1)) {a : Nat} {r : List Value} {j : Int32} {v : Value} (hv : jv_rg h a j = some v) (K : sn_W G n0 z0 nL p l e R s m args below meth c Q (pc + 1, lc, v :: r, h)) : sn_W G n0 z0 nL p l e R s m args below meth c Q (pc, lc, .int j :: .ref a :: r, h) := by
  intro ls H locs hL hP hS
  unfold jv_rg at hv
  split at hv
  next tc n f hc =>
    split at hv
    next hi =>
      cases hv
      obtain ⟨⟨h5, h12'⟩, hi⟩ := hi
      rcases sn_read hts (fun ci q hq => (hC ci q hq).1) hK hP hc with hdm | ⟨x, hx', h12⟩ | hat
      · cases hdm
      · cases hx'; exact absurd h12' (Nat.not_lt.mpr h12)
      · obtain ⟨ad, ty, cell, q1, q2, q3, q4, q5, q6, q7, q8⟩ := hat
        have hlt : j.toNatClampNeg < n := Nat.not_le.mp fun q => hi (Or.inr q)
        have hk := K ls H locs hL hP hS
        have e1 : sn_v (gO G) (va_rf (f j.toNatClampNeg)) = va_rf ((f j.toNatClampNeg).bind (gO G)) := by
          cases f j.toNatClampNeg with
          | none => rfl
          | some b => rfl
        change W p l e R s m args below meth c H locs _ _ Q (F0 m (pc + 1) ls (sn_v (gO G) (va_rf (f j.toNatClampNeg)) :: r.map (sn_v (gO G)))) at hk
        rw [e1] at hk
        show W p l e R s m args below meth c H locs _ _ Q (F0 m pc ls (.int j :: va_rf (gO G a) :: r.map (sn_v (gO G))))
        rw [q1]
        exact W.aald hx hb q3 q4 (sn_ref_ty h5 h12' q2) q5 (fun q => hi (q.elim Or.inl (fun z => Or.inr (Nat.le_trans q6 z)))) (q8 _ hlt) rfl rfl hd hk
    next => cases hv
  next => cases hv
end
