/-! soundness: what is read of the heap -/
def sn_av (ao : Nat → Option Nat) (f : (Nat → Int32) ⊕ (Nat → Int64) ⊕ (Nat → UInt32) ⊕ (Nat → UInt64) ⊕ (Nat → Option Nat)) (j : Nat) : Value := match f with
  | .inl f => .int (f j)
  | .inr (.inl f) => .long (f j)
  | .inr (.inr (.inl f)) => .float (f j)
  | .inr (.inr (.inr (.inl f))) => .double (f j)
  | .inr (.inr (.inr (.inr f))) => va_rf ((f j).bind ao)
def sn_at (G : sn_G) (U : State) (k : Nat) (c : jv_C) (H : Heap) : Prop := match c with
  | .inl x => ∃ (a : Nat) (ty : FieldType) (cell : Cell), gO G k = some a ∧ jt_at[x.1]? = some ty ∧ H[a]? = some cell ∧ U.isArrayOf cell ty ∧ cell.vm ≠ .unknown ∧ x.2.1 ≤ cell.slots.size ∧ cell.slots.size.toInt32 = Int32.ofNat x.2.1 ∧ ∀ j : Nat, j < x.2.1 → cell.slots[j]? = some (sn_av (gO G) x.2.2 j)
  | .inr x => ∃ (a : Nat) (C : String) (T : u_T) (N : Nat) (cell : Cell), gO G k = some a ∧ jt_cl[x.1]? = some (C, T, N) ∧ H[a]? = some cell ∧ cell.vm.isStatics = false ∧ cell.vm ≠ .unknown ∧ U.vm.findClass C = some cell.cls ∧ ∀ (j : Nat) (v : Value), x.2[j]? = some v → j < N → ∃ (cf : ClassId) (kf : Class) (fi : Nat) (f : Field), U.fieldFound? (T j).1 (T j).2.1 (T j).2.2.1 = some (cf, kf, fi, f) ∧ f.isStatic = false ∧ cell.slots[f.slot]? = some (sn_v (gO G) v)
/-- no cell of the picture's: nothing is known of it -/
def sn_dm (c : jv_C) : Prop := c = .inr (9999, [])
def sn_t (G : sn_G) : List (ClassId × FieldType) := jt_at.mapIdx fun k ty => (gA G k, ty)
/-- what rides along of the classes and of what stood before the run -/
def sn_isN (w : Cond) : Bool := match w with
  | .castable _ _ => true
  | .declares _ => true
  | .privateMethod _ => true
  | .methodLinkNest _ _ _ _ => true
  | .arrayOver (.object _) => true
  | .arrayOver (.array .int) => true
  | _ => false
def sn_nw : List Cond := lw_tbl.filter sn_isN
def sn_K (G : sn_G) (U : State) : Prop := va_K (gD G) jt_cl (sn_t G) U ∧ (∀ r, jt_off ≤ r → gO G r = some (gB G + (r - jt_off))) ∧ (gL G).length = jt_off ∧ (∀ (k : Nat) (c : jv_C), (gL G)[k]? = some c → sn_dm c ∨ (sn_at G U k c (gH G) ∧ ∃ a, gO G k = some a ∧ a < gB G)) ∧ (∀ e ∈ jt_K, ∀ r, e.2.2 = .ref r → ∃ (own tx : String) (a : Nat), jt_R[e.1]? = some own ∧ vk_R own e.2.1 tx a U ∧ gO G r = some a) ∧ (∀ e ∈ jt_G, ∃ own C n d : String, jt_R[e.1]? = some own ∧ Cond.fieldLink own e.2.1 C n d ∈ lw_all ∧ va_Z C n d (sn_v (gO G) e.2.2) (fun q => gB G ≤ q) U (gH G)) ∧ ∀ w ∈ sn_nw, va_Nw w U
theorem sn_t_at {G : sn_G} {tc : Nat} {ty : FieldType} (h : jt_at[tc]? = some ty) : (sn_t G)[tc]? = some (gA G tc, ty) := by
  unfold sn_t
  rw [List.getElem?_mapIdx, h]
  rfl
theorem sn_w_at {G : sn_G} {h : jv_H} {k : Nat} {c : jv_C} (hk : jt_off ≤ k) (hc : h[k]? = some c) : (sn_w G h)[k - jt_off]? = some (gB G + (k - jt_off), sn_e G c) := by
  unfold sn_w
  rw [List.getElem?_mapIdx, List.getElem?_drop, Nat.add_sub_cancel' hk, hc]
  rfl
theorem sn_old {h O : jv_H} {k : Nat} {c : jv_C} (hk : k < jt_off) (ht : h.take jt_off = O) (hc : h[k]? = some c) : O[k]? = some c := by
  rw [← ht, List.getElem?_take, if_pos hk]
  exact hc
/-- of a class of the table its words stand in the list -/
def sn_CW : Prop := ∀ (ci : Nat) (q : vw_C), jt_cl[ci]? = some q → ∀ w ∈ u_ws q.1 q.2.1 q.2.2, w ∈ lw_all
theorem sn_read {G : sn_G} {s : State} {args : Array Value} {h : jv_H} {H : Heap} {k : Nat} {c : jv_C} (hts : ∀ w ∈ lw_all, w.before args s = true) (hcw : sn_CW) (hK : sn_K G s) (hP : sn_P G h H) (hc : h[k]? = some c) : sn_dm c ∨ (∃ x, c = .inl x ∧ 12 ≤ x.1) ∨ sn_at G s k c H := by
  obtain ⟨hK1, hK2, hK3, hK4, -⟩ := hK
  obtain ⟨hP1, hP2, hP3, hP4, hP5⟩ := hP
  by_cases hk : k < jt_off
  · rcases hK4 k c (sn_old hk hP4 hc) with hd | ⟨ha, a, h1, h2⟩
    · exact Or.inl hd
    · refine Or.inr (Or.inr ?_)
      cases c with
      | inl x =>
        obtain ⟨a', ty, cell, q1, q2, q3, q4⟩ := ha
        cases h1.symm.trans q1
        exact ⟨a, ty, cell, q1, q2, by rw [hP5 a h2]; exact q3, q4⟩
      | inr x =>
        obtain ⟨a', C, T, N, cell, q1, q2, q3, q4⟩ := ha
        cases h1.symm.trans q1
        exact ⟨a, C, T, N, cell, q1, q2, by rw [hP5 a h2]; exact q3, q4⟩
  · have hk := Nat.not_lt.mp hk
    have hw := hP1 _ _ (sn_w_at hk hc)
    cases c with
    | inl x =>
      obtain ⟨tc, n, f⟩ := x
      cases hty : jt_at[tc]? with
      | none => exact Or.inr (Or.inl ⟨_, rfl, List.getElem?_eq_none_iff.mp hty⟩)
      | some ty =>
        have hA := (hK1.2 tc _ (sn_t_at hty)).1
        refine Or.inr (Or.inr ⟨_, ty, _, hK2 k hk, hty, hw, ?_⟩)
        match f with
        | .inl f => exact ⟨hA n (fun j => .int (f j)), (fun q => by cases q), by show n ≤ (arrV _ _ _).slots.size; rw [arrV_size]; exact Nat.le_refl _, by show (arrV _ _ _).slots.size.toInt32 = _; rw [arrV_size]; rfl, fun j hj => arrV_read _ _ hj⟩
        | .inr (.inl f) => exact ⟨hA n (fun j => .long (f j)), (fun q => by cases q), by show n ≤ (arrV _ _ _).slots.size; rw [arrV_size]; exact Nat.le_refl _, by show (arrV _ _ _).slots.size.toInt32 = _; rw [arrV_size]; rfl, fun j hj => arrV_read _ _ hj⟩
        | .inr (.inr (.inl f)) => exact ⟨hA n (fun j => .float (f j)), (fun q => by cases q), by show n ≤ (arrV _ _ _).slots.size; rw [arrV_size]; exact Nat.le_refl _, by show (arrV _ _ _).slots.size.toInt32 = _; rw [arrV_size]; rfl, fun j hj => arrV_read _ _ hj⟩
        | .inr (.inr (.inr (.inl f))) => exact ⟨hA n (fun j => .double (f j)), (fun q => by cases q), by show n ≤ (arrV _ _ _).slots.size; rw [arrV_size]; exact Nat.le_refl _, by show (arrV _ _ _).slots.size.toInt32 = _; rw [arrV_size]; rfl, fun j hj => arrV_read _ _ hj⟩
        | .inr (.inr (.inr (.inr f))) => exact ⟨hA n (fun j => va_rf ((f j).bind (gO G))), (fun q => by cases q), by show n ≤ (arrV _ _ _).slots.size; rw [arrV_size]; exact Nat.le_refl _, by show (arrV _ _ _).slots.size.toInt32 = _; rw [arrV_size]; rfl, fun j hj => arrV_read _ _ hj⟩
    | inr x =>
      obtain ⟨ci, fs⟩ := x
      obtain ⟨r, h1, cell, q1, q2, q3, q4⟩ := hw
      obtain ⟨C, T, N⟩ := r
      obtain ⟨hS, hfc, kC, hkC, hkind⟩ := hK1.1 ci _ h1
      refine Or.inr (Or.inr ⟨_, C, T, N, cell, hK2 k hk, h1, q1, by rw [q3]; rfl, (by rw [q3]; exact fun q => by cases q), by rw [q2]; exact hfc, fun j v hv hj => ?_⟩)
      obtain ⟨cf, kf, fi, f, hi, hsl⟩ := hS j hj
      refine ⟨cf, kf, fi, f, hi, (u_facts hfc hkC (u_lays hts (hcw ci _ h1) hj) hi).1, ?_⟩
      rw [hsl, q4 j hj]
      have : (fs.map (sn_v (gO G)))[j]? = some (sn_v (gO G) v) := by rw [List.getElem?_map, hv]; rfl
      simp [vp_V, this]
