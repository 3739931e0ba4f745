/-! SOUNDNESS: the machine does what the evaluator says. The relation between the two. -/
abbrev sn_G : Type := va_G × (Nat → ClassId) × (Nat → Option Nat) × Nat × Heap × List jv_C
abbrev gD (G : sn_G) : va_G := G.1
abbrev gA (G : sn_G) : Nat → ClassId := G.2.1
abbrev gO (G : sn_G) : Nat → Option Nat := G.2.2.1
abbrev gB (G : sn_G) : Nat := G.2.2.2.1
abbrev gH (G : sn_G) : Heap := G.2.2.2.2.1
abbrev gL (G : sn_G) : List jv_C := G.2.2.2.2.2
def sn_v (ao : Nat → Option Nat) (v : Value) : Value := match v with
  | .ref r => va_rf (ao r)
  | v => v
theorem sn_v_cat {ao : Nat → Option Nat} {v : Value} : (sn_v ao v).category = v.category := by
  cases v with
  | ref r =>
    show (va_rf (ao r)).category = 1
    cases ao r <;> rfl
  | _ => rfl
def sn_a (ao : Nat → Option Nat) (a : vp_A) : vp_A := (a.1, match a.2 with
  | .inl f => .inl f
  | .inr (.inl f) => .inr (.inl f)
  | .inr (.inr (.inl f)) => .inr (.inr (.inl f))
  | .inr (.inr (.inr (.inl f))) => .inr (.inr (.inr (.inl f)))
  | .inr (.inr (.inr (.inr f))) => .inr (.inr (.inr (.inr (fun k => (f k).bind ao)))))
def sn_e (G : sn_G) (c : jv_C) : va_E := match c with
  | .inl x => .inl (gA G x.1, sn_a (gO G) x.2)
  | .inr x => .inr (x.1, x.2.map (sn_v (gO G)))
/-- the cells that the run has made -/
def sn_w (G : sn_G) (h : jv_H) : va_W := (h.drop jt_off).mapIdx fun k c => (gB G + k, sn_e G c)
def sn_P (G : sn_G) (h : jv_H) (H : Heap) : Prop := va_P (gD G) jt_cl (sn_w G h) H ∧ H.size = gB G + (h.length - jt_off) ∧ jt_off ≤ h.length ∧ h.take jt_off = gL G ∧ ∀ q : Nat, q < gB G → H[q]? = (gH G)[q]?
def sn_cz (c : jv_C) : Nat := match c with
  | .inl x => x.2.1
  | .inr x => x.2.length
/-- fields and elements in all -/
def sn_z (h : jv_H) : Nat := (h.map sn_cz).sum
def sn_al (ao : Nat → Option Nat) (lc : jv_L) : List (Nat × Value) := (List.range lc.length).filterMap fun k => match lc[k]? with
  | some (some v) => if v.category = 1 ∨ lc[k + 1]? = some none then some (k, sn_v ao v) else none
  | _ => none
theorem sn_al_mem {ao : Nat → Option Nat} {lc : jv_L} {k : Nat} {w : Value} : (k, w) ∈ sn_al ao lc ↔ ∃ v, lc[k]? = some (some v) ∧ (v.category = 1 ∨ lc[k + 1]? = some none) ∧ w = sn_v ao v := by
  unfold sn_al
  rw [List.mem_filterMap]
  constructor
  · rintro ⟨j, -, hj⟩
    split at hj
    next v hv =>
      split at hj
      next hc =>
        cases hj
        exact ⟨v, hv, hc, rfl⟩
      next => cases hj
    next => cases hj
  · rintro ⟨v, hv, hc, rfl⟩
    refine ⟨k, List.mem_range.mpr (List.getElem?_eq_some_iff.mp hv).1, ?_⟩
    rw [hv]
    dsimp only
    rw [if_pos hc]
def sn_L (ao : Nat → Option Nat) (lc : jv_L) (ls : Array Slot) (nL : Nat) : Prop := lc.length = nL ∧ lv_has ls nL (sn_al ao lc)
theorem sn_L.at1 {ao : Nat → Option Nat} {lc : jv_L} {ls : Array Slot} {nL k : Nat} {v : Value} (h : sn_L ao lc ls nL) (hk : lc[k]? = some (some v)) (hc : v.category = 1 ∨ lc[k + 1]? = some none) : ls[k]? = some (.val (sn_v ao v)) := h.2.2.2 (k, sn_v ao v) (sn_al_mem.mpr ⟨v, hk, hc, rfl⟩)
theorem sn_has {ls : Array Slot} {nL : Nat} {l l' : List (Nat × Value)} (h : lv_has ls nL l) (hs : ∀ q ∈ l', q ∈ l) : lv_has ls nL l' := ⟨h.1, h.2.1, fun q hq => h.2.2 q (hs q hq)⟩
theorem sn_L.st1 {ao : Nat → Option Nat} {lc : jv_L} {ls ls' : Array Slot} {nL k : Nat} {v : Value} (h : sn_L ao lc ls nL) (hk : k < lc.length) (h' : lv_has ls' nL ((k, sn_v ao v) :: (sn_al ao lc).filter (fun q => !(q.1 == k) && !(q.1 + 1 == k && q.2.category == 2)))) : sn_L ao (lc.set k (some v)) ls' nL := by
  refine ⟨by rw [List.length_set]; exact h.1, sn_has h' ?_⟩
  rintro ⟨j, w⟩ hq
  obtain ⟨v0, h1, h2, rfl⟩ := sn_al_mem.mp hq
  by_cases hj : j = k
  · subst hj
    rw [List.getElem?_set_self hk] at h1
    cases h1
    exact List.mem_cons_self
  · rw [List.getElem?_set_ne (Ne.symm hj)] at h1
    refine List.mem_cons_of_mem _ (List.mem_filter.mpr ⟨?_, ?_⟩)
    · refine sn_al_mem.mpr ⟨v0, h1, ?_, rfl⟩
      by_cases hj1 : j + 1 = k
      · subst hj1
        rw [List.getElem?_set_self hk] at h2
        rcases h2 with h2 | h2
        · exact Or.inl h2
        · cases h2
      · rw [List.getElem?_set_ne (Ne.symm hj1)] at h2
        exact h2
    · have e1 : (j == k) = false := by simpa using hj
      by_cases hj1 : j + 1 = k
      · subst hj1
        rw [List.getElem?_set_self hk] at h2
        rcases h2 with h2 | h2
        · simp [e1, sn_v_cat, h2]
        · cases h2
      · have e2 : (j + 1 == k) = false := by simpa using hj1
        simp [e1, e2]
theorem sn_L.st2 {ao : Nat → Option Nat} {lc : jv_L} {ls ls' : Array Slot} {nL k : Nat} {v : Value} (h : sn_L ao lc ls nL) (hk : k + 1 < lc.length) (h' : lv_has ls' nL ((k, sn_v ao v) :: (sn_al ao lc).filter (fun q => !(q.1 == k) && (!(q.1 == k + 1) && !(q.1 + 1 == k && q.2.category == 2))))) : sn_L ao ((lc.set k (some v)).set (k + 1) none) ls' nL := by
  refine ⟨by rw [List.length_set, List.length_set]; exact h.1, sn_has h' ?_⟩
  rintro ⟨j, w⟩ hq
  obtain ⟨v0, h1, h2, rfl⟩ := sn_al_mem.mp hq
  by_cases hj2 : j = k + 1
  · subst hj2
    rw [List.getElem?_set_self (by rw [List.length_set]; exact hk)] at h1
    cases h1
  rw [List.getElem?_set_ne (Ne.symm hj2)] at h1
  by_cases hj : j = k
  · subst hj
    rw [List.getElem?_set_self (by omega)] at h1
    cases h1
    exact List.mem_cons_self
  · rw [List.getElem?_set_ne (Ne.symm hj)] at h1
    have hj3 : ¬ k + 1 = j + 1 := by omega
    rw [List.getElem?_set_ne hj3] at h2
    refine List.mem_cons_of_mem _ (List.mem_filter.mpr ⟨?_, ?_⟩)
    · refine sn_al_mem.mpr ⟨v0, h1, ?_, rfl⟩
      by_cases hj1 : j + 1 = k
      · subst hj1
        rw [List.getElem?_set_self (by omega)] at h2
        rcases h2 with h2 | h2
        · exact Or.inl h2
        · cases h2
      · rw [List.getElem?_set_ne (Ne.symm hj1)] at h2
        exact h2
    · have e1 : (j == k) = false := by simpa using hj
      have e3 : (j == k + 1) = false := by simpa using hj2
      by_cases hj1 : j + 1 = k
      · subst hj1
        rw [List.getElem?_set_self (by omega)] at h2
        rcases h2 with h2 | h2
        · simp [e1, e3, sn_v_cat, h2]
        · cases h2
      · have e2 : (j + 1 == k) = false := by simpa using hj1
        simp [e1, e2, e3]
/-- the machine, at the evaluator's configuration cf -/
def sn_W (G : sn_G) (n0 z0 nL : Nat) (p : Program) (l : Launch) (e : Env) (R : Room) (s : State) (m : MethodId) (args : Array Value) (below : List Frame) (meth : Method) (c : Code) (Q : State → Prop) (cf : Nat × jv_L × List Value × jv_H) : Prop :=
  ∀ (ls : Array Slot) (H : Heap) (locs : List Loc), sn_L (gO G) cf.2.1 ls nL → sn_P G cf.2.2.2 H → va_S (fun q => gB G ≤ q) s.heap H locs → W p l e R s m args below meth c H locs (cf.2.2.2.length - n0) (sn_z cf.2.2.2 - z0) Q (F0 m cf.1 ls (cf.2.2.1.map (sn_v (gO G))))
