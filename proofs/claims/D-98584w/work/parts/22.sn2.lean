section
variable {G : sn_G} {n0 z0 nL : Nat} {p : Program} {l : Launch} {e : Env} {R : Room} {s : State} {m : MethodId} {args : Array Value} {below : List Frame} {meth : Method} {c : Code} {Q : State → Prop}
variable {cc : ByteArray} {pc : Nat} {lc : jv_L} {st : List Value} {h : jv_H} {cf : Nat × jv_L × List Value × jv_H}
theorem sn_nx {pc' : Nat} {lc' : jv_L} {st' : List Value} {h' : jv_H} (ha : jv_nx pc' lc' st' h' = some (.inl cf)) : cf = (pc', lc', st', h') := by cases ha; rfl
theorem sn_i2 {f : Int32 → Int32 → Int32} (row : ∀ (H : Heap) (locs : List Loc) (cells slots : Nat) (ls : Array Slot) (x y : Int32) (rest : List Value), W p l e R s m args below meth c H locs cells slots Q (F0 m (pc + 1) ls (.int (f x y) :: rest)) → W p l e R s m args below meth c H locs cells slots Q (F0 m pc ls (.int y :: .int x :: rest))) (ha : jv_i2 f pc lc st h = some (.inl cf)) (K : sn_W G n0 z0 nL p l e R s m args below meth c Q cf) : sn_W G n0 z0 nL p l e R s m args below meth c Q (pc, lc, st, h) := by
  unfold jv_i2 at ha
  split at ha
  · obtain rfl := sn_nx ha
    intro ls H locs hL hP hS
    exact row _ _ _ _ _ _ _ _ (K ls H locs hL hP hS)
  · cases ha
theorem sn_d2 {f : Int32 → Int32 → Int32} (row : ∀ (H : Heap) (locs : List Loc) (cells slots : Nat) (ls : Array Slot) (x y : Int32) (rest : List Value), ¬ y = 0 → W p l e R s m args below meth c H locs cells slots Q (F0 m (pc + 1) ls (.int (f x y) :: rest)) → W p l e R s m args below meth c H locs cells slots Q (F0 m pc ls (.int y :: .int x :: rest))) (ha : jv_d2 f pc lc st h = some (.inl cf)) (K : sn_W G n0 z0 nL p l e R s m args below meth c Q cf) : sn_W G n0 z0 nL p l e R s m args below meth c Q (pc, lc, st, h) := by
  unfold jv_d2 at ha
  split at ha
  · split at ha
    · cases ha
    next hy =>
      obtain rfl := sn_nx ha
      intro ls H locs hL hP hS
      exact row _ _ _ _ _ _ _ _ hy (K ls H locs hL hP hS)
  · cases ha
theorem sn_i1 {f : Int32 → Int32} (row : ∀ (H : Heap) (locs : List Loc) (cells slots : Nat) (ls : Array Slot) (x : Int32) (rest : List Value), W p l e R s m args below meth c H locs cells slots Q (F0 m (pc + 1) ls (.int (f x) :: rest)) → W p l e R s m args below meth c H locs cells slots Q (F0 m pc ls (.int x :: rest))) (ha : jv_i1 f pc lc st h = some (.inl cf)) (K : sn_W G n0 z0 nL p l e R s m args below meth c Q cf) : sn_W G n0 z0 nL p l e R s m args below meth c Q (pc, lc, st, h) := by
  unfold jv_i1 at ha
  split at ha
  · obtain rfl := sn_nx ha
    intro ls H locs hL hP hS
    exact row _ _ _ _ _ _ _ (K ls H locs hL hP hS)
  · cases ha
theorem sn_l2 {f : Int64 → Int64 → Int64} (row : ∀ (H : Heap) (locs : List Loc) (cells slots : Nat) (ls : Array Slot) (x y : Int64) (rest : List Value), W p l e R s m args below meth c H locs cells slots Q (F0 m (pc + 1) ls (.long (f x y) :: rest)) → W p l e R s m args below meth c H locs cells slots Q (F0 m pc ls (.long y :: .long x :: rest))) (ha : jv_l2 f pc lc st h = some (.inl cf)) (K : sn_W G n0 z0 nL p l e R s m args below meth c Q cf) : sn_W G n0 z0 nL p l e R s m args below meth c Q (pc, lc, st, h) := by
  unfold jv_l2 at ha
  split at ha
  · obtain rfl := sn_nx ha
    intro ls H locs hL hP hS
    exact row _ _ _ _ _ _ _ _ (K ls H locs hL hP hS)
  · cases ha
theorem sn_ld2 {f : Int64 → Int64 → Int64} (row : ∀ (H : Heap) (locs : List Loc) (cells slots : Nat) (ls : Array Slot) (x y : Int64) (rest : List Value), ¬ y = 0 → W p l e R s m args below meth c H locs cells slots Q (F0 m (pc + 1) ls (.long (f x y) :: rest)) → W p l e R s m args below meth c H locs cells slots Q (F0 m pc ls (.long y :: .long x :: rest))) (ha : jv_ld2 f pc lc st h = some (.inl cf)) (K : sn_W G n0 z0 nL p l e R s m args below meth c Q cf) : sn_W G n0 z0 nL p l e R s m args below meth c Q (pc, lc, st, h) := by
  unfold jv_ld2 at ha
  split at ha
  · split at ha
    · cases ha
    next hy =>
      obtain rfl := sn_nx ha
      intro ls H locs hL hP hS
      exact row _ _ _ _ _ _ _ _ hy (K ls H locs hL hP hS)
  · cases ha
theorem sn_il {k pc' : Nat} (row : ∀ (H : Heap) (locs : List Loc) (cells slots : Nat) (ls : Array Slot) (x : Int32) (rest : List Value), ls[k]? = some (.val (.int x)) → W p l e R s m args below meth c H locs cells slots Q (F0 m pc' ls (.int x :: rest)) → W p l e R s m args below meth c H locs cells slots Q (F0 m pc ls rest)) (ha : jv_il k pc' lc st h = some (.inl cf)) (K : sn_W G n0 z0 nL p l e R s m args below meth c Q cf) : sn_W G n0 z0 nL p l e R s m args below meth c Q (pc, lc, st, h) := by
  unfold jv_il at ha
  split at ha
  next x hx =>
    obtain rfl := sn_nx ha
    intro ls H locs hL hP hS
    exact row _ _ _ _ _ x _ (hL.at1 hx (Or.inl rfl)) (K ls H locs hL hP hS)
  · cases ha
theorem sn_ll {k pc' : Nat} (row : ∀ (H : Heap) (locs : List Loc) (cells slots : Nat) (ls : Array Slot) (x : Int64) (rest : List Value), ls[k]? = some (.val (.long x)) → W p l e R s m args below meth c H locs cells slots Q (F0 m pc' ls (.long x :: rest)) → W p l e R s m args below meth c H locs cells slots Q (F0 m pc ls rest)) (ha : jv_ll k pc' lc st h = some (.inl cf)) (K : sn_W G n0 z0 nL p l e R s m args below meth c Q cf) : sn_W G n0 z0 nL p l e R s m args below meth c Q (pc, lc, st, h) := by
  unfold jv_ll at ha
  split at ha
  next x hx hn =>
    obtain rfl := sn_nx ha
    intro ls H locs hL hP hS
    exact row _ _ _ _ _ x _ (hL.at1 hx (Or.inr hn)) (K ls H locs hL hP hS)
  · cases ha
theorem sn_aL {k pc' : Nat} (row : ∀ (H : Heap) (locs : List Loc) (cells slots : Nat) (ls : Array Slot) (x : Nat) (rest : List Value), ls[k]? = some (.val (.ref x)) → W p l e R s m args below meth c H locs cells slots Q (F0 m pc' ls (.ref x :: rest)) → W p l e R s m args below meth c H locs cells slots Q (F0 m pc ls rest)) (rowN : ∀ (H : Heap) (locs : List Loc) (cells slots : Nat) (ls : Array Slot) (rest : List Value), ls[k]? = some (.val .null) → W p l e R s m args below meth c H locs cells slots Q (F0 m pc' ls (.null :: rest)) → W p l e R s m args below meth c H locs cells slots Q (F0 m pc ls rest)) (ha : jv_aL k pc' lc st h = some (.inl cf)) (K : sn_W G n0 z0 nL p l e R s m args below meth c Q cf) : sn_W G n0 z0 nL p l e R s m args below meth c Q (pc, lc, st, h) := by
  unfold jv_aL at ha
  split at ha
  next x hx =>
    obtain rfl := sn_nx ha
    intro ls H locs hL hP hS
    have h1 := hL.at1 hx (Or.inl rfl)
    have h2 := K ls H locs hL hP hS
    change ls[k]? = some (.val (va_rf (gO G x))) at h1
    change W p l e R s m args below meth c H locs _ _ Q (F0 m pc' ls (va_rf (gO G x) :: st.map (sn_v (gO G)))) at h2
    cases hg : gO G x with
    | none => rw [hg] at h1 h2; exact rowN _ _ _ _ _ _ h1 h2
    | some a => rw [hg] at h1 h2; exact row _ _ _ _ _ _ _ h1 h2
  next hx =>
    obtain rfl := sn_nx ha
    intro ls H locs hL hP hS
    exact rowN _ _ _ _ _ _ (hL.at1 hx (Or.inl rfl)) (K ls H locs hL hP hS)
  · cases ha
theorem sn_is {k pc' : Nat} (row : ∀ (H : Heap) (locs : List Loc) (cells slots : Nat) (ls : Array Slot) (x : Int32) (rest : List Value) (lv : List (Nat × Value)), lv_has ls nL lv → k < nL → (∀ ls', lv_has ls' nL ((k, Value.int x) :: lv.filter (fun q => !(q.1 == k) && !(q.1 + 1 == k && q.2.category == 2))) → W p l e R s m args below meth c H locs cells slots Q (F0 m pc' ls' rest)) → W p l e R s m args below meth c H locs cells slots Q (F0 m pc ls (.int x :: rest))) (ha : jv_is k pc' lc st h = some (.inl cf)) (K : sn_W G n0 z0 nL p l e R s m args below meth c Q cf) : sn_W G n0 z0 nL p l e R s m args below meth c Q (pc, lc, st, h) := by
  unfold jv_is at ha
  split at ha
  next x r =>
    split at ha
    next hk =>
      obtain rfl := sn_nx ha
      intro ls H locs hL hP hS
      exact row _ _ _ _ _ x _ _ hL.2 (hL.1 ▸ hk) (fun ls' h' => K ls' H locs (hL.st1 (v := .int x) hk h') hP hS)
    · cases ha
  · cases ha
theorem sn_ls {k pc' : Nat} (row : ∀ (H : Heap) (locs : List Loc) (cells slots : Nat) (ls : Array Slot) (x : Int64) (rest : List Value) (lv : List (Nat × Value)), lv_has ls nL lv → k + 1 < nL → (∀ ls', lv_has ls' nL ((k, Value.long x) :: lv.filter (fun q => !(q.1 == k) && (!(q.1 == k + 1) && !(q.1 + 1 == k && q.2.category == 2)))) → W p l e R s m args below meth c H locs cells slots Q (F0 m pc' ls' rest)) → W p l e R s m args below meth c H locs cells slots Q (F0 m pc ls (.long x :: rest))) (ha : jv_ls k pc' lc st h = some (.inl cf)) (K : sn_W G n0 z0 nL p l e R s m args below meth c Q cf) : sn_W G n0 z0 nL p l e R s m args below meth c Q (pc, lc, st, h) := by
  unfold jv_ls at ha
  split at ha
  next x r =>
    split at ha
    next hk =>
      obtain rfl := sn_nx ha
      intro ls H locs hL hP hS
      exact row _ _ _ _ _ x _ _ hL.2 (hL.1 ▸ hk) (fun ls' h' => K ls' H locs (hL.st2 (v := .long x) hk h') hP hS)
    · cases ha
  · cases ha
theorem sn_aS {k pc' : Nat} (row : ∀ (H : Heap) (locs : List Loc) (cells slots : Nat) (ls : Array Slot) (x : Nat) (rest : List Value) (lv : List (Nat × Value)), lv_has ls nL lv → k < nL → (∀ ls', lv_has ls' nL ((k, Value.ref x) :: lv.filter (fun q => !(q.1 == k) && !(q.1 + 1 == k && q.2.category == 2))) → W p l e R s m args below meth c H locs cells slots Q (F0 m pc' ls' rest)) → W p l e R s m args below meth c H locs cells slots Q (F0 m pc ls (.ref x :: rest)))
    (rowN : ∀ (H : Heap) (locs : List Loc) (cells slots : Nat) (ls : Array Slot) (rest : List Value) (lv : List (Nat × Value)), lv_has ls nL lv → k < nL → (∀ ls', lv_has ls' nL ((k, Value.null) :: lv.filter (fun q => !(q.1 == k) && !(q.1 + 1 == k && q.2.category == 2))) → W p l e R s m args below meth c H locs cells slots Q (F0 m pc' ls' rest)) → W p l e R s m args below meth c H locs cells slots Q (F0 m pc ls (.null :: rest))) (ha : jv_aS k pc' lc st h = some (.inl cf)) (K : sn_W G n0 z0 nL p l e R s m args below meth c Q cf) : sn_W G n0 z0 nL p l e R s m args below meth c Q (pc, lc, st, h) := by
  unfold jv_aS at ha
  split at ha
  next x r =>
    split at ha
    next hk =>
      obtain rfl := sn_nx ha
      intro ls H locs hL hP hS
      have key : ∀ ls', lv_has ls' nL ((k, va_rf (gO G x)) :: (sn_al (gO G) lc).filter (fun q => !(q.1 == k) && !(q.1 + 1 == k && q.2.category == 2))) → W p l e R s m args below meth c H locs _ _ Q (F0 m pc' ls' (r.map (sn_v (gO G)))) := fun ls' h' => K ls' H locs (hL.st1 (v := .ref x) hk h') hP hS
      show W p l e R s m args below meth c H locs _ _ Q (F0 m pc ls (va_rf (gO G x) :: r.map (sn_v (gO G))))
      cases hg : gO G x with
      | none => rw [hg] at key; exact rowN _ _ _ _ _ _ _ hL.2 (hL.1 ▸ hk) key
      | some a => rw [hg] at key; exact row _ _ _ _ _ _ _ _ hL.2 (hL.1 ▸ hk) key
    · cases ha
  next r =>
    split at ha
    next hk =>
      obtain rfl := sn_nx ha
      intro ls H locs hL hP hS
      exact rowN _ _ _ _ _ _ _ hL.2 (hL.1 ▸ hk) (fun ls' h' => K ls' H locs (hL.st1 (v := .null) hk h') hP hS)
    · cases ha
  · cases ha
theorem sn_if {cd : Prop} [Decidable cd] {off : Int} {r : List Value}
    (ha : jv_if cd pc off lc r h = some (.inl cf)) (K : sn_W G n0 z0 nL p l e R s m args below meth c Q cf) (hr : ∀ (H : Heap) (locs : List Loc) (cells slots : Nat) (ls : Array Slot) (tgt : Nat), (pc : Int) + off = (tgt : Int) → (cd → W p l e R s m args below meth c H locs cells slots Q (F0 m tgt ls (r.map (sn_v (gO G))))) → (¬ cd → W p l e R s m args below meth c H locs cells slots Q (F0 m (pc + 3) ls (r.map (sn_v (gO G))))) → W p l e R s m args below meth c H locs cells slots Q (F0 m pc ls (st.map (sn_v (gO G))))) : sn_W G n0 z0 nL p l e R s m args below meth c Q (pc, lc, st, h) := by
  unfold jv_if at ha
  split at ha
  next h0 =>
    have ht : (pc : Int) + off = (jv_br pc off : Int) := by unfold jv_br; omega
    intro ls H locs hL hP hS
    by_cases hc : cd
    · rw [if_pos hc] at ha
      obtain rfl := sn_nx ha
      exact hr _ _ _ _ _ _ ht (fun _ => K ls H locs hL hP hS) (fun q => absurd hc q)
    · rw [if_neg hc] at ha
      obtain rfl := sn_nx ha
      exact hr _ _ _ _ _ _ ht (fun q => absurd q hc) (fun _ => K ls H locs hL hP hS)
  · cases ha
end
