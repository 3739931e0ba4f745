/-! equations of the evaluator, a form an instruction -/
section
variable {d mi pc len : Nat} {i : Instr} {lc : jv_L} {st : List Value} {h : jv_H}
theorem jv_insR {r : Nat × MethodName × ByteArray × Nat × Option FieldType × List (Nat × Nat × Nat × Nat)} (hm : jt_M[mi]? = some r) (hd : decode r.2.2.1 pc = .ok (i, len)) : jv_ins mi pc = some (i, len) := by
  unfold jv_ins
  rw [hm]
  dsimp only
  rw [hd]
theorem jq_nx {pc' : Nat} {lc' : jv_L} {st' : List Value} {h' : jv_H} (hi : jv_ins mi pc = some (i, len)) (ha : jv_act mi pc len i lc st h = jv_nx pc' lc' st' h') : jv_ev d mi pc lc st h = jv_ev d mi pc' lc' st' h' := by
  rw [jv_unf]
  unfold jv_body jv_step
  rw [hi]
  dsimp only
  rw [ha]
  rfl
theorem jq_no (hi : jv_ins mi pc = some (i, len)) (ha : jv_act mi pc len i lc st h = none) : jv_ev d mi pc lc st h = none := by
  rw [jv_unf]
  unfold jv_body jv_step
  rw [hi]
  dsimp only
  rw [ha]
theorem jq_done {r : jv_R} (hi : jv_ins mi pc = some (i, len)) (ha : jv_act mi pc len i lc st h = some (.inr (.inr r))) : jv_ev d mi pc lc st h = some r := by
  rw [jv_unf]
  unfold jv_body jv_step
  rw [hi]
  dsimp only
  rw [ha]
theorem jq_call {y : Nat} {as rest : List Value} (hi : jv_ins mi pc = some (i, len)) (ha : jv_act mi pc len i lc st h = some (.inr (.inl (y, as, rest)))) (hh : jv_catch mi pc = none) : jv_ev d mi pc lc st h = (jv_cd d y as h).bind fun r => jv_on r (fun v h' => jv_ev d mi (pc + 3) lc (v.toList ++ rest) h') (fun q h' => some (.inr q, h')) := by
  rw [jv_unf]
  unfold jv_body jv_step
  rw [hi]
  dsimp only
  rw [ha]
  dsimp only
  rw [hh]
theorem jq_if {c : Prop} [Decidable c] {off : Int} {tgt : Nat} {r : List Value} (hi : jv_ins mi pc = some (i, len)) (ha : jv_act mi pc len i lc st h = jv_if c pc off lc r h) (ht : (pc : Int) + off = (tgt : Int)) : jv_ev d mi pc lc st h = if c then jv_ev d mi tgt lc r h else jv_ev d mi (pc + 3) lc r h := by
  have h1 : (0 : Int) ≤ (pc : Int) + off := by omega
  have h2 : jv_br pc off = tgt := by unfold jv_br; omega
  unfold jv_if at ha
  rw [if_pos h1, h2] at ha
  by_cases hc : c
  · rw [if_pos hc] at ha ⊢
    exact jq_nx hi ha
  · rw [if_neg hc] at ha ⊢
    exact jq_nx hi ha
theorem jq_go {off : Int} {tgt : Nat} (hi : jv_ins mi pc = some (.goto off, 3)) (ht : (pc : Int) + off = (tgt : Int)) : jv_ev d mi pc lc st h = jv_ev d mi tgt lc st h := by
  have h1 : (0 : Int) ≤ (pc : Int) + off := by omega
  have h2 : jv_br pc off = tgt := by unfold jv_br; omega
  refine jq_nx hi ?_
  show (if 0 ≤ (pc : Int) + off then jv_nx (jv_br pc off) lc st h else none) = _
  rw [if_pos h1, h2]
theorem jq_opt {α : Type} {o : Option α} {pcf : α → Nat × jv_L × List Value × jv_H} (hi : jv_ins mi pc = some (i, len)) (ha : jv_act mi pc len i lc st h = o.bind fun v => some (.inl (pcf v))) : jv_ev d mi pc lc st h = o.bind fun v => jv_ev d mi (pcf v).1 (pcf v).2.1 (pcf v).2.2.1 (pcf v).2.2.2 := by
  cases o with
  | none => exact jq_no hi ha
  | some v => exact jq_nx hi ha
theorem jq_get {o idx a : Nat} {r : List Value} {F : List (Nat × Nat × FieldType)} (hi : jv_ins mi pc = some (.getfield idx, 3)) (ho : jv_own mi = o) (hF : jv_F o idx = F) : jv_ev d mi pc lc (.ref a :: r) h = (jv_gf h a F).bind fun v => jv_ev d mi (pc + 3) lc (v :: r) h := by
  subst ho hF
  exact jq_opt (pcf := fun v => (pc + 3, lc, v :: r, h)) hi rfl
theorem jq_put {o idx a : Nat} {ini : Bool} {v : Value} {r : List Value} {F : List (Nat × Nat × FieldType)} (hi : jv_ins mi pc = some (.putfield idx, 3)) (ho : jv_own mi = o) (hn : jv_init mi = ini) (hF : jv_FP o ini idx = F) : jv_ev d mi pc lc (v :: .ref a :: r) h = (jv_pf h a F v).bind fun h' => jv_ev d mi (pc + 3) lc r h' := by
  subst ho hn hF
  exact jq_opt (pcf := fun h' => (pc + 3, lc, r, h')) hi rfl
theorem jq_alen {a : Nat} {r : List Value} (hi : jv_ins mi pc = some (.arraylength, 1)) : jv_ev d mi pc lc (.ref a :: r) h = (jv_al h a).bind fun n => jv_ev d mi (pc + 1) lc (.int n :: r) h := jq_opt (pcf := fun n => (pc + 1, lc, .int n :: r, h)) hi rfl
theorem jq_iald {a : Nat} {j : Int32} {r : List Value} (hi : jv_ins mi pc = some (.iaload, 1)) : jv_ev d mi pc lc (.int j :: .ref a :: r) h = (jv_ig h a 0 0 j).bind fun x => jv_ev d mi (pc + 1) lc (.int x :: r) h := jq_opt (pcf := fun x => (pc + 1, lc, .int x :: r, h)) hi rfl
theorem jq_bald {a : Nat} {j : Int32} {r : List Value} (hi : jv_ins mi pc = some (.baload, 1)) : jv_ev d mi pc lc (.int j :: .ref a :: r) h = (jv_ig h a 1 2 j).bind fun x => jv_ev d mi (pc + 1) lc (.int x :: r) h := jq_opt (pcf := fun x => (pc + 1, lc, .int x :: r, h)) hi rfl
theorem jq_sald {a : Nat} {j : Int32} {r : List Value} (hi : jv_ins mi pc = some (.saload, 1)) : jv_ev d mi pc lc (.int j :: .ref a :: r) h = (jv_ig h a 3 3 j).bind fun x => jv_ev d mi (pc + 1) lc (.int x :: r) h := jq_opt (pcf := fun x => (pc + 1, lc, .int x :: r, h)) hi rfl
theorem jq_lald {a : Nat} {j : Int32} {r : List Value} (hi : jv_ins mi pc = some (.laload, 1)) : jv_ev d mi pc lc (.int j :: .ref a :: r) h = (jv_lg h a j).bind fun x => jv_ev d mi (pc + 1) lc (.long x :: r) h := jq_opt (pcf := fun x => (pc + 1, lc, .long x :: r, h)) hi rfl
theorem jq_aald {a : Nat} {j : Int32} {r : List Value} (hi : jv_ins mi pc = some (.aaload, 1)) : jv_ev d mi pc lc (.int j :: .ref a :: r) h = (jv_rg h a j).bind fun x => jv_ev d mi (pc + 1) lc (x :: r) h := jq_opt (pcf := fun x => (pc + 1, lc, x :: r, h)) hi rfl
theorem jq_iast {a : Nat} {j x : Int32} {r : List Value} (hi : jv_ins mi pc = some (.iastore, 1)) : jv_ev d mi pc lc (.int x :: .int j :: .ref a :: r) h = (jv_ip h a 0 0 j x).bind fun h' => jv_ev d mi (pc + 1) lc r h' := jq_opt (pcf := fun h' => (pc + 1, lc, r, h')) hi rfl
theorem jq_bast {a : Nat} {j x : Int32} {r : List Value} (hi : jv_ins mi pc = some (.bastore, 1)) : jv_ev d mi pc lc (.int x :: .int j :: .ref a :: r) h = (jv_ip h a 1 2 j x).bind fun h' => jv_ev d mi (pc + 1) lc r h' := jq_opt (pcf := fun h' => (pc + 1, lc, r, h')) hi rfl
theorem jq_sast {a : Nat} {j x : Int32} {r : List Value} (hi : jv_ins mi pc = some (.sastore, 1)) : jv_ev d mi pc lc (.int x :: .int j :: .ref a :: r) h = (jv_ip h a 3 3 j x).bind fun h' => jv_ev d mi (pc + 1) lc r h' := jq_opt (pcf := fun h' => (pc + 1, lc, r, h')) hi rfl
theorem jq_last {a : Nat} {j : Int32} {x : Int64} {r : List Value} (hi : jv_ins mi pc = some (.lastore, 1)) : jv_ev d mi pc lc (.long x :: .int j :: .ref a :: r) h = (jv_lp h a j x).bind fun h' => jv_ev d mi (pc + 1) lc r h' := jq_opt (pcf := fun h' => (pc + 1, lc, r, h')) hi rfl
theorem jq_aast {a x : Nat} {j : Int32} {r : List Value} (hi : jv_ins mi pc = some (.aastore, 1)) : jv_ev d mi pc lc (.ref x :: .int j :: .ref a :: r) h = (jv_rp h a j x).bind fun h' => jv_ev d mi (pc + 1) lc r h' := jq_opt (pcf := fun h' => (pc + 1, lc, r, h')) hi rfl
theorem jq_d2 {f : Int32 → Int32 → Int32} {x y : Int32} {r : List Value} (hi : jv_ins mi pc = some (i, len)) (ha : jv_act mi pc len i lc (.int y :: .int x :: r) h = if y = 0 then none else jv_nx (pc + 1) lc (.int (f x y) :: r) h) : jv_ev d mi pc lc (.int y :: .int x :: r) h = if y = 0 then none else jv_ev d mi (pc + 1) lc (.int (f x y) :: r) h := by
  by_cases hy : y = 0
  · rw [if_pos hy] at ha ⊢
    exact jq_no hi ha
  · rw [if_neg hy] at ha ⊢
    exact jq_nx hi ha
theorem jq_idiv {x y : Int32} {r : List Value} (hi : jv_ins mi pc = some (.idiv, 1)) : jv_ev d mi pc lc (.int y :: .int x :: r) h = if y = 0 then none else jv_ev d mi (pc + 1) lc (.int (x / y) :: r) h := jq_d2 (f := fun x y => x / y) hi rfl
theorem jq_irem {x y : Int32} {r : List Value} (hi : jv_ins mi pc = some (.irem, 1)) : jv_ev d mi pc lc (.int y :: .int x :: r) h = if y = 0 then none else jv_ev d mi (pc + 1) lc (.int (x - x / y * y) :: r) h := jq_d2 (f := fun x y => x - x / y * y) hi rfl
theorem jq_ldiv {x y : Int64} {r : List Value} (hi : jv_ins mi pc = some (.ldiv, 1)) : jv_ev d mi pc lc (.long y :: .long x :: r) h = if y = 0 then none else jv_ev d mi (pc + 1) lc (.long (x / y) :: r) h := by
  have ha : jv_act mi pc 1 .ldiv lc (.long y :: .long x :: r) h = if y = 0 then none else jv_nx (pc + 1) lc (.long (x / y) :: r) h := rfl
  by_cases hy : y = 0
  · rw [if_pos hy] at ha ⊢
    exact jq_no hi ha
  · rw [if_neg hy] at ha ⊢
    exact jq_nx hi ha
theorem jq_lrem {x y : Int64} {r : List Value} (hi : jv_ins mi pc = some (.lrem, 1)) : jv_ev d mi pc lc (.long y :: .long x :: r) h = if y = 0 then none else jv_ev d mi (pc + 1) lc (.long (x - x / y * y) :: r) h := by
  have ha : jv_act mi pc 1 .lrem lc (.long y :: .long x :: r) h = if y = 0 then none else jv_nx (pc + 1) lc (.long (x - x / y * y) :: r) h := rfl
  by_cases hy : y = 0
  · rw [if_pos hy] at ha ⊢
    exact jq_no hi ha
  · rw [if_neg hy] at ha ⊢
    exact jq_nx hi ha
theorem jq_iconst {n : Int} {v : Int32} (hi : jv_ins mi pc = some (.iconst n, 1)) (hv : Int32.ofInt n = v) : jv_ev d mi pc lc st h = jv_ev d mi (pc + 1) lc (.int v :: st) h := by subst hv; exact jq_nx hi rfl
theorem jq_bipush {n : Int} {v : Int32} (hi : jv_ins mi pc = some (.bipush n, 2)) (hv : (Int8.ofInt n).toInt32 = v) : jv_ev d mi pc lc st h = jv_ev d mi (pc + 2) lc (.int v :: st) h := by subst hv; exact jq_nx hi rfl
theorem jq_sipush {n : Int} {v : Int32} (hi : jv_ins mi pc = some (.sipush n, 3)) (hv : (Int16.ofInt n).toInt32 = v) : jv_ev d mi pc lc st h = jv_ev d mi (pc + 3) lc (.int v :: st) h := by subst hv; exact jq_nx hi rfl
theorem jq_lconst {n : Fin 2} {v : Int64} (hi : jv_ins mi pc = some (.lconst n, 1)) (hv : Int64.ofNat (n : Nat) = v) : jv_ev d mi pc lc st h = jv_ev d mi (pc + 1) lc (.long v :: st) h := by subst hv; exact jq_nx hi rfl
theorem jq_ldc {o idx : Nat} {v : Value} (hi : jv_ins mi pc = some (.ldc idx, 2)) (ho : jv_own mi = o) (hv : jv_find jt_K o idx = some v) (hc : v.category = 1) : jv_ev d mi pc lc st h = jv_ev d mi (pc + 2) lc (v :: st) h := by
  subst ho
  refine jq_nx hi ?_
  show (jv_find jt_K (jv_own mi) idx).bind _ = _
  rw [hv]
  exact if_pos hc
theorem jq_ldcw {o idx : Nat} {v : Int32} (hi : jv_ins mi pc = some (.ldc_w idx, 3)) (ho : jv_own mi = o) (hv : jv_find jt_K o idx = some (.int v)) : jv_ev d mi pc lc st h = jv_ev d mi (pc + 3) lc (.int v :: st) h := by
  subst ho
  refine jq_nx hi ?_
  show (jv_find jt_K (jv_own mi) idx).bind _ = _
  rw [hv]
  rfl
theorem jq_ldc2 {o idx : Nat} {v : Int64} (hi : jv_ins mi pc = some (.ldc2_w idx, 3)) (ho : jv_own mi = o) (hv : jv_find jt_K o idx = some (.long v)) : jv_ev d mi pc lc st h = jv_ev d mi (pc + 3) lc (.long v :: st) h := by
  subst ho
  refine jq_nx hi ?_
  show (jv_find jt_K (jv_own mi) idx).bind _ = _
  rw [hv]
  rfl
theorem jq_gets {o idx : Nat} {v : Value} (hi : jv_ins mi pc = some (.getstatic idx, 3)) (ho : jv_own mi = o) (hv : jv_find jt_G o idx = some v) : jv_ev d mi pc lc st h = jv_ev d mi (pc + 3) lc (v :: st) h := by
  subst ho
  refine jq_nx hi ?_
  show (jv_find jt_G (jv_own mi) idx).bind _ = _
  rw [hv]
  rfl
theorem jq_new {o idx ci : Nat} {fs : List Value} (hi : jv_ins mi pc = some (.new idx, 3)) (ho : jv_own mi = o) (hv : jv_find jt_N o idx = some ci) (hf : jt_D[ci]? = some fs) : jv_ev d mi pc lc st h = jv_ev d mi (pc + 3) lc (.ref h.length :: st) (h ++ [.inr (ci, fs)]) := by
  subst ho
  refine jq_nx hi ?_
  show (jv_find jt_N (jv_own mi) idx).bind _ = _
  rw [hv]
  show (jt_D[ci]?).bind _ = _
  rw [hf]
  rfl
theorem jq_anew {o idx tc : Nat} {n : Int32} {r : List Value} (hi : jv_ins mi pc = some (.anewarray idx, 3)) (ho : jv_own mi = o) (hv : jv_find jt_AN o idx = some tc) : jv_ev d mi pc lc (.int n :: r) h = if n < 0 ∨ 100000 < n.toNatClampNeg then none else jv_ev d mi (pc + 3) lc (.ref h.length :: r) (h ++ [.inl (tc, n.toNatClampNeg, .inr (.inr (.inr (.inr (fun _ => none)))))]) := by
  subst ho
  have ha : jv_act mi pc 3 (.anewarray idx) lc (.int n :: r) h = if n < 0 ∨ 100000 < n.toNatClampNeg then none else (jv_find jt_AN (jv_own mi) idx).bind fun tc => jv_nx (pc + 3) lc (.ref h.length :: r) (h ++ [.inl (tc, n.toNatClampNeg, .inr (.inr (.inr (.inr (fun _ => none)))))]) := rfl
  rw [hv] at ha
  by_cases hy : n < 0 ∨ 100000 < n.toNatClampNeg
  · rw [if_pos hy] at ha ⊢
    exact jq_no hi ha
  · rw [if_neg hy] at ha ⊢
    exact jq_nx hi ha
theorem jq_newa {ty : ArrayType} {n : Int32} {r : List Value} (hi : jv_ins mi pc = some (.newarray ty, 2)) : jv_ev d mi pc lc (.int n :: r) h = if n < 0 ∨ 100000 < n.toNatClampNeg then none else (jv_newa ty n.toNatClampNeg).bind fun c => jv_ev d mi (pc + 2) lc (.ref h.length :: r) (h ++ [c]) := by
  have ha : jv_act mi pc 2 (.newarray ty) lc (.int n :: r) h = if n < 0 ∨ 100000 < n.toNatClampNeg then none else (jv_newa ty n.toNatClampNeg).bind fun c => jv_nx (pc + 2) lc (.ref h.length :: r) (h ++ [c]) := rfl
  by_cases hy : n < 0 ∨ 100000 < n.toNatClampNeg
  · rw [if_pos hy] at ha ⊢
    exact jq_no hi ha
  · rw [if_neg hy] at ha ⊢
    exact jq_opt (pcf := fun c => (pc + 2, lc, .ref h.length :: r, h ++ [c])) hi ha
theorem jq_V {o idx n b : Nat} {V : List (Nat × Nat)} {as rest st : List Value} (hi : jv_ins mi pc = some (.invokevirtual idx, 3)) (ho : jv_own mi = o) (hv : jv_find jt_V o idx = some (n, V)) (hst : as.reverse ++ .ref b :: rest = st) (hl : as.length = n) (hr : jv_sm rest = true) (hh : jv_catch mi pc = none) :
    jv_ev d mi pc lc st h = (jv_rc h b V).bind fun y => (jv_cd d y (.ref b :: as) h).bind fun r => jv_on r (fun v h' => jv_ev d mi (pc + 3) lc (v.toList ++ rest) h') (fun q h' => some (.inr q, h')) := by
  subst ho hl hst
  have e1 : (as.reverse ++ .ref b :: rest).drop as.length = .ref b :: rest := by rw [List.drop_left' (by simp)]
  have e2 : jv_args as.length (as.reverse ++ .ref b :: rest) = as := by unfold jv_args; rw [List.take_left' (by simp), List.reverse_reverse]
  have ha : jv_act mi pc 3 (.invokevirtual idx) lc (as.reverse ++ .ref b :: rest) h = (jv_rc h b V).bind fun y => some (.inr (.inl (y, .ref b :: as, rest))) := by
    show (jv_find jt_V (jv_own mi) idx).bind _ = _
    rw [hv]
    show (jv_rv ((as.reverse ++ .ref b :: rest).drop as.length)).bind _ = _
    rw [e1]
    show (jv_rc h b V).bind (fun y => if as.length ≤ (as.reverse ++ .ref b :: rest).length then jv_call y (.ref b :: jv_args as.length (as.reverse ++ .ref b :: rest)) rest else none) = _
    rw [e2]
    cases jv_rc h b V with
    | none => rfl
    | some y =>
      show (if as.length ≤ (as.reverse ++ .ref b :: rest).length then jv_call y (.ref b :: as) rest else none) = _
      rw [if_pos (by simp)]
      unfold jv_call
      rw [if_pos hr]
      rfl
  cases hrc : jv_rc h b V with
  | none => rw [hrc] at ha; exact jq_no hi ha
  | some y => rw [hrc] at ha; exact jq_call hi ha hh
theorem jq_S {o idx n y : Nat} {as rest st : List Value} (hi : jv_ins mi pc = some (.invokestatic idx, 3)) (ho : jv_own mi = o) (hv : jv_find jt_S o idx = some (n, some y)) (hst : as.reverse ++ rest = st) (hl : as.length = n) (hr : jv_sm rest = true) (hh : jv_catch mi pc = none) :
    jv_ev d mi pc lc st h = (jv_cd d y as h).bind fun r => jv_on r (fun v h' => jv_ev d mi (pc + 3) lc (v.toList ++ rest) h') (fun q h' => some (.inr q, h')) := by
  subst ho hl hst
  have e1 : (as.reverse ++ rest).drop as.length = rest := by rw [List.drop_left' (by simp)]
  have e2 : jv_args as.length (as.reverse ++ rest) = as := by unfold jv_args; rw [List.take_left' (by simp), List.reverse_reverse]
  refine jq_call hi ?_ hh
  show (jv_find jt_S (jv_own mi) idx).bind _ = _
  rw [hv]
  show (if as.length ≤ (as.reverse ++ rest).length then jv_call y (jv_args as.length (as.reverse ++ rest)) ((as.reverse ++ rest).drop as.length) else none) = _
  rw [e1, e2, if_pos (by simp)]
  unfold jv_call
  rw [if_pos hr]
theorem jq_P {o idx n y b : Nat} {as rest st : List Value} (hi : jv_ins mi pc = some (.invokespecial idx, 3)) (ho : jv_own mi = o) (hv : jv_find jt_P o idx = some (n, some y)) (hst : as.reverse ++ .ref b :: rest = st) (hl : as.length = n) (hr : jv_sm rest = true) (hh : jv_catch mi pc = none) :
    jv_ev d mi pc lc st h = if jt_off ≤ b ∧ (jt_SU.contains y = false ∨ jv_cls h b = some 20) then ((jv_cd d y (.ref b :: as) h).bind fun r => jv_on r (fun v h' => jv_ev d mi (pc + 3) lc (v.toList ++ rest) h') (fun q h' => some (.inr q, h'))) else none := by
  subst ho hl hst
  have e1 : (as.reverse ++ .ref b :: rest).drop as.length = .ref b :: rest := by rw [List.drop_left' (by simp)]
  have e2 : jv_args as.length (as.reverse ++ .ref b :: rest) = as := by unfold jv_args; rw [List.take_left' (by simp), List.reverse_reverse]
  have ha : jv_act mi pc 3 (.invokespecial idx) lc (as.reverse ++ .ref b :: rest) h = if as.length ≤ (as.reverse ++ .ref b :: rest).length ∧ jt_off ≤ b ∧ (jt_SU.contains y = false ∨ jv_cls h b = some 20) then jv_call y (.ref b :: as) rest else none := by
    show (jv_find jt_P (jv_own mi) idx).bind _ = _
    rw [hv]
    show (jv_rv ((as.reverse ++ .ref b :: rest).drop as.length)).bind _ = _
    rw [e1]
    show (if as.length ≤ (as.reverse ++ .ref b :: rest).length ∧ jt_off ≤ b ∧ (jt_SU.contains y = false ∨ jv_cls h b = some 20) then jv_call y (.ref b :: jv_args as.length (as.reverse ++ .ref b :: rest)) rest else none) = _
    rw [e2]
  by_cases hc : jt_off ≤ b ∧ (jt_SU.contains y = false ∨ jv_cls h b = some 20)
  · rw [if_pos ⟨by simp, hc⟩] at ha
    rw [if_pos hc]
    refine jq_call hi ?_ hh
    rw [ha]
    unfold jv_call
    rw [if_pos hr]
  · rw [if_neg (fun q => hc q.2)] at ha
    rw [if_neg hc]
    exact jq_no hi ha
theorem jq_O {o idx n b : Nat} {rest : List Value} (hi : jv_ins mi pc = some (.invokespecial idx, 3)) (ho : jv_own mi = o) (hv : jv_find jt_P o idx = some (n, none)) (hr : rest.length ≤ 4) : jv_ev d mi pc lc (.ref b :: rest) h = if jt_off ≤ b then jv_ev d mi (pc + 3) lc rest h else none := by
  subst ho
  have ha : jv_act mi pc 3 (.invokespecial idx) lc (.ref b :: rest) h = if rest.length ≤ 4 ∧ jt_off ≤ b then jv_nx (pc + 3) lc rest h else none := by
    show (jv_find jt_P (jv_own mi) idx).bind _ = _
    rw [hv]
    rfl
  by_cases hb : jt_off ≤ b
  · rw [if_pos ⟨hr, hb⟩] at ha
    rw [if_pos hb]
    exact jq_nx hi ha
  · rw [if_neg (fun q => hb q.2)] at ha
    rw [if_neg hb]
    exact jq_no hi ha
theorem jq_cp {o idx n0 src dst : Nat} {sp dp n : Int32} {rest : List Value} (hi : jv_ins mi pc = some (.invokestatic idx, 3)) (ho : jv_own mi = o) (hv : jv_find jt_S o idx = some (n0, none)) (hr : rest.length ≤ 4) : jv_ev d mi pc lc (.int n :: .int dp :: .ref dst :: .int sp :: .ref src :: rest) h = (jv_cp h src sp dst dp n).bind fun h' => jv_ev d mi (pc + 3) lc rest h' := by
  subst ho
  refine jq_opt (pcf := fun h' => (pc + 3, lc, rest, h')) hi ?_
  show (jv_find jt_S (jv_own mi) idx).bind _ = _
  rw [hv]
  show (if rest.length ≤ 4 then (jv_cp h src sp dst dp n).bind fun h' => jv_nx (pc + 3) lc rest h' else none) = _
  rw [if_pos hr]
  rfl
theorem jq_cast {o idx a : Nat} {r : List Value} (hi : jv_ins mi pc = some (.checkcast idx, 3)) (ho : jv_own mi = o) : jv_ev d mi pc lc (.ref a :: r) h = (jv_cls h a).bind fun ci => if jt_CK.contains (o, idx, ci) = true then jv_ev d mi (pc + 3) lc (.ref a :: r) h else none := by
  subst ho
  have ha : jv_act mi pc 3 (.checkcast idx) lc (.ref a :: r) h = (jv_cls h a).bind fun ci => if jt_CK.contains (jv_own mi, idx, ci) = true then jv_nx (pc + 3) lc (.ref a :: r) h else none := rfl
  cases hc : jv_cls h a with
  | none => rw [hc] at ha; exact jq_no hi ha
  | some ci =>
    rw [hc] at ha
    change jv_act mi pc 3 (.checkcast idx) lc (.ref a :: r) h = (if jt_CK.contains (jv_own mi, idx, ci) = true then jv_nx (pc + 3) lc (.ref a :: r) h else none) at ha
    show _ = (if jt_CK.contains (jv_own mi, idx, ci) = true then jv_ev d mi (pc + 3) lc (.ref a :: r) h else none)
    by_cases hk : jt_CK.contains (jv_own mi, idx, ci) = true
    · rw [if_pos hk] at ha ⊢
      exact jq_nx hi ha
    · rw [if_neg hk] at ha ⊢
      exact jq_no hi ha
theorem jq_inst {o idx a : Nat} {r : List Value} (hi : jv_ins mi pc = some (.instanceof idx, 3)) (ho : jv_own mi = o) : jv_ev d mi pc lc (.ref a :: r) h = (jv_cls h a).bind fun ci => if jt_CK.contains (o, idx, ci) = true then jv_ev d mi (pc + 3) lc (.int 1 :: r) h else none := by
  subst ho
  have ha : jv_act mi pc 3 (.instanceof idx) lc (.ref a :: r) h = (jv_cls h a).bind fun ci => if jt_CK.contains (jv_own mi, idx, ci) = true then jv_nx (pc + 3) lc (.int 1 :: r) h else none := rfl
  cases hc : jv_cls h a with
  | none => rw [hc] at ha; exact jq_no hi ha
  | some ci =>
    rw [hc] at ha
    change jv_act mi pc 3 (.instanceof idx) lc (.ref a :: r) h = (if jt_CK.contains (jv_own mi, idx, ci) = true then jv_nx (pc + 3) lc (.int 1 :: r) h else none) at ha
    show _ = (if jt_CK.contains (jv_own mi, idx, ci) = true then jv_ev d mi (pc + 3) lc (.int 1 :: r) h else none)
    by_cases hk : jt_CK.contains (jv_own mi, idx, ci) = true
    · rw [if_pos hk] at ha ⊢
      exact jq_nx hi ha
    · rw [if_neg hk] at ha ⊢
      exact jq_no hi ha
theorem jq_ret {v : Int32} {ty : FieldType} (hi : jv_ins mi pc = some (.ireturn, 1)) (hr : jv_ret mi = some ty) (hty : ty = .int ∨ ty = .boolean ∨ ty = .byte ∨ ty = .char) : jv_ev d mi pc lc [.int v] h = if narrow ty (.int v) = .int v then some (.inl (some (.int v)), h) else none := by
  have ha : jv_act mi pc 1 .ireturn lc [.int v] h = (jv_ret mi).bind fun ty => if narrow ty (.int v) = .int v ∧ (ty = .int ∨ ty = .boolean ∨ ty = .byte ∨ ty = .char) then jv_done (some (.int v)) h else none := rfl
  rw [hr] at ha
  change jv_act mi pc 1 .ireturn lc [.int v] h = (if narrow ty (.int v) = .int v ∧ (ty = .int ∨ ty = .boolean ∨ ty = .byte ∨ ty = .char) then jv_done (some (.int v)) h else none) at ha
  by_cases hn : narrow ty (.int v) = .int v
  · rw [if_pos ⟨hn, hty⟩] at ha
    rw [if_pos hn]
    exact jq_done hi ha
  · rw [if_neg (fun q => hn q.1)] at ha
    rw [if_neg hn]
    exact jq_no hi ha
theorem jq_reti {v : Int32} (hi : jv_ins mi pc = some (.ireturn, 1)) (hr : jv_ret mi = some .int) : jv_ev d mi pc lc [.int v] h = some (.inl (some (.int v)), h) := by
  rw [jq_ret hi hr (Or.inl rfl), if_pos (show narrow .int (.int v) = .int v from rfl)]
theorem jq_retl {v : Int64} (hi : jv_ins mi pc = some (.lreturn, 1)) (hr : jv_ret mi = some .long) : jv_ev d mi pc lc [.long v] h = some (.inl (some (.long v)), h) := by
  refine jq_done hi ?_
  show (if jv_ret mi = some .long then jv_done (some (.long v)) h else none) = _
  rw [if_pos hr]
  rfl
theorem jq_retv (hi : jv_ins mi pc = some (.return_, 1)) (hr : jv_ret mi = none) : jv_ev d mi pc lc [] h = some (.inl none, h) := by
  refine jq_done hi ?_
  show (if jv_ret mi = none then jv_done none h else none) = _
  rw [if_pos hr]
  rfl
theorem jq_reta {a : Nat} {ty : FieldType} (hi : jv_ins mi pc = some (.areturn, 1)) (hr : jv_ret mi = some ty) (ht : ty.isReference = true) : jv_ev d mi pc lc [.ref a] h = some (.inl (some (.ref a)), h) := by
  refine jq_done hi ?_
  show (jv_ret mi).bind _ = _
  rw [hr]
  show (if ty.isReference = true then jv_done (some (.ref a)) h else none) = _
  rw [if_pos ht]
  rfl
theorem jq_throw {q : Nat} {r : List Value} (hi : jv_ins mi pc = some (.athrow, 1)) (hh : jv_hh mi = []) : jv_ev d mi pc lc (.ref q :: r) h = (jv_cls h q).bind fun ci => if jt_off ≤ q ∧ ci = jt_fault then some (.inr q, h) else none := by
  have ha : jv_act mi pc 1 .athrow lc (.ref q :: r) h = (jv_cls h q).bind fun ci => if jt_off ≤ q ∧ jv_hh mi = [] ∧ ci = jt_fault then some (.inr (.inr (.inr q, h))) else none := rfl
  cases hc : jv_cls h q with
  | none => rw [hc] at ha; exact jq_no hi ha
  | some ci =>
    rw [hc] at ha
    change jv_act mi pc 1 .athrow lc (.ref q :: r) h = (if jt_off ≤ q ∧ jv_hh mi = [] ∧ ci = jt_fault then some (.inr (.inr (.inr q, h))) else none) at ha
    show _ = (if jt_off ≤ q ∧ ci = jt_fault then (some (.inr q, h) : Option jv_R) else none)
    by_cases hk : jt_off ≤ q ∧ ci = jt_fault
    · rw [if_pos ⟨hk.1, hh, hk.2⟩] at ha
      rw [if_pos hk]
      exact jq_done hi ha
    · rw [if_neg (fun z => hk ⟨z.1, z.2.2⟩)] at ha
      rw [if_neg hk]
      exact jq_no hi ha
/-- a switch: the first of the pairs with that number, or the default -/
def jv_tsl {α : Type} (k : Nat → α) (x : Int32) (ps : List (Int32 × Nat)) (df : Nat) : α := match ps with
  | [] => k df
  | q :: r => if x = q.1 then k q.2 else jv_tsl k x r df
theorem jv_tsl_in {α : Type} {k : Nat → α} {x : Int32} : ∀ (ps : List (Int32 × Nat)) (df j : Nat) (hj : j < ps.length), x = ps[j].1 → (∀ i (hi : i < j), x ≠ ps[i].1) → jv_tsl k x ps df = k ps[j].2 := by
  intro ps
  induction ps with
  | nil => intro df j hj; exact absurd hj (Nat.not_lt_zero _)
  | cons q r ih =>
    intro df j hj hx hn
    unfold jv_tsl
    cases j with
    | zero => rw [if_pos (show x = q.1 from hx)]; rfl
    | succ j =>
      rw [if_neg (show ¬ x = q.1 from hn 0 (Nat.succ_pos _))]
      exact ih df j (Nat.lt_of_succ_lt_succ hj) hx (fun i hi => hn (i + 1) (Nat.succ_lt_succ hi))
theorem jv_tsl_out {α : Type} {k : Nat → α} {x : Int32} : ∀ (ps : List (Int32 × Nat)) (df : Nat), (∀ q ∈ ps, x ≠ q.1) → jv_tsl k x ps df = k df := by
  intro ps
  induction ps with
  | nil => intro df _; rfl
  | cons q r ih =>
    intro df hn
    unfold jv_tsl
    rw [if_neg (hn q List.mem_cons_self)]
    exact ih df (fun z hz => hn z (List.mem_cons_of_mem _ hz))
theorem jq_ts {dflt lo hi' : Int} {offs : Array Int} {x : Int32} {r : List Value} (hi : jv_ins mi pc = some (.tableswitch dflt lo hi' offs, len)) (ps : List (Int32 × Nat)) (df : Nat) (hd : (pc : Int) + dflt = (df : Int)) (hl : hi' - lo + 1 = (ps.length : Int)) (ho : offs.size = ps.length)
    (hp : ((List.range ps.length).all fun j => match ps[j]?, offs[j]? with | some q, some o => q.1.toInt == lo + j && (pc : Int) + o == (q.2 : Int) | _, _ => false) = true) : jv_ev d mi pc lc (.int x :: r) h = jv_tsl (fun t => jv_ev d mi t lc r h) x ps df := by
  have ha : jv_act mi pc len (.tableswitch dflt lo hi' offs) lc (.int x :: r) h = if 0 ≤ jv_sw pc dflt lo hi' offs x ∧ (lo ≤ x.toInt → x.toInt ≤ hi' → (x.toInt - lo).toNat < offs.size) then jv_nx (jv_sw pc dflt lo hi' offs x).toNat lc r h else none := by
    unfold jv_act
    rfl
  have hq : ∀ j (hj : j < ps.length), ps[j].1.toInt = lo + j ∧ (pc : Int) + offs[j]'(by omega) = (ps[j].2 : Int) := by
    intro j hj
    have h1 := List.all_eq_true.mp hp j (List.mem_range.mpr hj)
    have h2 : j < offs.size := by omega
    simp only [List.getElem?_eq_getElem hj, Array.getElem?_eq_getElem h2, Bool.and_eq_true, beq_iff_eq] at h1
    exact h1
  by_cases hx : x.toInt < lo ∨ hi' < x.toInt
  · have e1 : jv_sw pc dflt lo hi' offs x = (df : Int) := by unfold jv_sw; rw [if_pos hx, hd]
    rw [jv_tsl_out ps df (fun q hq' e => by
      obtain ⟨j, hj, rfl⟩ := List.mem_iff_getElem.mp hq'
      have h1 := (hq j hj).1
      rw [← e] at h1
      omega)]
    refine jq_nx hi ?_
    rw [ha, e1, if_pos ⟨by omega, fun a b => by omega⟩]
    simp
  · have hj : (x.toInt - lo).toNat < ps.length := by omega
    have h2 : (x.toInt - lo).toNat < offs.size := by omega
    have hv := hq _ hj
    have e1 : jv_sw pc dflt lo hi' offs x = (ps[(x.toInt - lo).toNat].2 : Int) := by
      unfold jv_sw
      rw [if_neg hx, Array.getElem?_eq_getElem h2]
      exact hv.2
    rw [jv_tsl_in ps df (x.toInt - lo).toNat hj (Int32.toInt_inj.mp (by rw [hv.1]; omega)) (fun i hi2 e => by
      have h3 := (hq i (by omega)).1
      rw [← e] at h3
      omega)]
    refine jq_nx hi ?_
    rw [ha, e1, if_pos ⟨by omega, fun _ _ => h2⟩]
    simp
theorem jq_ls {dflt : Int} {qs : Array (Int × Int)} {x : Int32} {r : List Value} (hi : jv_ins mi pc = some (.lookupswitch dflt qs, len)) (ps : List (Int32 × Nat)) (df : Nat) (hd : (pc : Int) + dflt = (df : Int)) (hs : (qs.toList.zip (qs.toList.drop 1)).all (fun (a, next) => a.1 < next.1) = true)
    (hp : qs.toList.map (fun q => (q.1, (pc : Int) + q.2)) = ps.map (fun q => (q.1.toInt, (q.2 : Int)))) : jv_ev d mi pc lc (.int x :: r) h = jv_tsl (fun t => jv_ev d mi t lc r h) x ps df := by
  have ha : jv_act mi pc len (.lookupswitch dflt qs) lc (.int x :: r) h = if 0 ≤ (pc : Int) + Op.lookupswitch.offset qs.toList dflt x.toInt ∧ (qs.toList.zip (qs.toList.drop 1)).all (fun (a, next) => a.1 < next.1) = true then jv_nx ((pc : Int) + Op.lookupswitch.offset qs.toList dflt x.toInt).toNat lc r h else none := by
    unfold jv_act
    rfl
  have key : ∀ (l : List (Int × Int)) (ps : List (Int32 × Nat)), l.map (fun q => (q.1, (pc : Int) + q.2)) = ps.map (fun q => (q.1.toInt, (q.2 : Int))) → ∃ t : Nat, (pc : Int) + Op.lookupswitch.offset l dflt x.toInt = (t : Int) ∧ jv_tsl (fun t => jv_ev d mi t lc r h) x ps df = jv_ev d mi t lc r h := by
    intro l
    induction l with
    | nil =>
      intro ps e
      have : ps = [] := by simpa using e.symm
      subst this
      exact ⟨df, hd, rfl⟩
    | cons q l ih =>
      intro ps e
      cases ps with
      | nil => simp at e
      | cons p ps =>
        simp only [List.map_cons, List.cons.injEq, Prod.mk.injEq] at e
        obtain ⟨⟨e1, e2⟩, e3⟩ := e
        by_cases hx : x = p.1
        · refine ⟨p.2, ?_, ?_⟩
          · obtain ⟨q1, q2⟩ := q
            have : x.toInt = q1 := by rw [hx]; exact e1.symm
            simp only [Op.lookupswitch.offset, this]
            simpa using e2
          · unfold jv_tsl
            rw [if_pos hx]
        · obtain ⟨t, h1, h2⟩ := ih ps e3
          refine ⟨t, ?_, ?_⟩
          · obtain ⟨q1, q2⟩ := q
            rw [lv_osw hx e1.symm]
            exact h1
          · unfold jv_tsl
            rw [if_neg hx]
            exact h2
  obtain ⟨t, h1, h2⟩ := key _ _ hp
  rw [h2]
  refine jq_nx hi ?_
  rw [ha, h1, if_pos ⟨by omega, hs⟩]
  simp
theorem jq_nr0 {off : Int} {x : Nat} {r : List Value} (hi : jv_ins mi pc = some (.ifnull off, 3)) : jv_ev d mi pc lc (.ref x :: r) h = if jt_off ≤ x then jv_ev d mi (pc + 3) lc r h else none := by
  have ha : jv_act mi pc 3 (.ifnull off) lc (.ref x :: r) h = if jt_off ≤ x then jv_nx (pc + 3) lc r h else none := rfl
  by_cases hk : jt_off ≤ x
  · rw [if_pos hk] at ha ⊢
    exact jq_nx hi ha
  · rw [if_neg hk] at ha ⊢
    exact jq_no hi ha
theorem jq_nr1 {off : Int} {x tgt : Nat} {r : List Value} (hi : jv_ins mi pc = some (.ifnonnull off, 3)) (ht : (pc : Int) + off = (tgt : Int)) : jv_ev d mi pc lc (.ref x :: r) h = if jt_off ≤ x then jv_ev d mi tgt lc r h else none := by
  have h2 : jv_br pc off = tgt := by unfold jv_br; omega
  have ha : jv_act mi pc 3 (.ifnonnull off) lc (.ref x :: r) h = if 0 ≤ (pc : Int) + off ∧ jt_off ≤ x then jv_nx (jv_br pc off) lc r h else none := rfl
  rw [h2] at ha
  by_cases hk : jt_off ≤ x
  · rw [if_pos ⟨by omega, hk⟩] at ha
    rw [if_pos hk]
    exact jq_nx hi ha
  · rw [if_neg (fun z => hk z.2)] at ha
    rw [if_neg hk]
    exact jq_no hi ha
theorem jq_nn0 {off : Int} {tgt : Nat} {r : List Value} (hi : jv_ins mi pc = some (.ifnull off, 3)) (ht : (pc : Int) + off = (tgt : Int)) : jv_ev d mi pc lc (.null :: r) h = jv_ev d mi tgt lc r h := by
  have h2 : jv_br pc off = tgt := by unfold jv_br; omega
  have ha : jv_act mi pc 3 (.ifnull off) lc (.null :: r) h = if 0 ≤ (pc : Int) + off then jv_nx (jv_br pc off) lc r h else none := rfl
  rw [h2, if_pos (by omega)] at ha
  exact jq_nx hi ha
theorem jq_nn1 {off : Int} {r : List Value} (hi : jv_ins mi pc = some (.ifnonnull off, 3)) : jv_ev d mi pc lc (.null :: r) h = jv_ev d mi (pc + 3) lc r h := jq_nx hi rfl
theorem jq_aceq {off : Int} {x y tgt : Nat} {r : List Value} (hi : jv_ins mi pc = some (.if_acmp .eq off, 3)) (ht : (pc : Int) + off = (tgt : Int)) : jv_ev d mi pc lc (.ref y :: .ref x :: r) h = if (jt_off ≤ x ∧ jt_off ≤ y) ∨ x = y then (if x = y then jv_ev d mi tgt lc r h else jv_ev d mi (pc + 3) lc r h) else none := by
  have ha : jv_act mi pc 3 (.if_acmp .eq off) lc (.ref y :: .ref x :: r) h = if (jt_off ≤ x ∧ jt_off ≤ y) ∨ x = y then jv_if (x = y) pc off lc r h else none := rfl
  by_cases hk : (jt_off ≤ x ∧ jt_off ≤ y) ∨ x = y
  · rw [if_pos hk] at ha ⊢
    exact jq_if hi ha ht
  · rw [if_neg hk] at ha ⊢
    exact jq_no hi ha
theorem jq_acne {off : Int} {x y tgt : Nat} {r : List Value} (hi : jv_ins mi pc = some (.if_acmp .ne off, 3)) (ht : (pc : Int) + off = (tgt : Int)) : jv_ev d mi pc lc (.ref y :: .ref x :: r) h = if (jt_off ≤ x ∧ jt_off ≤ y) ∨ x = y then (if ¬ x = y then jv_ev d mi tgt lc r h else jv_ev d mi (pc + 3) lc r h) else none := by
  have ha : jv_act mi pc 3 (.if_acmp .ne off) lc (.ref y :: .ref x :: r) h = if (jt_off ≤ x ∧ jt_off ≤ y) ∨ x = y then jv_if (¬ x = y) pc off lc r h else none := rfl
  by_cases hk : (jt_off ≤ x ∧ jt_off ≤ y) ∨ x = y
  · rw [if_pos hk] at ha ⊢
    exact jq_if hi ha ht
  · rw [if_neg hk] at ha ⊢
    exact jq_no hi ha
theorem jq_ma {idx : Nat} {n k : Int32} {r : List Value} (hi : jv_ins mi pc = some (.multianewarray idx 2, 4)) (hk : jt_MA.contains (jv_own mi, idx) = true) : jv_ev d mi pc lc (.int k :: .int n :: r) h = if ¬ (n < 0 ∨ k < 0 ∨ 1000 < n.toNatClampNeg ∨ 1000 < k.toNatClampNeg) then jv_ev d mi (pc + 4) lc (.ref h.length :: r) (h ++ (.inl (11, n.toNatClampNeg, .inr (.inr (.inr (.inr (fun j => if j < n.toNatClampNeg then some (h.length + 1 + j) else none))))) :: List.replicate n.toNatClampNeg (.inl (0, k.toNatClampNeg, .inl (fun _ => 0))))) else none := by
  have ha : jv_act mi pc 4 (.multianewarray idx 2) lc (.int k :: .int n :: r) h = if 2 = 2 ∧ jt_MA.contains (jv_own mi, idx) = true ∧ ¬ (n < 0 ∨ k < 0 ∨ 1000 < n.toNatClampNeg ∨ 1000 < k.toNatClampNeg) then jv_nx (pc + 4) lc (.ref h.length :: r) (h ++ (.inl (11, n.toNatClampNeg, .inr (.inr (.inr (.inr (fun j => if j < n.toNatClampNeg then some (h.length + 1 + j) else none))))) :: List.replicate n.toNatClampNeg (.inl (0, k.toNatClampNeg, .inl (fun _ => 0))))) else none := rfl
  by_cases hq : ¬ (n < 0 ∨ k < 0 ∨ 1000 < n.toNatClampNeg ∨ 1000 < k.toNatClampNeg)
  · rw [if_pos ⟨rfl, hk, hq⟩] at ha
    rw [if_pos hq]
    exact jq_nx hi ha
  · rw [if_neg (fun z => hq z.2.2)] at ha
    rw [if_neg hq]
    exact jq_no hi ha
end
