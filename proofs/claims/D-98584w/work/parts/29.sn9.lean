/-! soundness: heaps only grow -/
def sn_gr (h h' : jv_H) : Prop := h.length ≤ h'.length ∧ sn_z h ≤ sn_z h'
theorem sn_gr.rf {h : jv_H} : sn_gr h h := ⟨Nat.le_refl _, Nat.le_refl _⟩
theorem sn_gr.tr {a b c : jv_H} (h1 : sn_gr a b) (h2 : sn_gr b c) : sn_gr a c := ⟨Nat.le_trans h1.1 h2.1, Nat.le_trans h1.2 h2.2⟩
theorem sn_gr.st {h : jv_H} {k : Nat} {c c' : jv_C} (hc : h[k]? = some c) (hz : sn_cz c' = sn_cz c) : sn_gr h (h.set k c') := ⟨by rw [List.length_set]; exact Nat.le_refl _, by rw [sn_set_z hc hz]; exact Nat.le_refl _⟩
theorem sn_gr.ap {h h' : jv_H} : sn_gr h (h ++ h') := ⟨by rw [List.length_append]; omega, by rw [sn_z_app]; omega⟩
/-- what an instruction leaves has grown -/
def jv_okA (h : jv_H) (a : Option jv_A) : Prop := match a with
  | none => True
  | some (.inl cf) => sn_gr h cf.2.2.2
  | some (.inr (.inl _)) => True
  | some (.inr (.inr r)) => sn_gr h r.2
section
variable {h h' : jv_H} {pc k : Nat} {lc : jv_L} {st as rest : List Value}
theorem jk_none : jv_okA h none := trivial
theorem jk_nx (hg : sn_gr h h') : jv_okA h (jv_nx pc lc st h') := hg
theorem jk_bind {α : Type} {o : Option α} {f : α → Option jv_A} (hf : ∀ x, o = some x → jv_okA h (f x)) : jv_okA h (o.bind f) := by
  cases o with
  | none => trivial
  | some x => exact hf x rfl
theorem jk_ite {c : Prop} [Decidable c] {a b : Option jv_A} (ha : c → jv_okA h a) (hb : ¬ c → jv_okA h b) : jv_okA h (if c then a else b) := by
  split
  · exact ha (by assumption)
  · exact hb (by assumption)
theorem jk_call {y : Nat} : jv_okA h (jv_call y as rest) := by unfold jv_call; exact jk_ite (fun _ => trivial) (fun _ => trivial)
theorem jk_if {c : Prop} [Decidable c] {off : Int} : jv_okA h (jv_if c pc off lc st h) := by unfold jv_if; exact jk_ite (fun _ => jk_ite (fun _ => sn_gr.rf) (fun _ => sn_gr.rf)) (fun _ => trivial)
theorem jk_i1 {f : Int32 → Int32} : jv_okA h (jv_i1 f pc lc st h) := by
  unfold jv_i1
  split
  · exact sn_gr.rf
  · trivial
theorem jk_i2 {f : Int32 → Int32 → Int32} : jv_okA h (jv_i2 f pc lc st h) := by
  unfold jv_i2
  split
  · exact sn_gr.rf
  · trivial
theorem jk_d2 {f : Int32 → Int32 → Int32} : jv_okA h (jv_d2 f pc lc st h) := by
  unfold jv_d2
  split
  · exact jk_ite (fun _ => trivial) (fun _ => sn_gr.rf)
  · trivial
theorem jk_l2 {f : Int64 → Int64 → Int64} : jv_okA h (jv_l2 f pc lc st h) := by
  unfold jv_l2
  split
  · exact sn_gr.rf
  · trivial
theorem jk_ld2 {f : Int64 → Int64 → Int64} : jv_okA h (jv_ld2 f pc lc st h) := by
  unfold jv_ld2
  split
  · exact jk_ite (fun _ => trivial) (fun _ => sn_gr.rf)
  · trivial
theorem jk_il : jv_okA h (jv_il k pc lc st h) := by
  unfold jv_il
  split
  · exact sn_gr.rf
  · trivial
theorem jk_ll : jv_okA h (jv_ll k pc lc st h) := by
  unfold jv_ll
  split
  · exact sn_gr.rf
  · trivial
theorem jk_aL : jv_okA h (jv_aL k pc lc st h) := by
  unfold jv_aL
  split
  · exact sn_gr.rf
  · exact sn_gr.rf
  · trivial
theorem jk_is : jv_okA h (jv_is k pc lc st h) := by
  unfold jv_is
  split
  · exact jk_ite (fun _ => sn_gr.rf) (fun _ => trivial)
  · trivial
theorem jk_ls : jv_okA h (jv_ls k pc lc st h) := by
  unfold jv_ls
  split
  · exact jk_ite (fun _ => sn_gr.rf) (fun _ => trivial)
  · trivial
theorem jk_aS : jv_okA h (jv_aS k pc lc st h) := by
  unfold jv_aS
  split
  · exact jk_ite (fun _ => sn_gr.rf) (fun _ => trivial)
  · exact jk_ite (fun _ => sn_gr.rf) (fun _ => trivial)
  · trivial
end
theorem jg_pf {h h' : jv_H} {a : Nat} {F : List (Nat × Nat × FieldType)} {v : Value} (ha : jv_pf h a F v = some h') : sn_gr h h' := by
  unfold jv_pf at ha
  split at ha
  next ci fs hc =>
    split at ha
    next k hk =>
      split at ha
      · cases ha; exact sn_gr.st hc (by simp [sn_cz])
      · cases ha
    next => cases ha
  next => cases ha
theorem jg_ip {h h' : jv_H} {a t u : Nat} {i x : Int32} (ha : jv_ip h a t u i x = some h') : sn_gr h h' := by
  unfold jv_ip at ha
  split at ha
  next hc =>
    split at ha
    · cases ha; exact sn_gr.st hc rfl
    · cases ha
  next => cases ha
theorem jg_lp {h h' : jv_H} {a : Nat} {i : Int32} {x : Int64} (ha : jv_lp h a i x = some h') : sn_gr h h' := by
  unfold jv_lp at ha
  split at ha
  next hc =>
    split at ha
    · cases ha; exact sn_gr.st hc rfl
    · cases ha
  next => cases ha
theorem jg_rp {h h' : jv_H} {a x : Nat} {i : Int32} (ha : jv_rp h a i x = some h') : sn_gr h h' := by
  unfold jv_rp at ha
  split at ha
  next hc =>
    split at ha
    · cases ha; exact sn_gr.st hc rfl
    · cases ha
  next => cases ha
theorem jg_cp {h h' : jv_H} {src dst : Nat} {sp dp n : Int32} (ha : jv_cp h src sp dst dp n = some h') : sn_gr h h' := by
  unfold jv_cp at ha
  split at ha
  next hc hd =>
    split at ha
    · cases ha; exact sn_gr.st hd rfl
    · cases ha
  next => cases ha
set_option maxHeartbeats 4000000 in
theorem jk_act {mi pc len : Nat} {i : Instr} {lc : jv_L} {st : List Value} {h : jv_H} : jv_okA h (jv_act mi pc len i lc st h) := by
  unfold jv_act
  split
  · exact jk_nx sn_gr.rf
  · exact jk_nx sn_gr.rf
  · exact jk_nx sn_gr.rf
  · exact jk_nx sn_gr.rf
  · exact jk_nx sn_gr.rf
  · refine jk_bind fun x hx => ?_
    refine jk_ite (fun _ => ?_) (fun _ => ?_)
    · exact jk_nx sn_gr.rf
    · exact jk_none
  · refine jk_bind fun x hx => jk_bind fun y hy => jk_nx sn_gr.rf
  · refine jk_bind fun x hx => jk_bind fun y hy => jk_nx sn_gr.rf
  · exact jk_il
  · exact jk_il
  · exact jk_ll
  · exact jk_ll
  · exact jk_aL
  · exact jk_aL
  · exact jk_is
  · exact jk_is
  · exact jk_ls
  · exact jk_ls
  · exact jk_aS
  · exact jk_aS
  · split
    · exact jk_nx sn_gr.rf
    · exact jk_none
  · exact jk_i2
  · exact jk_i2
  · exact jk_i2
  · exact jk_i2
  · exact jk_i2
  · exact jk_i2
  · exact jk_i2
  · exact jk_i2
  · exact jk_i2
  · exact jk_d2
  · exact jk_d2
  · exact jk_i1
  · exact jk_i1
  · exact jk_i1
  · exact jk_i1
  · exact jk_l2
  · exact jk_l2
  · exact jk_ld2
  · exact jk_ld2
  · split
    · exact jk_nx sn_gr.rf
    · exact jk_none
  · split
    · exact jk_nx sn_gr.rf
    · exact jk_none
  · split
    · exact jk_nx sn_gr.rf
    · exact jk_none
  · split
    · refine jk_ite (fun _ => ?_) (fun _ => ?_)
      · exact jk_nx sn_gr.rf
      · exact jk_none
    · exact jk_none
  · split
    · refine jk_ite (fun _ => ?_) (fun _ => ?_)
      · exact jk_nx sn_gr.rf
      · exact jk_none
    · exact jk_none
  · split
    · refine jk_ite (fun _ => ?_) (fun _ => ?_)
      · exact jk_nx sn_gr.rf
      · exact jk_none
    · exact jk_none
  · split
    · refine jk_ite (fun _ => ?_) (fun _ => ?_)
      · exact jk_nx sn_gr.rf
      · exact jk_none
    · exact jk_none
  · refine jk_ite (fun _ => ?_) (fun _ => ?_)
    · exact jk_nx sn_gr.rf
    · exact jk_none
  · split
    · split <;> exact jk_if
    · exact jk_none
  · split
    · split <;> exact jk_if
    · exact jk_none
  · split
    · refine jk_ite (fun _ => ?_) (fun _ => jk_none)
      split <;> exact jk_if
    · exact jk_none
  · split
    · refine jk_ite (fun _ => ?_) (fun _ => ?_)
      · exact jk_nx sn_gr.rf
      · exact jk_none
    · refine jk_ite (fun _ => ?_) (fun _ => ?_)
      · exact jk_nx sn_gr.rf
      · exact jk_none
    · exact jk_none
  · split
    · exact jk_nx sn_gr.rf
    · refine jk_ite (fun _ => ?_) (fun _ => ?_)
      · exact jk_nx sn_gr.rf
      · exact jk_none
    · exact jk_none
  · split
    · refine jk_ite (fun _ => ?_) (fun _ => ?_)
      · exact jk_nx sn_gr.rf
      · exact jk_none
    · exact jk_none
  · split
    · refine jk_ite (fun _ => ?_) (fun _ => ?_)
      · exact jk_nx sn_gr.rf
      · exact jk_none
    · exact jk_none
  · split
    · refine jk_bind fun x hx => jk_nx sn_gr.rf
    · exact jk_none
  · split
    · refine jk_bind fun x hx => jk_nx (jg_pf hx)
    · exact jk_none
  · refine jk_bind fun x hx => jk_nx sn_gr.rf
  · split
    · refine jk_bind fun x hx => jk_nx sn_gr.rf
    · exact jk_none
  · split
    · refine jk_bind fun x hx => jk_nx sn_gr.rf
    · exact jk_none
  · split
    · refine jk_bind fun x hx => jk_nx sn_gr.rf
    · exact jk_none
  · split
    · refine jk_bind fun x hx => jk_nx sn_gr.rf
    · exact jk_none
  · split
    · refine jk_bind fun x hx => jk_nx sn_gr.rf
    · exact jk_none
  · split
    · refine jk_bind fun x hx => jk_nx sn_gr.rf
    · exact jk_none
  · split
    · refine jk_bind fun x hx => jk_nx (jg_ip hx)
    · exact jk_none
  · split
    · refine jk_bind fun x hx => jk_nx (jg_ip hx)
    · exact jk_none
  · split
    · refine jk_bind fun x hx => jk_nx (jg_ip hx)
    · exact jk_none
  · split
    · refine jk_bind fun x hx => jk_nx (jg_lp hx)
    · exact jk_none
  · split
    · refine jk_bind fun x hx => jk_nx (jg_rp hx)
    · exact jk_none
  · refine jk_bind fun x hx => jk_bind fun y hy => jk_nx sn_gr.ap
  · split
    · refine jk_ite (fun _ => jk_none) (fun _ => jk_bind fun y hy => jk_nx sn_gr.ap)
    · exact jk_none
  · split
    · refine jk_ite (fun _ => jk_none) (fun _ => jk_bind fun y hy => jk_nx sn_gr.ap)
    · exact jk_none
  · split
    · refine jk_ite (fun _ => jk_nx sn_gr.ap) (fun _ => jk_none)
    · exact jk_none
  · split
    · refine jk_bind fun x hx => ?_
      refine jk_ite (fun _ => ?_) (fun _ => ?_)
      · exact jk_nx sn_gr.rf
      · exact jk_none
    · exact jk_nx sn_gr.rf
    · exact jk_none
  · split
    · refine jk_bind fun x hx => ?_
      refine jk_ite (fun _ => ?_) (fun _ => ?_)
      · exact jk_nx sn_gr.rf
      · exact jk_none
    · exact jk_none
  · refine jk_bind fun x hx => jk_bind fun y hy => jk_bind fun z hz => ?_
    exact jk_ite (fun _ => jk_call) (fun _ => jk_none)
  · refine jk_bind fun x hx => ?_
    split
    · exact jk_ite (fun _ => jk_call) (fun _ => jk_none)
    · split
      · exact jk_ite (fun _ => jk_bind fun y hy => jk_nx (jg_cp hy)) (fun _ => jk_none)
      · exact jk_none
  · refine jk_bind fun x hx => ?_
    split
    · exact jk_bind fun y hy => jk_ite (fun _ => jk_call) (fun _ => jk_none)
    · split
      · exact jk_ite (fun _ => jk_nx sn_gr.rf) (fun _ => jk_none)
      · exact jk_none
  · split
    · exact jk_bind fun y hy => jk_ite (fun _ => sn_gr.rf) (fun _ => jk_none)
    · exact jk_none
  · split
    · exact jk_ite (fun _ => sn_gr.rf) (fun _ => jk_none)
    · exact jk_none
  · split
    · exact jk_bind fun y hy => jk_ite (fun _ => sn_gr.rf) (fun _ => jk_none)
    · exact jk_none
  · split
    · exact jk_ite (fun _ => sn_gr.rf) (fun _ => jk_none)
    · exact jk_none
  · split
    · exact jk_bind fun y hy => jk_ite (fun _ => sn_gr.rf) (fun _ => jk_none)
    · exact jk_none
  · exact jk_none
theorem jg_act {mi pc len : Nat} {i : Instr} {lc : jv_L} {st : List Value} {h : jv_H} {cf : Nat × jv_L × List Value × jv_H} (ha : jv_act mi pc len i lc st h = some (.inl cf)) : sn_gr h cf.2.2.2 := by
  have := jk_act (mi := mi) (pc := pc) (len := len) (i := i) (lc := lc) (st := st) (h := h)
  rw [ha] at this
  exact this
theorem jg_fin {mi pc len : Nat} {i : Instr} {lc : jv_L} {st : List Value} {h : jv_H} {r : jv_R} (ha : jv_act mi pc len i lc st h = some (.inr (.inr r))) : sn_gr h r.2 := by
  have := jk_act (mi := mi) (pc := pc) (len := len) (i := i) (lc := lc) (st := st) (h := h)
  rw [ha] at this
  exact this
theorem jg_run {call : Nat → List Value → jv_H → Option jv_R} (hcall : ∀ y as h r, call y as h = some r → sn_gr h r.2) {mi : Nat} : ∀ (F pc : Nat) (lc : jv_L) (st : List Value) (h : jv_H) (r : jv_R), jv_run call mi F pc lc st h = some r → sn_gr h r.2 := by
  intro F
  induction F with
  | zero => intro pc lc st h r e; cases e
  | succ F ih =>
    intro pc lc st h r e
    change jv_body call mi (jv_run call mi F) pc lc st h = some r at e
    unfold jv_body at e
    cases hs : jv_step mi pc lc st h with
    | none => rw [hs] at e; cases e
    | some a =>
      rw [hs] at e
      match a, hs, e with
      | .inl c, hs, e =>
        unfold jv_step at hs
        split at hs
        · cases hs
        · exact (jg_act hs).tr (ih _ _ _ _ _ e)
      | .inr (.inl c), hs, e =>
        dsimp only at e
        cases hc : call c.1 c.2.1 h with
        | none => rw [hc] at e; cases e
        | some q =>
          rw [hc] at e
          have h1 := hcall _ _ _ _ hc
          obtain ⟨o, h'⟩ := q
          cases o with
          | inl v => exact h1.tr (ih _ _ _ _ _ e)
          | inr q =>
            change (match jv_catch mi pc with | none => some (.inr q, h') | some hp => jv_run call mi F hp lc [.ref q] h') = some r at e
            cases hk : jv_catch mi pc with
            | none => rw [hk] at e; cases e; exact h1
            | some hp => rw [hk] at e; exact h1.tr (ih _ _ _ _ _ e)
      | .inr (.inr q), hs, e =>
        cases e
        unfold jv_step at hs
        split at hs
        · cases hs
        next i hi => exact jg_fin hs
theorem jg_cd : ∀ (d y : Nat) (as : List Value) (h : jv_H) (r : jv_R), jv_cd d y as h = some r → sn_gr h r.2 := by
  intro d
  induction d with
  | zero => intro y as h r e; cases e
  | succ d ih =>
    intro y as h r e
    rw [jv_cd_succ] at e
    split at e
    · rw [jv_ev_iff] at e
      obtain ⟨F, e⟩ := e
      exact jg_run ih F _ _ _ _ _ e
    · cases e
