/-! which instructions leave the method's own run -/
def jv_in (a : Option jv_A) : Prop := match a with
  | some (.inr _) => False
  | _ => True
section
variable {h : jv_H} {pc k : Nat} {lc : jv_L} {st : List Value}
theorem jn_bind {α : Type} {o : Option α} {f : α → Option jv_A} (hf : ∀ x, o = some x → jv_in (f x)) : jv_in (o.bind f) := by
  cases o with
  | none => trivial
  | some x => exact hf x rfl
theorem jn_ite {c : Prop} [Decidable c] {a b : Option jv_A} (ha : c → jv_in a) (hb : ¬ c → jv_in b) : jv_in (if c then a else b) := by
  split
  · exact ha (by assumption)
  · exact hb (by assumption)
theorem jn_if {c : Prop} [Decidable c] {off : Int} : jv_in (jv_if c pc off lc st h) := by unfold jv_if; exact jn_ite (fun _ => jn_ite (fun _ => trivial) (fun _ => trivial)) (fun _ => trivial)
theorem jn_i1 {f : Int32 → Int32} : jv_in (jv_i1 f pc lc st h) := by
  unfold jv_i1
  split <;> trivial
theorem jn_i2 {f : Int32 → Int32 → Int32} : jv_in (jv_i2 f pc lc st h) := by
  unfold jv_i2
  split <;> trivial
theorem jn_l2 {f : Int64 → Int64 → Int64} : jv_in (jv_l2 f pc lc st h) := by
  unfold jv_l2
  split <;> trivial
theorem jn_il : jv_in (jv_il k pc lc st h) := by
  unfold jv_il
  split <;> trivial
theorem jn_ll : jv_in (jv_ll k pc lc st h) := by
  unfold jv_ll
  split <;> trivial
theorem jn_aL : jv_in (jv_aL k pc lc st h) := by
  unfold jv_aL
  split <;> trivial
theorem jn_d2 {f : Int32 → Int32 → Int32} : jv_in (jv_d2 f pc lc st h) := by
  unfold jv_d2
  split <;> first | trivial | exact jn_ite (fun _ => trivial) (fun _ => trivial)
theorem jn_ld2 {f : Int64 → Int64 → Int64} : jv_in (jv_ld2 f pc lc st h) := by
  unfold jv_ld2
  split <;> first | trivial | exact jn_ite (fun _ => trivial) (fun _ => trivial)
theorem jn_is : jv_in (jv_is k pc lc st h) := by
  unfold jv_is
  split <;> first | trivial | exact jn_ite (fun _ => trivial) (fun _ => trivial)
theorem jn_ls : jv_in (jv_ls k pc lc st h) := by
  unfold jv_ls
  split <;> first | trivial | exact jn_ite (fun _ => trivial) (fun _ => trivial)
theorem jn_aS : jv_in (jv_aS k pc lc st h) := by
  unfold jv_aS
  split <;> first | trivial | exact jn_ite (fun _ => trivial) (fun _ => trivial)
end
set_option maxHeartbeats 4000000 in
theorem jn_act {mi pc len : Nat} {i : Instr} {lc : jv_L} {st : List Value} {h : jv_H} (h1 : ∀ idx, i ≠ .invokevirtual idx) (h2 : ∀ idx, i ≠ .invokestatic idx) (h3 : ∀ idx, i ≠ .invokespecial idx) (h4 : i ≠ .ireturn) (h5 : i ≠ .lreturn) (h6 : i ≠ .areturn) (h7 : i ≠ .return_) (h8 : i ≠ .athrow) : jv_in (jv_act mi pc len i lc st h) := by
  unfold jv_act
  split
  · exact trivial
  · exact trivial
  · exact trivial
  · exact trivial
  · exact trivial
  · exact jn_bind fun x hx => jn_ite (fun _ => trivial) (fun _ => trivial)
  · exact jn_bind fun x hx => jn_bind fun y hy => trivial
  · exact jn_bind fun x hx => jn_bind fun y hy => trivial
  · exact jn_il
  · exact jn_il
  · exact jn_ll
  · exact jn_ll
  · exact jn_aL
  · exact jn_aL
  · exact jn_is
  · exact jn_is
  · exact jn_ls
  · exact jn_ls
  · exact jn_aS
  · exact jn_aS
  · split
    · exact trivial
    · exact trivial
  · exact jn_i2
  · exact jn_i2
  · exact jn_i2
  · exact jn_i2
  · exact jn_i2
  · exact jn_i2
  · exact jn_i2
  · exact jn_i2
  · exact jn_i2
  · exact jn_d2
  · exact jn_d2
  · exact jn_i1
  · exact jn_i1
  · exact jn_i1
  · exact jn_i1
  · exact jn_l2
  · exact jn_l2
  · exact jn_ld2
  · exact jn_ld2
  · split
    · exact trivial
    · exact trivial
  · split
    · exact trivial
    · exact trivial
  · split
    · exact trivial
    · exact trivial
  · split
    · exact jn_ite (fun _ => trivial) (fun _ => trivial)
    · exact trivial
  · split
    · exact jn_ite (fun _ => trivial) (fun _ => trivial)
    · exact trivial
  · split
    · exact jn_ite (fun _ => trivial) (fun _ => trivial)
    · exact trivial
  · split
    · exact jn_ite (fun _ => trivial) (fun _ => trivial)
    · exact trivial
  · exact jn_ite (fun _ => trivial) (fun _ => trivial)
  · split
    · split <;> exact jn_if
    · exact trivial
  · split
    · split <;> exact jn_if
    · exact trivial
  · split
    · refine jn_ite (fun _ => ?_) (fun _ => trivial)
      split <;> exact jn_if
    · exact trivial
  · split
    · exact jn_ite (fun _ => trivial) (fun _ => trivial)
    · exact jn_ite (fun _ => trivial) (fun _ => trivial)
    · exact trivial
  · split
    · exact trivial
    · exact jn_ite (fun _ => trivial) (fun _ => trivial)
    · exact trivial
  · split
    · exact jn_ite (fun _ => trivial) (fun _ => trivial)
    · exact trivial
  · split
    · exact jn_ite (fun _ => trivial) (fun _ => trivial)
    · exact trivial
  · split
    · exact jn_bind fun x hx => trivial
    · exact trivial
  · split
    · exact jn_bind fun x hx => trivial
    · exact trivial
  · exact jn_bind fun x hx => trivial
  · split
    · exact jn_bind fun x hx => trivial
    · exact trivial
  · split
    · exact jn_bind fun x hx => trivial
    · exact trivial
  · split
    · exact jn_bind fun x hx => trivial
    · exact trivial
  · split
    · exact jn_bind fun x hx => trivial
    · exact trivial
  · split
    · exact jn_bind fun x hx => trivial
    · exact trivial
  · split
    · exact jn_bind fun x hx => trivial
    · exact trivial
  · split
    · exact jn_bind fun x hx => trivial
    · exact trivial
  · split
    · exact jn_bind fun x hx => trivial
    · exact trivial
  · split
    · exact jn_bind fun x hx => trivial
    · exact trivial
  · split
    · exact jn_bind fun x hx => trivial
    · exact trivial
  · split
    · exact jn_bind fun x hx => trivial
    · exact trivial
  · exact jn_bind fun x hx => jn_bind fun y hy => trivial
  · split
    · exact jn_ite (fun _ => trivial) (fun _ => jn_bind fun y hy => trivial)
    · exact trivial
  · split
    · exact jn_ite (fun _ => trivial) (fun _ => jn_bind fun y hy => trivial)
    · exact trivial
  · split
    · exact jn_ite (fun _ => trivial) (fun _ => trivial)
    · exact trivial
  · split
    · exact jn_bind fun x hx => jn_ite (fun _ => trivial) (fun _ => trivial)
    · exact trivial
    · exact trivial
  · split
    · exact jn_bind fun x hx => jn_ite (fun _ => trivial) (fun _ => trivial)
    · exact trivial
  · exact absurd rfl (h1 _)
  · exact absurd rfl (h2 _)
  · exact absurd rfl (h3 _)
  · exact absurd rfl (h4)
  · exact absurd rfl (h5)
  · exact absurd rfl (h6)
  · exact absurd rfl (h7)
  · exact absurd rfl (h8)
  · exact trivial
