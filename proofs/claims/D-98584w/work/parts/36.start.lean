/-! THE CLAIM OUT OF ONE WALK OF THE LAW'S BODY. Your part is whole_start (and what it stands on); all else here is the same for every law, but numbers. -/
def R_law : String := "RainLoomLaw"
def lw_P (b : Addr) (xs : List Int32) (args : Array Value) (s : State) : Prop := args = #[.ref b] ∧ s.IntsAt b xs ∧ xs.length ≤ 384 ∧ (Jvm.Cond.and given_1 narrow_1).before args s = true
def lw_Q (_ : Array Value) (s : State) (o : Outcome) (t : State) : Prop := o = .returned (some (.int 1)) ∧ Framed s o t [] 601024 7293034
def lw_Z (below : List Frame) (a : Array Value) (s : State) : State → Prop := fun t => ∃ o, t.status = .running ∧ Ended t below o ∧ lw_Q a s o t
/-- the law's own end, with 1 on the stack, nothing written that was there before, its room as the claim has it -/
theorem lw_ret {p : Program} {l : Launch} {e : Env} {s : State} {m : MethodId} {below : List Frame} {meth : Method} {c : Code} {b : Nat} (hx : p.tables.exec = Jvm.exec) (hb : c.code = code) (hr : meth.sig.returnType = ret) (hlocks : meth.locks = false) {pc : Nat} {H : Heap} {ls : Array Slot} (hdg : decode code pc = .ok (.ireturn, 1)) : W p l e room_1 s m #[Value.ref b] below meth c H [] 601024 7293034 (lw_Z below #[Value.ref b] s) (F0 m pc ls [.int 1]) := by
  intro T hT X
  obtain ⟨fs, hret, hrun, hended, hW, hframe⟩ := X.leave (v := some (.int 1)) (hlocks := hlocks) (fun h => by rw [hr] at h; cases h)
  have hmeth' : T.vm.method? m = some meth := X.method'
  refine ⟨T.setFrames fs, ?_, .returned (some (.int 1)), hrun, hended, rfl, ⟨_, rfl⟩, hW, hframe⟩
  jvm_step X.here [X.here.top, hx, hb, hdg, hmeth', hr, ret, narrow_b1]
  (try refine ⟨rfl, ?_⟩); (try refine ⟨rfl, ?_⟩)
  first | (intro acts; rw [hret _ acts rfl rfl rfl]) | rw [hret _ _ rfl rfl rfl]
  exact Steps.refl _
/-- what holds at the law's entry: the machine, the code, the tables' words (any of lw_tbl by 'hts w (by decide +kernel)'), the script of L ints xs at the cell b, what the Statement gives of the start (any of its parts by flat_of_before) -/
def lw_At (p : Program) (s : State) (m : MethodId) (meth : Method) (c : Code) (b L : Nat) (xs : Nat → Int32) : Prop :=
  p.tables.exec = Jvm.exec ∧ c.code = code ∧ meth.sig.returnType = ret ∧ c.maxLocals = 4 ∧ s.vm.findClass R_law = some m.cls ∧ (∀ w ∈ lw_tbl, w.before #[Value.ref b] s = true) ∧ va_X b L xs s s.heap ∧ b < s.heap.size ∧ meth.locks = false ∧ (Jvm.Cond.and given_1 narrow_1).before #[Value.ref b] s = true

set_option maxRecDepth 100000
/-- what stood before the run: the script, the string constants, their bytes, the empty array of lists -/
def ol_O (L : Nat) (xs : Nat → Int32) : List jv_C := [
  .inl (0, L, .inl xs),
  .inr (19, [.ref 23, .int 0]),
  .inr (19, [.ref 24, .int 0]),
  .inr (19, [.ref 25, .int 0]),
  .inr (19, [.ref 26, .int 0]),
  .inr (19, [.ref 27, .int 0]),
  .inr (19, [.ref 28, .int 0]),
  .inr (19, [.ref 29, .int 0]),
  .inr (19, [.ref 30, .int 0]),
  .inr (19, [.ref 31, .int 0]),
  .inr (19, [.ref 32, .int 0]),
  .inr (19, [.ref 33, .int 0]),
  .inr (19, [.ref 34, .int 0]),
  .inr (19, [.ref 35, .int 0]),
  .inr (19, [.ref 36, .int 0]),
  .inr (19, [.ref 37, .int 0]),
  .inr (19, [.ref 38, .int 0]),
  .inr (19, [.ref 39, .int 0]),
  .inr (19, [.ref 40, .int 0]),
  .inr (19, [.ref 41, .int 0]),
  .inr (19, [.ref 42, .int 0]),
  .inr (19, [.ref 43, .int 0]),
  .inr (19, [.ref 44, .int 0]),
  .inl (1, 0, .inl fun j => ([] : List Int32).getD j 0),
  .inl (1, 3, .inl fun j => ([114, 111, 119] : List Int32).getD j 0),
  .inl (1, 5, .inl fun j => ([102, 105, 101, 108, 100] : List Int32).getD j 0),
  .inl (1, 4, .inl fun j => ([108, 111, 111, 109] : List Int32).getD j 0),
  .inl (1, 6, .inl fun j => ([119, 101, 97, 118, 101, 115] : List Int32).getD j 0),
  .inl (1, 5, .inl fun j => ([100, 114, 105, 101, 115] : List Int32).getD j 0),
  .inl (1, 7, .inl fun j => ([103, 97, 116, 104, 101, 114, 115] : List Int32).getD j 0),
  .inl (1, 5, .inl fun j => ([115, 116, 111, 114, 101] : List Int32).getD j 0),
  .inl (1, 5, .inl fun j => ([103, 117, 115, 116, 115] : List Int32).getD j 0),
  .inl (1, 4, .inl fun j => ([115, 101, 101, 100] : List Int32).getD j 0),
  .inl (1, 2, .inl fun j => ([105, 102] : List Int32).getD j 0),
  .inl (1, 4, .inl fun j => ([116, 104, 101, 110] : List Int32).getD j 0),
  .inl (1, 4, .inl fun j => ([101, 108, 115, 101] : List Int32).getD j 0),
  .inl (1, 4, .inl fun j => ([115, 104, 101, 100] : List Int32).getD j 0),
  .inl (1, 4, .inl fun j => ([119, 97, 114, 112] : List Int32).getD j 0),
  .inl (1, 4, .inl fun j => ([112, 105, 99, 107] : List Int32).getD j 0),
  .inl (1, 5, .inl fun j => ([119, 97, 116, 101, 114] : List Int32).getD j 0),
  .inl (1, 5, .inl fun j => ([110, 101, 101, 100, 115] : List Int32).getD j 0),
  .inl (1, 6, .inl fun j => ([100, 114, 111, 119, 110, 115] : List Int32).getD j 0),
  .inl (1, 3, .inl fun j => ([100, 97, 121] : List Int32).getD j 0),
  .inl (1, 5, .inl fun j => ([119, 104, 105, 99, 104] : List Int32).getD j 0),
  .inl (1, 4, .inl fun j => ([119, 105, 100, 101] : List Int32).getD j 0),
  .inl (6, 0, .inr (.inr (.inr (.inr fun _ => none)))),
  .inr (9999, []),
  .inr (9999, []),
  .inr (9999, []),
  .inr (9999, [])]
def ol_len : List Nat := [0, 3, 5, 4, 6, 5, 7, 5, 5, 4, 2, 4, 4, 4, 4, 4, 5, 5, 6, 3, 5, 4]
def ol_byt : List (List Int32) := [[], [114, 111, 119], [102, 105, 101, 108, 100], [108, 111, 111, 109], [119, 101, 97, 118, 101, 115], [100, 114, 105, 101, 115], [103, 97, 116, 104, 101, 114, 115], [115, 116, 111, 114, 101], [103, 117, 115, 116, 115], [115, 101, 101, 100], [105, 102], [116, 104, 101, 110], [101, 108, 115, 101], [115, 104, 101, 100], [119, 97, 114, 112], [112, 105, 99, 107], [119, 97, 116, 101, 114], [110, 101, 101, 100, 115], [100, 114, 111, 119, 110, 115], [100, 97, 121], [119, 104, 105, 99, 104], [119, 105, 100, 101]]
def ol_tm : List Term := [.string "RainLoom$Fault" 1, .string "RainLoom$Tokens" 11, .string "RainLoom$Tokens" 13, .string "RainLoom$Tokens" 15, .string "RainLoom$Tokens" 17, .string "RainLoom$Tokens" 19, .string "RainLoom$Tokens" 21, .string "RainLoom$Tokens" 23, .string "RainLoom$Tokens" 25, .string "RainLoom$Tokens" 27, .string "RainLoom$Tokens" 29, .string "RainLoom$Tokens" 31, .string "RainLoom$Tokens" 33, .string "RainLoom$Tokens" 35, .string "RainLoom$Tokens" 37, .string "RainLoom$Tokens" 39, .string "RainLoom$Tokens" 41, .string "RainLoom$Tokens" 43, .string "RainLoom$Tokens" 45, .string "RainLoom$Tokens" 47, .string "RainLoom$Tokens" 49, .string "RainLoom$Tokens" 51]
theorem ol_s {L : Nat} {xs : Nat → Int32} (i : Nat) (hi : i < 22) : (ol_O L xs)[i + 1]? = some (.inr (19, [.ref (i + 23), .int 0])) :=
  match i, hi with
  | 0, _ => rfl
  | 1, _ => rfl
  | 2, _ => rfl
  | 3, _ => rfl
  | 4, _ => rfl
  | 5, _ => rfl
  | 6, _ => rfl
  | 7, _ => rfl
  | 8, _ => rfl
  | 9, _ => rfl
  | 10, _ => rfl
  | 11, _ => rfl
  | 12, _ => rfl
  | 13, _ => rfl
  | 14, _ => rfl
  | 15, _ => rfl
  | 16, _ => rfl
  | 17, _ => rfl
  | 18, _ => rfl
  | 19, _ => rfl
  | 20, _ => rfl
  | 21, _ => rfl
  | n + 22, h => absurd h (by omega)
theorem ol_b {L : Nat} {xs : Nat → Int32} (i : Nat) (hi : i < 22) : (ol_O L xs)[i + 23]? = some (.inl (1, ol_len.getD i 0, .inl fun j => (ol_byt.getD i []).getD j 0)) :=
  match i, hi with
  | 0, _ => rfl
  | 1, _ => rfl
  | 2, _ => rfl
  | 3, _ => rfl
  | 4, _ => rfl
  | 5, _ => rfl
  | 6, _ => rfl
  | 7, _ => rfl
  | 8, _ => rfl
  | 9, _ => rfl
  | 10, _ => rfl
  | 11, _ => rfl
  | 12, _ => rfl
  | 13, _ => rfl
  | 14, _ => rfl
  | 15, _ => rfl
  | 16, _ => rfl
  | 17, _ => rfl
  | 18, _ => rfl
  | 19, _ => rfl
  | 20, _ => rfl
  | 21, _ => rfl
  | n + 22, h => absurd h (by omega)
def ol_fl : List Cond := flatC (Jvm.Cond.and given_1 narrow_1)
theorem ol_w1 : ∀ i, i < 22 → Cond.exactly (ol_tm.getD i (.int 0)) "java/lang/String" ∈ ol_fl := by decide +kernel
theorem ol_w2 : ∀ i, i < 22 → Cond.eq (.field (ol_tm.getD i (.int 0)) "java/lang/String" "coder" "B") (.int 0) ∈ ol_fl := by decide +kernel
theorem ol_w3 : ∀ i, i < 22 → Cond.arrayOf (.field (ol_tm.getD i (.int 0)) "java/lang/String" "value" "[B") .byte ∈ ol_fl := by decide +kernel
theorem ol_w4 : ∀ i, i < 22 → Cond.eq (.length (.field (ol_tm.getD i (.int 0)) "java/lang/String" "value" "[B")) (.int (Int32.ofNat (ol_len.getD i 0))) ∈ ol_fl := by decide +kernel
theorem ol_w5 : ∀ i, i < 22 → ∀ j, j < ol_len.getD i 0 → Cond.eq (.elem (.field (ol_tm.getD i (.int 0)) "java/lang/String" "value" "[B") (.int (Int32.ofNat j))) (.int ((ol_byt.getD i []).getD j 0)) ∈ ol_fl := by decide +kernel
theorem ol_w6 : ∀ i, i < 22 → ol_len.getD i 0 < 2 ^ 31 := by decide +kernel
theorem st_str {args : Array Value} {s : State} (hs : ∀ w ∈ ol_fl, w.before args s = true) : ∃ ad : Nat → Nat × Nat, ∀ i, i < 22 → (ol_tm.getD i (.int 0)).eval args s none [] s = some (.ref (ad i).1) ∧ va_O "java/lang/String" (ad i).1 (fun q => s.heap.size ≤ q) s s.heap ∧ va_OF "java/lang/String" "coder" "B" (.int 0) (ad i).1 (fun q => s.heap.size ≤ q) s s.heap ∧ va_OF "java/lang/String" "value" "[B" (.ref (ad i).2) (ad i).1 (fun q => s.heap.size ≤ q) s s.heap ∧ va_T .byte (ad i).2 (ol_len.getD i 0) (fun j => .int ((ol_byt.getD i []).getD j 0)) (fun q => s.heap.size ≤ q) s s.heap := by
  have hA : ∀ a : Nat, a < s.heap.size → ¬ (fun q : Nat => s.heap.size ≤ q) a := fun a h => Nat.not_le.mpr h
  have h0 : ∀ i : Nat, ∃ q : Nat × Nat, i < 22 → (ol_tm.getD i (.int 0)).eval args s none [] s = some (.ref q.1) ∧ va_O "java/lang/String" q.1 (fun q => s.heap.size ≤ q) s s.heap ∧ va_OF "java/lang/String" "coder" "B" (.int 0) q.1 (fun q => s.heap.size ≤ q) s s.heap ∧ va_OF "java/lang/String" "value" "[B" (.ref q.2) q.1 (fun q => s.heap.size ≤ q) s s.heap ∧ va_T .byte q.2 (ol_len.getD i 0) (fun j => .int ((ol_byt.getD i []).getD j 0)) (fun q => s.heap.size ≤ q) s s.heap := by
    intro i
    by_cases hi : i < 22
    · obtain ⟨a, c, cA, kA, q1, q2, q3, q4, q5, q6, -⟩ := Cond.exactly_spec (args := args) (first := s) (o := none) (s := s) (idx := []) (t := ol_tm.getD i (.int 0)) (cls := "java/lang/String") (hs _ (ol_w1 i hi))
      obtain ⟨t, ht, hT⟩ := va_Tof (f := fun j => .int ((ol_byt.getD i []).getD j 0)) (A := fun q => s.heap.size ≤ q) (ol_w6 i hi) (hs _ (ol_w3 i hi)) (va_eqt (hs _ (ol_w4 i hi))) (fun j hj => va_eqt (hs _ (ol_w5 i hi j hj))) hA
      exact ⟨(a, t), fun _ => ⟨q1, ⟨cA, q3, q5, by rw [q6]; exact q2, hA a (Array.getElem?_eq_some_iff.mp q3).1⟩, vk_OFof q1 (va_eqt (hs _ (ol_w2 i hi))) hA, vk_OFof q1 ht hA, hT⟩⟩
    · exact ⟨(0, 0), fun h => absurd h hi⟩
  exact Classical.axiomOfChoice h0
theorem st_arr {args : Array Value} {s : State} (hts : ∀ w ∈ lw_tbl, w.before args s = true) : ∃ cA : Nat → ClassId, ∀ (k : Nat) (ty : FieldType), jt_at[k]? = some ty → ArrOfT s (cA k) ty ∧ va_RA s (cA k) ty := by
  have h0 : ∀ k : Nat, ∃ cA : ClassId, ∀ ty : FieldType, jt_at[k]? = some ty → ArrOfT s cA ty ∧ va_RA s cA ty := by
    have prim : ∀ ty : FieldType, Cond.arrayClass ty ∈ lw_tbl → (∀ C, ty ≠ .object C) → ∃ cA : ClassId, ArrOfT s cA ty ∧ s.vm.findClass ("[" ++ ty.toString) = some cA := fun ty h hn => by
      obtain ⟨c, k, comp, h1, h2, h3⟩ := Cond.arrayClass_spec (hts _ h)
      exact ⟨c, fun n z => ⟨(fun k h => by cases h), k, h2, comp, h3⟩, h1⟩
    have obj : ∀ C : String, Cond.arrayOver (.object C) ∈ lw_tbl → ∃ cA : ClassId, ArrOfT s cA (.object C) ∧ va_RA s cA (.object C) := fun C h => by
      obtain ⟨comp, c, k, h1, h2, h3, h4, h5⟩ := Cond.arrayOver_spec (hts _ h)
      exact ⟨c, fun n z => ⟨(fun k h => by cases h), k, h3, comp, h4⟩, k, comp, h3, h4, h1, h5⟩
    intro k
    match k with
    | 0 =>
      obtain ⟨c, h1, h2⟩ := prim .int (lw_all_tbl q359) (fun _ h => by cases h)
      exact ⟨c, fun ty h => by cases h; exact ⟨h1, h2⟩⟩
    | 1 =>
      obtain ⟨c, h1, h2⟩ := prim .byte (lw_all_tbl q238) (fun _ h => by cases h)
      exact ⟨c, fun ty h => by cases h; exact ⟨h1, h2⟩⟩
    | 2 =>
      obtain ⟨c, h1, h2⟩ := prim .boolean (lw_all_tbl q639) (fun _ h => by cases h)
      exact ⟨c, fun ty h => by cases h; exact ⟨h1, h2⟩⟩
    | 3 =>
      obtain ⟨c, h1, h2⟩ := prim .short (lw_all_tbl q298) (fun _ h => by cases h)
      exact ⟨c, fun ty h => by cases h; exact ⟨h1, h2⟩⟩
    | 4 =>
      obtain ⟨c, h1, h2⟩ := prim .long (lw_all_tbl q1741) (fun _ h => by cases h)
      exact ⟨c, fun ty h => by cases h; exact ⟨h1, h2⟩⟩
    | 5 =>
      obtain ⟨c, h1, h2⟩ := obj "java/lang/String" q246
      exact ⟨c, fun ty h => by cases h; exact ⟨h1, h2⟩⟩
    | 6 =>
      obtain ⟨c, h1, h2⟩ := obj "java/lang/Object" q1142
      exact ⟨c, fun ty h => by cases h; exact ⟨h1, h2⟩⟩
    | 7 =>
      obtain ⟨c, h1, h2⟩ := obj "RainLoom$Law" q361
      exact ⟨c, fun ty h => by cases h; exact ⟨h1, h2⟩⟩
    | 8 =>
      obtain ⟨c, h1, h2⟩ := obj "RainLoom$Sum" q771
      exact ⟨c, fun ty h => by cases h; exact ⟨h1, h2⟩⟩
    | 9 =>
      obtain ⟨c, h1, h2⟩ := obj "RainLoom$Land" q500
      exact ⟨c, fun ty h => by cases h; exact ⟨h1, h2⟩⟩
    | 10 =>
      obtain ⟨c, h1, h2⟩ := obj "RainLoom$Part" q502
      exact ⟨c, fun ty h => by cases h; exact ⟨h1, h2⟩⟩
    | 11 =>
      obtain ⟨comp, c, k, h1, h3, h4, h5⟩ := Cond.arrayOver_specA (hts _ q535)
      exact ⟨c, fun ty h => by cases h; exact ⟨fun n z => ⟨(fun k h => by cases h), k, h3, comp, h4⟩, h5⟩⟩
    | n + 12 => exact ⟨0, fun ty h => absurd (List.getElem?_eq_some_iff.mp h).1 (by show ¬ n + 12 < 12; omega)⟩
  exact Classical.axiomOfChoice h0
theorem st_cls {args : Array Value} {s : State} (hts : ∀ w ∈ lw_all, w.before args s = true) : ∃ D : va_G, ∀ (c : Nat) (q : vw_C), jt_cl[c]? = some q → u_Kn s q.1 q.2.1 q.2.2 (D.1 c) (D.2 c) := by
  have h0 : ∀ c : Nat, ∃ D : ClassId × (Nat → Nat), ∀ q : vw_C, jt_cl[c]? = some q → u_Kn s q.1 q.2.1 q.2.2 D.1 D.2 := by
    intro c
    cases hq : jt_cl[c]? with
    | none => exact ⟨(0, fun _ => 0), fun q h => by cases h⟩
    | some q =>
      obtain ⟨g1, g2, g3, g4⟩ := tC_ok c q hq
      obtain ⟨cC, iS, h1⟩ := u_known hts g1 (hts _ g3)
      exact ⟨(cC, iS), fun q' h => by cases h; exact h1⟩
  obtain ⟨D, hD⟩ := Classical.axiomOfChoice h0
  exact ⟨(fun c => (D c).1, fun c => (D c).2), hD⟩
def ol_ao (b : Nat) (ad : Nat → Nat × Nat) (a45 : Nat) (a46 a47 a48 : Option Nat) (n : Nat) (k : Nat) : Option Nat :=
  if k < 50 then (if k = 0 then some b else if k < 23 then some (ad (k - 1)).1 else if k < 45 then some (ad (k - 23)).2 else if k = 45 then some a45 else if k = 46 then a46 else if k = 47 then a47 else if k = 48 then a48 else none) else some (n + (k - 50))
theorem ol_ao_s {b a45 n i : Nat} {a46 a47 a48 : Option Nat} {ad : Nat → Nat × Nat} (hi : i < 22) : ol_ao b ad a45 a46 a47 a48 n (i + 1) = some (ad i).1 := by
  unfold ol_ao
  rw [if_pos (by omega), if_neg (by omega), if_pos (by omega)]
  rfl
theorem ol_ao_b {b a45 n i : Nat} {a46 a47 a48 : Option Nat} {ad : Nat → Nat × Nat} (hi : i < 22) : ol_ao b ad a45 a46 a47 a48 n (i + 23) = some (ad i).2 := by
  unfold ol_ao
  rw [if_pos (by omega), if_neg (by omega), if_neg (by omega), if_pos (by omega)]
  rfl
set_option maxHeartbeats 4000000 in
theorem st_G {p : Program} {s : State} {m : MethodId} {meth : Method} {c : Code} {b L : Nat} {xs : Nat → Int32} (hL : L ≤ 384) (C0 : lw_At p s m meth c b L xs) : ∃ G : sn_G, gB G = s.heap.size ∧ gO G 0 = some b ∧ sn_K G s ∧ sn_P G (ol_O L xs) s.heap := by
  obtain ⟨hx, hb, hr, hml, hown, htb, hX, hbl, hlocks, hgv⟩ := C0
  have hts : ∀ w ∈ lw_all, w.before #[Value.ref b] s = true := fun w hw => htb w (lw_all_tbl hw)
  have hs : ∀ w ∈ ol_fl, w.before #[Value.ref b] s = true := flat_of_before _ hgv
  have hA : ∀ a : Nat, a < s.heap.size → ¬ (fun q : Nat => s.heap.size ≤ q) a := fun a h => Nat.not_le.mpr h
  obtain ⟨D, hD⟩ := st_cls hts
  obtain ⟨cA, hcA⟩ := st_arr htb
  obtain ⟨ad, had⟩ := st_str hs
  obtain ⟨a45, h45, hT45⟩ := va_Tof (N := 0) (f := fun _ => .null) (A := fun q => s.heap.size ≤ q) (by decide) (hs (Cond.arrayOf (.static "java/util/ArrayList" "DEFAULTCAPACITY_EMPTY_ELEMENTDATA" "[Ljava/lang/Object;") (.object "java/lang/Object")) (by decide +kernel)) (va_eqt (hs (Cond.eq (.length (.static "java/util/ArrayList" "DEFAULTCAPACITY_EMPTY_ELEMENTDATA" "[Ljava/lang/Object;")) (.int 0)) (by decide +kernel))) (fun j hj => absurd hj (Nat.not_lt_zero _)) hA
  obtain ⟨v46, h46, hv46⟩ := Cond.isRef_spec (hs (Cond.isRef (.static "java/lang/Throwable" "UNASSIGNED_STACK" "[Ljava/lang/StackTraceElement;")) (by decide +kernel))
  obtain ⟨a46, rfl⟩ : ∃ o : Option Nat, v46 = va_rf o := by
    cases v46 with
    | ref a => exact ⟨some a, rfl⟩
    | null => exact ⟨none, rfl⟩
    | _ => cases hv46
  obtain ⟨v47, h47, hv47⟩ := Cond.isRef_spec (hs (Cond.isRef (.static "java/lang/Throwable" "SUPPRESSED_SENTINEL" "Ljava/util/List;")) (by decide +kernel))
  obtain ⟨a47, rfl⟩ : ∃ o : Option Nat, v47 = va_rf o := by
    cases v47 with
    | ref a => exact ⟨some a, rfl⟩
    | null => exact ⟨none, rfl⟩
    | _ => cases hv47
  obtain ⟨v48, h48, hv48⟩ := Cond.isRef_spec (hs (Cond.isRef (.static "jdk/internal/util/Preconditions" "SIOOBE_FORMATTER" "Ljava/util/function/BiFunction;")) (by decide +kernel))
  obtain ⟨a48, rfl⟩ : ∃ o : Option Nat, v48 = va_rf o := by
    cases v48 with
    | ref a => exact ⟨some a, rfl⟩
    | null => exact ⟨none, rfl⟩
    | _ => cases hv48
  refine ⟨(D, cA, ol_ao b ad a45 a46 a47 a48 s.heap.size, s.heap.size, s.heap, ol_O L xs), rfl, rfl, ⟨⟨hD, fun k q hq => ?_⟩, fun r hr => ?_, rfl, fun k c hc => ?_, ?_, ?_, fun w hw => ?_⟩, fun k q hq => ?_, rfl, Nat.le_refl _, rfl, fun q _ => rfl⟩
  · unfold sn_t at hq
    rw [List.getElem?_mapIdx] at hq
    obtain ⟨ty, hty, rfl⟩ := Option.map_eq_some_iff.mp hq
    exact hcA k ty hty
  · exact if_neg (Nat.not_lt.mpr hr)
  · have hk : k < 50 := (List.getElem?_eq_some_iff.mp hc).1
    by_cases k0 : k = 0
    · subst k0
      cases hc
      obtain ⟨scr, x1, x2, x3, x4, x5⟩ := hX
      exact Or.inr ⟨⟨b, .int, scr, rfl, rfl, x1, x2, x3, by show L ≤ _; omega, by show scr.slots.size.toInt32 = Int32.ofNat L; rw [x4], fun j hj => x5 j hj⟩, b, rfl, hbl⟩
    by_cases k1 : k < 23
    · obtain ⟨i, rfl⟩ : ∃ i, k = i + 1 := ⟨k - 1, by omega⟩
      have hi : i < 22 := by omega
      cases (ol_s i hi).symm.trans hc
      obtain ⟨e1, ⟨cell, f1, f2, f3, f4⟩, ⟨cf, kf, fi, f, ce2, g1, g2, g3, g4, g5, g6⟩, ⟨cf', kf', fi', f', ce3, m1, m2, m3, m4, m5, m6⟩, hT⟩ := had i hi
      cases f1.symm.trans g3
      cases f1.symm.trans m3
      refine Or.inr ⟨⟨(ad i).1, _, _, _, cell, ol_ao_s hi, rfl, f1, f2, g4, f3, fun j v hv hj => ?_⟩, _, ol_ao_s hi, Nat.lt_of_not_le f4⟩
      match j, hv with
      | 0, hv => cases hv; exact ⟨cf', kf', fi', f', m1, m2, by rw [m5]; show _ = some (va_rf (ol_ao b ad a45 a46 a47 a48 s.heap.size (i + 23))); rw [ol_ao_b hi]; rfl⟩
      | 1, hv => cases hv; exact ⟨cf, kf, fi, f, g1, g2, g5⟩
      | n + 2, hv => cases hv
    by_cases k2 : k < 45
    · obtain ⟨i, rfl⟩ : ∃ i, k = i + 23 := ⟨k - 23, by omega⟩
      have hi : i < 22 := by omega
      cases (ol_b i hi).symm.trans hc
      obtain ⟨-, -, -, -, ⟨cell, f1, f2, f3, f4, f5, f6, f7⟩⟩ := had i hi
      exact Or.inr ⟨⟨(ad i).2, .byte, cell, ol_ao_b hi, rfl, f1, f2, f3, f4, f5, fun j hj => f6 j hj⟩, _, ol_ao_b hi, Nat.lt_of_not_le f7⟩
    by_cases k3 : k = 45
    · subst k3
      cases hc
      obtain ⟨cell, f1, f2, f3, f4, f5, f6, f7⟩ := hT45
      exact Or.inr ⟨⟨a45, _, cell, rfl, rfl, f1, f2, f3, f4, f5, fun j hj => absurd hj (Nat.not_lt_zero _)⟩, a45, rfl, Nat.lt_of_not_le f7⟩
    · left
      rcases (show k = 46 ∨ k = 47 ∨ k = 48 ∨ k = 49 by omega) with rfl | rfl | rfl | rfl <;> (cases hc; rfl)
  · show ∀ e ∈ jt_K, _
    unfold jt_K
    exact List.forall_mem_cons.mpr ⟨(fun r h => by cases h; exact ⟨_, _, _, rfl, vk_R.of (htb _ q207) (had 0 (by decide)).1, rfl⟩), List.forall_mem_cons.mpr ⟨(fun r h => by cases h; exact ⟨_, _, _, rfl, vk_R.of (htb _ q247) (had 1 (by decide)).1, rfl⟩), List.forall_mem_cons.mpr ⟨(fun r h => by cases h; exact ⟨_, _, _, rfl, vk_R.of (htb _ q248) (had 2 (by decide)).1, rfl⟩), List.forall_mem_cons.mpr ⟨(fun r h => by cases h; exact ⟨_, _, _, rfl, vk_R.of (htb _ q249) (had 3 (by decide)).1, rfl⟩), List.forall_mem_cons.mpr ⟨(fun r h => by cases h; exact ⟨_, _, _, rfl, vk_R.of (htb _ q250) (had 4 (by decide)).1, rfl⟩), List.forall_mem_cons.mpr ⟨(fun r h => by cases h; exact ⟨_, _, _, rfl, vk_R.of (htb _ q251) (had 5 (by decide)).1, rfl⟩), List.forall_mem_cons.mpr ⟨(fun r h => by cases h; exact ⟨_, _, _, rfl, vk_R.of (htb _ q252) (had 6 (by decide)).1, rfl⟩), List.forall_mem_cons.mpr ⟨(fun r h => by cases h; exact ⟨_, _, _, rfl, vk_R.of (htb _ q253) (had 7 (by decide)).1, rfl⟩), List.forall_mem_cons.mpr ⟨(fun r h => by cases h; exact ⟨_, _, _, rfl, vk_R.of (htb _ q254) (had 8 (by decide)).1, rfl⟩), List.forall_mem_cons.mpr ⟨(fun r h => by cases h; exact ⟨_, _, _, rfl, vk_R.of (htb _ q255) (had 9 (by decide)).1, rfl⟩), List.forall_mem_cons.mpr ⟨(fun r h => by cases h; exact ⟨_, _, _, rfl, vk_R.of (htb _ q256) (had 10 (by decide)).1, rfl⟩), List.forall_mem_cons.mpr ⟨(fun r h => by cases h; exact ⟨_, _, _, rfl, vk_R.of (htb _ q257) (had 11 (by decide)).1, rfl⟩), List.forall_mem_cons.mpr ⟨(fun r h => by cases h; exact ⟨_, _, _, rfl, vk_R.of (htb _ q258) (had 12 (by decide)).1, rfl⟩), List.forall_mem_cons.mpr ⟨(fun r h => by cases h; exact ⟨_, _, _, rfl, vk_R.of (htb _ q259) (had 13 (by decide)).1, rfl⟩), List.forall_mem_cons.mpr ⟨(fun r h => by cases h; exact ⟨_, _, _, rfl, vk_R.of (htb _ q260) (had 14 (by decide)).1, rfl⟩), List.forall_mem_cons.mpr ⟨(fun r h => by cases h; exact ⟨_, _, _, rfl, vk_R.of (htb _ q261) (had 15 (by decide)).1, rfl⟩), List.forall_mem_cons.mpr ⟨(fun r h => by cases h; exact ⟨_, _, _, rfl, vk_R.of (htb _ q262) (had 16 (by decide)).1, rfl⟩), List.forall_mem_cons.mpr ⟨(fun r h => by cases h; exact ⟨_, _, _, rfl, vk_R.of (htb _ q263) (had 17 (by decide)).1, rfl⟩), List.forall_mem_cons.mpr ⟨(fun r h => by cases h; exact ⟨_, _, _, rfl, vk_R.of (htb _ q264) (had 18 (by decide)).1, rfl⟩), List.forall_mem_cons.mpr ⟨(fun r h => by cases h; exact ⟨_, _, _, rfl, vk_R.of (htb _ q265) (had 19 (by decide)).1, rfl⟩), List.forall_mem_cons.mpr ⟨(fun r h => by cases h; exact ⟨_, _, _, rfl, vk_R.of (htb _ q266) (had 20 (by decide)).1, rfl⟩), List.forall_mem_cons.mpr ⟨(fun r h => by cases h; exact ⟨_, _, _, rfl, vk_R.of (htb _ q267) (had 21 (by decide)).1, rfl⟩), List.forall_mem_cons.mpr ⟨(fun r h => by cases h), List.forall_mem_cons.mpr ⟨(fun r h => by cases h), List.forall_mem_cons.mpr ⟨(fun r h => by cases h), List.forall_mem_cons.mpr ⟨(fun r h => by cases h), List.forall_mem_cons.mpr ⟨(fun r h => by cases h), List.forall_mem_cons.mpr ⟨(fun r h => by cases h), List.forall_mem_cons.mpr ⟨(fun r h => by cases h), fun _ h => absurd h List.not_mem_nil⟩⟩⟩⟩⟩⟩⟩⟩⟩⟩⟩⟩⟩⟩⟩⟩⟩⟩⟩⟩⟩⟩⟩⟩⟩⟩⟩⟩⟩
  · show ∀ e ∈ jt_G, _
    unfold jt_G
    exact List.forall_mem_cons.mpr ⟨⟨_, _, _, _, rfl, q191, va_Zof (htb _ q192) (htb _ (lw_all_tbl q120)) h46 hA⟩, List.forall_mem_cons.mpr ⟨⟨_, _, _, _, rfl, q193, va_Zof (htb _ q194) (htb _ (lw_all_tbl q120)) h47 hA⟩, List.forall_mem_cons.mpr ⟨⟨_, _, _, _, rfl, q345, va_Zof (htb _ q346) (htb _ (lw_all_tbl q129)) h45 hA⟩, List.forall_mem_cons.mpr ⟨⟨_, _, _, _, rfl, q684, va_Zof (htb _ q685) (htb _ (lw_all_tbl q140)) (va_eqt (hs (Cond.eq (.static "java/lang/String" "COMPACT_STRINGS" "Z") (.int 1)) (by decide +kernel))) hA⟩, List.forall_mem_cons.mpr ⟨⟨_, _, _, _, rfl, q700, va_Zof (htb _ q701) (htb _ (lw_all_tbl q138)) h48 hA⟩, List.forall_mem_cons.mpr ⟨⟨_, _, _, _, rfl, q716, va_Zof (htb _ q717) (htb _ (lw_all_tbl q142)) (va_eqt (hs (Cond.eq (.static "java/lang/StringUTF16" "$assertionsDisabled" "Z") (.int 1)) (by decide +kernel))) hA⟩, List.forall_mem_cons.mpr ⟨⟨_, _, _, _, rfl, q718, va_Zof (htb _ q719) (htb _ (lw_all_tbl q142)) (va_eqt (hs (Cond.eq (.static "java/lang/StringUTF16" "HI_BYTE_SHIFT" "I") (.int 0)) (by decide +kernel))) hA⟩, List.forall_mem_cons.mpr ⟨⟨_, _, _, _, rfl, q720, va_Zof (htb _ q721) (htb _ (lw_all_tbl q142)) (va_eqt (hs (Cond.eq (.static "java/lang/StringUTF16" "LO_BYTE_SHIFT" "I") (.int 8)) (by decide +kernel))) hA⟩, List.forall_mem_cons.mpr ⟨⟨_, _, _, _, rfl, q885, va_Zof (htb _ q685) (htb _ (lw_all_tbl q140)) (va_eqt (hs (Cond.eq (.static "java/lang/String" "COMPACT_STRINGS" "Z") (.int 1)) (by decide +kernel))) hA⟩, fun _ h => absurd h List.not_mem_nil⟩⟩⟩⟩⟩⟩⟩⟩⟩
  · have h1 := (List.mem_filter.mp hw).1
    exact sn_nw_cases (P := fun w => w.before #[Value.ref b] s = true → va_Nw w s) (fun C T q => va_Nw.of rfl q) (fun x q => va_Nw.of rfl q) (fun x q => va_Nw.of rfl q) (fun a i x hh q => va_Nw.of rfl q) (fun C q => q) (fun q => q) w hw (htb w h1)
  · unfold sn_w at hq
    rw [List.getElem?_mapIdx] at hq
    obtain ⟨c, hc, -⟩ := Option.map_eq_some_iff.mp hq
    rw [List.getElem?_drop] at hc
    exact absurd (List.getElem?_eq_some_iff.mp hc).1 (by show ¬ 50 + k < 50; omega)
/-- the law out of the evaluator's run -/
theorem st_run {p : Program} {e : Env} {s : State} {m : MethodId} {below : List Frame} {meth : Method} {c : Code} (l : Launch) {b L : Nat} {xs : Nat → Int32} (hL : L ≤ 384) (C0 : lw_At p s m meth c b L xs) {d : Nat} {h' : jv_H} (hd : d ≤ 1500) (hcd : jv_cd (d + 1) 0 [.ref 0] (ol_O L xs) = some (.inl (some (.int 1)), h')) (hc : h'.length ≤ 601074) (hz : sn_z h' ≤ sn_z (ol_O L xs) + 7293034) : W p l e room_1 s m #[Value.ref b] below meth c s.heap [] 0 0 (lw_Z below #[Value.ref b] s) (entryFrame m ([Value.ref b] : List Value).toArray 4) := by
  obtain ⟨G, hB, h0, hK, hP⟩ := st_G hL C0
  obtain ⟨hx, hb, hr, hml, hown, htb, hX, hbl, hlocks, hgv⟩ := C0
  have hts : ∀ w ∈ lw_all, w.before #[Value.ref b] s = true := fun w hw => htb w (lw_all_tbl hw)
  have hrow : jt_M[0]? = some (0, x, cL_law, 4, some .boolean, []) := rfl
  rw [jv_cd_succ] at hcd
  split at hcd
  next hen =>
    rw [jv_ev_iff] at hcd
    obtain ⟨F, hF⟩ := hcd
    have hS : va_S (fun q => gB G ≤ q) s.heap s.heap [] := va_S.rf
    have hn0 : (ol_O L xs).length = 50 := rfl
    have hIH : ∀ y as h q, jv_cd d y as h = some q → ∃ d', d = d' + 1 ∧ sn_Met G l d' y as h q := by
      intro y as h q hq
      cases d with
      | zero => cases hq
      | succ d => exact ⟨d, rfl, sn_all d y as h q hq⟩
    have key := sn_body (G := G) (n0 := 50) (z0 := sn_z (ol_O L xs)) (nL := 4) (R := room_1) (mi := 0) (d := d) (res := (.inl (some (.int 1)), h')) (Q := jx_MQ below (sn_Qc G (.inl (some (.int 1)), h')) (sn_XC G (.inl (some (.int 1)), h')) #[Value.ref b] s (h'.length - 50) (sn_z h' - sn_z (ol_O L xs)) (fun q => gB G ≤ q)) (p := p) (l := l) (e := e) (m := m) (below := below) (meth := meth) (args := #[Value.ref b]) (s := s) (c := c) (cc := cL_law) (own := "RainLoomLaw") hx hb hml hts t_ok tV_ok tS_ok tP_ok hrow rfl hown rfl (fun q => by cases q) hK (by show d + 1 ≤ 8192; omega) (by show 64 * (d + 1) ≤ 100000; omega) hIH (by show h'.length - 50 ≤ 601024; omega) (by show sn_z h' - sn_z (ol_O L xs) ≤ 7293034; omega)
      (fun pc lc st h i len hd ha => sn_done (mi := 0) hx hb (show meth.sig.returnType = jv_ret 0 from hr) hlocks (fun q => by obtain ⟨x, q⟩ := q; cases q) hK hd ha) (fun pc ls H locs x q ce rest hk h1 => by cases h1) (fun pc hp ls H locs q ce rest cells slots hk => by cases hk) F 0 (jv_ent 0 [.ref 0]) [] (ol_O L xs) hF (Nat.le_refl _) (Nat.le_refl _)
    have harg : ([Value.ref b] : List Value) = [Value.ref 0].map (sn_v (gO G)) := by
      show _ = [va_rf (gO G 0)]
      rw [h0]
      rfl
    have K := key _ s.heap [] (sn_entry rfl hen) hP hS
    have K2 : W p l e room_1 s m #[Value.ref b] below meth c s.heap [] 0 0 (jx_MQ below (sn_Qc G (.inl (some (.int 1)), h')) (sn_XC G (.inl (some (.int 1)), h')) #[Value.ref b] s (h'.length - 50) (sn_z h' - sn_z (ol_O L xs)) (fun q => gB G ≤ q)) (entryFrame m ([Value.ref b] : List Value).toArray 4) := by
      rw [← harg] at K
      rw [lg_entry_eq]
      refine W.cs ?_ ?_ K
      · exact (Nat.sub_self _).symm
      · exact (Nat.sub_self _).symm
    intro T hT X
    obtain ⟨t, a1, o, b1, b2, b3⟩ := K2 T hT X
    refine ⟨t, a1, o, b1, b2, ?_⟩
    rcases b3 with ⟨⟨v, e1, e2, e3⟩, J, ⟨f1, f2, f3⟩, f4⟩ | ⟨q, e1, e2⟩
    · cases e1
      refine ⟨e2, f1, f2, ?_⟩
      refine State.sameButNew.mono (State.sameButNew.drop_fresh (L := []) (J := J) f3 (fun q hq => by have := f4 q hq; rw [hB] at this; exact this)) (by omega) (by omega)
    · obtain ⟨E, ce, J, ⟨r, e3, -⟩, -⟩ := e2
      cases e3
  next => cases hcd
