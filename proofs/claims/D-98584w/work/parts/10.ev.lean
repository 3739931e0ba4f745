/-! THE EVALUATOR: a pure reading of the bytecode over a heap of pictures. Refs are numbers of cells. -/
abbrev jv_C : Type := (Nat × vp_A) ⊕ (Nat × List Value)
abbrev jv_H : Type := List jv_C
abbrev jv_L : Type := List (Option Value)
abbrev jv_R : Type := (Option Value ⊕ Nat) × jv_H
abbrev jv_A : Type := (Nat × jv_L × List Value × jv_H) ⊕ (Nat × List Value × List Value) ⊕ jv_R
/-- a row of the table of methods: own class's number, name, code, locals, answer's type, handlers (from, to, handler, class of the pool) -/
abbrev jv_M : Type := Nat × MethodName × ByteArray × Nat × Option FieldType × List (Nat × Nat × Nat × Nat)
def jv_ins (mi pc : Nat) : Option (Instr × Nat) := match jt_M[mi]? with
  | none => none
  | some r => match decode r.2.2.1 pc with
    | .ok i => some i
    | .error _ => none
def jv_own (mi : Nat) : Nat := match jt_M[mi]? with
  | none => 0
  | some r => r.1
def jv_ret (mi : Nat) : Option FieldType := match jt_M[mi]? with
  | none => none
  | some r => r.2.2.2.2.1
def jv_hh (mi : Nat) : List (Nat × Nat × Nat × Nat) := match jt_M[mi]? with
  | none => []
  | some r => r.2.2.2.2.2
def jv_init (mi : Nat) : Bool := match jt_M[mi]? with
  | none => false
  | some r => r.2.1.name == "<init>"
/-- fields that an entry of the pool names, by the receiver's class: class, place, type, whether final -/
def jv_F (o idx : Nat) : List (Nat × Nat × FieldType) := jt_F.filterMap fun e => if e.1 = o ∧ e.2.1 = idx then some (e.2.2.1, e.2.2.2.1, e.2.2.2.2.1) else none
def jv_FP (o : Nat) (ini : Bool) (idx : Nat) : List (Nat × Nat × FieldType) := if jt_fo.contains (o, idx) then [] else jt_F.filterMap fun e => if e.1 = o ∧ e.2.1 = idx ∧ (e.2.2.2.2.2 = true → ini = true) then some (e.2.2.1, e.2.2.2.1, e.2.2.2.2.1) else none
def jv_gf (h : jv_H) (a : Nat) (F : List (Nat × Nat × FieldType)) : Option Value := match h[a]? with
  | some (.inr (ci, fs)) => match F.lookup ci with
    | some k => fs[k.1]?
    | none => none
  | _ => none
def jv_pf (h : jv_H) (a : Nat) (F : List (Nat × Nat × FieldType)) (v : Value) : Option jv_H := match h[a]? with
  | some (.inr (ci, fs)) => match F.lookup ci with
    | some k => if jt_off ≤ a ∧ k.1 < fs.length ∧ narrow k.2 v = v ∧ fits k.2 v = true then some (h.set a (.inr (ci, fs.set k.1 v))) else none
    | none => none
  | _ => none
def jv_ig (h : jv_H) (a : Nat) (t u : Nat) (i : Int32) : Option Int32 := match h[a]? with
  | some (.inl (tc, n, .inl f)) => if (tc = t ∨ tc = u) ∧ ¬ (i < 0 ∨ n ≤ i.toNatClampNeg) then some (f i.toNatClampNeg) else none
  | _ => none
def jv_lg (h : jv_H) (a : Nat) (i : Int32) : Option Int64 := match h[a]? with
  | some (.inl (tc, n, .inr (.inl f))) => if tc = 4 ∧ ¬ (i < 0 ∨ n ≤ i.toNatClampNeg) then some (f i.toNatClampNeg) else none
  | _ => none
def jv_rg (h : jv_H) (a : Nat) (i : Int32) : Option Value := match h[a]? with
  | some (.inl (tc, n, .inr (.inr (.inr (.inr f))))) => if (5 ≤ tc ∧ tc < 12) ∧ ¬ (i < 0 ∨ n ≤ i.toNatClampNeg) then some (va_rf (f i.toNatClampNeg)) else none
  | _ => none
def jv_al (h : jv_H) (a : Nat) : Option Int32 := match h[a]? with
  | some (.inl (tc, n, _)) => if tc < 12 then some (Int32.ofNat n) else none
  | _ => none
/-- what a place of an array of that type keeps of an int -/
def jv_nar (tc : Nat) (x : Int32) : Int32 := if tc = 1 then vp_nar .byte x else if tc = 2 then vp_nar .boolean x else if tc = 3 then vp_nar .short x else x
def jv_ip (h : jv_H) (a : Nat) (t u : Nat) (i x : Int32) : Option jv_H := match h[a]? with
  | some (.inl (tc, n, .inl f)) => if jt_off ≤ a ∧ (tc = t ∨ tc = u) ∧ ¬ (i < 0 ∨ n ≤ i.toNatClampNeg) then some (h.set a (.inl (tc, n, .inl (upd f i.toNatClampNeg (jv_nar tc x))))) else none
  | _ => none
def jv_lp (h : jv_H) (a : Nat) (i : Int32) (x : Int64) : Option jv_H := match h[a]? with
  | some (.inl (tc, n, .inr (.inl f))) => if jt_off ≤ a ∧ tc = 4 ∧ ¬ (i < 0 ∨ n ≤ i.toNatClampNeg) then some (h.set a (.inl (tc, n, .inr (.inl (vp_updL f i.toNatClampNeg x))))) else none
  | _ => none
/-- whether the object r may lie in an array of that type -/
def jv_fitA (h : jv_H) (tc r : Nat) : Bool := match h[r]? with
  | some (.inr (ci, _)) => jt_as.contains (tc, ci)
  | _ => false
def jv_rp (h : jv_H) (a : Nat) (i : Int32) (r : Nat) : Option jv_H := match h[a]? with
  | some (.inl (tc, n, .inr (.inr (.inr (.inr f))))) => if jt_off ≤ a ∧ jv_fitA h tc r = true ∧ ¬ (i < 0 ∨ n ≤ i.toNatClampNeg) then some (h.set a (.inl (tc, n, .inr (.inr (.inr (.inr (va_up f i.toNatClampNeg (some r)))))))) else none
  | _ => none
def jv_cp (h : jv_H) (src : Nat) (sp : Int32) (dst : Nat) (dp n : Int32) : Option jv_H := match h[src]?, h[dst]? with
  | some (.inl (tc, ns, .inl f)), some (.inl (td, nd, .inl g)) => if tc = td ∧ tc < 2 ∧ jt_off ≤ src ∧ jt_off ≤ dst ∧ src ≠ dst ∧ ¬ sp < 0 ∧ ¬ dp < 0 ∧ ¬ n < 0 ∧ sp.toNatClampNeg + n.toNatClampNeg ≤ ns ∧ dp.toNatClampNeg + n.toNatClampNeg ≤ nd ∧ (tc = 0 ∨ (List.range n.toNatClampNeg).all (fun i => fits .byte (.int (f (sp.toNatClampNeg + i)))) = true) then some (h.set dst (.inl (td, nd, .inl (va_cpy f g sp.toNatClampNeg dp.toNatClampNeg n.toNatClampNeg)))) else none
  | _, _ => none
def jv_nx (pc : Nat) (lc : jv_L) (st : List Value) (h : jv_H) : Option jv_A := some (.inl (pc, lc, st, h))
def jv_br (pc : Nat) (off : Int) : Nat := ((pc : Int) + off).toNat
def jv_if (c : Prop) [Decidable c] (pc : Nat) (off : Int) (lc : jv_L) (st : List Value) (h : jv_H) : Option jv_A := if 0 ≤ (pc : Int) + off then (if c then jv_nx (jv_br pc off) lc st h else jv_nx (pc + 3) lc st h) else none
def jv_i1 (f : Int32 → Int32) (pc : Nat) (lc : jv_L) (st : List Value) (h : jv_H) : Option jv_A := match st with
  | .int x :: r => jv_nx (pc + 1) lc (.int (f x) :: r) h
  | _ => none
def jv_i2 (f : Int32 → Int32 → Int32) (pc : Nat) (lc : jv_L) (st : List Value) (h : jv_H) : Option jv_A := match st with
  | .int y :: .int x :: r => jv_nx (pc + 1) lc (.int (f x y) :: r) h
  | _ => none
def jv_d2 (f : Int32 → Int32 → Int32) (pc : Nat) (lc : jv_L) (st : List Value) (h : jv_H) : Option jv_A := match st with
  | .int y :: .int x :: r => if y = 0 then none else jv_nx (pc + 1) lc (.int (f x y) :: r) h
  | _ => none
def jv_l2 (f : Int64 → Int64 → Int64) (pc : Nat) (lc : jv_L) (st : List Value) (h : jv_H) : Option jv_A := match st with
  | .long y :: .long x :: r => jv_nx (pc + 1) lc (.long (f x y) :: r) h
  | _ => none
def jv_ld2 (f : Int64 → Int64 → Int64) (pc : Nat) (lc : jv_L) (st : List Value) (h : jv_H) : Option jv_A := match st with
  | .long y :: .long x :: r => if y = 0 then none else jv_nx (pc + 1) lc (.long (f x y) :: r) h
  | _ => none
def jv_il (k pc : Nat) (lc : jv_L) (st : List Value) (h : jv_H) : Option jv_A := match lc[k]? with
  | some (some (.int x)) => jv_nx pc lc (.int x :: st) h
  | _ => none
def jv_ll (k pc : Nat) (lc : jv_L) (st : List Value) (h : jv_H) : Option jv_A := match lc[k]?, lc[k + 1]? with
  | some (some (.long x)), some none => jv_nx pc lc (.long x :: st) h
  | _, _ => none
def jv_aL (k pc : Nat) (lc : jv_L) (st : List Value) (h : jv_H) : Option jv_A := match lc[k]? with
  | some (some (.ref x)) => jv_nx pc lc (.ref x :: st) h
  | some (some .null) => jv_nx pc lc (.null :: st) h
  | _ => none
def jv_is (k pc : Nat) (lc : jv_L) (st : List Value) (h : jv_H) : Option jv_A := match st with
  | .int x :: r => if k < lc.length then jv_nx pc (lc.set k (some (.int x))) r h else none
  | _ => none
def jv_ls (k pc : Nat) (lc : jv_L) (st : List Value) (h : jv_H) : Option jv_A := match st with
  | .long x :: r => if k + 1 < lc.length then jv_nx pc ((lc.set k (some (.long x))).set (k + 1) none) r h else none
  | _ => none
def jv_aS (k pc : Nat) (lc : jv_L) (st : List Value) (h : jv_H) : Option jv_A := match st with
  | .ref x :: r => if k < lc.length then jv_nx pc (lc.set k (some (.ref x))) r h else none
  | .null :: r => if k < lc.length then jv_nx pc (lc.set k (some .null)) r h else none
  | _ => none
def jv_sw (pc : Nat) (dflt lo hi : Int) (offs : Array Int) (x : Int32) : Int := if x.toInt < lo ∨ hi < x.toInt then (pc : Int) + dflt else (pc : Int) + (offs[(x.toInt - lo).toNat]?).getD dflt
def jv_find {α : Type} (t : List (Nat × Nat × α)) (o idx : Nat) : Option α := match t with
  | [] => none
  | e :: r => if e.1 = o ∧ e.2.1 = idx then some e.2.2 else jv_find r o idx
def jv_args (n : Nat) (st : List Value) : List Value := (st.take n).reverse
/-- the callee by the receiver's class -/
def jv_rc (h : jv_H) (b : Nat) (V : List (Nat × Nat)) : Option Nat := match h[b]? with
  | some (.inr (ci, _)) => V.lookup ci
  | _ => none
/-- what a caller may leave on its stack -/
def jv_sm (r : List Value) : Bool := decide (r.length ≤ 4) || decide ((r.map fun v => v.category).sum ≤ 8)
def jv_call (y : Nat) (as rest : List Value) : Option jv_A := if jv_sm rest = true then some (.inr (.inl (y, as, rest))) else none
def jv_done (v : Option Value) (h : jv_H) : Option jv_A := some (.inr (.inr (.inl v, h)))
def jv_I (v : Value) : Option Int32 := match v with
  | .int x => some x
  | _ => none
def jv_J (v : Value) : Option Int64 := match v with
  | .long x => some x
  | _ => none
/-- the class of the object at a -/
def jv_cls (h : jv_H) (a : Nat) : Option Nat := match h[a]? with
  | some (.inr (ci, _)) => some ci
  | _ => none
def jv_newa (ty : ArrayType) (n : Nat) : Option jv_C := match ty with
  | .int => some (.inl (0, n, .inl (fun _ => 0)))
  | .byte => some (.inl (1, n, .inl (fun _ => 0)))
  | .boolean => some (.inl (2, n, .inl (fun _ => 0)))
  | .short => some (.inl (3, n, .inl (fun _ => 0)))
  | .long => some (.inl (4, n, .inr (.inl (fun _ => 0))))
  | _ => none
/-- the receiver and what lies below it -/
def jv_rv (st : List Value) : Option (Nat × List Value) := match st with
  | .ref b :: r => some (b, r)
  | _ => none
def jv_act (mi pc len : Nat) (i : Instr) (lc : jv_L) (st : List Value) (h : jv_H) : Option jv_A := match i, len with
  | .iconst n, 1 => jv_nx (pc + 1) lc (.int (Int32.ofInt n) :: st) h
  | .bipush n, 2 => jv_nx (pc + 2) lc (.int (Int8.ofInt n).toInt32 :: st) h
  | .sipush n, 3 => jv_nx (pc + 3) lc (.int (Int16.ofInt n).toInt32 :: st) h
  | .lconst n, 1 => jv_nx (pc + 1) lc (.long (Int64.ofNat (n : Nat)) :: st) h
  | .aconst_null, 1 => jv_nx (pc + 1) lc (.null :: st) h
  | .ldc idx, 2 => (jv_find jt_K (jv_own mi) idx).bind fun v => if v.category = 1 then jv_nx (pc + 2) lc (v :: st) h else none
  | .ldc_w idx, 3 => (jv_find jt_K (jv_own mi) idx).bind fun v => (jv_I v).bind fun x => jv_nx (pc + 3) lc (.int x :: st) h
  | .ldc2_w idx, 3 => (jv_find jt_K (jv_own mi) idx).bind fun v => (jv_J v).bind fun x => jv_nx (pc + 3) lc (.long x :: st) h
  | .iload_n k, 1 => jv_il k (pc + 1) lc st h
  | .iload k, 2 => jv_il k (pc + 2) lc st h
  | .lload_n k, 1 => jv_ll k (pc + 1) lc st h
  | .lload k, 2 => jv_ll k (pc + 2) lc st h
  | .aload_n k, 1 => jv_aL k (pc + 1) lc st h
  | .aload k, 2 => jv_aL k (pc + 2) lc st h
  | .istore_n k, 1 => jv_is k (pc + 1) lc st h
  | .istore k, 2 => jv_is k (pc + 2) lc st h
  | .lstore_n k, 1 => jv_ls k (pc + 1) lc st h
  | .lstore k, 2 => jv_ls k (pc + 2) lc st h
  | .astore_n k, 1 => jv_aS k (pc + 1) lc st h
  | .astore k, 2 => jv_aS k (pc + 2) lc st h
  | .iinc k n, 3 => match lc[k]? with
    | some (some (.int x)) => jv_nx (pc + 3) (lc.set k (some (.int (x + Int32.ofInt n)))) st h
    | _ => none
  | .iadd, 1 => jv_i2 (fun x y => x + y) pc lc st h
  | .isub, 1 => jv_i2 (fun x y => x - y) pc lc st h
  | .imul, 1 => jv_i2 (fun x y => x * y) pc lc st h
  | .iand, 1 => jv_i2 (fun x y => x &&& y) pc lc st h
  | .ior, 1 => jv_i2 (fun x y => x ||| y) pc lc st h
  | .ixor, 1 => jv_i2 (fun x y => x ^^^ y) pc lc st h
  | .ishl, 1 => jv_i2 (fun x y => x <<< (y &&& 31)) pc lc st h
  | .ishr, 1 => jv_i2 (fun x y => x >>> (y &&& 31)) pc lc st h
  | .iushr, 1 => jv_i2 (fun x y => (x.toUInt32 >>> (y.toUInt32 &&& Int32.toUInt32 31)).toInt32) pc lc st h
  | .idiv, 1 => jv_d2 (fun x y => x / y) pc lc st h
  | .irem, 1 => jv_d2 (fun x y => x - x / y * y) pc lc st h
  | .ineg, 1 => jv_i1 (fun x => -x) pc lc st h
  | .i2b, 1 => jv_i1 (fun x => x.toInt8.toInt32) pc lc st h
  | .i2s, 1 => jv_i1 (fun x => x.toInt16.toInt32) pc lc st h
  | .i2c, 1 => jv_i1 (fun x => (x.toUInt32 % 65536).toInt32) pc lc st h
  | .ladd, 1 => jv_l2 (fun x y => x + y) pc lc st h
  | .lmul, 1 => jv_l2 (fun x y => x * y) pc lc st h
  | .ldiv, 1 => jv_ld2 (fun x y => x / y) pc lc st h
  | .lrem, 1 => jv_ld2 (fun x y => x - x / y * y) pc lc st h
  | .lcmp, 1 => match st with
    | .long y :: .long x :: r => jv_nx (pc + 1) lc (.int (lg_cmp x y) :: r) h
    | _ => none
  | .i2l, 1 => match st with
    | .int x :: r => jv_nx (pc + 1) lc (.long x.toInt64 :: r) h
    | _ => none
  | .l2i, 1 => match st with
    | .long x :: r => jv_nx (pc + 1) lc (.int x.toInt32 :: r) h
    | _ => none
  | .dup, 1 => match st with
    | v :: r => if v.category = 1 then jv_nx (pc + 1) lc (v :: v :: r) h else none
    | _ => none
  | .pop, 1 => match st with
    | v :: r => if v.category = 1 then jv_nx (pc + 1) lc r h else none
    | _ => none
  | .dup_x1, 1 => match st with
    | v :: w :: r => if v.category = 1 ∧ w.category = 1 then jv_nx (pc + 1) lc (v :: w :: v :: r) h else none
    | _ => none
  | .dup2, 1 => match st with
    | v :: w :: r => if v.category = 1 ∧ w.category = 1 then jv_nx (pc + 1) lc (v :: w :: v :: w :: r) h else none
    | _ => none
  | .goto off, 3 => if 0 ≤ (pc : Int) + off then jv_nx (jv_br pc off) lc st h else none
  | .ifCond cd off, 3 => match st with
    | .int x :: r => match cd with
      | .eq => jv_if (x = 0) pc off lc r h
      | .ne => jv_if (¬ x = 0) pc off lc r h
      | .lt => jv_if (x < 0) pc off lc r h
      | .ge => jv_if (0 ≤ x) pc off lc r h
      | .gt => jv_if (0 < x) pc off lc r h
      | .le => jv_if (x ≤ 0) pc off lc r h
    | _ => none
  | .if_icmp cd off, 3 => match st with
    | .int y :: .int x :: r => match cd with
      | .eq => jv_if (x = y) pc off lc r h
      | .ne => jv_if (¬ x = y) pc off lc r h
      | .lt => jv_if (x < y) pc off lc r h
      | .ge => jv_if (y ≤ x) pc off lc r h
      | .gt => jv_if (y < x) pc off lc r h
      | .le => jv_if (x ≤ y) pc off lc r h
    | _ => none
  | .if_acmp cd off, 3 => match st with
    | .ref y :: .ref x :: r => if (jt_off ≤ x ∧ jt_off ≤ y) ∨ x = y then (match cd with
      | .eq => jv_if (x = y) pc off lc r h
      | .ne => jv_if (¬ x = y) pc off lc r h) else none
    | _ => none
  | .ifnull off, 3 => match st with
    | .ref x :: r => if jt_off ≤ x then jv_nx (pc + 3) lc r h else none
    | .null :: r => if 0 ≤ (pc : Int) + off then jv_nx (jv_br pc off) lc r h else none
    | _ => none
  | .ifnonnull off, 3 => match st with
    | .null :: r => jv_nx (pc + 3) lc r h
    | .ref x :: r => if 0 ≤ (pc : Int) + off ∧ jt_off ≤ x then jv_nx (jv_br pc off) lc r h else none
    | _ => none
  | .tableswitch dflt lo hi offs, _ => match st with
    | .int x :: r => if 0 ≤ jv_sw pc dflt lo hi offs x ∧ (lo ≤ x.toInt → x.toInt ≤ hi → (x.toInt - lo).toNat < offs.size) then jv_nx (jv_sw pc dflt lo hi offs x).toNat lc r h else none
    | _ => none
  | .lookupswitch dflt ps, _ => match st with
    | .int x :: r => if 0 ≤ (pc : Int) + Op.lookupswitch.offset ps.toList dflt x.toInt ∧ (ps.toList.zip (ps.toList.drop 1)).all (fun (a, next) => a.1 < next.1) = true then jv_nx ((pc : Int) + Op.lookupswitch.offset ps.toList dflt x.toInt).toNat lc r h else none
    | _ => none
  | .getfield idx, 3 => match st with
    | .ref a :: r => (jv_gf h a (jv_F (jv_own mi) idx)).bind fun v => jv_nx (pc + 3) lc (v :: r) h
    | _ => none
  | .putfield idx, 3 => match st with
    | v :: .ref a :: r => (jv_pf h a (jv_FP (jv_own mi) (jv_init mi) idx) v).bind fun h' => jv_nx (pc + 3) lc r h'
    | _ => none
  | .getstatic idx, 3 => (jv_find jt_G (jv_own mi) idx).bind fun v => jv_nx (pc + 3) lc (v :: st) h
  | .arraylength, 1 => match st with
    | .ref a :: r => (jv_al h a).bind fun n => jv_nx (pc + 1) lc (.int n :: r) h
    | _ => none
  | .iaload, 1 => match st with
    | .int j :: .ref a :: r => (jv_ig h a 0 0 j).bind fun x => jv_nx (pc + 1) lc (.int x :: r) h
    | _ => none
  | .baload, 1 => match st with
    | .int j :: .ref a :: r => (jv_ig h a 1 2 j).bind fun x => jv_nx (pc + 1) lc (.int x :: r) h
    | _ => none
  | .saload, 1 => match st with
    | .int j :: .ref a :: r => (jv_ig h a 3 3 j).bind fun x => jv_nx (pc + 1) lc (.int x :: r) h
    | _ => none
  | .laload, 1 => match st with
    | .int j :: .ref a :: r => (jv_lg h a j).bind fun x => jv_nx (pc + 1) lc (.long x :: r) h
    | _ => none
  | .aaload, 1 => match st with
    | .int j :: .ref a :: r => (jv_rg h a j).bind fun x => jv_nx (pc + 1) lc (x :: r) h
    | _ => none
  | .iastore, 1 => match st with
    | .int x :: .int j :: .ref a :: r => (jv_ip h a 0 0 j x).bind fun h' => jv_nx (pc + 1) lc r h'
    | _ => none
  | .bastore, 1 => match st with
    | .int x :: .int j :: .ref a :: r => (jv_ip h a 1 2 j x).bind fun h' => jv_nx (pc + 1) lc r h'
    | _ => none
  | .sastore, 1 => match st with
    | .int x :: .int j :: .ref a :: r => (jv_ip h a 3 3 j x).bind fun h' => jv_nx (pc + 1) lc r h'
    | _ => none
  | .lastore, 1 => match st with
    | .long x :: .int j :: .ref a :: r => (jv_lp h a j x).bind fun h' => jv_nx (pc + 1) lc r h'
    | _ => none
  | .aastore, 1 => match st with
    | .ref x :: .int j :: .ref a :: r => (jv_rp h a j x).bind fun h' => jv_nx (pc + 1) lc r h'
    | _ => none
  | .new idx, 3 => (jv_find jt_N (jv_own mi) idx).bind fun ci => (jt_D[ci]?).bind fun fs => jv_nx (pc + 3) lc (.ref h.length :: st) (h ++ [.inr (ci, fs)])
  | .newarray ty, 2 => match st with
    | .int n :: r => if n < 0 ∨ 100000 < n.toNatClampNeg then none else (jv_newa ty n.toNatClampNeg).bind fun c => jv_nx (pc + 2) lc (.ref h.length :: r) (h ++ [c])
    | _ => none
  | .anewarray idx, 3 => match st with
    | .int n :: r => if n < 0 ∨ 100000 < n.toNatClampNeg then none else (jv_find jt_AN (jv_own mi) idx).bind fun tc => jv_nx (pc + 3) lc (.ref h.length :: r) (h ++ [.inl (tc, n.toNatClampNeg, .inr (.inr (.inr (.inr (fun _ => none)))))])
    | _ => none
  | .multianewarray idx dm, 4 => match st with
    | .int k :: .int n :: r => if dm = 2 ∧ jt_MA.contains (jv_own mi, idx) = true ∧ ¬ (n < 0 ∨ k < 0 ∨ 1000 < n.toNatClampNeg ∨ 1000 < k.toNatClampNeg) then jv_nx (pc + 4) lc (.ref h.length :: r) (h ++ (.inl (11, n.toNatClampNeg, .inr (.inr (.inr (.inr (fun j => if j < n.toNatClampNeg then some (h.length + 1 + j) else none))))) :: List.replicate n.toNatClampNeg (.inl (0, k.toNatClampNeg, .inl (fun _ => 0))))) else none
    | _ => none
  | .checkcast idx, 3 => match st with
    | .ref a :: r => (jv_cls h a).bind fun ci => if jt_CK.contains (jv_own mi, idx, ci) = true then jv_nx (pc + 3) lc (.ref a :: r) h else none
    | .null :: r => jv_nx (pc + 3) lc (.null :: r) h
    | _ => none
  | .instanceof idx, 3 => match st with
    | .ref a :: r => (jv_cls h a).bind fun ci => if jt_CK.contains (jv_own mi, idx, ci) = true then jv_nx (pc + 3) lc (.int 1 :: r) h else none
    | _ => none
  | .invokevirtual idx, 3 => (jv_find jt_V (jv_own mi) idx).bind fun e => (jv_rv (st.drop e.1)).bind fun b => (jv_rc h b.1 e.2).bind fun y => if e.1 ≤ st.length then jv_call y (.ref b.1 :: jv_args e.1 st) b.2 else none
  | .invokestatic idx, 3 => (jv_find jt_S (jv_own mi) idx).bind fun e => match e.2 with
    | some y => if e.1 ≤ st.length then jv_call y (jv_args e.1 st) (st.drop e.1) else none
    | none => match st with
      | .int n :: .int dp :: .ref dst :: .int sp :: .ref src :: r => if r.length ≤ 4 then (jv_cp h src sp dst dp n).bind fun h' => jv_nx (pc + 3) lc r h' else none
      | _ => none
  | .invokespecial idx, 3 => (jv_find jt_P (jv_own mi) idx).bind fun e => match e.2 with
    | some y => (jv_rv (st.drop e.1)).bind fun b => if e.1 ≤ st.length ∧ jt_off ≤ b.1 ∧ (jt_SU.contains y = false ∨ jv_cls h b.1 = some 20) then jv_call y (.ref b.1 :: jv_args e.1 st) b.2 else none
    | none => match st with
      | .ref x :: r => if r.length ≤ 4 ∧ jt_off ≤ x then jv_nx (pc + 3) lc r h else none
      | _ => none
  | .ireturn, 1 => match st with
    | [.int v] => (jv_ret mi).bind fun ty => if narrow ty (.int v) = .int v ∧ (ty = .int ∨ ty = .boolean ∨ ty = .byte ∨ ty = .char) then jv_done (some (.int v)) h else none
    | _ => none
  | .lreturn, 1 => match st with
    | [.long v] => if jv_ret mi = some .long then jv_done (some (.long v)) h else none
    | _ => none
  | .areturn, 1 => match st with
    | [.ref v] => (jv_ret mi).bind fun ty => if ty.isReference = true then jv_done (some (.ref v)) h else none
    | _ => none
  | .return_, 1 => match st with
    | [] => if jv_ret mi = none then jv_done none h else none
    | _ => none
  | .athrow, 1 => match st with
    | .ref q :: _ => (jv_cls h q).bind fun ci => if jt_off ≤ q ∧ jv_hh mi = [] ∧ ci = jt_fault then some (.inr (.inr (.inr q, h))) else none
    | _ => none
  | _, _ => none

/-! the run: F bounds the steps, d the depth of calls -/
def jv_step (mi pc : Nat) (lc : jv_L) (st : List Value) (h : jv_H) : Option jv_A := match jv_ins mi pc with
  | none => none
  | some i => jv_act mi pc i.2 i.1 lc st h
/-- where a thrown object lands -/
def jv_catch (mi pc : Nat) : Option Nat := match jv_hh mi with
  | [] => none
  | x :: _ => if x.1 ≤ pc ∧ pc < x.2.1 then some x.2.2.1 else none
def jv_on {α : Type} (r : jv_R) (f : Option Value → jv_H → Option α) (g : Nat → jv_H → Option α) : Option α := match r with
  | (.inl v, h) => f v h
  | (.inr q, h) => g q h
def jv_body (call : Nat → List Value → jv_H → Option jv_R) (mi : Nat) (ih : Nat → jv_L → List Value → jv_H → Option jv_R) (pc : Nat) (lc : jv_L) (st : List Value) (h : jv_H) : Option jv_R := match jv_step mi pc lc st h with
  | none => none
  | some (.inl c) => ih c.1 c.2.1 c.2.2.1 c.2.2.2
  | some (.inr (.inl c)) => (call c.1 c.2.1 h).bind fun r => jv_on r (fun v h' => ih (pc + 3) lc (v.toList ++ c.2.2) h') (fun q h' => match jv_catch mi pc with
    | none => some (.inr q, h')
    | some hp => ih hp lc [.ref q] h')
  | some (.inr (.inr r)) => some r
def jv_run (call : Nat → List Value → jv_H → Option jv_R) (mi : Nat) : Nat → Nat → jv_L → List Value → jv_H → Option jv_R
  | 0 => fun _ _ _ _ => none
  | F + 1 => jv_body call mi (jv_run call mi F)
noncomputable def jv_lim {α : Type} (f : Nat → Option α) : Option α := @dite _ (∃ r, ∃ F, f F = some r) (Classical.propDecidable _) (fun h => some (Classical.choose h)) (fun _ => none)
def jv_en : List Value → jv_L
  | [] => []
  | v :: r => if v.category = 2 then some v :: none :: jv_en r else some v :: jv_en r
def jv_ml (mi : Nat) : Nat := match jt_M[mi]? with
  | none => 0
  | some r => r.2.2.2.1
def jv_ent (mi : Nat) (as : List Value) : jv_L := jv_en as ++ List.replicate (jv_ml mi - (jv_en as).length) none
/-- a call with at most d calls in it -/
noncomputable def jv_cd : Nat → Nat → List Value → jv_H → Option jv_R
  | 0 => fun _ _ _ => none
  | d + 1 => fun y as h => if (jv_en as).length ≤ jv_ml y then jv_lim fun F => jv_run (jv_cd d) y F 0 (jv_ent y as) [] h else none
noncomputable def jv_ev (d mi pc : Nat) (lc : jv_L) (st : List Value) (h : jv_H) : Option jv_R := jv_lim fun F => jv_run (jv_cd d) mi F pc lc st h
theorem jv_mono1 {call : Nat → List Value → jv_H → Option jv_R} {mi : Nat} : ∀ (F pc : Nat) (lc : jv_L) (st : List Value) (h : jv_H) (r : jv_R), jv_run call mi F pc lc st h = some r → jv_run call mi (F + 1) pc lc st h = some r := by
  intro F
  induction F with
  | zero => intro pc lc st h r e; cases e
  | succ F ih =>
    intro pc lc st h r e
    change jv_body call mi (jv_run call mi F) pc lc st h = some r at e
    change jv_body call mi (jv_run call mi (F + 1)) pc lc st h = some r
    unfold jv_body at e ⊢
    cases hs : jv_step mi pc lc st h with
    | none => rw [hs] at e; cases e
    | some a =>
      rw [hs] at e
      match a, e with
      | .inl c, e => exact ih _ _ _ _ _ e
      | .inr (.inl c), e =>
        dsimp only at e ⊢
        cases hc : call c.1 c.2.1 h with
        | none => rw [hc] at e; cases e
        | some q =>
          rw [hc] at e
          obtain ⟨o, h'⟩ := q
          cases o with
          | inl v => exact ih _ _ _ _ _ e
          | inr q =>
            change (match jv_catch mi pc with | none => some (.inr q, h') | some hp => jv_run call mi F hp lc [.ref q] h') = some r at e
            change (match jv_catch mi pc with | none => some (.inr q, h') | some hp => jv_run call mi (F + 1) hp lc [.ref q] h') = some r
            cases hk : jv_catch mi pc with
            | none => rw [hk] at e; exact e
            | some hp => rw [hk] at e; exact ih _ _ _ _ _ e
      | .inr (.inr q), e => exact e
theorem jv_mono {call : Nat → List Value → jv_H → Option jv_R} {mi F G pc : Nat} {lc : jv_L} {st : List Value} {h : jv_H} {r : jv_R} (hFG : F ≤ G) (e : jv_run call mi F pc lc st h = some r) : jv_run call mi G pc lc st h = some r := by
  induction hFG with
  | refl => exact e
  | step _ ih => exact jv_mono1 _ _ _ _ _ _ ih
theorem jv_lim_iff {α : Type} {f : Nat → Option α} (hm : ∀ F G r, F ≤ G → f F = some r → f G = some r) {r : α} : jv_lim f = some r ↔ ∃ F, f F = some r := by
  unfold jv_lim
  constructor
  · intro e
    by_cases h : ∃ r, ∃ F, f F = some r
    · rw [dif_pos h] at e
      obtain rfl := Option.some.inj e
      exact Classical.choose_spec h
    · rw [dif_neg h] at e
      cases e
  · intro ⟨F, hF⟩
    have h : ∃ r, ∃ F, f F = some r := ⟨r, F, hF⟩
    rw [dif_pos h]
    obtain ⟨G, hG⟩ := Classical.choose_spec h
    have h1 := hm F (max F G) r (Nat.le_max_left _ _) hF
    have h2 := hm G (max F G) _ (Nat.le_max_right _ _) hG
    rw [h1] at h2
    exact h2.symm
theorem jv_ev_iff {d mi pc : Nat} {lc : jv_L} {st : List Value} {h : jv_H} {r : jv_R} : jv_ev d mi pc lc st h = some r ↔ ∃ F, jv_run (jv_cd d) mi F pc lc st h = some r :=
  jv_lim_iff fun _ _ _ hFG e => jv_mono hFG e
theorem jv_cd_succ {d y : Nat} {as : List Value} {h : jv_H} : jv_cd (d + 1) y as h = if (jv_en as).length ≤ jv_ml y then jv_ev d y 0 (jv_ent y as) [] h else none := rfl
theorem jv_opt {α : Type} {x y : Option α} (h : ∀ r, x = some r ↔ y = some r) : x = y := by
  cases hx : x with
  | none =>
    cases hy : y with
    | none => rfl
    | some r => rw [(h r).mpr hy] at hx; cases hx
  | some r => exact ((h r).mp hx).symm
/-- one instruction more -/
theorem jv_unf {d mi pc : Nat} {lc : jv_L} {st : List Value} {h : jv_H} : jv_ev d mi pc lc st h = jv_body (jv_cd d) mi (jv_ev d mi) pc lc st h := by
  refine jv_opt fun r => ?_
  rw [jv_ev_iff]
  have key : (∃ F, jv_run (jv_cd d) mi F pc lc st h = some r) ↔ ∃ F, jv_body (jv_cd d) mi (jv_run (jv_cd d) mi F) pc lc st h = some r := by
    constructor
    · intro ⟨F, e⟩
      exact ⟨F, jv_mono1 _ _ _ _ _ _ e⟩
    · intro ⟨F, e⟩
      exact ⟨F + 1, e⟩
  rw [key]
  unfold jv_body
  cases hs : jv_step mi pc lc st h with
  | none => simp
  | some a =>
    match a with
    | .inl c => exact jv_ev_iff.symm
    | .inr (.inl c) =>
      dsimp only
      cases hc : jv_cd d c.1 c.2.1 h with
      | none => simp
      | some q =>
        obtain ⟨o, h'⟩ := q
        cases o with
        | inl v => exact jv_ev_iff.symm
        | inr q =>
          change (∃ F, (match jv_catch mi pc with | none => some (.inr q, h') | some hp => jv_run (jv_cd d) mi F hp lc [.ref q] h') = some r) ↔ (match jv_catch mi pc with | none => some (.inr q, h') | some hp => jv_ev d mi hp lc [.ref q] h') = some r
          cases hk : jv_catch mi pc with
          | none => simp
          | some hp => exact jv_ev_iff.symm
    | .inr (.inr q) => simp
