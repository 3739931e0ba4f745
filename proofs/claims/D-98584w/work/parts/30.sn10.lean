/-! soundness: what rides along moves -/
theorem sn_AOA {u U : State} (hvm : u.vm.Alike U.vm) (h : (Cond.arrayOver (.array .int)).before #[] u = true) : (Cond.arrayOver (.array .int)).before #[] U = true := by
  obtain ⟨comp, c, k, h1, h2, h3, h4, h5⟩ := arrayOverA_spec h
  obtain ⟨k', hk', he⟩ := hvm.2.2 _ _ h3
  have hi : (U.vm.classes.findIdx? fun (x : Class) => match x.kind with | .array component _ => component == comp | _ => false) = some c := by
    rw [hvm.findIdx?_eq _ (fun _ => rfl)]
    exact h2
  have hkind : k'.kind = .array comp (.array .int) := by rw [he]; exact h4
  have f1 : U.vm.findClass (FieldType.array .int).toString = some comp := by rw [hvm.findClass]; exact h1
  have f2 : U.vm.findClass ("[" ++ (FieldType.array .int).toString) = some c := by rw [hvm.findClass]; exact h5
  unfold Cond.before Cond.holds
  simp only [Cond.value]
  rw [f1, Option.bind_some]
  refine (congrArg (fun o : Option Nat => (o.bind (fun c => (U.vm.classes[c]?).map fun (k : Class) => match k.kind with | .array _ ty => decide (ty = FieldType.array .int) && decide (U.vm.findClass ("[" ++ (FieldType.array .int).toString) = some c) | _ => false) == some true)) hi).trans ?_
  simp [hk', hkind, f2]
theorem sn_at.moved {G : sn_G} {u U : State} {k : Nat} {c : jv_C} {H : Heap} (hvm : u.vm.Alike U.vm) (h : sn_at G u k c H) : sn_at G U k c H := by
  cases c with
  | inl x =>
    obtain ⟨a, ty, cell, q1, q2, q3, q4, q5⟩ := h
    exact ⟨a, ty, cell, q1, q2, q3, State.isArrayOf_alike hvm q4, q5⟩
  | inr x =>
    obtain ⟨a, C, T, N, cell, q1, q2, q3, q4, q5, q6, q7⟩ := h
    refine ⟨a, C, T, N, cell, q1, q2, q3, q4, q5, by rw [hvm.findClass]; exact q6, fun j v hv hj => ?_⟩
    obtain ⟨cf, kf, fi, f, w1, w2, w3⟩ := q7 j v hv hj
    obtain ⟨k', hi', he⟩ := State.fieldFound?_setVm hvm w1
    exact ⟨cf, k', fi, f, hi', w2, w3⟩
theorem sn_K.gen {G : sn_G} {u U : State} (hvm : u.vm.Alike U.vm) (h5 : ∀ own k tx a, vk_R own k tx a u → vk_R own k tx a U) (h7 : ∀ w ∈ sn_nw, va_Nw w u → va_Nw w U) (h : sn_K G u) : sn_K G U := by
  obtain ⟨k1, k2, k3, k4, k5, k6, k7⟩ := h
  refine ⟨k1.moved hvm, k2, k3, fun k c hc => ?_, fun e he r hr => ?_, fun e he => ?_, fun w hw => h7 w hw (k7 w hw)⟩
  · rcases k4 k c hc with q | ⟨q1, q2⟩
    · exact Or.inl q
    · exact Or.inr ⟨q1.moved hvm, q2⟩
  · obtain ⟨own, tx, a, q1, q2, q3⟩ := k5 e he r hr
    exact ⟨own, tx, a, q1, h5 _ _ _ _ q2, q3⟩
  · obtain ⟨own, C, n, d, q1, q2, q3⟩ := k6 e he
    exact ⟨own, C, n, d, q1, q2, q3.moved hvm⟩
theorem sn_nw_cases {P : Cond → Prop} (h1 : ∀ C T, P (.castable C T)) (h5 : ∀ x, P (.declares x)) (h6 : ∀ x, P (.privateMethod x)) (h2 : ∀ a i x hh, P (.methodLinkNest a i x hh)) (h3 : ∀ C, P (.arrayOver (.object C))) (h4 : P (.arrayOver (.array .int))) : ∀ w ∈ sn_nw, P w := by
  intro w hw
  have h := (List.mem_filter.mp hw).2
  unfold sn_isN at h
  split at h
  · exact h1 _ _
  · exact h5 _
  · exact h6 _
  · exact h2 _ _ _ _
  · exact h3 _
  · exact h4
  · cases h
theorem sn_K.warm {G : sn_G} {s U : State} (hW : s.WarmedH U.vm) (h : sn_K G s) : sn_K G U := by
  refine h.gen hW.alike (fun own k tx a q => q.warm hW) ?_
  exact sn_nw_cases (P := fun w => va_Nw w s → va_Nw w U) (fun C T q => va_Nw.warmC hW q) (fun x q => va_Nw.warmD hW q) (fun x q => Cond.privateMethod_warm hW q) (fun a i x hh q => va_Nw.warmM hW q) (fun C q => va_AO.moved hW.alike q) (fun q => sn_AOA hW.alike q)
theorem sn_K.same {G : sn_G} {u U : State} (hv : U.vm = u.vm) (h : sn_K G u) : sn_K G U := by
  have hal : u.vm.Alike U.vm := by rw [hv]; exact Vm.Alike.refl _
  refine h.gen hal (fun own k tx a q => q.same hv) ?_
  exact sn_nw_cases (P := fun w => va_Nw w u → va_Nw w U) (fun C T q => va_Nw.same rfl hv.symm q) (fun x q => va_Nw.same rfl hv.symm q) (fun x q => va_Nw.same rfl hv.symm q) (fun a i x hh q => va_Nw.same rfl hv.symm q) (fun C q => va_AO.moved hal q) (fun q => sn_AOA hal q)
/-! soundness: contracts -/
def sn_ws (r : jv_M) : List Cond := if r.2.2.2.2.2 = [] then ws_ r.2.1 r.2.2.1 r.2.2.2.1 r.2.2.2.2.1 else wsW_ r.2.1 r.2.2.1 r.2.2.2.1 r.2.2.2.2.1 r.2.2.2.2.2
def sn_rm (d mc ms : Nat) : Room := { frames := d + 1, cells := mc, slots := ms, locals := 64 * (d + 1) }
def sn_Pc (G : sn_G) (as : List Value) (h : jv_H) : Array Value → State → Prop := fun a U => a = (as.map (sn_v (gO G))).toArray ∧ sn_P G h U.heap ∧ sn_K G U
def sn_Qc (G : sn_G) (res : jv_R) : Array Value → State → Outcome → State → Prop := fun _ _ o t => ∃ v, res.1 = .inl v ∧ o = .returned (v.map (sn_v (gO G))) ∧ sn_P G res.2 t.heap
def sn_XC (G : sn_G) (res : jv_R) : String → Addr → State → State → Prop := fun E q _ t => ∃ r, res.1 = .inr r ∧ gO G r = some q ∧ E = RX1 ∧ sn_P G res.2 t.heap
def sn_Met (G : sn_G) (l : Launch) (d mi : Nat) (as : List Value) (h : jv_H) (res : jv_R) : Prop := ∀ r, jt_M[mi]? = some r → jx_Met l r.2.1 (sn_ws r) (sn_rm d (res.2.length - h.length) (sn_z res.2 - sn_z h)) (sn_Pc G as h) (sn_Qc G res) (sn_XC G res) (res.2.length - h.length) (sn_z res.2 - sn_z h) (fun q => gB G ≤ q)
theorem sn_blind {G : sn_G} {as : List Value} {h : jv_H} : FrameBlind (sn_Pc G as h) := fun a U g mk hp => ⟨hp.1, hp.2.1, sn_K.same (u := U) (U := U.calling g mk a) rfl hp.2.2⟩
/-- links: what a call's words give -/
def sn_LV (own : String) (idx n : Nat) (C : String) (r : jv_M) : Prop :=
  ∀ (p : Program) (l : Launch) (e : Env) (R : Room) (s : State) (m : MethodId) (args : Array Value) (below : List Frame) (meth : Method) (c : Code) (H : Heap) (locs : List Loc) (cells slots mc ms nL : Nat) (cc : ByteArray) (rm : Room) (Pc : Array Value → State → Prop) (Qc : Array Value → State → Outcome → State → Prop) (XC : String → Addr → State → State → Prop) (free : Addr → Prop) (b : Addr) (As rest : List Value) (g : JFrame),
    (∀ w ∈ sn_nw, va_Nw w s) → CallFix p m c cc nL s args lw_all own → jx_Met l r.2.1 (sn_ws r) rm Pc Qc XC mc ms free → rm.cells = mc → rm.slots = ms → (rm.frames + 1 ≤ R.frames ∧ 8 + (r.2.2.2.1 + 11) + rm.locals ≤ R.locals) → PreV s H C b Pc As → g.method = m → As.length = n → g.locals.size = nL → g.stack = As.reverse ++ .ref b :: rest → 2 * g.monitorRoom + (rest.map fun v => v.category).sum ≤ 8 → decode cc g.pc = .ok (.invokevirtual idx, 3) → (cells + mc ≤ R.cells ∧ slots + ms ≤ R.slots) →
    jx_Run p l e R s m args below meth c H locs cells slots mc ms g rest (Qc (Value.ref b :: As).toArray) XC free
def sn_LS (own : String) (idx n : Nat) (r : jv_M) : Prop :=
  ∀ (p : Program) (l : Launch) (e : Env) (R : Room) (s : State) (m : MethodId) (args : Array Value) (below : List Frame) (meth : Method) (c : Code) (H : Heap) (locs : List Loc) (cells slots mc ms nL : Nat) (cc : ByteArray) (rm : Room) (Pc : Array Value → State → Prop) (Qc : Array Value → State → Outcome → State → Prop) (XC : String → Addr → State → State → Prop) (free : Addr → Prop) (As rest : List Value) (g : JFrame),
    (∀ w ∈ sn_nw, va_Nw w s) → CallFix p m c cc nL s args lw_all own → jx_Met l r.2.1 (sn_ws r) rm Pc Qc XC mc ms free → rm.cells = mc → rm.slots = ms → (rm.frames + 1 ≤ R.frames ∧ 8 + (r.2.2.2.1 + 11) + rm.locals ≤ R.locals) → PreS s H Pc As → g.method = m → As.length = n → g.locals.size = nL → g.stack = As.reverse ++ rest → 2 * g.monitorRoom + (rest.map fun v => v.category).sum ≤ 8 → decode cc g.pc = .ok (.invokestatic idx, 3) → (cells + mc ≤ R.cells ∧ slots + ms ≤ R.slots) →
    jx_Run p l e R s m args below meth c H locs cells slots mc ms g rest (Qc As.toArray) XC free
def sn_LP (own : String) (idx n : Nat) (r : jv_M) : Prop :=
  ∀ (p : Program) (l : Launch) (e : Env) (R : Room) (s : State) (m : MethodId) (args : Array Value) (below : List Frame) (meth : Method) (c : Code) (H : Heap) (locs : List Loc) (cells slots mc ms nL : Nat) (cc : ByteArray) (rm : Room) (Pc : Array Value → State → Prop) (Qc : Array Value → State → Outcome → State → Prop) (XC : String → Addr → State → State → Prop) (free : Addr → Prop) (b : Addr) (As rest : List Value) (g : JFrame),
    (∀ w ∈ sn_nw, va_Nw w s) → CallFix p m c cc nL s args lw_all own → jx_Met l r.2.1 (sn_ws r) rm Pc Qc XC mc ms free → rm.cells = mc → rm.slots = ms → (rm.frames + 1 ≤ R.frames ∧ 8 + (r.2.2.2.1 + 11) + rm.locals ≤ R.locals) → PreS s H Pc (.ref b :: As) → g.method = m → As.length = n → g.locals.size = nL → g.stack = As.reverse ++ .ref b :: rest → 2 * g.monitorRoom + (rest.map fun v => v.category).sum ≤ 8 → decode cc g.pc = .ok (.invokespecial idx, 3) → (cells + mc ≤ R.cells ∧ slots + ms ≤ R.slots) →
    jx_Run p l e R s m args below meth c H locs cells slots mc ms g rest (Qc (Value.ref b :: As).toArray) XC free
def sn_LU (own : String) (idx n : Nat) (r : jv_M) : Prop :=
  ∀ (p : Program) (l : Launch) (e : Env) (R : Room) (s : State) (m : MethodId) (args : Array Value) (below : List Frame) (meth : Method) (c : Code) (H : Heap) (locs : List Loc) (cells slots mc ms nL : Nat) (cc : ByteArray) (rm : Room) (Pc : Array Value → State → Prop) (Qc : Array Value → State → Outcome → State → Prop) (XC : String → Addr → State → State → Prop) (free : Addr → Prop) (C : String) (cC : ClassId) (b : Addr) (As rest : List Value) (g : JFrame),
    ClassAt s C cC → CallFix p m c cc nL s args lw_all own → jx_Met l r.2.1 (sn_ws r) rm Pc Qc XC mc ms free → rm.cells = mc → rm.slots = ms → (rm.frames + 1 ≤ R.frames ∧ 8 + (r.2.2.2.1 + 11) + rm.locals ≤ R.locals) → PreV s H C b Pc As → g.method = m → As.length = n → g.locals.size = nL → g.stack = As.reverse ++ .ref b :: rest → 2 * g.monitorRoom + (rest.map fun v => v.category).sum ≤ 8 → decode cc g.pc = .ok (.invokespecial idx, 3) → (cells + mc ≤ R.cells ∧ slots + ms ≤ R.slots) →
    jx_Run p l e R s m args below meth c H locs cells slots mc ms g rest (Qc (Value.ref b :: As).toArray) XC free
section
variable {own C host owner : String} {idx n : Nat} {r : jv_M} {x : MethodName}
theorem sn_LV.of (hh : r.2.2.2.2.2 = []) (h1 : Cond.methodLink own idx r.2.1 ∈ lw_all) (h2 : Cond.instanceMethod r.2.1 ∈ lw_all) (h3 : Cond.selects C r.2.1 r.2.1 ∈ lw_all) (h4 : Cond.initialized C ∈ lw_all) (h5 : Cond.code r.2.1 r.2.2.1 r.2.2.2.1 r.2.2.2.2.1 ∈ lw_all) (hd : r.2.1.cls = C ∧ r.2.1.cls ≠ "java/lang/invoke/MethodHandle" ∧ r.2.1.cls ≠ "java/lang/invoke/VarHandle" ∧ (parseMethodDescriptor r.2.1.desc).map (fun d => d.parameters.length) = some n) : sn_LV own idx n C r := by
  intro p l e R s m args below meth c H locs cells slots mc ms nL cc rm Pc Qc XC free b As rest g hnw S hM hrc hrs hR hp hg hn hsize hstack hW hdg hf
  have hts : ∀ w ∈ lw_all, w.before args s = true := S.2.2.2.2
  have hws : sn_ws r = ws_ r.2.1 r.2.2.1 r.2.2.2.1 r.2.2.2.2.1 := if_pos hh
  rw [hws] at hM
  exact jx_runV S hM (cwV n hts (lw_V h1 h2 h3 h4 h5) rfl hrc hrs hd hR) hp hg hn hsize hstack hW hdg hf
theorem sn_LV.ofW (hh : r.2.2.2.2.2 ≠ []) (h1 : Cond.methodLink own idx r.2.1 ∈ lw_all) (h2 : Cond.instanceMethod r.2.1 ∈ lw_all) (h3 : Cond.selects C r.2.1 r.2.1 ∈ lw_all) (h4 : Cond.initialized C ∈ lw_all) (h5 : Cond.codeWith r.2.1 r.2.2.1 r.2.2.2.1 r.2.2.2.2.1 r.2.2.2.2.2 ∈ lw_all) (hd : r.2.1.cls = C ∧ r.2.1.cls ≠ "java/lang/invoke/MethodHandle" ∧ r.2.1.cls ≠ "java/lang/invoke/VarHandle" ∧ (parseMethodDescriptor r.2.1.desc).map (fun d => d.parameters.length) = some n) : sn_LV own idx n C r := by
  intro p l e R s m args below meth c H locs cells slots mc ms nL cc rm Pc Qc XC free b As rest g hnw S hM hrc hrs hR hp hg hn hsize hstack hW hdg hf
  have hts : ∀ w ∈ lw_all, w.before args s = true := S.2.2.2.2
  have hws : sn_ws r = wsW_ r.2.1 r.2.2.1 r.2.2.2.1 r.2.2.2.2.1 r.2.2.2.2.2 := if_neg hh
  rw [hws] at hM
  exact jx_runVX S hM (jx_cwVW n hts (lw_VW h1 h2 h3 h4 h5) rfl hrc hrs hd hR) hp hg hn hsize hstack hW hdg hf
/-- inherited: the reference names it by a class below its own -/
theorem sn_LV.ofU (hh : r.2.2.2.2.2 = []) (h1 : Cond.methodLink own idx x ∈ lw_all) (h2 : Cond.sameMethod x.cls owner x.name x.desc ∈ lw_all) (h3 : Cond.selects C x r.2.1 ∈ lw_all) (h4 : Cond.instanceMethod r.2.1 ∈ lw_all) (h5 : Cond.initialized r.2.1.cls ∈ lw_all) (h6 : Cond.code r.2.1 r.2.2.1 r.2.2.2.1 r.2.2.2.2.1 ∈ lw_all) (hyx : r.2.1 = ⟨owner, x.name, x.desc⟩) (hd : owner ≠ "java/lang/invoke/MethodHandle" ∧ owner ≠ "java/lang/invoke/VarHandle" ∧ (parseMethodDescriptor x.desc).map (fun d => d.parameters.length) = some n) : sn_LV own idx n C r := by
  intro p l e R s m args below meth c H locs cells slots mc ms nL cc rm Pc Qc XC free b As rest g hnw S hM hrc hrs hR hp hg hn hsize hstack hW hdg hf
  have hts : ∀ w ∈ lw_all, w.before args s = true := S.2.2.2.2
  have hws : sn_ws r = ws_ r.2.1 r.2.2.1 r.2.2.2.1 r.2.2.2.2.1 := if_pos hh
  rw [hws] at hM
  refine jx_runU (owner := owner) S hM (va_cwU n hts (lw_app (a := [.methodLink own idx x, .sameMethod x.cls owner x.name x.desc, .selects C x r.2.1, .instanceMethod r.2.1, .initialized r.2.1.cls]) ?_ (lw_meth h6)) rfl hrc hrs hyx hd hR) hp hg hn hsize hstack hW hdg hf
  simp only [List.forall_mem_cons]
  exact ⟨h1, h2, h3, h4, h5, fun _ h => by cases h⟩
/-- overriding -/
theorem sn_LV.ofO {b0 : ByteArray} {m0 : Nat} {r0 : Option FieldType} (hh : r.2.2.2.2.2 = []) (h1 : Cond.methodLink own idx x ∈ lw_all) (h2 : Cond.sameMethod x.cls owner x.name x.desc ∈ lw_all) (h0 : Cond.instanceMethod ⟨owner, x.name, x.desc⟩ ∈ lw_all) (h3 : Cond.selects C x r.2.1 ∈ lw_all) (h4 : Cond.instanceMethod r.2.1 ∈ lw_all) (h5 : Cond.initialized r.2.1.cls ∈ lw_all) (h6 : Cond.code r.2.1 r.2.2.1 r.2.2.2.1 r.2.2.2.2.1 ∈ lw_all) (h9 : Cond.code ⟨owner, x.name, x.desc⟩ b0 m0 r0 ∈ lw_all) (hd : owner ≠ "java/lang/invoke/MethodHandle" ∧ owner ≠ "java/lang/invoke/VarHandle" ∧ (parseMethodDescriptor x.desc).map (fun d => d.parameters.length) = some n) : sn_LV own idx n C r := by
  intro p l e R s m args below meth c H locs cells slots mc ms nL cc rm Pc Qc XC free b As rest g hnw S hM hrc hrs hR hp hg hn hsize hstack hW hdg hf
  have hts : ∀ w ∈ lw_all, w.before args s = true := S.2.2.2.2
  have hws : sn_ws r = ws_ r.2.1 r.2.2.1 r.2.2.2.1 r.2.2.2.2.1 := if_pos hh
  rw [hws] at hM
  refine jx_runU (owner := owner) S hM (va_cwO n hts (lw_app (a := [.methodLink own idx x, .sameMethod x.cls owner x.name x.desc, .instanceMethod ⟨owner, x.name, x.desc⟩, .selects C x r.2.1, .instanceMethod r.2.1, .initialized r.2.1.cls]) ?_ (lw_meth h6)) rfl hrc hrs h9 hd hR) hp hg hn hsize hstack hW hdg hf
  simp only [List.forall_mem_cons]
  exact ⟨h1, h2, h0, h3, h4, h5, fun _ h => by cases h⟩
/-- of an abstract method -/
theorem sn_LV.ofA (hh : r.2.2.2.2.2 = []) (h1 : Cond.methodLink own idx x ∈ lw_all) (h2 : Cond.sameMethod x.cls owner x.name x.desc ∈ lw_all) (h0 : Cond.declares ⟨owner, x.name, x.desc⟩ ∈ sn_nw) (h3 : Cond.selects C x r.2.1 ∈ lw_all) (h4 : Cond.instanceMethod r.2.1 ∈ lw_all) (h5 : Cond.initialized r.2.1.cls ∈ lw_all) (h6 : Cond.code r.2.1 r.2.2.1 r.2.2.2.1 r.2.2.2.2.1 ∈ lw_all) (hd : owner ≠ "java/lang/invoke/MethodHandle" ∧ owner ≠ "java/lang/invoke/VarHandle" ∧ (parseMethodDescriptor x.desc).map (fun d => d.parameters.length) = some n) : sn_LV own idx n C r := by
  intro p l e R s m args below meth c H locs cells slots mc ms nL cc rm Pc Qc XC free b As rest g hnw S hM hrc hrs hR hp hg hn hsize hstack hW hdg hf
  have hts : ∀ w ∈ lw_all, w.before args s = true := S.2.2.2.2
  have hws : sn_ws r = ws_ r.2.1 r.2.2.1 r.2.2.2.1 r.2.2.2.2.1 := if_pos hh
  rw [hws] at hM
  refine jx_runU (owner := owner) S hM (va_cwA n hts (lw_app (a := [.methodLink own idx x, .sameMethod x.cls owner x.name x.desc, .selects C x r.2.1, .instanceMethod r.2.1, .initialized r.2.1.cls]) ?_ (lw_meth h6)) rfl hrc hrs (hnw _ h0) hd hR) hp hg hn hsize hstack hW hdg hf
  simp only [List.forall_mem_cons]
  exact ⟨h1, h2, h3, h4, h5, fun _ h => by cases h⟩
theorem sn_selP {y : MethodName} {s : State} {args : Array Value} {C : String} {n : Nat} (hy : y.cls ≠ "java/lang/invoke/MethodHandle" ∧ y.cls ≠ "java/lang/invoke/VarHandle") (hins : (Cond.instantiable C n).before args s = true) (hpriv : (Cond.privateMethod y).before args s = true) (hinst : (Cond.instanceMethod y).before args s = true) (hsame : (Cond.sameMethod y.cls y.cls y.name y.desc).before args s = true) : (Cond.selects C y y).before args s = true := by
  obtain ⟨c, k, hc, hk, -, -, -, -⟩ := Cond.instantiable_spec hins
  obtain ⟨mk, methM, hnamed, hmethM, -, -⟩ := Cond.instanceMethod_spec hinst
  obtain ⟨cn, ck, r1, hcn, hck, hni, hf, hn1⟩ := Cond.sameMethod_found hsame
  have hfound : s.methodFound? y.cls y.name y.desc = some mk := State.methodFound?_of_named hnamed hy
  have hcls : mk.cls = cn := Option.some.inj ((findClass_of_methodNamed hnamed).symm.trans hcn)
  have hsel : selectMethod {} s.vm c mk = .method mk := selectMethod_private hmethM (Cond.privateMethod_at hpriv mk methM hnamed hmethM)
  simp only [Cond.before, Cond.holds, Cond.value, hc, hfound, hnamed, hsel, hcls, hck]
  simp; exact hni
/-- a private method of a class above the receiver's -/
theorem sn_LV.ofP {nI9 : Nat} (hh : r.2.2.2.2.2 = []) (h1 : Cond.methodLink own idx r.2.1 ∈ lw_all) (h2 : Cond.sameMethod r.2.1.cls r.2.1.cls r.2.1.name r.2.1.desc ∈ lw_all) (h3 : Cond.instantiable C nI9 ∈ lw_all) (h0 : Cond.privateMethod r.2.1 ∈ sn_nw) (h4 : Cond.instanceMethod r.2.1 ∈ lw_all) (h5 : Cond.initialized r.2.1.cls ∈ lw_all) (h6 : Cond.code r.2.1 r.2.2.1 r.2.2.2.1 r.2.2.2.2.1 ∈ lw_all) (hd : r.2.1.cls ≠ "java/lang/invoke/MethodHandle" ∧ r.2.1.cls ≠ "java/lang/invoke/VarHandle" ∧ (parseMethodDescriptor r.2.1.desc).map (fun d => d.parameters.length) = some n) : sn_LV own idx n C r := by
  intro p l e R s m args below meth c H locs cells slots mc ms nL cc rm Pc Qc XC free b As rest g hnw S hM hrc hrs hR hp hg hn hsize hstack hW hdg hf
  have hts : ∀ w ∈ lw_all, w.before args s = true := S.2.2.2.2
  have hws : sn_ws r = ws_ r.2.1 r.2.2.1 r.2.2.2.1 r.2.2.2.2.1 := if_pos hh
  rw [hws] at hM
  have hsel := sn_selP (args := args) ⟨hd.1, hd.2.1⟩ (hts _ h3) (va_Nw.use rfl (hnw _ h0)) (hts _ h4) (hts _ h2)
  refine jx_runU (owner := r.2.1.cls) (x := r.2.1) S hM ⟨⟨hrc, hrs, hR.1, hR.2, pay_in hts (lw_meth h6), List.mem_cons_self⟩, hts _ h6, hts _ h5, ⟨hd.1, hd.2.1⟩, fun sig h => ?_, hts _ h1, hts _ h2, va_Decl.of (hts _ h4) (hts _ h6), hsel, hts _ h4⟩ hp hg hn hsize hstack hW hdg hf
  have h9 := hd.2.2
  rw [h] at h9
  exact (Option.some.inj h9).symm
theorem sn_LS.of (hh : r.2.2.2.2.2 = []) (h1 : Cond.methodLink own idx r.2.1 ∈ lw_all) (h2 : Cond.static r.2.1 ∈ lw_all) (h3 : Cond.initialized r.2.1.cls ∈ lw_all) (h4 : Cond.code r.2.1 r.2.2.1 r.2.2.2.1 r.2.2.2.2.1 ∈ lw_all) (hd : r.2.1.cls ≠ "java/lang/invoke/MethodHandle" ∧ r.2.1.cls ≠ "java/lang/invoke/VarHandle" ∧ (parseMethodDescriptor r.2.1.desc).map (fun d => d.parameters.length) = some n) : sn_LS own idx n r := by
  intro p l e R s m args below meth c H locs cells slots mc ms nL cc rm Pc Qc XC free As rest g hnw S hM hrc hrs hR hp hg hn hsize hstack hW hdg hf
  have hts : ∀ w ∈ lw_all, w.before args s = true := S.2.2.2.2
  have hws : sn_ws r = ws_ r.2.1 r.2.2.1 r.2.2.2.1 r.2.2.2.2.1 := if_pos hh
  rw [hws] at hM
  exact jx_runS S hM (va_cwS n hts (lw_S h1 h2 h3 h4) rfl hrc hrs hd hR) hp hg hn hsize hstack hW hdg hf
theorem sn_LS.ofN (hh : r.2.2.2.2.2 = []) (h1 : Cond.methodLinkNest own idx r.2.1 host ∈ sn_nw) (h2 : Cond.static r.2.1 ∈ lw_all) (h3 : Cond.initialized r.2.1.cls ∈ lw_all) (h4 : Cond.code r.2.1 r.2.2.1 r.2.2.2.1 r.2.2.2.2.1 ∈ lw_all) (hd : r.2.1.cls ≠ "java/lang/invoke/MethodHandle" ∧ r.2.1.cls ≠ "java/lang/invoke/VarHandle" ∧ (parseMethodDescriptor r.2.1.desc).map (fun d => d.parameters.length) = some n) : sn_LS own idx n r := by
  intro p l e R s m args below meth c H locs cells slots mc ms nL cc rm Pc Qc XC free As rest g hnw S hM hrc hrs hR hp hg hn hsize hstack hW hdg hf
  have hts : ∀ w ∈ lw_all, w.before args s = true := S.2.2.2.2
  have hws : sn_ws r = ws_ r.2.1 r.2.2.1 r.2.2.2.1 r.2.2.2.2.1 := if_pos hh
  rw [hws] at hM
  exact jx_runSN S hM ⟨va_cnB n hts (lw_meth h4) rfl hrc hrs (hnw _ h1) (hts _ h3) hd hR, hts _ h2, trivial⟩ hp hg hn hsize hstack hW hdg hf
theorem sn_LP.of (hh : r.2.2.2.2.2 = []) (hr : r.2.2.2.2.1 = none) (hnm : r.2.1.name = "<init>") (h1 : Cond.methodLink own idx r.2.1 ∈ lw_all) (h2 : Cond.instanceMethod r.2.1 ∈ lw_all) (h3 : Cond.initialized r.2.1.cls ∈ lw_all) (h4 : Cond.code r.2.1 r.2.2.1 r.2.2.2.1 r.2.2.2.2.1 ∈ lw_all) (hd : r.2.1.cls ≠ "java/lang/invoke/MethodHandle" ∧ r.2.1.cls ≠ "java/lang/invoke/VarHandle" ∧ (parseMethodDescriptor r.2.1.desc).map (fun d => d.parameters.length) = some n) : sn_LP own idx n r := by
  intro p l e R s m args below meth c H locs cells slots mc ms nL cc rm Pc Qc XC free b As rest g hnw S hM hrc hrs hR hp hg hn hsize hstack hW hdg hf
  have hts : ∀ w ∈ lw_all, w.before args s = true := S.2.2.2.2
  have hws : sn_ws r = ws_ r.2.1 r.2.2.1 r.2.2.2.1 r.2.2.2.2.1 := if_pos hh
  rw [hws] at hM
  rw [hr] at h4 hM
  exact jx_runI S hM (cwI n hts (lw_meth h4) rfl hrc hrs (hts _ h3) (hts _ h1) (hts _ h2) hnm hd hR) hp hg hn hsize hstack hW hdg hf
theorem sn_LP.ofN (hh : r.2.2.2.2.2 = []) (hr : r.2.2.2.2.1 = none) (hnm : r.2.1.name = "<init>") (h1 : Cond.methodLinkNest own idx r.2.1 host ∈ sn_nw) (h2 : Cond.instanceMethod r.2.1 ∈ lw_all) (h3 : Cond.initialized r.2.1.cls ∈ lw_all) (h4 : Cond.code r.2.1 r.2.2.1 r.2.2.2.1 r.2.2.2.2.1 ∈ lw_all) (hd : r.2.1.cls ≠ "java/lang/invoke/MethodHandle" ∧ r.2.1.cls ≠ "java/lang/invoke/VarHandle" ∧ (parseMethodDescriptor r.2.1.desc).map (fun d => d.parameters.length) = some n) : sn_LP own idx n r := by
  intro p l e R s m args below meth c H locs cells slots mc ms nL cc rm Pc Qc XC free b As rest g hnw S hM hrc hrs hR hp hg hn hsize hstack hW hdg hf
  have hts : ∀ w ∈ lw_all, w.before args s = true := S.2.2.2.2
  have hws : sn_ws r = ws_ r.2.1 r.2.2.1 r.2.2.2.1 r.2.2.2.2.1 := if_pos hh
  rw [hws] at hM
  rw [hr] at h4 hM
  exact jx_runIN S hM ⟨va_cnB n hts (lw_meth h4) rfl hrc hrs (hnw _ h1) (hts _ h3) hd hR, hnm, hts _ h2⟩ hp hg hn hsize hstack hW hdg hf
theorem sn_LU.of (hh : r.2.2.2.2.2 = []) (h1 : Cond.methodLink own idx r.2.1 ∈ lw_all) (h2 : Cond.sameMethod r.2.1.cls r.2.1.cls r.2.1.name r.2.1.desc ∈ lw_all) (h3 : Cond.superclass own r.2.1.cls ∈ lw_all) (h4 : Cond.instanceMethod r.2.1 ∈ lw_all) (h5 : Cond.initialized r.2.1.cls ∈ lw_all) (h6 : Cond.code r.2.1 r.2.2.1 r.2.2.2.1 r.2.2.2.2.1 ∈ lw_all) (hd : r.2.1.name ≠ "<init>" ∧ (parseMethodDescriptor r.2.1.desc).map (fun d => d.parameters.length) = some n) : sn_LU own idx n r := by
  intro p l e R s m args below meth c H locs cells slots mc ms nL cc rm Pc Qc XC free C cC b As rest g hat S hM hrc hrs hR hp hg hn hsize hstack hW hdg hf
  have hts : ∀ w ∈ lw_all, w.before args s = true := S.2.2.2.2
  have hws : sn_ws r = ws_ r.2.1 r.2.2.1 r.2.2.2.1 r.2.2.2.2.1 := if_pos hh
  rw [hws] at hM
  refine jx_runSU hat S hM (va_cwSU n hts (lw_app (a := [.methodLink own idx r.2.1, .sameMethod r.2.1.cls r.2.1.cls r.2.1.name r.2.1.desc, .superclass own r.2.1.cls, .instanceMethod r.2.1, .initialized r.2.1.cls]) ?_ (lw_meth h6)) rfl hrc hrs hd hR) hp hg hn hsize hstack hW hdg hf
  simp only [List.forall_mem_cons]
  exact ⟨h1, h2, h3, h4, h5, fun _ h => by cases h⟩
end
