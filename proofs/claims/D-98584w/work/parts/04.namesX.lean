/-! RainLoom$Fault -/
set_option maxRecDepth 100000
def RX1 : String := "RainLoom$Fault"
def TX1 : u_T := fun k => match k with
  | 0 => ("java/lang/Throwable", "cause", "Ljava/lang/Throwable;", false)
  | 1 => ("java/lang/Throwable", "stackTrace", "[Ljava/lang/StackTraceElement;", false)
  | 2 => ("java/lang/Throwable", "suppressedExceptions", "Ljava/util/List;", false)
  | 3 => ("java/lang/Throwable", "detailMessage", "Ljava/lang/String;", false)
  | 4 => ("java/lang/Throwable", "backtrace", "Ljava/lang/Object;", false)
  | 5 => ("java/lang/Throwable", "depth", "I", false)
  | 6 => ("RainLoom$Fault", "number", "I", false)
  | _ => ("RainLoom$Fault", "place", "I", false)
def tyX1 : Nat → FieldType := fun k => match k with
  | 0 => .object "java/lang/Throwable"
  | 1 => .array (.object "java/lang/StackTraceElement")
  | 2 => .object "java/util/List"
  | 3 => .object "java/lang/String"
  | 4 => .object "java/lang/Object"
  | 5 => .int
  | 6 => .int
  | _ => .int
abbrev wsX10 : List Cond := u_ws RX1 TX1 8
theorem nmX1 : ∀ a, a < 8 → ∀ b, b < 8 → a ≠ b → (TX1 a).2.1 ≠ (TX1 b).2.1 := by decide +kernel
theorem tyX1_ok : ∀ k, k < 8 → parseFieldDescriptor (TX1 k).2.2.1 = some (tyX1 k) := by decide +kernel
abbrev cX1_init : ByteArray := prog_6_method_1_code
def yX1_init : MethodName := ⟨RX1, "<init>", "()V"⟩
def dkwX1_init_0 : List UInt8 := [42, 18, 1, 1, 3, 3, 183, 0, 3, 177]
abbrev dktX1_init_0 : List UInt8 := dkwX1_init_0 ++ []
theorem dksX1_init_0 : cX1_init.data.toList.drop 0 = dktX1_init_0 := by decide +kernel
theorem dX1_init_0 : decode cX1_init 0 = .ok (.aload_n 0, 1) := dk_42 (dk_at dksX1_init_0 0 rfl rfl)
theorem dX1_init_1 : decode cX1_init 1 = .ok (.ldc 1, 2) := dk_18 1 (dk_at dksX1_init_0 1 rfl rfl)
theorem dX1_init_3 : decode cX1_init 3 = .ok (.aconst_null, 1) := dk_1 (dk_at dksX1_init_0 3 rfl rfl)
theorem dX1_init_4 : decode cX1_init 4 = .ok (.iconst 0, 1) := dk_3 (dk_at dksX1_init_0 4 rfl rfl)
theorem dX1_init_5 : decode cX1_init 5 = .ok (.iconst 0, 1) := dk_3 (dk_at dksX1_init_0 5 rfl rfl)
theorem dX1_init_6 : decode cX1_init 6 = .ok (.invokespecial 3, 3) := dk_183 0 3 (dk_at dksX1_init_0 6 rfl rfl)
theorem dX1_init_9 : decode cX1_init 9 = .ok (.return_, 1) := dk_177 (dk_at dksX1_init_0 9 rfl rfl)
abbrev cX1_of : ByteArray := prog_6_method_2_code
def yX1_of : MethodName := ⟨RX1, "of", "(II)LRainLoom$Fault;"⟩
def dkwX1_of_0 : List UInt8 := [42, 27, 181, 0, 9, 42, 28, 181, 0, 15, 42, 176]
abbrev dktX1_of_0 : List UInt8 := dkwX1_of_0 ++ []
theorem dksX1_of_0 : cX1_of.data.toList.drop 0 = dktX1_of_0 := by decide +kernel
theorem dX1_of_0 : decode cX1_of 0 = .ok (.aload_n 0, 1) := dk_42 (dk_at dksX1_of_0 0 rfl rfl)
theorem dX1_of_1 : decode cX1_of 1 = .ok (.iload_n 1, 1) := dk_27 (dk_at dksX1_of_0 1 rfl rfl)
theorem dX1_of_2 : decode cX1_of 2 = .ok (.putfield 9, 3) := dk_181 0 9 (dk_at dksX1_of_0 2 rfl rfl)
theorem dX1_of_5 : decode cX1_of 5 = .ok (.aload_n 0, 1) := dk_42 (dk_at dksX1_of_0 5 rfl rfl)
theorem dX1_of_6 : decode cX1_of 6 = .ok (.iload_n 2, 1) := dk_28 (dk_at dksX1_of_0 6 rfl rfl)
theorem dX1_of_7 : decode cX1_of 7 = .ok (.putfield 15, 3) := dk_181 0 15 (dk_at dksX1_of_0 7 rfl rfl)
theorem dX1_of_10 : decode cX1_of 10 = .ok (.aload_n 0, 1) := dk_42 (dk_at dksX1_of_0 10 rfl rfl)
theorem dX1_of_11 : decode cX1_of 11 = .ok (.areturn, 1) := dk_176 (dk_at dksX1_of_0 11 rfl rfl)
theorem q123 : (Jvm.Cond.initialized "RainLoom$Fault") ∈ lw_all := lw_g (lw_at lw_m1 5 rfl) rfl
theorem q166 : (Jvm.Cond.instantiable "RainLoom$Fault" (8 : Nat)) ∈ lw_all := lw_g (lw_at lw_m1 48 rfl) rfl
theorem q167 : (Jvm.Cond.castable "RainLoom$Fault" "RainLoom$Fault") ∈ lw_tbl := lw_at lw_m1 49 rfl
theorem q174 : (Jvm.Cond.selects "RainLoom$Fault" ({ cls := "java/lang/Throwable", name := "fillInStackTrace", desc := "(I)Ljava/lang/Throwable;" } : Jvm.MethodName) ({ cls := "java/lang/Throwable", name := "fillInStackTrace", desc := "(I)Ljava/lang/Throwable;" } : Jvm.MethodName)) ∈ lw_all := lw_g (lw_at lw_m1 56 rfl) rfl
theorem q175 : (Jvm.Cond.selects "RainLoom$Fault" ({ cls := "java/lang/Throwable", name := "fillInStackTrace", desc := "()Ljava/lang/Throwable;" } : Jvm.MethodName) ({ cls := "java/lang/Throwable", name := "fillInStackTrace", desc := "()Ljava/lang/Throwable;" } : Jvm.MethodName)) ∈ lw_all := lw_g (lw_at lw_m1 57 rfl) rfl
theorem q176 : (Jvm.Cond.lays "RainLoom$Fault" "java/lang/Throwable" "cause" "Ljava/lang/Throwable;") ∈ lw_all := lw_g (lw_at lw_m1 58 rfl) rfl
theorem q178 : (Jvm.Cond.lays "RainLoom$Fault" "java/lang/Throwable" "stackTrace" "[Ljava/lang/StackTraceElement;") ∈ lw_all := lw_g (lw_at lw_m1 60 rfl) rfl
theorem q180 : (Jvm.Cond.lays "RainLoom$Fault" "java/lang/Throwable" "suppressedExceptions" "Ljava/util/List;") ∈ lw_all := lw_g (lw_at lw_m1 62 rfl) rfl
theorem q182 : (Jvm.Cond.lays "RainLoom$Fault" "java/lang/Throwable" "detailMessage" "Ljava/lang/String;") ∈ lw_all := lw_g (lw_at lw_m1 64 rfl) rfl
theorem q184 : (Jvm.Cond.lays "RainLoom$Fault" "java/lang/Throwable" "backtrace" "Ljava/lang/Object;") ∈ lw_all := lw_g (lw_at lw_m1 66 rfl) rfl
theorem q205 : (Jvm.Cond.instanceMethod ({ cls := "RainLoom$Fault", name := "<init>", desc := "()V" } : Jvm.MethodName)) ∈ lw_all := lw_g (lw_at lw_m1 87 rfl) rfl
theorem q206 : (Jvm.Cond.code ({ cls := "RainLoom$Fault", name := "<init>", desc := "()V" } : Jvm.MethodName) prog_6_method_1_code (1 : Nat) (Option.none : Option Jvm.ClassFile.FieldType)) ∈ lw_all := lw_g (lw_at lw_m1 88 rfl) rfl
theorem q207 : (Jvm.Cond.stringRef "RainLoom$Fault" (1 : Nat) "") ∈ lw_tbl := lw_at lw_m1 89 rfl
theorem q208 : (Jvm.Cond.methodLink "RainLoom$Fault" (3 : Nat) ({ cls := "java/lang/RuntimeException", name := "<init>", desc := "(Ljava/lang/String;Ljava/lang/Throwable;ZZ)V" } : Jvm.MethodName)) ∈ lw_all := lw_g (lw_at lw_m1 90 rfl) rfl
theorem q217 : (Jvm.Cond.fieldLink "RainLoom$Fault" (9 : Nat) "RainLoom$Fault" "number" "I") ∈ lw_all := lw_g (lw_at lw_m1 99 rfl) rfl
theorem q219 : (Jvm.Cond.fieldLink "RainLoom$Fault" (15 : Nat) "RainLoom$Fault" "place" "I") ∈ lw_all := lw_g (lw_at lw_m1 101 rfl) rfl
theorem q226 : (Jvm.Cond.lays "RainLoom$Fault" "RainLoom$Fault" "number" "I") ∈ lw_all := lw_g (lw_at lw_m1 108 rfl) rfl
theorem q227 : (Jvm.Cond.soleField "RainLoom$Fault" "number") ∈ lw_all := lw_g (lw_at lw_m1 109 rfl) rfl
theorem q228 : (Jvm.Cond.lays "RainLoom$Fault" "RainLoom$Fault" "place" "I") ∈ lw_all := lw_g (lw_at lw_m1 110 rfl) rfl
theorem q229 : (Jvm.Cond.soleField "RainLoom$Fault" "place") ∈ lw_all := lw_g (lw_at lw_m1 111 rfl) rfl
theorem q234 : (Jvm.Cond.lays "RainLoom$Fault" "java/lang/Throwable" "depth" "I") ∈ lw_all := lw_g (lw_at lw_m1 116 rfl) rfl
theorem q237 : (Jvm.Cond.superclass "RainLoom$Fault" "java/lang/RuntimeException") ∈ lw_all := lw_g (lw_at lw_m1 119 rfl) rfl
theorem q749 : (Jvm.Cond.instanceMethod ({ cls := "RainLoom$Fault", name := "of", desc := "(II)LRainLoom$Fault;" } : Jvm.MethodName)) ∈ lw_all := lw_g (lw_at lw_m3 151 rfl) rfl
theorem q750 : (Jvm.Cond.selects "RainLoom$Fault" ({ cls := "RainLoom$Fault", name := "of", desc := "(II)LRainLoom$Fault;" } : Jvm.MethodName) ({ cls := "RainLoom$Fault", name := "of", desc := "(II)LRainLoom$Fault;" } : Jvm.MethodName)) ∈ lw_all := lw_g (lw_at lw_m3 152 rfl) rfl
theorem q751 : (Jvm.Cond.code ({ cls := "RainLoom$Fault", name := "of", desc := "(II)LRainLoom$Fault;" } : Jvm.MethodName) prog_6_method_2_code (3 : Nat) (Option.some (Jvm.ClassFile.FieldType.object "RainLoom$Fault"))) ∈ lw_all := lw_g (lw_at lw_m3 153 rfl) rfl
theorem q1121 : (Jvm.Cond.selects "RainLoom$Fault" ({ cls := "java/lang/Object", name := "getClass", desc := "()Ljava/lang/Class;" } : Jvm.MethodName) ({ cls := "java/lang/Object", name := "getClass", desc := "()Ljava/lang/Class;" } : Jvm.MethodName)) ∈ lw_all := lw_g (lw_at lw_m5 43 rfl) rfl
theorem q2183 : (Jvm.Cond.castable "RainLoom$Fault" "java/lang/Object") ∈ lw_tbl := lw_at lw_m9 145 rfl
theorem in_X1 : ∀ w ∈ wsX10, w ∈ lw_all := lw_in wsX10 [176, 178, 180, 182, 184, 234, 226, 228] (by decide +kernel) (by decide +kernel)

/-! RainLoom$Drying -/
set_option maxRecDepth 100000
def RX10 : String := "RainLoom$Drying"
abbrev cX10_init : ByteArray := prog_4_method_1_code
def yX10_init : MethodName := ⟨RX10, "<init>", "()V"⟩
theorem dX10_init_0 : decode cX10_init 0 = .ok (.aload_n 0, 1) := by decide +kernel
theorem dX10_init_1 : decode cX10_init 1 = .ok (.invokespecial 3, 3) := by decide +kernel
theorem dX10_init_4 : decode cX10_init 4 = .ok (.return_, 1) := by decide +kernel
abbrev cX10_goes : ByteArray := prog_4_method_2_code
def yX10_goes : MethodName := ⟨RX10, "goes", "(LRainLoom$Land;LRainLoom$Text;)V"⟩
def dkwX10_goes_1 : List UInt8 := [180, 0, 15, 29, 46, 43, 44, 29, 182, 0, 21, 100, 184, 0, 25, 79, 132, 3, 1, 167, 255, 216, 177]
abbrev dktX10_goes_1 : List UInt8 := dkwX10_goes_1 ++ []
def dkwX10_goes_0 : List UInt8 := [3, 62, 29, 16, 48, 162, 0, 40, 44, 29, 182, 0, 9, 153, 0, 26, 43, 180, 0, 15, 29, 3, 43]
abbrev dktX10_goes_0 : List UInt8 := dkwX10_goes_0 ++ dktX10_goes_1
theorem dksX10_goes_0 : cX10_goes.data.toList.drop 0 = dktX10_goes_0 := by decide +kernel
theorem dksX10_goes_1 : cX10_goes.data.toList.drop 23 = dktX10_goes_1 := dk_seg dksX10_goes_0 23 rfl rfl
theorem dX10_goes_0 : decode cX10_goes 0 = .ok (.iconst 0, 1) := dk_3 (dk_at dksX10_goes_0 0 rfl rfl)
theorem dX10_goes_1 : decode cX10_goes 1 = .ok (.istore_n 3, 1) := dk_62 (dk_at dksX10_goes_0 1 rfl rfl)
theorem dX10_goes_2 : decode cX10_goes 2 = .ok (.iload_n 3, 1) := dk_29 (dk_at dksX10_goes_0 2 rfl rfl)
theorem dX10_goes_3 : decode cX10_goes 3 = .ok (.bipush 48, 2) := dk_16 48 (dk_at dksX10_goes_0 3 rfl rfl)
theorem dX10_goes_5 : decode cX10_goes 5 = .ok (.if_icmp .ge 40, 3) := dk_162 0 40 (dk_at dksX10_goes_0 5 rfl rfl)
theorem dX10_goes_8 : decode cX10_goes 8 = .ok (.aload_n 2, 1) := dk_44 (dk_at dksX10_goes_0 8 rfl rfl)
theorem dX10_goes_9 : decode cX10_goes 9 = .ok (.iload_n 3, 1) := dk_29 (dk_at dksX10_goes_0 9 rfl rfl)
theorem dX10_goes_10 : decode cX10_goes 10 = .ok (.invokevirtual 9, 3) := dk_182 0 9 (dk_at dksX10_goes_0 10 rfl rfl)
theorem dX10_goes_13 : decode cX10_goes 13 = .ok (.ifCond .eq 26, 3) := dk_153 0 26 (dk_at dksX10_goes_0 13 rfl rfl)
theorem dX10_goes_16 : decode cX10_goes 16 = .ok (.aload_n 1, 1) := dk_43 (dk_at dksX10_goes_0 16 rfl rfl)
theorem dX10_goes_17 : decode cX10_goes 17 = .ok (.getfield 15, 3) := dk_180 0 15 (dk_at dksX10_goes_0 17 rfl rfl)
theorem dX10_goes_20 : decode cX10_goes 20 = .ok (.iload_n 3, 1) := dk_29 (dk_at dksX10_goes_0 20 rfl rfl)
theorem dX10_goes_21 : decode cX10_goes 21 = .ok (.iconst 0, 1) := dk_3 (dk_at dksX10_goes_0 21 rfl rfl)
theorem dX10_goes_22 : decode cX10_goes 22 = .ok (.aload_n 1, 1) := dk_43 (dk_at dksX10_goes_0 22 rfl rfl)
theorem dX10_goes_23 : decode cX10_goes 23 = .ok (.getfield 15, 3) := dk_180 0 15 (dk_at dksX10_goes_1 0 rfl rfl)
theorem dX10_goes_26 : decode cX10_goes 26 = .ok (.iload_n 3, 1) := dk_29 (dk_at dksX10_goes_1 3 rfl rfl)
theorem dX10_goes_27 : decode cX10_goes 27 = .ok (.iaload, 1) := dk_46 (dk_at dksX10_goes_1 4 rfl rfl)
theorem dX10_goes_28 : decode cX10_goes 28 = .ok (.aload_n 1, 1) := dk_43 (dk_at dksX10_goes_1 5 rfl rfl)
theorem dX10_goes_29 : decode cX10_goes 29 = .ok (.aload_n 2, 1) := dk_44 (dk_at dksX10_goes_1 6 rfl rfl)
theorem dX10_goes_30 : decode cX10_goes 30 = .ok (.iload_n 3, 1) := dk_29 (dk_at dksX10_goes_1 7 rfl rfl)
theorem dX10_goes_31 : decode cX10_goes 31 = .ok (.invokevirtual 21, 3) := dk_182 0 21 (dk_at dksX10_goes_1 8 rfl rfl)
theorem dX10_goes_34 : decode cX10_goes 34 = .ok (.isub, 1) := dk_100 (dk_at dksX10_goes_1 11 rfl rfl)
theorem dX10_goes_35 : decode cX10_goes 35 = .ok (.invokestatic 25, 3) := dk_184 0 25 (dk_at dksX10_goes_1 12 rfl rfl)
theorem dX10_goes_38 : decode cX10_goes 38 = .ok (.iastore, 1) := dk_79 (dk_at dksX10_goes_1 15 rfl rfl)
theorem dX10_goes_39 : decode cX10_goes 39 = .ok (.iinc 3 1, 3) := dk_132 3 1 (dk_at dksX10_goes_1 16 rfl rfl)
theorem dX10_goes_42 : decode cX10_goes 42 = .ok (.goto (-40), 3) := dk_167 255 216 (dk_at dksX10_goes_1 19 rfl rfl)
theorem dX10_goes_45 : decode cX10_goes 45 = .ok (.return_, 1) := dk_177 (dk_at dksX10_goes_1 22 rfl rfl)
theorem q135 : (Jvm.Cond.initialized "RainLoom$Drying") ∈ lw_all := lw_g (lw_at lw_m1 17 rfl) rfl
theorem q434 : (Jvm.Cond.fieldLink "RainLoom$Drying" (15 : Nat) "RainLoom$Land" "water" "[I") ∈ lw_all := lw_g (lw_at lw_m2 76 rfl) rfl
theorem q521 : (Jvm.Cond.instantiable "RainLoom$Drying" (0 : Nat)) ∈ lw_all := lw_g (lw_at lw_m2 163 rfl) rfl
theorem q523 : (Jvm.Cond.instanceMethod ({ cls := "RainLoom$Drying", name := "<init>", desc := "()V" } : Jvm.MethodName)) ∈ lw_all := lw_g (lw_at lw_m2 165 rfl) rfl
theorem q524 : (Jvm.Cond.code ({ cls := "RainLoom$Drying", name := "<init>", desc := "()V" } : Jvm.MethodName) prog_4_method_1_code (1 : Nat) (Option.none : Option Jvm.ClassFile.FieldType)) ∈ lw_all := lw_g (lw_at lw_m2 166 rfl) rfl
theorem q525 : (Jvm.Cond.methodLinkNest "RainLoom$Drying" (3 : Nat) ({ cls := "RainLoom$Part", name := "<init>", desc := "()V" } : Jvm.MethodName) "RainLoom") ∈ lw_tbl := lw_at lw_m2 167 rfl
theorem q526 : (Jvm.Cond.superclass "RainLoom$Drying" "RainLoom$Part") ∈ lw_all := lw_g (lw_at lw_m2 168 rfl) rfl
theorem q1119 : (Jvm.Cond.selects "RainLoom$Drying" ({ cls := "java/lang/Object", name := "getClass", desc := "()Ljava/lang/Class;" } : Jvm.MethodName) ({ cls := "java/lang/Object", name := "getClass", desc := "()Ljava/lang/Class;" } : Jvm.MethodName)) ∈ lw_all := lw_g (lw_at lw_m5 41 rfl) rfl
theorem q1329 : (Jvm.Cond.selects "RainLoom$Drying" ({ cls := "RainLoom$Part", name := "goes", desc := "(LRainLoom$Land;LRainLoom$Text;)V" } : Jvm.MethodName) ({ cls := "RainLoom$Drying", name := "goes", desc := "(LRainLoom$Land;LRainLoom$Text;)V" } : Jvm.MethodName)) ∈ lw_all := lw_g (lw_at lw_m6 11 rfl) rfl
theorem q1330 : (Jvm.Cond.instanceMethod ({ cls := "RainLoom$Drying", name := "goes", desc := "(LRainLoom$Land;LRainLoom$Text;)V" } : Jvm.MethodName)) ∈ lw_all := lw_g (lw_at lw_m6 12 rfl) rfl
theorem q1331 : (Jvm.Cond.code ({ cls := "RainLoom$Drying", name := "goes", desc := "(LRainLoom$Land;LRainLoom$Text;)V" } : Jvm.MethodName) prog_4_method_2_code (4 : Nat) (Option.none : Option Jvm.ClassFile.FieldType)) ∈ lw_all := lw_g (lw_at lw_m6 13 rfl) rfl
theorem q1332 : (Jvm.Cond.methodLink "RainLoom$Drying" (9 : Nat) ({ cls := "RainLoom$Text", name := "isOn", desc := "(I)Z" } : Jvm.MethodName)) ∈ lw_all := lw_g (lw_at lw_m6 14 rfl) rfl
theorem q1333 : (Jvm.Cond.methodLink "RainLoom$Drying" (21 : Nat) ({ cls := "RainLoom$Land", name := "dries", desc := "(LRainLoom$Text;I)I" } : Jvm.MethodName)) ∈ lw_all := lw_g (lw_at lw_m6 15 rfl) rfl
theorem q1337 : (Jvm.Cond.methodLink "RainLoom$Drying" (25 : Nat) ({ cls := "java/lang/Math", name := "max", desc := "(II)I" } : Jvm.MethodName)) ∈ lw_all := lw_g (lw_at lw_m6 19 rfl) rfl
theorem q2191 : (Jvm.Cond.castable "RainLoom$Drying" "java/lang/Object") ∈ lw_tbl := lw_at lw_m9 153 rfl
theorem q2203 : (Jvm.Cond.castable "RainLoom$Drying" "RainLoom$Part") ∈ lw_tbl := lw_at lw_m9 165 rfl

/-! RainLoom$Gathering -/
set_option maxRecDepth 100000
def RX11 : String := "RainLoom$Gathering"
abbrev cX11_init : ByteArray := prog_8_method_1_code
def yX11_init : MethodName := ⟨RX11, "<init>", "()V"⟩
theorem dX11_init_0 : decode cX11_init 0 = .ok (.aload_n 0, 1) := by decide +kernel
theorem dX11_init_1 : decode cX11_init 1 = .ok (.invokespecial 3, 3) := by decide +kernel
theorem dX11_init_4 : decode cX11_init 4 = .ok (.return_, 1) := by decide +kernel
abbrev cX11_goes : ByteArray := prog_8_method_2_code
def yX11_goes : MethodName := ⟨RX11, "goes", "(LRainLoom$Land;LRainLoom$Text;)V"⟩
def dkwX11_goes_1 : List UInt8 := [180, 0, 25, 4, 96, 181, 0, 25, 177]
abbrev dktX11_goes_1 : List UInt8 := dkwX11_goes_1 ++ []
def dkwX11_goes_0 : List UInt8 := [43, 17, 39, 15, 43, 180, 0, 9, 43, 44, 182, 0, 15, 96, 184, 0, 19, 181, 0, 9, 43, 89]
abbrev dktX11_goes_0 : List UInt8 := dkwX11_goes_0 ++ dktX11_goes_1
theorem dksX11_goes_0 : cX11_goes.data.toList.drop 0 = dktX11_goes_0 := by decide +kernel
theorem dksX11_goes_1 : cX11_goes.data.toList.drop 22 = dktX11_goes_1 := dk_seg dksX11_goes_0 22 rfl rfl
theorem dX11_goes_0 : decode cX11_goes 0 = .ok (.aload_n 1, 1) := dk_43 (dk_at dksX11_goes_0 0 rfl rfl)
theorem dX11_goes_1 : decode cX11_goes 1 = .ok (.sipush 9999, 3) := dk_17 39 15 (dk_at dksX11_goes_0 1 rfl rfl)
theorem dX11_goes_4 : decode cX11_goes 4 = .ok (.aload_n 1, 1) := dk_43 (dk_at dksX11_goes_0 4 rfl rfl)
theorem dX11_goes_5 : decode cX11_goes 5 = .ok (.getfield 9, 3) := dk_180 0 9 (dk_at dksX11_goes_0 5 rfl rfl)
theorem dX11_goes_8 : decode cX11_goes 8 = .ok (.aload_n 1, 1) := dk_43 (dk_at dksX11_goes_0 8 rfl rfl)
theorem dX11_goes_9 : decode cX11_goes 9 = .ok (.aload_n 2, 1) := dk_44 (dk_at dksX11_goes_0 9 rfl rfl)
theorem dX11_goes_10 : decode cX11_goes 10 = .ok (.invokevirtual 15, 3) := dk_182 0 15 (dk_at dksX11_goes_0 10 rfl rfl)
theorem dX11_goes_13 : decode cX11_goes 13 = .ok (.iadd, 1) := dk_96 (dk_at dksX11_goes_0 13 rfl rfl)
theorem dX11_goes_14 : decode cX11_goes 14 = .ok (.invokestatic 19, 3) := dk_184 0 19 (dk_at dksX11_goes_0 14 rfl rfl)
theorem dX11_goes_17 : decode cX11_goes 17 = .ok (.putfield 9, 3) := dk_181 0 9 (dk_at dksX11_goes_0 17 rfl rfl)
theorem dX11_goes_20 : decode cX11_goes 20 = .ok (.aload_n 1, 1) := dk_43 (dk_at dksX11_goes_0 20 rfl rfl)
theorem dX11_goes_21 : decode cX11_goes 21 = .ok (.dup, 1) := dk_89 (dk_at dksX11_goes_0 21 rfl rfl)
theorem dX11_goes_22 : decode cX11_goes 22 = .ok (.getfield 25, 3) := dk_180 0 25 (dk_at dksX11_goes_1 0 rfl rfl)
theorem dX11_goes_25 : decode cX11_goes 25 = .ok (.iconst 1, 1) := dk_4 (dk_at dksX11_goes_1 3 rfl rfl)
theorem dX11_goes_26 : decode cX11_goes 26 = .ok (.iadd, 1) := dk_96 (dk_at dksX11_goes_1 4 rfl rfl)
theorem dX11_goes_27 : decode cX11_goes 27 = .ok (.putfield 25, 3) := dk_181 0 25 (dk_at dksX11_goes_1 5 rfl rfl)
theorem dX11_goes_30 : decode cX11_goes 30 = .ok (.return_, 1) := dk_177 (dk_at dksX11_goes_1 8 rfl rfl)
theorem q136 : (Jvm.Cond.initialized "RainLoom$Gathering") ∈ lw_all := lw_g (lw_at lw_m1 18 rfl) rfl
theorem q460 : (Jvm.Cond.fieldLink "RainLoom$Gathering" (9 : Nat) "RainLoom$Land" "store" "I") ∈ lw_all := lw_g (lw_at lw_m2 102 rfl) rfl
theorem q463 : (Jvm.Cond.fieldLink "RainLoom$Gathering" (25 : Nat) "RainLoom$Land" "day" "I") ∈ lw_all := lw_g (lw_at lw_m2 105 rfl) rfl
theorem q528 : (Jvm.Cond.instantiable "RainLoom$Gathering" (0 : Nat)) ∈ lw_all := lw_g (lw_at lw_m2 170 rfl) rfl
theorem q530 : (Jvm.Cond.instanceMethod ({ cls := "RainLoom$Gathering", name := "<init>", desc := "()V" } : Jvm.MethodName)) ∈ lw_all := lw_g (lw_at lw_m2 172 rfl) rfl
theorem q531 : (Jvm.Cond.code ({ cls := "RainLoom$Gathering", name := "<init>", desc := "()V" } : Jvm.MethodName) prog_8_method_1_code (1 : Nat) (Option.none : Option Jvm.ClassFile.FieldType)) ∈ lw_all := lw_g (lw_at lw_m2 173 rfl) rfl
theorem q532 : (Jvm.Cond.methodLinkNest "RainLoom$Gathering" (3 : Nat) ({ cls := "RainLoom$Part", name := "<init>", desc := "()V" } : Jvm.MethodName) "RainLoom") ∈ lw_tbl := lw_at lw_m2 174 rfl
theorem q533 : (Jvm.Cond.superclass "RainLoom$Gathering" "RainLoom$Part") ∈ lw_all := lw_g (lw_at lw_m2 175 rfl) rfl
theorem q1123 : (Jvm.Cond.selects "RainLoom$Gathering" ({ cls := "java/lang/Object", name := "getClass", desc := "()Ljava/lang/Class;" } : Jvm.MethodName) ({ cls := "java/lang/Object", name := "getClass", desc := "()Ljava/lang/Class;" } : Jvm.MethodName)) ∈ lw_all := lw_g (lw_at lw_m5 45 rfl) rfl
theorem q1350 : (Jvm.Cond.selects "RainLoom$Gathering" ({ cls := "RainLoom$Part", name := "goes", desc := "(LRainLoom$Land;LRainLoom$Text;)V" } : Jvm.MethodName) ({ cls := "RainLoom$Gathering", name := "goes", desc := "(LRainLoom$Land;LRainLoom$Text;)V" } : Jvm.MethodName)) ∈ lw_all := lw_g (lw_at lw_m6 32 rfl) rfl
theorem q1351 : (Jvm.Cond.instanceMethod ({ cls := "RainLoom$Gathering", name := "goes", desc := "(LRainLoom$Land;LRainLoom$Text;)V" } : Jvm.MethodName)) ∈ lw_all := lw_g (lw_at lw_m6 33 rfl) rfl
theorem q1352 : (Jvm.Cond.code ({ cls := "RainLoom$Gathering", name := "goes", desc := "(LRainLoom$Land;LRainLoom$Text;)V" } : Jvm.MethodName) prog_8_method_2_code (3 : Nat) (Option.none : Option Jvm.ClassFile.FieldType)) ∈ lw_all := lw_g (lw_at lw_m6 34 rfl) rfl
theorem q1353 : (Jvm.Cond.methodLink "RainLoom$Gathering" (15 : Nat) ({ cls := "RainLoom$Land", name := "gathers", desc := "(LRainLoom$Text;)I" } : Jvm.MethodName)) ∈ lw_all := lw_g (lw_at lw_m6 35 rfl) rfl
theorem q1357 : (Jvm.Cond.methodLink "RainLoom$Gathering" (19 : Nat) ({ cls := "java/lang/Math", name := "min", desc := "(II)I" } : Jvm.MethodName)) ∈ lw_all := lw_g (lw_at lw_m6 39 rfl) rfl
theorem q2192 : (Jvm.Cond.castable "RainLoom$Gathering" "java/lang/Object") ∈ lw_tbl := lw_at lw_m9 154 rfl
theorem q2204 : (Jvm.Cond.castable "RainLoom$Gathering" "RainLoom$Part") ∈ lw_tbl := lw_at lw_m9 166 rfl

/-! RainLoom$Law -/
set_option maxRecDepth 100000
def RX13 : String := "RainLoom$Law"
def TX13 : u_T := fun k => match k with
  | 0 => ("RainLoom$Law", "less", "[LRainLoom$Sum;", true)
  | 1 => ("RainLoom$Law", "than", "[LRainLoom$Sum;", true)
  | 2 => ("RainLoom$Law", "then", "[LRainLoom$Sum;", true)
  | _ => ("RainLoom$Law", "ifs", "I", false)
def tyX13 : Nat → FieldType := fun k => match k with
  | 0 => .array (.object "RainLoom$Sum")
  | 1 => .array (.object "RainLoom$Sum")
  | 2 => .array (.object "RainLoom$Sum")
  | _ => .int
abbrev wsX130 : List Cond := u_ws RX13 TX13 4
theorem nmX13 : ∀ a, a < 4 → ∀ b, b < 4 → a ≠ b → (TX13 a).2.1 ≠ (TX13 b).2.1 := by decide +kernel
theorem tyX13_ok : ∀ k, k < 4 → parseFieldDescriptor (TX13 k).2.2.1 = some (tyX13 k) := by decide +kernel
abbrev cX13_init : ByteArray := prog_11_method_1_code
def yX13_init : MethodName := ⟨RX13, "<init>", "()V"⟩
def dkwX13_init_1 : List UInt8 := [189, 0, 9, 181, 0, 20, 177]
abbrev dktX13_init_1 : List UInt8 := dkwX13_init_1 ++ []
def dkwX13_init_0 : List UInt8 := [42, 183, 0, 3, 42, 7, 189, 0, 9, 181, 0, 11, 42, 7, 189, 0, 9, 181, 0, 17, 42, 8]
abbrev dktX13_init_0 : List UInt8 := dkwX13_init_0 ++ dktX13_init_1
theorem dksX13_init_0 : cX13_init.data.toList.drop 0 = dktX13_init_0 := by decide +kernel
theorem dksX13_init_1 : cX13_init.data.toList.drop 22 = dktX13_init_1 := dk_seg dksX13_init_0 22 rfl rfl
theorem dX13_init_0 : decode cX13_init 0 = .ok (.aload_n 0, 1) := dk_42 (dk_at dksX13_init_0 0 rfl rfl)
theorem dX13_init_1 : decode cX13_init 1 = .ok (.invokespecial 3, 3) := dk_183 0 3 (dk_at dksX13_init_0 1 rfl rfl)
theorem dX13_init_4 : decode cX13_init 4 = .ok (.aload_n 0, 1) := dk_42 (dk_at dksX13_init_0 4 rfl rfl)
theorem dX13_init_5 : decode cX13_init 5 = .ok (.iconst 4, 1) := dk_7 (dk_at dksX13_init_0 5 rfl rfl)
theorem dX13_init_6 : decode cX13_init 6 = .ok (.anewarray 9, 3) := dk_189 0 9 (dk_at dksX13_init_0 6 rfl rfl)
theorem dX13_init_9 : decode cX13_init 9 = .ok (.putfield 11, 3) := dk_181 0 11 (dk_at dksX13_init_0 9 rfl rfl)
theorem dX13_init_12 : decode cX13_init 12 = .ok (.aload_n 0, 1) := dk_42 (dk_at dksX13_init_0 12 rfl rfl)
theorem dX13_init_13 : decode cX13_init 13 = .ok (.iconst 4, 1) := dk_7 (dk_at dksX13_init_0 13 rfl rfl)
theorem dX13_init_14 : decode cX13_init 14 = .ok (.anewarray 9, 3) := dk_189 0 9 (dk_at dksX13_init_0 14 rfl rfl)
theorem dX13_init_17 : decode cX13_init 17 = .ok (.putfield 17, 3) := dk_181 0 17 (dk_at dksX13_init_0 17 rfl rfl)
theorem dX13_init_20 : decode cX13_init 20 = .ok (.aload_n 0, 1) := dk_42 (dk_at dksX13_init_0 20 rfl rfl)
theorem dX13_init_21 : decode cX13_init 21 = .ok (.iconst 5, 1) := dk_8 (dk_at dksX13_init_0 21 rfl rfl)
theorem dX13_init_22 : decode cX13_init 22 = .ok (.anewarray 9, 3) := dk_189 0 9 (dk_at dksX13_init_1 0 rfl rfl)
theorem dX13_init_25 : decode cX13_init 25 = .ok (.putfield 20, 3) := dk_181 0 20 (dk_at dksX13_init_1 3 rfl rfl)
theorem dX13_init_28 : decode cX13_init 28 = .ok (.return_, 1) := dk_177 (dk_at dksX13_init_1 6 rfl rfl)
abbrev cX13_of : ByteArray := prog_11_method_2_code
def yX13_of : MethodName := ⟨RX13, "of", "(LRainLoom$Asked;)I"⟩
def dkwX13_of_3 : List UInt8 := [184, 0, 37, 172]
abbrev dktX13_of_3 : List UInt8 := dkwX13_of_3 ++ []
def dkwX13_of_2 : List UInt8 := [180, 0, 20, 28, 50, 43, 182, 0, 33, 62, 43, 180, 0, 23, 153, 0, 7, 3, 167, 0, 8, 3, 29]
abbrev dktX13_of_2 : List UInt8 := dkwX13_of_2 ++ dktX13_of_3
def dkwX13_of_1 : List UInt8 := [182, 0, 33, 42, 180, 0, 17, 28, 50, 43, 182, 0, 33, 161, 0, 9, 132, 2, 1, 167, 255, 222, 42]
abbrev dktX13_of_1 : List UInt8 := dkwX13_of_1 ++ dktX13_of_2
def dkwX13_of_0 : List UInt8 := [43, 3, 181, 0, 23, 3, 61, 28, 42, 180, 0, 29, 162, 0, 32, 42, 180, 0, 11, 28, 50, 43]
abbrev dktX13_of_0 : List UInt8 := dkwX13_of_0 ++ dktX13_of_1
theorem dksX13_of_0 : cX13_of.data.toList.drop 0 = dktX13_of_0 := by decide +kernel
theorem dksX13_of_1 : cX13_of.data.toList.drop 22 = dktX13_of_1 := dk_seg dksX13_of_0 22 rfl rfl
theorem dksX13_of_2 : cX13_of.data.toList.drop 45 = dktX13_of_2 := dk_seg dksX13_of_1 23 rfl rfl
theorem dksX13_of_3 : cX13_of.data.toList.drop 68 = dktX13_of_3 := dk_seg dksX13_of_2 23 rfl rfl
theorem dX13_of_0 : decode cX13_of 0 = .ok (.aload_n 1, 1) := dk_43 (dk_at dksX13_of_0 0 rfl rfl)
theorem dX13_of_1 : decode cX13_of 1 = .ok (.iconst 0, 1) := dk_3 (dk_at dksX13_of_0 1 rfl rfl)
theorem dX13_of_2 : decode cX13_of 2 = .ok (.putfield 23, 3) := dk_181 0 23 (dk_at dksX13_of_0 2 rfl rfl)
theorem dX13_of_5 : decode cX13_of 5 = .ok (.iconst 0, 1) := dk_3 (dk_at dksX13_of_0 5 rfl rfl)
theorem dX13_of_6 : decode cX13_of 6 = .ok (.istore_n 2, 1) := dk_61 (dk_at dksX13_of_0 6 rfl rfl)
theorem dX13_of_7 : decode cX13_of 7 = .ok (.iload_n 2, 1) := dk_28 (dk_at dksX13_of_0 7 rfl rfl)
theorem dX13_of_8 : decode cX13_of 8 = .ok (.aload_n 0, 1) := dk_42 (dk_at dksX13_of_0 8 rfl rfl)
theorem dX13_of_9 : decode cX13_of 9 = .ok (.getfield 29, 3) := dk_180 0 29 (dk_at dksX13_of_0 9 rfl rfl)
theorem dX13_of_12 : decode cX13_of 12 = .ok (.if_icmp .ge 32, 3) := dk_162 0 32 (dk_at dksX13_of_0 12 rfl rfl)
theorem dX13_of_15 : decode cX13_of 15 = .ok (.aload_n 0, 1) := dk_42 (dk_at dksX13_of_0 15 rfl rfl)
theorem dX13_of_16 : decode cX13_of 16 = .ok (.getfield 11, 3) := dk_180 0 11 (dk_at dksX13_of_0 16 rfl rfl)
theorem dX13_of_19 : decode cX13_of 19 = .ok (.iload_n 2, 1) := dk_28 (dk_at dksX13_of_0 19 rfl rfl)
theorem dX13_of_20 : decode cX13_of 20 = .ok (.aaload, 1) := dk_50 (dk_at dksX13_of_0 20 rfl rfl)
theorem dX13_of_21 : decode cX13_of 21 = .ok (.aload_n 1, 1) := dk_43 (dk_at dksX13_of_0 21 rfl rfl)
theorem dX13_of_22 : decode cX13_of 22 = .ok (.invokevirtual 33, 3) := dk_182 0 33 (dk_at dksX13_of_1 0 rfl rfl)
theorem dX13_of_25 : decode cX13_of 25 = .ok (.aload_n 0, 1) := dk_42 (dk_at dksX13_of_1 3 rfl rfl)
theorem dX13_of_26 : decode cX13_of 26 = .ok (.getfield 17, 3) := dk_180 0 17 (dk_at dksX13_of_1 4 rfl rfl)
theorem dX13_of_29 : decode cX13_of 29 = .ok (.iload_n 2, 1) := dk_28 (dk_at dksX13_of_1 7 rfl rfl)
theorem dX13_of_30 : decode cX13_of 30 = .ok (.aaload, 1) := dk_50 (dk_at dksX13_of_1 8 rfl rfl)
theorem dX13_of_31 : decode cX13_of 31 = .ok (.aload_n 1, 1) := dk_43 (dk_at dksX13_of_1 9 rfl rfl)
theorem dX13_of_32 : decode cX13_of 32 = .ok (.invokevirtual 33, 3) := dk_182 0 33 (dk_at dksX13_of_1 10 rfl rfl)
theorem dX13_of_35 : decode cX13_of 35 = .ok (.if_icmp .lt 9, 3) := dk_161 0 9 (dk_at dksX13_of_1 13 rfl rfl)
theorem dX13_of_38 : decode cX13_of 38 = .ok (.iinc 2 1, 3) := dk_132 2 1 (dk_at dksX13_of_1 16 rfl rfl)
theorem dX13_of_41 : decode cX13_of 41 = .ok (.goto (-34), 3) := dk_167 255 222 (dk_at dksX13_of_1 19 rfl rfl)
theorem dX13_of_44 : decode cX13_of 44 = .ok (.aload_n 0, 1) := dk_42 (dk_at dksX13_of_1 22 rfl rfl)
theorem dX13_of_45 : decode cX13_of 45 = .ok (.getfield 20, 3) := dk_180 0 20 (dk_at dksX13_of_2 0 rfl rfl)
theorem dX13_of_48 : decode cX13_of 48 = .ok (.iload_n 2, 1) := dk_28 (dk_at dksX13_of_2 3 rfl rfl)
theorem dX13_of_49 : decode cX13_of 49 = .ok (.aaload, 1) := dk_50 (dk_at dksX13_of_2 4 rfl rfl)
theorem dX13_of_50 : decode cX13_of 50 = .ok (.aload_n 1, 1) := dk_43 (dk_at dksX13_of_2 5 rfl rfl)
theorem dX13_of_51 : decode cX13_of 51 = .ok (.invokevirtual 33, 3) := dk_182 0 33 (dk_at dksX13_of_2 6 rfl rfl)
theorem dX13_of_54 : decode cX13_of 54 = .ok (.istore_n 3, 1) := dk_62 (dk_at dksX13_of_2 9 rfl rfl)
theorem dX13_of_55 : decode cX13_of 55 = .ok (.aload_n 1, 1) := dk_43 (dk_at dksX13_of_2 10 rfl rfl)
theorem dX13_of_56 : decode cX13_of 56 = .ok (.getfield 23, 3) := dk_180 0 23 (dk_at dksX13_of_2 11 rfl rfl)
theorem dX13_of_59 : decode cX13_of 59 = .ok (.ifCond .eq 7, 3) := dk_153 0 7 (dk_at dksX13_of_2 14 rfl rfl)
theorem dX13_of_62 : decode cX13_of 62 = .ok (.iconst 0, 1) := dk_3 (dk_at dksX13_of_2 17 rfl rfl)
theorem dX13_of_63 : decode cX13_of 63 = .ok (.goto 8, 3) := dk_167 0 8 (dk_at dksX13_of_2 18 rfl rfl)
theorem dX13_of_66 : decode cX13_of 66 = .ok (.iconst 0, 1) := dk_3 (dk_at dksX13_of_2 21 rfl rfl)
theorem dX13_of_67 : decode cX13_of 67 = .ok (.iload_n 3, 1) := dk_29 (dk_at dksX13_of_2 22 rfl rfl)
theorem dX13_of_68 : decode cX13_of 68 = .ok (.invokestatic 37, 3) := dk_184 0 37 (dk_at dksX13_of_3 0 rfl rfl)
theorem dX13_of_71 : decode cX13_of 71 = .ok (.ireturn, 1) := dk_172 (dk_at dksX13_of_3 3 rfl rfl)
theorem q143 : (Jvm.Cond.initialized "RainLoom$Law") ∈ lw_all := lw_g (lw_at lw_m1 25 rfl) rfl
theorem q426 : (Jvm.Cond.fieldLink "RainLoom$Law" (23 : Nat) "RainLoom$Asked" "nought" "Z") ∈ lw_all := lw_g (lw_at lw_m2 68 rfl) rfl
theorem q765 : (Jvm.Cond.instantiable "RainLoom$Law" (4 : Nat)) ∈ lw_all := lw_g (lw_at lw_m3 167 rfl) rfl
theorem q767 : (Jvm.Cond.instanceMethod ({ cls := "RainLoom$Law", name := "<init>", desc := "()V" } : Jvm.MethodName)) ∈ lw_all := lw_g (lw_at lw_m3 169 rfl) rfl
theorem q768 : (Jvm.Cond.code ({ cls := "RainLoom$Law", name := "<init>", desc := "()V" } : Jvm.MethodName) prog_11_method_1_code (1 : Nat) (Option.none : Option Jvm.ClassFile.FieldType)) ∈ lw_all := lw_g (lw_at lw_m3 170 rfl) rfl
theorem q769 : (Jvm.Cond.methodLink "RainLoom$Law" (3 : Nat) ({ cls := "java/lang/Object", name := "<init>", desc := "()V" } : Jvm.MethodName)) ∈ lw_all := lw_g (lw_at lw_m3 171 rfl) rfl
theorem q770 : (Jvm.Cond.classLink "RainLoom$Law" (9 : Nat) "RainLoom$Sum") ∈ lw_all := lw_g (lw_at lw_m3 172 rfl) rfl
theorem q772 : (Jvm.Cond.fieldLink "RainLoom$Law" (11 : Nat) "RainLoom$Law" "less" "[LRainLoom$Sum;") ∈ lw_all := lw_g (lw_at lw_m3 174 rfl) rfl
theorem q774 : (Jvm.Cond.fieldLink "RainLoom$Law" (17 : Nat) "RainLoom$Law" "than" "[LRainLoom$Sum;") ∈ lw_all := lw_g (lw_at lw_m3 176 rfl) rfl
theorem q776 : (Jvm.Cond.fieldLink "RainLoom$Law" (20 : Nat) "RainLoom$Law" "then" "[LRainLoom$Sum;") ∈ lw_all := lw_g (lw_at lw_m3 178 rfl) rfl
theorem q778 : (Jvm.Cond.fieldLink "RainLoom$Law" (29 : Nat) "RainLoom$Law" "ifs" "I") ∈ lw_all := lw_g (lw_at lw_m3 180 rfl) rfl
theorem q780 : (Jvm.Cond.laysFinal "RainLoom$Law" "RainLoom$Law" "less" "[LRainLoom$Sum;") ∈ lw_all := lw_g (lw_at lw_m3 182 rfl) rfl
theorem q781 : (Jvm.Cond.soleField "RainLoom$Law" "less") ∈ lw_all := lw_g (lw_at lw_m3 183 rfl) rfl
theorem q782 : (Jvm.Cond.laysFinal "RainLoom$Law" "RainLoom$Law" "than" "[LRainLoom$Sum;") ∈ lw_all := lw_g (lw_at lw_m3 184 rfl) rfl
theorem q783 : (Jvm.Cond.soleField "RainLoom$Law" "than") ∈ lw_all := lw_g (lw_at lw_m3 185 rfl) rfl
theorem q784 : (Jvm.Cond.laysFinal "RainLoom$Law" "RainLoom$Law" "then" "[LRainLoom$Sum;") ∈ lw_all := lw_g (lw_at lw_m3 186 rfl) rfl
theorem q785 : (Jvm.Cond.soleField "RainLoom$Law" "then") ∈ lw_all := lw_g (lw_at lw_m3 187 rfl) rfl
theorem q786 : (Jvm.Cond.lays "RainLoom$Law" "RainLoom$Law" "ifs" "I") ∈ lw_all := lw_g (lw_at lw_m3 188 rfl) rfl
theorem q787 : (Jvm.Cond.soleField "RainLoom$Law" "ifs") ∈ lw_all := lw_g (lw_at lw_m3 189 rfl) rfl
theorem q788 : (Jvm.Cond.superclass "RainLoom$Law" "java/lang/Object") ∈ lw_all := lw_g (lw_at lw_m3 190 rfl) rfl
theorem q1126 : (Jvm.Cond.selects "RainLoom$Law" ({ cls := "java/lang/Object", name := "getClass", desc := "()Ljava/lang/Class;" } : Jvm.MethodName) ({ cls := "java/lang/Object", name := "getClass", desc := "()Ljava/lang/Class;" } : Jvm.MethodName)) ∈ lw_all := lw_g (lw_at lw_m5 48 rfl) rfl
theorem q1250 : (Jvm.Cond.instanceMethod ({ cls := "RainLoom$Law", name := "of", desc := "(LRainLoom$Asked;)I" } : Jvm.MethodName)) ∈ lw_all := lw_g (lw_at lw_m5 172 rfl) rfl
theorem q1251 : (Jvm.Cond.selects "RainLoom$Law" ({ cls := "RainLoom$Law", name := "of", desc := "(LRainLoom$Asked;)I" } : Jvm.MethodName) ({ cls := "RainLoom$Law", name := "of", desc := "(LRainLoom$Asked;)I" } : Jvm.MethodName)) ∈ lw_all := lw_g (lw_at lw_m5 173 rfl) rfl
theorem q1252 : (Jvm.Cond.code ({ cls := "RainLoom$Law", name := "of", desc := "(LRainLoom$Asked;)I" } : Jvm.MethodName) prog_11_method_2_code (4 : Nat) (Option.some Jvm.ClassFile.FieldType.int)) ∈ lw_all := lw_g (lw_at lw_m5 174 rfl) rfl
theorem q1253 : (Jvm.Cond.methodLink "RainLoom$Law" (33 : Nat) ({ cls := "RainLoom$Sum", name := "of", desc := "(LRainLoom$Asked;)I" } : Jvm.MethodName)) ∈ lw_all := lw_g (lw_at lw_m5 175 rfl) rfl
theorem q1266 : (Jvm.Cond.methodLink "RainLoom$Law" (37 : Nat) ({ cls := "java/lang/Math", name := "max", desc := "(II)I" } : Jvm.MethodName)) ∈ lw_all := lw_g (lw_at lw_m5 188 rfl) rfl
theorem q2178 : (Jvm.Cond.castable "RainLoom$Law" "java/lang/Object") ∈ lw_tbl := lw_at lw_m9 140 rfl
theorem in_X13 : ∀ w ∈ wsX130, w ∈ lw_all := lw_in wsX130 [780, 782, 784, 786] (by decide +kernel) (by decide +kernel)

/-! RainLoom$Sum -/
set_option maxRecDepth 100000
def RX14 : String := "RainLoom$Sum"
abbrev cX14_init : ByteArray := prog_17_method_1_code
def yX14_init : MethodName := ⟨RX14, "<init>", "()V"⟩
theorem dX14_init_0 : decode cX14_init 0 = .ok (.aload_n 0, 1) := by decide +kernel
theorem dX14_init_1 : decode cX14_init 1 = .ok (.invokespecial 1, 3) := by decide +kernel
theorem dX14_init_4 : decode cX14_init 4 = .ok (.return_, 1) := by decide +kernel
theorem q144 : (Jvm.Cond.initialized "RainLoom$Sum") ∈ lw_all := lw_g (lw_at lw_m1 26 rfl) rfl
theorem q827 : (Jvm.Cond.instanceMethod ({ cls := "RainLoom$Sum", name := "<init>", desc := "()V" } : Jvm.MethodName)) ∈ lw_all := lw_g (lw_at lw_m3 229 rfl) rfl
theorem q828 : (Jvm.Cond.code ({ cls := "RainLoom$Sum", name := "<init>", desc := "()V" } : Jvm.MethodName) prog_17_method_1_code (1 : Nat) (Option.none : Option Jvm.ClassFile.FieldType)) ∈ lw_all := lw_g (lw_at lw_m3 230 rfl) rfl
theorem q829 : (Jvm.Cond.methodLink "RainLoom$Sum" (1 : Nat) ({ cls := "java/lang/Object", name := "<init>", desc := "()V" } : Jvm.MethodName)) ∈ lw_all := lw_g (lw_at lw_m3 231 rfl) rfl
theorem q1254 : (Jvm.Cond.declares ({ cls := "RainLoom$Sum", name := "of", desc := "(LRainLoom$Asked;)I" } : Jvm.MethodName)) ∈ lw_tbl := lw_at lw_m5 176 rfl
theorem q1255 : (Jvm.Cond.sameMethod "RainLoom$Sum" "RainLoom$Sum" "of" "(LRainLoom$Asked;)I") ∈ lw_all := lw_g (lw_at lw_m5 177 rfl) rfl
theorem q2181 : (Jvm.Cond.castable "RainLoom$Sum" "java/lang/Object") ∈ lw_tbl := lw_at lw_m9 143 rfl

/-! RainLoom$Number -/
set_option maxRecDepth 100000
def RX15 : String := "RainLoom$Number"
def TX15 : u_T := fun k => match k with
  | _ => ("RainLoom$Number", "v", "I", true)
def tyX15 : Nat → FieldType := fun k => match k with
  | _ => .int
abbrev wsX150 : List Cond := u_ws RX15 TX15 1
theorem nmX15 : ∀ a, a < 1 → ∀ b, b < 1 → a ≠ b → (TX15 a).2.1 ≠ (TX15 b).2.1 := by decide +kernel
theorem tyX15_ok : ∀ k, k < 1 → parseFieldDescriptor (TX15 k).2.2.1 = some (tyX15 k) := by decide +kernel
abbrev cX15_init : ByteArray := prog_14_method_1_code
def yX15_init : MethodName := ⟨RX15, "<init>", "(I)V"⟩
def dkwX15_init_0 : List UInt8 := [42, 183, 0, 1, 42, 27, 181, 0, 7, 177]
abbrev dktX15_init_0 : List UInt8 := dkwX15_init_0 ++ []
theorem dksX15_init_0 : cX15_init.data.toList.drop 0 = dktX15_init_0 := by decide +kernel
theorem dX15_init_0 : decode cX15_init 0 = .ok (.aload_n 0, 1) := dk_42 (dk_at dksX15_init_0 0 rfl rfl)
theorem dX15_init_1 : decode cX15_init 1 = .ok (.invokespecial 1, 3) := dk_183 0 1 (dk_at dksX15_init_0 1 rfl rfl)
theorem dX15_init_4 : decode cX15_init 4 = .ok (.aload_n 0, 1) := dk_42 (dk_at dksX15_init_0 4 rfl rfl)
theorem dX15_init_5 : decode cX15_init 5 = .ok (.iload_n 1, 1) := dk_27 (dk_at dksX15_init_0 5 rfl rfl)
theorem dX15_init_6 : decode cX15_init 6 = .ok (.putfield 7, 3) := dk_181 0 7 (dk_at dksX15_init_0 6 rfl rfl)
theorem dX15_init_9 : decode cX15_init 9 = .ok (.return_, 1) := dk_177 (dk_at dksX15_init_0 9 rfl rfl)
abbrev cX15_of : ByteArray := prog_14_method_2_code
def yX15_of : MethodName := ⟨RX15, "of", "(LRainLoom$Asked;)I"⟩
theorem dX15_of_0 : decode cX15_of 0 = .ok (.aload_n 0, 1) := by decide +kernel
theorem dX15_of_1 : decode cX15_of 1 = .ok (.getfield 7, 3) := by decide +kernel
theorem dX15_of_4 : decode cX15_of 4 = .ok (.ireturn, 1) := by decide +kernel
theorem q145 : (Jvm.Cond.initialized "RainLoom$Number") ∈ lw_all := lw_g (lw_at lw_m1 27 rfl) rfl
theorem q818 : (Jvm.Cond.instantiable "RainLoom$Number" (1 : Nat)) ∈ lw_all := lw_g (lw_at lw_m3 220 rfl) rfl
theorem q824 : (Jvm.Cond.instanceMethod ({ cls := "RainLoom$Number", name := "<init>", desc := "(I)V" } : Jvm.MethodName)) ∈ lw_all := lw_g (lw_at lw_m3 226 rfl) rfl
theorem q825 : (Jvm.Cond.code ({ cls := "RainLoom$Number", name := "<init>", desc := "(I)V" } : Jvm.MethodName) prog_14_method_1_code (2 : Nat) (Option.none : Option Jvm.ClassFile.FieldType)) ∈ lw_all := lw_g (lw_at lw_m3 227 rfl) rfl
theorem q826 : (Jvm.Cond.methodLinkNest "RainLoom$Number" (1 : Nat) ({ cls := "RainLoom$Sum", name := "<init>", desc := "()V" } : Jvm.MethodName) "RainLoom") ∈ lw_tbl := lw_at lw_m3 228 rfl
theorem q830 : (Jvm.Cond.fieldLink "RainLoom$Number" (7 : Nat) "RainLoom$Number" "v" "I") ∈ lw_all := lw_g (lw_at lw_m3 232 rfl) rfl
theorem q831 : (Jvm.Cond.laysFinal "RainLoom$Number" "RainLoom$Number" "v" "I") ∈ lw_all := lw_g (lw_at lw_m3 233 rfl) rfl
theorem q832 : (Jvm.Cond.soleField "RainLoom$Number" "v") ∈ lw_all := lw_g (lw_at lw_m3 234 rfl) rfl
theorem q833 : (Jvm.Cond.superclass "RainLoom$Number" "RainLoom$Sum") ∈ lw_all := lw_g (lw_at lw_m3 235 rfl) rfl
theorem q1128 : (Jvm.Cond.selects "RainLoom$Number" ({ cls := "java/lang/Object", name := "getClass", desc := "()Ljava/lang/Class;" } : Jvm.MethodName) ({ cls := "java/lang/Object", name := "getClass", desc := "()Ljava/lang/Class;" } : Jvm.MethodName)) ∈ lw_all := lw_g (lw_at lw_m5 50 rfl) rfl
theorem q1260 : (Jvm.Cond.instanceMethod ({ cls := "RainLoom$Number", name := "of", desc := "(LRainLoom$Asked;)I" } : Jvm.MethodName)) ∈ lw_all := lw_g (lw_at lw_m5 182 rfl) rfl
theorem q1261 : (Jvm.Cond.code ({ cls := "RainLoom$Number", name := "of", desc := "(LRainLoom$Asked;)I" } : Jvm.MethodName) prog_14_method_2_code (2 : Nat) (Option.some Jvm.ClassFile.FieldType.int)) ∈ lw_all := lw_g (lw_at lw_m5 183 rfl) rfl
theorem q1264 : (Jvm.Cond.selects "RainLoom$Number" ({ cls := "RainLoom$Sum", name := "of", desc := "(LRainLoom$Asked;)I" } : Jvm.MethodName) ({ cls := "RainLoom$Number", name := "of", desc := "(LRainLoom$Asked;)I" } : Jvm.MethodName)) ∈ lw_all := lw_g (lw_at lw_m5 186 rfl) rfl
theorem q2194 : (Jvm.Cond.castable "RainLoom$Number" "java/lang/Object") ∈ lw_tbl := lw_at lw_m9 156 rfl
theorem q2205 : (Jvm.Cond.castable "RainLoom$Number" "RainLoom$Sum") ∈ lw_tbl := lw_at lw_m9 167 rfl
theorem in_X15 : ∀ w ∈ wsX150, w ∈ lw_all := lw_in wsX150 [831] (by decide +kernel) (by decide +kernel)

/-! RainLoom$Var -/
set_option maxRecDepth 100000
def RX16 : String := "RainLoom$Var"
def TX16 : u_T := fun k => match k with
  | _ => ("RainLoom$Var", "k", "I", true)
def tyX16 : Nat → FieldType := fun k => match k with
  | _ => .int
abbrev wsX160 : List Cond := u_ws RX16 TX16 1
theorem nmX16 : ∀ a, a < 1 → ∀ b, b < 1 → a ≠ b → (TX16 a).2.1 ≠ (TX16 b).2.1 := by decide +kernel
theorem tyX16_ok : ∀ k, k < 1 → parseFieldDescriptor (TX16 k).2.2.1 = some (tyX16 k) := by decide +kernel
abbrev cX16_init : ByteArray := prog_20_method_1_code
def yX16_init : MethodName := ⟨RX16, "<init>", "(I)V"⟩
def dkwX16_init_0 : List UInt8 := [42, 183, 0, 1, 42, 27, 181, 0, 7, 177]
abbrev dktX16_init_0 : List UInt8 := dkwX16_init_0 ++ []
theorem dksX16_init_0 : cX16_init.data.toList.drop 0 = dktX16_init_0 := by decide +kernel
theorem dX16_init_0 : decode cX16_init 0 = .ok (.aload_n 0, 1) := dk_42 (dk_at dksX16_init_0 0 rfl rfl)
theorem dX16_init_1 : decode cX16_init 1 = .ok (.invokespecial 1, 3) := dk_183 0 1 (dk_at dksX16_init_0 1 rfl rfl)
theorem dX16_init_4 : decode cX16_init 4 = .ok (.aload_n 0, 1) := dk_42 (dk_at dksX16_init_0 4 rfl rfl)
theorem dX16_init_5 : decode cX16_init 5 = .ok (.iload_n 1, 1) := dk_27 (dk_at dksX16_init_0 5 rfl rfl)
theorem dX16_init_6 : decode cX16_init 6 = .ok (.putfield 7, 3) := dk_181 0 7 (dk_at dksX16_init_0 6 rfl rfl)
theorem dX16_init_9 : decode cX16_init 9 = .ok (.return_, 1) := dk_177 (dk_at dksX16_init_0 9 rfl rfl)
abbrev cX16_of : ByteArray := prog_20_method_2_code
def yX16_of : MethodName := ⟨RX16, "of", "(LRainLoom$Asked;)I"⟩
def dkwX16_of_0 : List UInt8 := [43, 180, 0, 13, 42, 180, 0, 7, 46, 172]
abbrev dktX16_of_0 : List UInt8 := dkwX16_of_0 ++ []
theorem dksX16_of_0 : cX16_of.data.toList.drop 0 = dktX16_of_0 := by decide +kernel
theorem dX16_of_0 : decode cX16_of 0 = .ok (.aload_n 1, 1) := dk_43 (dk_at dksX16_of_0 0 rfl rfl)
theorem dX16_of_1 : decode cX16_of 1 = .ok (.getfield 13, 3) := dk_180 0 13 (dk_at dksX16_of_0 1 rfl rfl)
theorem dX16_of_4 : decode cX16_of 4 = .ok (.aload_n 0, 1) := dk_42 (dk_at dksX16_of_0 4 rfl rfl)
theorem dX16_of_5 : decode cX16_of 5 = .ok (.getfield 7, 3) := dk_180 0 7 (dk_at dksX16_of_0 5 rfl rfl)
theorem dX16_of_8 : decode cX16_of 8 = .ok (.iaload, 1) := dk_46 (dk_at dksX16_of_0 8 rfl rfl)
theorem dX16_of_9 : decode cX16_of 9 = .ok (.ireturn, 1) := dk_172 (dk_at dksX16_of_0 9 rfl rfl)
theorem q146 : (Jvm.Cond.initialized "RainLoom$Var") ∈ lw_all := lw_g (lw_at lw_m1 28 rfl) rfl
theorem q424 : (Jvm.Cond.fieldLink "RainLoom$Var" (13 : Nat) "RainLoom$Asked" "v" "[I") ∈ lw_all := lw_g (lw_at lw_m2 66 rfl) rfl
theorem q835 : (Jvm.Cond.instantiable "RainLoom$Var" (1 : Nat)) ∈ lw_all := lw_g (lw_at lw_m3 237 rfl) rfl
theorem q837 : (Jvm.Cond.instanceMethod ({ cls := "RainLoom$Var", name := "<init>", desc := "(I)V" } : Jvm.MethodName)) ∈ lw_all := lw_g (lw_at lw_m3 239 rfl) rfl
theorem q838 : (Jvm.Cond.code ({ cls := "RainLoom$Var", name := "<init>", desc := "(I)V" } : Jvm.MethodName) prog_20_method_1_code (2 : Nat) (Option.none : Option Jvm.ClassFile.FieldType)) ∈ lw_all := lw_g (lw_at lw_m4 0 rfl) rfl
theorem q839 : (Jvm.Cond.methodLinkNest "RainLoom$Var" (1 : Nat) ({ cls := "RainLoom$Sum", name := "<init>", desc := "()V" } : Jvm.MethodName) "RainLoom") ∈ lw_tbl := lw_at lw_m4 1 rfl
theorem q840 : (Jvm.Cond.fieldLink "RainLoom$Var" (7 : Nat) "RainLoom$Var" "k" "I") ∈ lw_all := lw_g (lw_at lw_m4 2 rfl) rfl
theorem q841 : (Jvm.Cond.laysFinal "RainLoom$Var" "RainLoom$Var" "k" "I") ∈ lw_all := lw_g (lw_at lw_m4 3 rfl) rfl
theorem q842 : (Jvm.Cond.soleField "RainLoom$Var" "k") ∈ lw_all := lw_g (lw_at lw_m4 4 rfl) rfl
theorem q843 : (Jvm.Cond.superclass "RainLoom$Var" "RainLoom$Sum") ∈ lw_all := lw_g (lw_at lw_m4 5 rfl) rfl
theorem q1132 : (Jvm.Cond.selects "RainLoom$Var" ({ cls := "java/lang/Object", name := "getClass", desc := "()Ljava/lang/Class;" } : Jvm.MethodName) ({ cls := "java/lang/Object", name := "getClass", desc := "()Ljava/lang/Class;" } : Jvm.MethodName)) ∈ lw_all := lw_g (lw_at lw_m5 54 rfl) rfl
theorem q1262 : (Jvm.Cond.instanceMethod ({ cls := "RainLoom$Var", name := "of", desc := "(LRainLoom$Asked;)I" } : Jvm.MethodName)) ∈ lw_all := lw_g (lw_at lw_m5 184 rfl) rfl
theorem q1263 : (Jvm.Cond.code ({ cls := "RainLoom$Var", name := "of", desc := "(LRainLoom$Asked;)I" } : Jvm.MethodName) prog_20_method_2_code (2 : Nat) (Option.some Jvm.ClassFile.FieldType.int)) ∈ lw_all := lw_g (lw_at lw_m5 185 rfl) rfl
theorem q1265 : (Jvm.Cond.selects "RainLoom$Var" ({ cls := "RainLoom$Sum", name := "of", desc := "(LRainLoom$Asked;)I" } : Jvm.MethodName) ({ cls := "RainLoom$Var", name := "of", desc := "(LRainLoom$Asked;)I" } : Jvm.MethodName)) ∈ lw_all := lw_g (lw_at lw_m5 187 rfl) rfl
theorem q2195 : (Jvm.Cond.castable "RainLoom$Var" "java/lang/Object") ∈ lw_tbl := lw_at lw_m9 157 rfl
theorem q2206 : (Jvm.Cond.castable "RainLoom$Var" "RainLoom$Sum") ∈ lw_tbl := lw_at lw_m9 168 rfl
theorem in_X16 : ∀ w ∈ wsX160, w ∈ lw_all := lw_in wsX160 [841] (by decide +kernel) (by decide +kernel)

/-! RainLoom$Joined -/
set_option maxRecDepth 100000
def RX17 : String := "RainLoom$Joined"
def TX17 : u_T := fun k => match k with
  | 0 => ("RainLoom$Joined", "op", "I", true)
  | 1 => ("RainLoom$Joined", "a", "LRainLoom$Sum;", true)
  | _ => ("RainLoom$Joined", "b", "LRainLoom$Sum;", true)
def tyX17 : Nat → FieldType := fun k => match k with
  | 0 => .int
  | 1 => .object "RainLoom$Sum"
  | _ => .object "RainLoom$Sum"
abbrev wsX170 : List Cond := u_ws RX17 TX17 3
theorem nmX17 : ∀ a, a < 3 → ∀ b, b < 3 → a ≠ b → (TX17 a).2.1 ≠ (TX17 b).2.1 := by decide +kernel
theorem tyX17_ok : ∀ k, k < 3 → parseFieldDescriptor (TX17 k).2.2.1 = some (tyX17 k) := by decide +kernel
abbrev cX17_init : ByteArray := prog_9_method_1_code
def yX17_init : MethodName := ⟨RX17, "<init>", "(ILRainLoom$Sum;LRainLoom$Sum;)V"⟩
def dkwX17_init_0 : List UInt8 := [42, 183, 0, 1, 42, 27, 181, 0, 7, 42, 44, 181, 0, 13, 42, 45, 181, 0, 17, 177]
abbrev dktX17_init_0 : List UInt8 := dkwX17_init_0 ++ []
theorem dksX17_init_0 : cX17_init.data.toList.drop 0 = dktX17_init_0 := by decide +kernel
theorem dX17_init_0 : decode cX17_init 0 = .ok (.aload_n 0, 1) := dk_42 (dk_at dksX17_init_0 0 rfl rfl)
theorem dX17_init_1 : decode cX17_init 1 = .ok (.invokespecial 1, 3) := dk_183 0 1 (dk_at dksX17_init_0 1 rfl rfl)
theorem dX17_init_4 : decode cX17_init 4 = .ok (.aload_n 0, 1) := dk_42 (dk_at dksX17_init_0 4 rfl rfl)
theorem dX17_init_5 : decode cX17_init 5 = .ok (.iload_n 1, 1) := dk_27 (dk_at dksX17_init_0 5 rfl rfl)
theorem dX17_init_6 : decode cX17_init 6 = .ok (.putfield 7, 3) := dk_181 0 7 (dk_at dksX17_init_0 6 rfl rfl)
theorem dX17_init_9 : decode cX17_init 9 = .ok (.aload_n 0, 1) := dk_42 (dk_at dksX17_init_0 9 rfl rfl)
theorem dX17_init_10 : decode cX17_init 10 = .ok (.aload_n 2, 1) := dk_44 (dk_at dksX17_init_0 10 rfl rfl)
theorem dX17_init_11 : decode cX17_init 11 = .ok (.putfield 13, 3) := dk_181 0 13 (dk_at dksX17_init_0 11 rfl rfl)
theorem dX17_init_14 : decode cX17_init 14 = .ok (.aload_n 0, 1) := dk_42 (dk_at dksX17_init_0 14 rfl rfl)
theorem dX17_init_15 : decode cX17_init 15 = .ok (.aload_n 3, 1) := dk_45 (dk_at dksX17_init_0 15 rfl rfl)
theorem dX17_init_16 : decode cX17_init 16 = .ok (.putfield 17, 3) := dk_181 0 17 (dk_at dksX17_init_0 16 rfl rfl)
theorem dX17_init_19 : decode cX17_init 19 = .ok (.return_, 1) := dk_177 (dk_at dksX17_init_0 19 rfl rfl)
abbrev cX17_of : ByteArray := prog_9_method_2_code
def yX17_of : MethodName := ⟨RX17, "of", "(LRainLoom$Asked;)I"⟩
def dkwX17_of_3 : List UInt8 := [181, 0, 24, 3, 172]
abbrev dktX17_of_3 : List UInt8 := dkwX17_of_3 ++ []
def dkwX17_of_2 : List UInt8 := [28, 29, 96, 172, 28, 29, 100, 172, 28, 29, 104, 172, 29, 153, 0, 7, 28, 29, 108, 172, 43, 4]
abbrev dktX17_of_2 : List UInt8 := dkwX17_of_2 ++ dktX17_of_3
def dkwX17_of_1 : List UInt8 := [170, 0, 0, 0, 0, 42, 0, 0, 0, 42, 0, 0, 0, 45, 0, 0, 0, 38, 0, 0, 0, 30, 0, 0, 0, 42, 0, 0, 0, 34]
abbrev dktX17_of_1 : List UInt8 := dkwX17_of_1 ++ dktX17_of_2
def dkwX17_of_0 : List UInt8 := [42, 180, 0, 13, 43, 182, 0, 20, 61, 42, 180, 0, 17, 43, 182, 0, 20, 62, 42, 180, 0, 7]
abbrev dktX17_of_0 : List UInt8 := dkwX17_of_0 ++ dktX17_of_1
theorem dksX17_of_0 : cX17_of.data.toList.drop 0 = dktX17_of_0 := by decide +kernel
theorem dksX17_of_1 : cX17_of.data.toList.drop 22 = dktX17_of_1 := dk_seg dksX17_of_0 22 rfl rfl
theorem dksX17_of_2 : cX17_of.data.toList.drop 52 = dktX17_of_2 := dk_seg dksX17_of_1 30 rfl rfl
theorem dksX17_of_3 : cX17_of.data.toList.drop 74 = dktX17_of_3 := dk_seg dksX17_of_2 22 rfl rfl
theorem dX17_of_0 : decode cX17_of 0 = .ok (.aload_n 0, 1) := dk_42 (dk_at dksX17_of_0 0 rfl rfl)
theorem dX17_of_1 : decode cX17_of 1 = .ok (.getfield 13, 3) := dk_180 0 13 (dk_at dksX17_of_0 1 rfl rfl)
theorem dX17_of_4 : decode cX17_of 4 = .ok (.aload_n 1, 1) := dk_43 (dk_at dksX17_of_0 4 rfl rfl)
theorem dX17_of_5 : decode cX17_of 5 = .ok (.invokevirtual 20, 3) := dk_182 0 20 (dk_at dksX17_of_0 5 rfl rfl)
theorem dX17_of_8 : decode cX17_of 8 = .ok (.istore_n 2, 1) := dk_61 (dk_at dksX17_of_0 8 rfl rfl)
theorem dX17_of_9 : decode cX17_of 9 = .ok (.aload_n 0, 1) := dk_42 (dk_at dksX17_of_0 9 rfl rfl)
theorem dX17_of_10 : decode cX17_of 10 = .ok (.getfield 17, 3) := dk_180 0 17 (dk_at dksX17_of_0 10 rfl rfl)
theorem dX17_of_13 : decode cX17_of 13 = .ok (.aload_n 1, 1) := dk_43 (dk_at dksX17_of_0 13 rfl rfl)
theorem dX17_of_14 : decode cX17_of 14 = .ok (.invokevirtual 20, 3) := dk_182 0 20 (dk_at dksX17_of_0 14 rfl rfl)
theorem dX17_of_17 : decode cX17_of 17 = .ok (.istore_n 3, 1) := dk_62 (dk_at dksX17_of_0 17 rfl rfl)
theorem dX17_of_18 : decode cX17_of 18 = .ok (.aload_n 0, 1) := dk_42 (dk_at dksX17_of_0 18 rfl rfl)
theorem dX17_of_19 : decode cX17_of 19 = .ok (.getfield 7, 3) := dk_180 0 7 (dk_at dksX17_of_0 19 rfl rfl)
theorem dX17_of_22 : decode cX17_of 22 = .ok (.tableswitch 42 42 45 #[38, 30, 42, 34], 30) := by decide +kernel
theorem dX17_of_52 : decode cX17_of 52 = .ok (.iload_n 2, 1) := dk_28 (dk_at dksX17_of_2 0 rfl rfl)
theorem dX17_of_53 : decode cX17_of 53 = .ok (.iload_n 3, 1) := dk_29 (dk_at dksX17_of_2 1 rfl rfl)
theorem dX17_of_54 : decode cX17_of 54 = .ok (.iadd, 1) := dk_96 (dk_at dksX17_of_2 2 rfl rfl)
theorem dX17_of_55 : decode cX17_of 55 = .ok (.ireturn, 1) := dk_172 (dk_at dksX17_of_2 3 rfl rfl)
theorem dX17_of_56 : decode cX17_of 56 = .ok (.iload_n 2, 1) := dk_28 (dk_at dksX17_of_2 4 rfl rfl)
theorem dX17_of_57 : decode cX17_of 57 = .ok (.iload_n 3, 1) := dk_29 (dk_at dksX17_of_2 5 rfl rfl)
theorem dX17_of_58 : decode cX17_of 58 = .ok (.isub, 1) := dk_100 (dk_at dksX17_of_2 6 rfl rfl)
theorem dX17_of_59 : decode cX17_of 59 = .ok (.ireturn, 1) := dk_172 (dk_at dksX17_of_2 7 rfl rfl)
theorem dX17_of_60 : decode cX17_of 60 = .ok (.iload_n 2, 1) := dk_28 (dk_at dksX17_of_2 8 rfl rfl)
theorem dX17_of_61 : decode cX17_of 61 = .ok (.iload_n 3, 1) := dk_29 (dk_at dksX17_of_2 9 rfl rfl)
theorem dX17_of_62 : decode cX17_of 62 = .ok (.imul, 1) := dk_104 (dk_at dksX17_of_2 10 rfl rfl)
theorem dX17_of_63 : decode cX17_of 63 = .ok (.ireturn, 1) := dk_172 (dk_at dksX17_of_2 11 rfl rfl)
theorem dX17_of_64 : decode cX17_of 64 = .ok (.iload_n 3, 1) := dk_29 (dk_at dksX17_of_2 12 rfl rfl)
theorem dX17_of_65 : decode cX17_of 65 = .ok (.ifCond .eq 7, 3) := dk_153 0 7 (dk_at dksX17_of_2 13 rfl rfl)
theorem dX17_of_68 : decode cX17_of 68 = .ok (.iload_n 2, 1) := dk_28 (dk_at dksX17_of_2 16 rfl rfl)
theorem dX17_of_69 : decode cX17_of 69 = .ok (.iload_n 3, 1) := dk_29 (dk_at dksX17_of_2 17 rfl rfl)
theorem dX17_of_70 : decode cX17_of 70 = .ok (.idiv, 1) := dk_108 (dk_at dksX17_of_2 18 rfl rfl)
theorem dX17_of_71 : decode cX17_of 71 = .ok (.ireturn, 1) := dk_172 (dk_at dksX17_of_2 19 rfl rfl)
theorem dX17_of_72 : decode cX17_of 72 = .ok (.aload_n 1, 1) := dk_43 (dk_at dksX17_of_2 20 rfl rfl)
theorem dX17_of_73 : decode cX17_of 73 = .ok (.iconst 1, 1) := dk_4 (dk_at dksX17_of_2 21 rfl rfl)
theorem dX17_of_74 : decode cX17_of 74 = .ok (.putfield 24, 3) := dk_181 0 24 (dk_at dksX17_of_3 0 rfl rfl)
theorem dX17_of_77 : decode cX17_of 77 = .ok (.iconst 0, 1) := dk_3 (dk_at dksX17_of_3 3 rfl rfl)
theorem dX17_of_78 : decode cX17_of 78 = .ok (.ireturn, 1) := dk_172 (dk_at dksX17_of_3 4 rfl rfl)
theorem q147 : (Jvm.Cond.initialized "RainLoom$Joined") ∈ lw_all := lw_g (lw_at lw_m1 29 rfl) rfl
theorem q427 : (Jvm.Cond.fieldLink "RainLoom$Joined" (24 : Nat) "RainLoom$Asked" "nought" "Z") ∈ lw_all := lw_g (lw_at lw_m2 69 rfl) rfl
theorem q845 : (Jvm.Cond.instantiable "RainLoom$Joined" (3 : Nat)) ∈ lw_all := lw_g (lw_at lw_m4 7 rfl) rfl
theorem q847 : (Jvm.Cond.instanceMethod ({ cls := "RainLoom$Joined", name := "<init>", desc := "(ILRainLoom$Sum;LRainLoom$Sum;)V" } : Jvm.MethodName)) ∈ lw_all := lw_g (lw_at lw_m4 9 rfl) rfl
theorem q848 : (Jvm.Cond.code ({ cls := "RainLoom$Joined", name := "<init>", desc := "(ILRainLoom$Sum;LRainLoom$Sum;)V" } : Jvm.MethodName) prog_9_method_1_code (4 : Nat) (Option.none : Option Jvm.ClassFile.FieldType)) ∈ lw_all := lw_g (lw_at lw_m4 10 rfl) rfl
theorem q849 : (Jvm.Cond.methodLinkNest "RainLoom$Joined" (1 : Nat) ({ cls := "RainLoom$Sum", name := "<init>", desc := "()V" } : Jvm.MethodName) "RainLoom") ∈ lw_tbl := lw_at lw_m4 11 rfl
theorem q850 : (Jvm.Cond.fieldLink "RainLoom$Joined" (7 : Nat) "RainLoom$Joined" "op" "I") ∈ lw_all := lw_g (lw_at lw_m4 12 rfl) rfl
theorem q851 : (Jvm.Cond.fieldLink "RainLoom$Joined" (13 : Nat) "RainLoom$Joined" "a" "LRainLoom$Sum;") ∈ lw_all := lw_g (lw_at lw_m4 13 rfl) rfl
theorem q852 : (Jvm.Cond.fieldLink "RainLoom$Joined" (17 : Nat) "RainLoom$Joined" "b" "LRainLoom$Sum;") ∈ lw_all := lw_g (lw_at lw_m4 14 rfl) rfl
theorem q853 : (Jvm.Cond.laysFinal "RainLoom$Joined" "RainLoom$Joined" "op" "I") ∈ lw_all := lw_g (lw_at lw_m4 15 rfl) rfl
theorem q854 : (Jvm.Cond.soleField "RainLoom$Joined" "op") ∈ lw_all := lw_g (lw_at lw_m4 16 rfl) rfl
theorem q855 : (Jvm.Cond.laysFinal "RainLoom$Joined" "RainLoom$Joined" "a" "LRainLoom$Sum;") ∈ lw_all := lw_g (lw_at lw_m4 17 rfl) rfl
theorem q856 : (Jvm.Cond.soleField "RainLoom$Joined" "a") ∈ lw_all := lw_g (lw_at lw_m4 18 rfl) rfl
theorem q857 : (Jvm.Cond.laysFinal "RainLoom$Joined" "RainLoom$Joined" "b" "LRainLoom$Sum;") ∈ lw_all := lw_g (lw_at lw_m4 19 rfl) rfl
theorem q858 : (Jvm.Cond.soleField "RainLoom$Joined" "b") ∈ lw_all := lw_g (lw_at lw_m4 20 rfl) rfl
theorem q859 : (Jvm.Cond.superclass "RainLoom$Joined" "RainLoom$Sum") ∈ lw_all := lw_g (lw_at lw_m4 21 rfl) rfl
theorem q1124 : (Jvm.Cond.selects "RainLoom$Joined" ({ cls := "java/lang/Object", name := "getClass", desc := "()Ljava/lang/Class;" } : Jvm.MethodName) ({ cls := "java/lang/Object", name := "getClass", desc := "()Ljava/lang/Class;" } : Jvm.MethodName)) ∈ lw_all := lw_g (lw_at lw_m5 46 rfl) rfl
theorem q1256 : (Jvm.Cond.selects "RainLoom$Joined" ({ cls := "RainLoom$Sum", name := "of", desc := "(LRainLoom$Asked;)I" } : Jvm.MethodName) ({ cls := "RainLoom$Joined", name := "of", desc := "(LRainLoom$Asked;)I" } : Jvm.MethodName)) ∈ lw_all := lw_g (lw_at lw_m5 178 rfl) rfl
theorem q1257 : (Jvm.Cond.instanceMethod ({ cls := "RainLoom$Joined", name := "of", desc := "(LRainLoom$Asked;)I" } : Jvm.MethodName)) ∈ lw_all := lw_g (lw_at lw_m5 179 rfl) rfl
theorem q1258 : (Jvm.Cond.code ({ cls := "RainLoom$Joined", name := "of", desc := "(LRainLoom$Asked;)I" } : Jvm.MethodName) prog_9_method_2_code (4 : Nat) (Option.some Jvm.ClassFile.FieldType.int)) ∈ lw_all := lw_g (lw_at lw_m5 180 rfl) rfl
theorem q1259 : (Jvm.Cond.methodLink "RainLoom$Joined" (20 : Nat) ({ cls := "RainLoom$Sum", name := "of", desc := "(LRainLoom$Asked;)I" } : Jvm.MethodName)) ∈ lw_all := lw_g (lw_at lw_m5 181 rfl) rfl
theorem q2196 : (Jvm.Cond.castable "RainLoom$Joined" "java/lang/Object") ∈ lw_tbl := lw_at lw_m9 158 rfl
theorem q2207 : (Jvm.Cond.castable "RainLoom$Joined" "RainLoom$Sum") ∈ lw_tbl := lw_at lw_m9 169 rfl
theorem in_X17 : ∀ w ∈ wsX170, w ∈ lw_all := lw_in wsX170 [853, 855, 857] (by decide +kernel) (by decide +kernel)

/-! RainLoom$Named -/
set_option maxRecDepth 100000
def RX18 : String := "RainLoom$Named"
abbrev cX18_init : ByteArray := prog_13_method_1_code
def yX18_init : MethodName := ⟨RX18, "<init>", "(Ljava/lang/String;)V"⟩
def dkwX18_init_0 : List UInt8 := [42, 183, 0, 1, 42, 43, 181, 0, 7, 177]
abbrev dktX18_init_0 : List UInt8 := dkwX18_init_0 ++ []
theorem dksX18_init_0 : cX18_init.data.toList.drop 0 = dktX18_init_0 := by decide +kernel
theorem dX18_init_0 : decode cX18_init 0 = .ok (.aload_n 0, 1) := dk_42 (dk_at dksX18_init_0 0 rfl rfl)
theorem dX18_init_1 : decode cX18_init 1 = .ok (.invokespecial 1, 3) := dk_183 0 1 (dk_at dksX18_init_0 1 rfl rfl)
theorem dX18_init_4 : decode cX18_init 4 = .ok (.aload_n 0, 1) := dk_42 (dk_at dksX18_init_0 4 rfl rfl)
theorem dX18_init_5 : decode cX18_init 5 = .ok (.aload_n 1, 1) := dk_43 (dk_at dksX18_init_0 5 rfl rfl)
theorem dX18_init_6 : decode cX18_init 6 = .ok (.putfield 7, 3) := dk_181 0 7 (dk_at dksX18_init_0 6 rfl rfl)
theorem dX18_init_9 : decode cX18_init 9 = .ok (.return_, 1) := dk_177 (dk_at dksX18_init_0 9 rfl rfl)
theorem q154 : (Jvm.Cond.initialized "RainLoom$Named") ∈ lw_all := lw_g (lw_at lw_m1 36 rfl) rfl
theorem q1073 : (Jvm.Cond.instanceMethod ({ cls := "RainLoom$Named", name := "<init>", desc := "(Ljava/lang/String;)V" } : Jvm.MethodName)) ∈ lw_all := lw_g (lw_at lw_m4 235 rfl) rfl
theorem q1074 : (Jvm.Cond.code ({ cls := "RainLoom$Named", name := "<init>", desc := "(Ljava/lang/String;)V" } : Jvm.MethodName) prog_13_method_1_code (2 : Nat) (Option.none : Option Jvm.ClassFile.FieldType)) ∈ lw_all := lw_g (lw_at lw_m4 236 rfl) rfl
theorem q1075 : (Jvm.Cond.methodLink "RainLoom$Named" (1 : Nat) ({ cls := "java/lang/Object", name := "<init>", desc := "()V" } : Jvm.MethodName)) ∈ lw_all := lw_g (lw_at lw_m4 237 rfl) rfl
theorem q1080 : (Jvm.Cond.fieldLink "RainLoom$Named" (7 : Nat) "RainLoom$Named" "name" "Ljava/lang/String;") ∈ lw_all := lw_g (lw_at lw_m5 2 rfl) rfl
theorem q1087 : (Jvm.Cond.soleField "RainLoom$Named" "name") ∈ lw_all := lw_g (lw_at lw_m5 9 rfl) rfl

/-! RainLoom$Field -/
set_option maxRecDepth 100000
def RX19 : String := "RainLoom$Field"
def TX19 : u_T := fun k => match k with
  | 0 => ("RainLoom$Named", "name", "Ljava/lang/String;", true)
  | 1 => ("RainLoom$Field", "needs", "I", false)
  | _ => ("RainLoom$Field", "drowns", "I", false)
def tyX19 : Nat → FieldType := fun k => match k with
  | 0 => .object "java/lang/String"
  | 1 => .int
  | _ => .int
abbrev wsX190 : List Cond := u_ws RX19 TX19 3
theorem nmX19 : ∀ a, a < 3 → ∀ b, b < 3 → a ≠ b → (TX19 a).2.1 ≠ (TX19 b).2.1 := by decide +kernel
theorem tyX19_ok : ∀ k, k < 3 → parseFieldDescriptor (TX19 k).2.2.1 = some (tyX19 k) := by decide +kernel
abbrev cX19_init : ByteArray := prog_7_method_1_code
def yX19_init : MethodName := ⟨RX19, "<init>", "(Ljava/lang/String;)V"⟩
def dkwX19_init_0 : List UInt8 := [42, 43, 183, 0, 1, 177]
abbrev dktX19_init_0 : List UInt8 := dkwX19_init_0 ++ []
theorem dksX19_init_0 : cX19_init.data.toList.drop 0 = dktX19_init_0 := by decide +kernel
theorem dX19_init_0 : decode cX19_init 0 = .ok (.aload_n 0, 1) := dk_42 (dk_at dksX19_init_0 0 rfl rfl)
theorem dX19_init_1 : decode cX19_init 1 = .ok (.aload_n 1, 1) := dk_43 (dk_at dksX19_init_0 1 rfl rfl)
theorem dX19_init_2 : decode cX19_init 2 = .ok (.invokespecial 1, 3) := dk_183 0 1 (dk_at dksX19_init_0 2 rfl rfl)
theorem dX19_init_5 : decode cX19_init 5 = .ok (.return_, 1) := dk_177 (dk_at dksX19_init_0 5 rfl rfl)
theorem q155 : (Jvm.Cond.initialized "RainLoom$Field") ∈ lw_all := lw_g (lw_at lw_m1 37 rfl) rfl
theorem q1046 : (Jvm.Cond.instantiable "RainLoom$Field" (3 : Nat)) ∈ lw_all := lw_g (lw_at lw_m4 208 rfl) rfl
theorem q1070 : (Jvm.Cond.instanceMethod ({ cls := "RainLoom$Field", name := "<init>", desc := "(Ljava/lang/String;)V" } : Jvm.MethodName)) ∈ lw_all := lw_g (lw_at lw_m4 232 rfl) rfl
theorem q1071 : (Jvm.Cond.code ({ cls := "RainLoom$Field", name := "<init>", desc := "(Ljava/lang/String;)V" } : Jvm.MethodName) prog_7_method_1_code (2 : Nat) (Option.none : Option Jvm.ClassFile.FieldType)) ∈ lw_all := lw_g (lw_at lw_m4 233 rfl) rfl
theorem q1072 : (Jvm.Cond.methodLink "RainLoom$Field" (1 : Nat) ({ cls := "RainLoom$Named", name := "<init>", desc := "(Ljava/lang/String;)V" } : Jvm.MethodName)) ∈ lw_all := lw_g (lw_at lw_m4 234 rfl) rfl
theorem q1082 : (Jvm.Cond.lays "RainLoom$Field" "RainLoom$Field" "needs" "I") ∈ lw_all := lw_g (lw_at lw_m5 4 rfl) rfl
theorem q1083 : (Jvm.Cond.soleField "RainLoom$Field" "needs") ∈ lw_all := lw_g (lw_at lw_m5 5 rfl) rfl
theorem q1084 : (Jvm.Cond.lays "RainLoom$Field" "RainLoom$Field" "drowns" "I") ∈ lw_all := lw_g (lw_at lw_m5 6 rfl) rfl
theorem q1085 : (Jvm.Cond.soleField "RainLoom$Field" "drowns") ∈ lw_all := lw_g (lw_at lw_m5 7 rfl) rfl
theorem q1086 : (Jvm.Cond.laysFinal "RainLoom$Field" "RainLoom$Named" "name" "Ljava/lang/String;") ∈ lw_all := lw_g (lw_at lw_m5 8 rfl) rfl
theorem q1088 : (Jvm.Cond.superclass "RainLoom$Field" "RainLoom$Named") ∈ lw_all := lw_g (lw_at lw_m5 10 rfl) rfl
theorem q1122 : (Jvm.Cond.selects "RainLoom$Field" ({ cls := "java/lang/Object", name := "getClass", desc := "()Ljava/lang/Class;" } : Jvm.MethodName) ({ cls := "java/lang/Object", name := "getClass", desc := "()Ljava/lang/Class;" } : Jvm.MethodName)) ∈ lw_all := lw_g (lw_at lw_m5 44 rfl) rfl
theorem q2175 : (Jvm.Cond.castable "RainLoom$Field" "RainLoom$Named") ∈ lw_tbl := lw_at lw_m9 137 rfl
theorem q2198 : (Jvm.Cond.castable "RainLoom$Field" "java/lang/Object") ∈ lw_tbl := lw_at lw_m9 160 rfl
theorem in_X19 : ∀ w ∈ wsX190, w ∈ lw_all := lw_in wsX190 [1086, 1082, 1084] (by decide +kernel) (by decide +kernel)

/-! RainLoom$Tokens -/
set_option maxRecDepth 100000
def RX2 : String := "RainLoom$Tokens"
def TX2 : u_T := fun k => match k with
  | 0 => ("RainLoom$Tokens", "words", "[Ljava/lang/String;", true)
  | 1 => ("RainLoom$Tokens", "tape", "[B", true)
  | 2 => ("RainLoom$Tokens", "taped", "I", false)
  | 3 => ("RainLoom$Tokens", "sort", "[B", true)
  | 4 => ("RainLoom$Tokens", "from", "[S", true)
  | 5 => ("RainLoom$Tokens", "to", "[S", true)
  | 6 => ("RainLoom$Tokens", "what", "[S", true)
  | _ => ("RainLoom$Tokens", "many", "I", false)
def tyX2 : Nat → FieldType := fun k => match k with
  | 0 => .array (.object "java/lang/String")
  | 1 => .array .byte
  | 2 => .int
  | 3 => .array .byte
  | 4 => .array .short
  | 5 => .array .short
  | 6 => .array .short
  | _ => .int
abbrev wsX20 : List Cond := u_ws RX2 TX2 8
theorem nmX2 : ∀ a, a < 8 → ∀ b, b < 8 → a ≠ b → (TX2 a).2.1 ≠ (TX2 b).2.1 := by decide +kernel
theorem tyX2_ok : ∀ k, k < 8 → parseFieldDescriptor (TX2 k).2.2.1 = some (tyX2 k) := by decide +kernel
abbrev cX2_init : ByteArray := prog_19_method_1_code
def yX2_init : MethodName := ⟨RX2, "<init>", "()V"⟩
def dkwX2_init_7 : List UInt8 := [181, 0, 70, 42, 17, 7, 209, 188, 9, 181, 0, 73, 177]
abbrev dktX2_init_7 : List UInt8 := dkwX2_init_7 ++ []
def dkwX2_init_6 : List UInt8 := [17, 7, 209, 188, 8, 181, 0, 63, 42, 17, 7, 209, 188, 9, 181, 0, 66, 42, 17, 7, 209, 188, 9]
abbrev dktX2_init_6 : List UInt8 := dkwX2_init_6 ++ dktX2_init_7
def dkwX2_init_5 : List UInt8 := [16, 19, 18, 49, 83, 89, 16, 20, 18, 51, 83, 181, 0, 53, 42, 17, 7, 208, 188, 8, 181, 0, 59, 42]
abbrev dktX2_init_5 : List UInt8 := dkwX2_init_5 ++ dktX2_init_6
def dkwX2_init_4 : List UInt8 := [16, 15, 18, 41, 83, 89, 16, 16, 18, 43, 83, 89, 16, 17, 18, 45, 83, 89, 16, 18, 18, 47, 83, 89]
abbrev dktX2_init_4 : List UInt8 := dkwX2_init_4 ++ dktX2_init_5
def dkwX2_init_3 : List UInt8 := [16, 11, 18, 33, 83, 89, 16, 12, 18, 35, 83, 89, 16, 13, 18, 37, 83, 89, 16, 14, 18, 39, 83, 89]
abbrev dktX2_init_3 : List UInt8 := dkwX2_init_3 ++ dktX2_init_4
def dkwX2_init_2 : List UInt8 := [16, 7, 18, 25, 83, 89, 16, 8, 18, 27, 83, 89, 16, 9, 18, 29, 83, 89, 16, 10, 18, 31, 83, 89]
abbrev dktX2_init_2 : List UInt8 := dkwX2_init_2 ++ dktX2_init_3
def dkwX2_init_1 : List UInt8 := [83, 89, 6, 18, 17, 83, 89, 7, 18, 19, 83, 89, 8, 18, 21, 83, 89, 16, 6, 18, 23, 83, 89]
abbrev dktX2_init_1 : List UInt8 := dkwX2_init_1 ++ dktX2_init_2
def dkwX2_init_0 : List UInt8 := [42, 183, 0, 3, 42, 16, 21, 189, 0, 9, 89, 3, 18, 11, 83, 89, 4, 18, 13, 83, 89, 5, 18, 15]
abbrev dktX2_init_0 : List UInt8 := dkwX2_init_0 ++ dktX2_init_1
theorem dksX2_init_0 : cX2_init.data.toList.drop 0 = dktX2_init_0 := by decide +kernel
theorem dksX2_init_1 : cX2_init.data.toList.drop 24 = dktX2_init_1 := dk_seg dksX2_init_0 24 rfl rfl
theorem dksX2_init_2 : cX2_init.data.toList.drop 47 = dktX2_init_2 := dk_seg dksX2_init_1 23 rfl rfl
theorem dksX2_init_3 : cX2_init.data.toList.drop 71 = dktX2_init_3 := dk_seg dksX2_init_2 24 rfl rfl
theorem dksX2_init_4 : cX2_init.data.toList.drop 95 = dktX2_init_4 := dk_seg dksX2_init_3 24 rfl rfl
theorem dksX2_init_5 : cX2_init.data.toList.drop 119 = dktX2_init_5 := dk_seg dksX2_init_4 24 rfl rfl
theorem dksX2_init_6 : cX2_init.data.toList.drop 143 = dktX2_init_6 := dk_seg dksX2_init_5 24 rfl rfl
theorem dksX2_init_7 : cX2_init.data.toList.drop 166 = dktX2_init_7 := dk_seg dksX2_init_6 23 rfl rfl
theorem dX2_init_0 : decode cX2_init 0 = .ok (.aload_n 0, 1) := dk_42 (dk_at dksX2_init_0 0 rfl rfl)
theorem dX2_init_1 : decode cX2_init 1 = .ok (.invokespecial 3, 3) := dk_183 0 3 (dk_at dksX2_init_0 1 rfl rfl)
theorem dX2_init_4 : decode cX2_init 4 = .ok (.aload_n 0, 1) := dk_42 (dk_at dksX2_init_0 4 rfl rfl)
theorem dX2_init_5 : decode cX2_init 5 = .ok (.bipush 21, 2) := dk_16 21 (dk_at dksX2_init_0 5 rfl rfl)
theorem dX2_init_7 : decode cX2_init 7 = .ok (.anewarray 9, 3) := dk_189 0 9 (dk_at dksX2_init_0 7 rfl rfl)
theorem dX2_init_10 : decode cX2_init 10 = .ok (.dup, 1) := dk_89 (dk_at dksX2_init_0 10 rfl rfl)
theorem dX2_init_11 : decode cX2_init 11 = .ok (.iconst 0, 1) := dk_3 (dk_at dksX2_init_0 11 rfl rfl)
theorem dX2_init_12 : decode cX2_init 12 = .ok (.ldc 11, 2) := dk_18 11 (dk_at dksX2_init_0 12 rfl rfl)
theorem dX2_init_14 : decode cX2_init 14 = .ok (.aastore, 1) := dk_83 (dk_at dksX2_init_0 14 rfl rfl)
theorem dX2_init_15 : decode cX2_init 15 = .ok (.dup, 1) := dk_89 (dk_at dksX2_init_0 15 rfl rfl)
theorem dX2_init_16 : decode cX2_init 16 = .ok (.iconst 1, 1) := dk_4 (dk_at dksX2_init_0 16 rfl rfl)
theorem dX2_init_17 : decode cX2_init 17 = .ok (.ldc 13, 2) := dk_18 13 (dk_at dksX2_init_0 17 rfl rfl)
theorem dX2_init_19 : decode cX2_init 19 = .ok (.aastore, 1) := dk_83 (dk_at dksX2_init_0 19 rfl rfl)
theorem dX2_init_20 : decode cX2_init 20 = .ok (.dup, 1) := dk_89 (dk_at dksX2_init_0 20 rfl rfl)
theorem dX2_init_21 : decode cX2_init 21 = .ok (.iconst 2, 1) := dk_5 (dk_at dksX2_init_0 21 rfl rfl)
theorem dX2_init_22 : decode cX2_init 22 = .ok (.ldc 15, 2) := dk_18 15 (dk_at dksX2_init_0 22 rfl rfl)
theorem dX2_init_24 : decode cX2_init 24 = .ok (.aastore, 1) := dk_83 (dk_at dksX2_init_1 0 rfl rfl)
theorem dX2_init_25 : decode cX2_init 25 = .ok (.dup, 1) := dk_89 (dk_at dksX2_init_1 1 rfl rfl)
theorem dX2_init_26 : decode cX2_init 26 = .ok (.iconst 3, 1) := dk_6 (dk_at dksX2_init_1 2 rfl rfl)
theorem dX2_init_27 : decode cX2_init 27 = .ok (.ldc 17, 2) := dk_18 17 (dk_at dksX2_init_1 3 rfl rfl)
theorem dX2_init_29 : decode cX2_init 29 = .ok (.aastore, 1) := dk_83 (dk_at dksX2_init_1 5 rfl rfl)
theorem dX2_init_30 : decode cX2_init 30 = .ok (.dup, 1) := dk_89 (dk_at dksX2_init_1 6 rfl rfl)
theorem dX2_init_31 : decode cX2_init 31 = .ok (.iconst 4, 1) := dk_7 (dk_at dksX2_init_1 7 rfl rfl)
theorem dX2_init_32 : decode cX2_init 32 = .ok (.ldc 19, 2) := dk_18 19 (dk_at dksX2_init_1 8 rfl rfl)
theorem dX2_init_34 : decode cX2_init 34 = .ok (.aastore, 1) := dk_83 (dk_at dksX2_init_1 10 rfl rfl)
theorem dX2_init_35 : decode cX2_init 35 = .ok (.dup, 1) := dk_89 (dk_at dksX2_init_1 11 rfl rfl)
theorem dX2_init_36 : decode cX2_init 36 = .ok (.iconst 5, 1) := dk_8 (dk_at dksX2_init_1 12 rfl rfl)
theorem dX2_init_37 : decode cX2_init 37 = .ok (.ldc 21, 2) := dk_18 21 (dk_at dksX2_init_1 13 rfl rfl)
theorem dX2_init_39 : decode cX2_init 39 = .ok (.aastore, 1) := dk_83 (dk_at dksX2_init_1 15 rfl rfl)
theorem dX2_init_40 : decode cX2_init 40 = .ok (.dup, 1) := dk_89 (dk_at dksX2_init_1 16 rfl rfl)
theorem dX2_init_41 : decode cX2_init 41 = .ok (.bipush 6, 2) := dk_16 6 (dk_at dksX2_init_1 17 rfl rfl)
theorem dX2_init_43 : decode cX2_init 43 = .ok (.ldc 23, 2) := dk_18 23 (dk_at dksX2_init_1 19 rfl rfl)
theorem dX2_init_45 : decode cX2_init 45 = .ok (.aastore, 1) := dk_83 (dk_at dksX2_init_1 21 rfl rfl)
theorem dX2_init_46 : decode cX2_init 46 = .ok (.dup, 1) := dk_89 (dk_at dksX2_init_1 22 rfl rfl)
theorem dX2_init_47 : decode cX2_init 47 = .ok (.bipush 7, 2) := dk_16 7 (dk_at dksX2_init_2 0 rfl rfl)
theorem dX2_init_49 : decode cX2_init 49 = .ok (.ldc 25, 2) := dk_18 25 (dk_at dksX2_init_2 2 rfl rfl)
theorem dX2_init_51 : decode cX2_init 51 = .ok (.aastore, 1) := dk_83 (dk_at dksX2_init_2 4 rfl rfl)
theorem dX2_init_52 : decode cX2_init 52 = .ok (.dup, 1) := dk_89 (dk_at dksX2_init_2 5 rfl rfl)
theorem dX2_init_53 : decode cX2_init 53 = .ok (.bipush 8, 2) := dk_16 8 (dk_at dksX2_init_2 6 rfl rfl)
theorem dX2_init_55 : decode cX2_init 55 = .ok (.ldc 27, 2) := dk_18 27 (dk_at dksX2_init_2 8 rfl rfl)
theorem dX2_init_57 : decode cX2_init 57 = .ok (.aastore, 1) := dk_83 (dk_at dksX2_init_2 10 rfl rfl)
theorem dX2_init_58 : decode cX2_init 58 = .ok (.dup, 1) := dk_89 (dk_at dksX2_init_2 11 rfl rfl)
theorem dX2_init_59 : decode cX2_init 59 = .ok (.bipush 9, 2) := dk_16 9 (dk_at dksX2_init_2 12 rfl rfl)
theorem dX2_init_61 : decode cX2_init 61 = .ok (.ldc 29, 2) := dk_18 29 (dk_at dksX2_init_2 14 rfl rfl)
theorem dX2_init_63 : decode cX2_init 63 = .ok (.aastore, 1) := dk_83 (dk_at dksX2_init_2 16 rfl rfl)
theorem dX2_init_64 : decode cX2_init 64 = .ok (.dup, 1) := dk_89 (dk_at dksX2_init_2 17 rfl rfl)
theorem dX2_init_65 : decode cX2_init 65 = .ok (.bipush 10, 2) := dk_16 10 (dk_at dksX2_init_2 18 rfl rfl)
theorem dX2_init_67 : decode cX2_init 67 = .ok (.ldc 31, 2) := dk_18 31 (dk_at dksX2_init_2 20 rfl rfl)
theorem dX2_init_69 : decode cX2_init 69 = .ok (.aastore, 1) := dk_83 (dk_at dksX2_init_2 22 rfl rfl)
theorem dX2_init_70 : decode cX2_init 70 = .ok (.dup, 1) := dk_89 (dk_at dksX2_init_2 23 rfl rfl)
theorem dX2_init_71 : decode cX2_init 71 = .ok (.bipush 11, 2) := dk_16 11 (dk_at dksX2_init_3 0 rfl rfl)
theorem dX2_init_73 : decode cX2_init 73 = .ok (.ldc 33, 2) := dk_18 33 (dk_at dksX2_init_3 2 rfl rfl)
theorem dX2_init_75 : decode cX2_init 75 = .ok (.aastore, 1) := dk_83 (dk_at dksX2_init_3 4 rfl rfl)
theorem dX2_init_76 : decode cX2_init 76 = .ok (.dup, 1) := dk_89 (dk_at dksX2_init_3 5 rfl rfl)
theorem dX2_init_77 : decode cX2_init 77 = .ok (.bipush 12, 2) := dk_16 12 (dk_at dksX2_init_3 6 rfl rfl)
theorem dX2_init_79 : decode cX2_init 79 = .ok (.ldc 35, 2) := dk_18 35 (dk_at dksX2_init_3 8 rfl rfl)
theorem dX2_init_81 : decode cX2_init 81 = .ok (.aastore, 1) := dk_83 (dk_at dksX2_init_3 10 rfl rfl)
theorem dX2_init_82 : decode cX2_init 82 = .ok (.dup, 1) := dk_89 (dk_at dksX2_init_3 11 rfl rfl)
theorem dX2_init_83 : decode cX2_init 83 = .ok (.bipush 13, 2) := dk_16 13 (dk_at dksX2_init_3 12 rfl rfl)
theorem dX2_init_85 : decode cX2_init 85 = .ok (.ldc 37, 2) := dk_18 37 (dk_at dksX2_init_3 14 rfl rfl)
theorem dX2_init_87 : decode cX2_init 87 = .ok (.aastore, 1) := dk_83 (dk_at dksX2_init_3 16 rfl rfl)
theorem dX2_init_88 : decode cX2_init 88 = .ok (.dup, 1) := dk_89 (dk_at dksX2_init_3 17 rfl rfl)
theorem dX2_init_89 : decode cX2_init 89 = .ok (.bipush 14, 2) := dk_16 14 (dk_at dksX2_init_3 18 rfl rfl)
theorem dX2_init_91 : decode cX2_init 91 = .ok (.ldc 39, 2) := dk_18 39 (dk_at dksX2_init_3 20 rfl rfl)
theorem dX2_init_93 : decode cX2_init 93 = .ok (.aastore, 1) := dk_83 (dk_at dksX2_init_3 22 rfl rfl)
theorem dX2_init_94 : decode cX2_init 94 = .ok (.dup, 1) := dk_89 (dk_at dksX2_init_3 23 rfl rfl)
theorem dX2_init_95 : decode cX2_init 95 = .ok (.bipush 15, 2) := dk_16 15 (dk_at dksX2_init_4 0 rfl rfl)
theorem dX2_init_97 : decode cX2_init 97 = .ok (.ldc 41, 2) := dk_18 41 (dk_at dksX2_init_4 2 rfl rfl)
theorem dX2_init_99 : decode cX2_init 99 = .ok (.aastore, 1) := dk_83 (dk_at dksX2_init_4 4 rfl rfl)
theorem dX2_init_100 : decode cX2_init 100 = .ok (.dup, 1) := dk_89 (dk_at dksX2_init_4 5 rfl rfl)
theorem dX2_init_101 : decode cX2_init 101 = .ok (.bipush 16, 2) := dk_16 16 (dk_at dksX2_init_4 6 rfl rfl)
theorem dX2_init_103 : decode cX2_init 103 = .ok (.ldc 43, 2) := dk_18 43 (dk_at dksX2_init_4 8 rfl rfl)
theorem dX2_init_105 : decode cX2_init 105 = .ok (.aastore, 1) := dk_83 (dk_at dksX2_init_4 10 rfl rfl)
theorem dX2_init_106 : decode cX2_init 106 = .ok (.dup, 1) := dk_89 (dk_at dksX2_init_4 11 rfl rfl)
theorem dX2_init_107 : decode cX2_init 107 = .ok (.bipush 17, 2) := dk_16 17 (dk_at dksX2_init_4 12 rfl rfl)
theorem dX2_init_109 : decode cX2_init 109 = .ok (.ldc 45, 2) := dk_18 45 (dk_at dksX2_init_4 14 rfl rfl)
theorem dX2_init_111 : decode cX2_init 111 = .ok (.aastore, 1) := dk_83 (dk_at dksX2_init_4 16 rfl rfl)
theorem dX2_init_112 : decode cX2_init 112 = .ok (.dup, 1) := dk_89 (dk_at dksX2_init_4 17 rfl rfl)
theorem dX2_init_113 : decode cX2_init 113 = .ok (.bipush 18, 2) := dk_16 18 (dk_at dksX2_init_4 18 rfl rfl)
theorem dX2_init_115 : decode cX2_init 115 = .ok (.ldc 47, 2) := dk_18 47 (dk_at dksX2_init_4 20 rfl rfl)
theorem dX2_init_117 : decode cX2_init 117 = .ok (.aastore, 1) := dk_83 (dk_at dksX2_init_4 22 rfl rfl)
theorem dX2_init_118 : decode cX2_init 118 = .ok (.dup, 1) := dk_89 (dk_at dksX2_init_4 23 rfl rfl)
theorem dX2_init_119 : decode cX2_init 119 = .ok (.bipush 19, 2) := dk_16 19 (dk_at dksX2_init_5 0 rfl rfl)
theorem dX2_init_121 : decode cX2_init 121 = .ok (.ldc 49, 2) := dk_18 49 (dk_at dksX2_init_5 2 rfl rfl)
theorem dX2_init_123 : decode cX2_init 123 = .ok (.aastore, 1) := dk_83 (dk_at dksX2_init_5 4 rfl rfl)
theorem dX2_init_124 : decode cX2_init 124 = .ok (.dup, 1) := dk_89 (dk_at dksX2_init_5 5 rfl rfl)
theorem dX2_init_125 : decode cX2_init 125 = .ok (.bipush 20, 2) := dk_16 20 (dk_at dksX2_init_5 6 rfl rfl)
theorem dX2_init_127 : decode cX2_init 127 = .ok (.ldc 51, 2) := dk_18 51 (dk_at dksX2_init_5 8 rfl rfl)
theorem dX2_init_129 : decode cX2_init 129 = .ok (.aastore, 1) := dk_83 (dk_at dksX2_init_5 10 rfl rfl)
theorem dX2_init_130 : decode cX2_init 130 = .ok (.putfield 53, 3) := dk_181 0 53 (dk_at dksX2_init_5 11 rfl rfl)
theorem dX2_init_133 : decode cX2_init 133 = .ok (.aload_n 0, 1) := dk_42 (dk_at dksX2_init_5 14 rfl rfl)
theorem dX2_init_134 : decode cX2_init 134 = .ok (.sipush 2000, 3) := dk_17 7 208 (dk_at dksX2_init_5 15 rfl rfl)
theorem dX2_init_137 : decode cX2_init 137 = .ok (.newarray .byte, 2) := dk_188_8 (dk_at dksX2_init_5 18 rfl rfl)
theorem dX2_init_139 : decode cX2_init 139 = .ok (.putfield 59, 3) := dk_181 0 59 (dk_at dksX2_init_5 20 rfl rfl)
theorem dX2_init_142 : decode cX2_init 142 = .ok (.aload_n 0, 1) := dk_42 (dk_at dksX2_init_5 23 rfl rfl)
theorem dX2_init_143 : decode cX2_init 143 = .ok (.sipush 2001, 3) := dk_17 7 209 (dk_at dksX2_init_6 0 rfl rfl)
theorem dX2_init_146 : decode cX2_init 146 = .ok (.newarray .byte, 2) := dk_188_8 (dk_at dksX2_init_6 3 rfl rfl)
theorem dX2_init_148 : decode cX2_init 148 = .ok (.putfield 63, 3) := dk_181 0 63 (dk_at dksX2_init_6 5 rfl rfl)
theorem dX2_init_151 : decode cX2_init 151 = .ok (.aload_n 0, 1) := dk_42 (dk_at dksX2_init_6 8 rfl rfl)
theorem dX2_init_152 : decode cX2_init 152 = .ok (.sipush 2001, 3) := dk_17 7 209 (dk_at dksX2_init_6 9 rfl rfl)
theorem dX2_init_155 : decode cX2_init 155 = .ok (.newarray .short, 2) := dk_188_9 (dk_at dksX2_init_6 12 rfl rfl)
theorem dX2_init_157 : decode cX2_init 157 = .ok (.putfield 66, 3) := dk_181 0 66 (dk_at dksX2_init_6 14 rfl rfl)
theorem dX2_init_160 : decode cX2_init 160 = .ok (.aload_n 0, 1) := dk_42 (dk_at dksX2_init_6 17 rfl rfl)
theorem dX2_init_161 : decode cX2_init 161 = .ok (.sipush 2001, 3) := dk_17 7 209 (dk_at dksX2_init_6 18 rfl rfl)
theorem dX2_init_164 : decode cX2_init 164 = .ok (.newarray .short, 2) := dk_188_9 (dk_at dksX2_init_6 21 rfl rfl)
theorem dX2_init_166 : decode cX2_init 166 = .ok (.putfield 70, 3) := dk_181 0 70 (dk_at dksX2_init_7 0 rfl rfl)
theorem dX2_init_169 : decode cX2_init 169 = .ok (.aload_n 0, 1) := dk_42 (dk_at dksX2_init_7 3 rfl rfl)
theorem dX2_init_170 : decode cX2_init 170 = .ok (.sipush 2001, 3) := dk_17 7 209 (dk_at dksX2_init_7 4 rfl rfl)
theorem dX2_init_173 : decode cX2_init 173 = .ok (.newarray .short, 2) := dk_188_9 (dk_at dksX2_init_7 7 rfl rfl)
theorem dX2_init_175 : decode cX2_init 175 = .ok (.putfield 73, 3) := dk_181 0 73 (dk_at dksX2_init_7 9 rfl rfl)
theorem dX2_init_178 : decode cX2_init 178 = .ok (.return_, 1) := dk_177 (dk_at dksX2_init_7 12 rfl rfl)
abbrev cX2_read : ByteArray := prog_19_method_8_code
def yX2_read : MethodName := ⟨RX2, "read", "()V"⟩
def dkwX2_read_9 : List UInt8 := [61, 21, 4, 60, 167, 255, 53, 28, 153, 0, 11, 42, 7, 27, 27, 3, 182, 0, 109, 177]
abbrev dktX2_read_9 : List UInt8 := dkwX2_read_9 ++ []
def dkwX2_read_8 : List UInt8 := [54, 5, 42, 21, 5, 27, 21, 4, 21, 6, 182, 0, 109, 21, 5, 8, 159, 0, 7, 4, 167, 0, 4, 3]
abbrev dktX2_read_8 : List UInt8 := dkwX2_read_8 ++ dktX2_read_9
def dkwX2_read_7 : List UInt8 := [4, 54, 5, 167, 0, 22, 42, 27, 182, 0, 106, 54, 6, 21, 6, 154, 0, 7, 8, 167, 0, 4, 5]
abbrev dktX2_read_7 : List UInt8 := dkwX2_read_7 ++ dktX2_read_8
def dkwX2_read_6 : List UInt8 := [182, 0, 103, 153, 0, 9, 132, 4, 1, 167, 255, 244, 21, 4, 27, 100, 7, 164, 0, 7, 8, 167, 0, 4]
abbrev dktX2_read_6 : List UInt8 := dkwX2_read_6 ++ dktX2_read_7
def dkwX2_read_5 : List UInt8 := [164, 0, 7, 8, 167, 0, 4, 3, 54, 5, 167, 0, 63, 42, 27, 182, 0, 103, 153, 0, 36, 42, 21, 4]
abbrev dktX2_read_5 : List UInt8 := dkwX2_read_5 ++ dktX2_read_6
def dkwX2_read_4 : List UInt8 := [21, 4, 182, 0, 99, 54, 6, 21, 6, 155, 0, 7, 6, 167, 0, 17, 21, 4, 27, 100, 16, 8]
abbrev dktX2_read_4 : List UInt8 := dkwX2_read_4 ++ dktX2_read_5
def dkwX2_read_3 : List UInt8 := [182, 0, 95, 153, 0, 55, 42, 21, 4, 182, 0, 95, 153, 0, 9, 132, 4, 1, 167, 255, 244, 42, 27]
abbrev dktX2_read_3 : List UInt8 := dkwX2_read_3 ++ dktX2_read_4
def dkwX2_read_2 : List UInt8 := [16, 10, 159, 0, 9, 29, 16, 13, 160, 0, 9, 132, 1, 1, 167, 255, 205, 3, 54, 6, 42, 27]
abbrev dktX2_read_2 : List UInt8 := dkwX2_read_2 ++ dktX2_read_3
def dkwX2_read_1 : List UInt8 := [180, 0, 59, 27, 51, 62, 27, 4, 96, 54, 4, 29, 16, 32, 159, 0, 21, 29, 16, 9, 159, 0, 15, 29]
abbrev dktX2_read_1 : List UInt8 := dkwX2_read_1 ++ dktX2_read_2
def dkwX2_read_0 : List UInt8 := [42, 3, 181, 0, 84, 3, 60, 4, 61, 27, 42, 180, 0, 76, 162, 0, 201, 28, 153, 0, 197, 42]
abbrev dktX2_read_0 : List UInt8 := dkwX2_read_0 ++ dktX2_read_1
theorem dksX2_read_0 : cX2_read.data.toList.drop 0 = dktX2_read_0 := by decide +kernel
theorem dksX2_read_1 : cX2_read.data.toList.drop 22 = dktX2_read_1 := dk_seg dksX2_read_0 22 rfl rfl
theorem dksX2_read_2 : cX2_read.data.toList.drop 46 = dktX2_read_2 := dk_seg dksX2_read_1 24 rfl rfl
theorem dksX2_read_3 : cX2_read.data.toList.drop 68 = dktX2_read_3 := dk_seg dksX2_read_2 22 rfl rfl
theorem dksX2_read_4 : cX2_read.data.toList.drop 91 = dktX2_read_4 := dk_seg dksX2_read_3 23 rfl rfl
theorem dksX2_read_5 : cX2_read.data.toList.drop 113 = dktX2_read_5 := dk_seg dksX2_read_4 22 rfl rfl
theorem dksX2_read_6 : cX2_read.data.toList.drop 137 = dktX2_read_6 := dk_seg dksX2_read_5 24 rfl rfl
theorem dksX2_read_7 : cX2_read.data.toList.drop 161 = dktX2_read_7 := dk_seg dksX2_read_6 24 rfl rfl
theorem dksX2_read_8 : cX2_read.data.toList.drop 184 = dktX2_read_8 := dk_seg dksX2_read_7 23 rfl rfl
theorem dksX2_read_9 : cX2_read.data.toList.drop 208 = dktX2_read_9 := dk_seg dksX2_read_8 24 rfl rfl
theorem dX2_read_0 : decode cX2_read 0 = .ok (.aload_n 0, 1) := dk_42 (dk_at dksX2_read_0 0 rfl rfl)
theorem dX2_read_1 : decode cX2_read 1 = .ok (.iconst 0, 1) := dk_3 (dk_at dksX2_read_0 1 rfl rfl)
theorem dX2_read_2 : decode cX2_read 2 = .ok (.putfield 84, 3) := dk_181 0 84 (dk_at dksX2_read_0 2 rfl rfl)
theorem dX2_read_5 : decode cX2_read 5 = .ok (.iconst 0, 1) := dk_3 (dk_at dksX2_read_0 5 rfl rfl)
theorem dX2_read_6 : decode cX2_read 6 = .ok (.istore_n 1, 1) := dk_60 (dk_at dksX2_read_0 6 rfl rfl)
theorem dX2_read_7 : decode cX2_read 7 = .ok (.iconst 1, 1) := dk_4 (dk_at dksX2_read_0 7 rfl rfl)
theorem dX2_read_8 : decode cX2_read 8 = .ok (.istore_n 2, 1) := dk_61 (dk_at dksX2_read_0 8 rfl rfl)
theorem dX2_read_9 : decode cX2_read 9 = .ok (.iload_n 1, 1) := dk_27 (dk_at dksX2_read_0 9 rfl rfl)
theorem dX2_read_10 : decode cX2_read 10 = .ok (.aload_n 0, 1) := dk_42 (dk_at dksX2_read_0 10 rfl rfl)
theorem dX2_read_11 : decode cX2_read 11 = .ok (.getfield 76, 3) := dk_180 0 76 (dk_at dksX2_read_0 11 rfl rfl)
theorem dX2_read_14 : decode cX2_read 14 = .ok (.if_icmp .ge 201, 3) := dk_162 0 201 (dk_at dksX2_read_0 14 rfl rfl)
theorem dX2_read_17 : decode cX2_read 17 = .ok (.iload_n 2, 1) := dk_28 (dk_at dksX2_read_0 17 rfl rfl)
theorem dX2_read_18 : decode cX2_read 18 = .ok (.ifCond .eq 197, 3) := dk_153 0 197 (dk_at dksX2_read_0 18 rfl rfl)
theorem dX2_read_21 : decode cX2_read 21 = .ok (.aload_n 0, 1) := dk_42 (dk_at dksX2_read_0 21 rfl rfl)
theorem dX2_read_22 : decode cX2_read 22 = .ok (.getfield 59, 3) := dk_180 0 59 (dk_at dksX2_read_1 0 rfl rfl)
theorem dX2_read_25 : decode cX2_read 25 = .ok (.iload_n 1, 1) := dk_27 (dk_at dksX2_read_1 3 rfl rfl)
theorem dX2_read_26 : decode cX2_read 26 = .ok (.baload, 1) := dk_51 (dk_at dksX2_read_1 4 rfl rfl)
theorem dX2_read_27 : decode cX2_read 27 = .ok (.istore_n 3, 1) := dk_62 (dk_at dksX2_read_1 5 rfl rfl)
theorem dX2_read_28 : decode cX2_read 28 = .ok (.iload_n 1, 1) := dk_27 (dk_at dksX2_read_1 6 rfl rfl)
theorem dX2_read_29 : decode cX2_read 29 = .ok (.iconst 1, 1) := dk_4 (dk_at dksX2_read_1 7 rfl rfl)
theorem dX2_read_30 : decode cX2_read 30 = .ok (.iadd, 1) := dk_96 (dk_at dksX2_read_1 8 rfl rfl)
theorem dX2_read_31 : decode cX2_read 31 = .ok (.istore 4, 2) := dk_54 4 (dk_at dksX2_read_1 9 rfl rfl)
theorem dX2_read_33 : decode cX2_read 33 = .ok (.iload_n 3, 1) := dk_29 (dk_at dksX2_read_1 11 rfl rfl)
theorem dX2_read_34 : decode cX2_read 34 = .ok (.bipush 32, 2) := dk_16 32 (dk_at dksX2_read_1 12 rfl rfl)
theorem dX2_read_36 : decode cX2_read 36 = .ok (.if_icmp .eq 21, 3) := dk_159 0 21 (dk_at dksX2_read_1 14 rfl rfl)
theorem dX2_read_39 : decode cX2_read 39 = .ok (.iload_n 3, 1) := dk_29 (dk_at dksX2_read_1 17 rfl rfl)
theorem dX2_read_40 : decode cX2_read 40 = .ok (.bipush 9, 2) := dk_16 9 (dk_at dksX2_read_1 18 rfl rfl)
theorem dX2_read_42 : decode cX2_read 42 = .ok (.if_icmp .eq 15, 3) := dk_159 0 15 (dk_at dksX2_read_1 20 rfl rfl)
theorem dX2_read_45 : decode cX2_read 45 = .ok (.iload_n 3, 1) := dk_29 (dk_at dksX2_read_1 23 rfl rfl)
theorem dX2_read_46 : decode cX2_read 46 = .ok (.bipush 10, 2) := dk_16 10 (dk_at dksX2_read_2 0 rfl rfl)
theorem dX2_read_48 : decode cX2_read 48 = .ok (.if_icmp .eq 9, 3) := dk_159 0 9 (dk_at dksX2_read_2 2 rfl rfl)
theorem dX2_read_51 : decode cX2_read 51 = .ok (.iload_n 3, 1) := dk_29 (dk_at dksX2_read_2 5 rfl rfl)
theorem dX2_read_52 : decode cX2_read 52 = .ok (.bipush 13, 2) := dk_16 13 (dk_at dksX2_read_2 6 rfl rfl)
theorem dX2_read_54 : decode cX2_read 54 = .ok (.if_icmp .ne 9, 3) := dk_160 0 9 (dk_at dksX2_read_2 8 rfl rfl)
theorem dX2_read_57 : decode cX2_read 57 = .ok (.iinc 1 1, 3) := dk_132 1 1 (dk_at dksX2_read_2 11 rfl rfl)
theorem dX2_read_60 : decode cX2_read 60 = .ok (.goto (-51), 3) := dk_167 255 205 (dk_at dksX2_read_2 14 rfl rfl)
theorem dX2_read_63 : decode cX2_read 63 = .ok (.iconst 0, 1) := dk_3 (dk_at dksX2_read_2 17 rfl rfl)
theorem dX2_read_64 : decode cX2_read 64 = .ok (.istore 6, 2) := dk_54 6 (dk_at dksX2_read_2 18 rfl rfl)
theorem dX2_read_66 : decode cX2_read 66 = .ok (.aload_n 0, 1) := dk_42 (dk_at dksX2_read_2 20 rfl rfl)
theorem dX2_read_67 : decode cX2_read 67 = .ok (.iload_n 1, 1) := dk_27 (dk_at dksX2_read_2 21 rfl rfl)
theorem dX2_read_68 : decode cX2_read 68 = .ok (.invokevirtual 95, 3) := dk_182 0 95 (dk_at dksX2_read_3 0 rfl rfl)
theorem dX2_read_71 : decode cX2_read 71 = .ok (.ifCond .eq 55, 3) := dk_153 0 55 (dk_at dksX2_read_3 3 rfl rfl)
theorem dX2_read_74 : decode cX2_read 74 = .ok (.aload_n 0, 1) := dk_42 (dk_at dksX2_read_3 6 rfl rfl)
theorem dX2_read_75 : decode cX2_read 75 = .ok (.iload 4, 2) := dk_21 4 (dk_at dksX2_read_3 7 rfl rfl)
theorem dX2_read_77 : decode cX2_read 77 = .ok (.invokevirtual 95, 3) := dk_182 0 95 (dk_at dksX2_read_3 9 rfl rfl)
theorem dX2_read_80 : decode cX2_read 80 = .ok (.ifCond .eq 9, 3) := dk_153 0 9 (dk_at dksX2_read_3 12 rfl rfl)
theorem dX2_read_83 : decode cX2_read 83 = .ok (.iinc 4 1, 3) := dk_132 4 1 (dk_at dksX2_read_3 15 rfl rfl)
theorem dX2_read_86 : decode cX2_read 86 = .ok (.goto (-12), 3) := dk_167 255 244 (dk_at dksX2_read_3 18 rfl rfl)
theorem dX2_read_89 : decode cX2_read 89 = .ok (.aload_n 0, 1) := dk_42 (dk_at dksX2_read_3 21 rfl rfl)
theorem dX2_read_90 : decode cX2_read 90 = .ok (.iload_n 1, 1) := dk_27 (dk_at dksX2_read_3 22 rfl rfl)
theorem dX2_read_91 : decode cX2_read 91 = .ok (.iload 4, 2) := dk_21 4 (dk_at dksX2_read_4 0 rfl rfl)
theorem dX2_read_93 : decode cX2_read 93 = .ok (.invokevirtual 99, 3) := dk_182 0 99 (dk_at dksX2_read_4 2 rfl rfl)
theorem dX2_read_96 : decode cX2_read 96 = .ok (.istore 6, 2) := dk_54 6 (dk_at dksX2_read_4 5 rfl rfl)
theorem dX2_read_98 : decode cX2_read 98 = .ok (.iload 6, 2) := dk_21 6 (dk_at dksX2_read_4 7 rfl rfl)
theorem dX2_read_100 : decode cX2_read 100 = .ok (.ifCond .lt 7, 3) := dk_155 0 7 (dk_at dksX2_read_4 9 rfl rfl)
theorem dX2_read_103 : decode cX2_read 103 = .ok (.iconst 3, 1) := dk_6 (dk_at dksX2_read_4 12 rfl rfl)
theorem dX2_read_104 : decode cX2_read 104 = .ok (.goto 17, 3) := dk_167 0 17 (dk_at dksX2_read_4 13 rfl rfl)
theorem dX2_read_107 : decode cX2_read 107 = .ok (.iload 4, 2) := dk_21 4 (dk_at dksX2_read_4 16 rfl rfl)
theorem dX2_read_109 : decode cX2_read 109 = .ok (.iload_n 1, 1) := dk_27 (dk_at dksX2_read_4 18 rfl rfl)
theorem dX2_read_110 : decode cX2_read 110 = .ok (.isub, 1) := dk_100 (dk_at dksX2_read_4 19 rfl rfl)
theorem dX2_read_111 : decode cX2_read 111 = .ok (.bipush 8, 2) := dk_16 8 (dk_at dksX2_read_4 20 rfl rfl)
theorem dX2_read_113 : decode cX2_read 113 = .ok (.if_icmp .le 7, 3) := dk_164 0 7 (dk_at dksX2_read_5 0 rfl rfl)
theorem dX2_read_116 : decode cX2_read 116 = .ok (.iconst 5, 1) := dk_8 (dk_at dksX2_read_5 3 rfl rfl)
theorem dX2_read_117 : decode cX2_read 117 = .ok (.goto 4, 3) := dk_167 0 4 (dk_at dksX2_read_5 4 rfl rfl)
theorem dX2_read_120 : decode cX2_read 120 = .ok (.iconst 0, 1) := dk_3 (dk_at dksX2_read_5 7 rfl rfl)
theorem dX2_read_121 : decode cX2_read 121 = .ok (.istore 5, 2) := dk_54 5 (dk_at dksX2_read_5 8 rfl rfl)
theorem dX2_read_123 : decode cX2_read 123 = .ok (.goto 63, 3) := dk_167 0 63 (dk_at dksX2_read_5 10 rfl rfl)
theorem dX2_read_126 : decode cX2_read 126 = .ok (.aload_n 0, 1) := dk_42 (dk_at dksX2_read_5 13 rfl rfl)
theorem dX2_read_127 : decode cX2_read 127 = .ok (.iload_n 1, 1) := dk_27 (dk_at dksX2_read_5 14 rfl rfl)
theorem dX2_read_128 : decode cX2_read 128 = .ok (.invokevirtual 103, 3) := dk_182 0 103 (dk_at dksX2_read_5 15 rfl rfl)
theorem dX2_read_131 : decode cX2_read 131 = .ok (.ifCond .eq 36, 3) := dk_153 0 36 (dk_at dksX2_read_5 18 rfl rfl)
theorem dX2_read_134 : decode cX2_read 134 = .ok (.aload_n 0, 1) := dk_42 (dk_at dksX2_read_5 21 rfl rfl)
theorem dX2_read_135 : decode cX2_read 135 = .ok (.iload 4, 2) := dk_21 4 (dk_at dksX2_read_5 22 rfl rfl)
theorem dX2_read_137 : decode cX2_read 137 = .ok (.invokevirtual 103, 3) := dk_182 0 103 (dk_at dksX2_read_6 0 rfl rfl)
theorem dX2_read_140 : decode cX2_read 140 = .ok (.ifCond .eq 9, 3) := dk_153 0 9 (dk_at dksX2_read_6 3 rfl rfl)
theorem dX2_read_143 : decode cX2_read 143 = .ok (.iinc 4 1, 3) := dk_132 4 1 (dk_at dksX2_read_6 6 rfl rfl)
theorem dX2_read_146 : decode cX2_read 146 = .ok (.goto (-12), 3) := dk_167 255 244 (dk_at dksX2_read_6 9 rfl rfl)
theorem dX2_read_149 : decode cX2_read 149 = .ok (.iload 4, 2) := dk_21 4 (dk_at dksX2_read_6 12 rfl rfl)
theorem dX2_read_151 : decode cX2_read 151 = .ok (.iload_n 1, 1) := dk_27 (dk_at dksX2_read_6 14 rfl rfl)
theorem dX2_read_152 : decode cX2_read 152 = .ok (.isub, 1) := dk_100 (dk_at dksX2_read_6 15 rfl rfl)
theorem dX2_read_153 : decode cX2_read 153 = .ok (.iconst 4, 1) := dk_7 (dk_at dksX2_read_6 16 rfl rfl)
theorem dX2_read_154 : decode cX2_read 154 = .ok (.if_icmp .le 7, 3) := dk_164 0 7 (dk_at dksX2_read_6 17 rfl rfl)
theorem dX2_read_157 : decode cX2_read 157 = .ok (.iconst 5, 1) := dk_8 (dk_at dksX2_read_6 20 rfl rfl)
theorem dX2_read_158 : decode cX2_read 158 = .ok (.goto 4, 3) := dk_167 0 4 (dk_at dksX2_read_6 21 rfl rfl)
theorem dX2_read_161 : decode cX2_read 161 = .ok (.iconst 1, 1) := dk_4 (dk_at dksX2_read_7 0 rfl rfl)
theorem dX2_read_162 : decode cX2_read 162 = .ok (.istore 5, 2) := dk_54 5 (dk_at dksX2_read_7 1 rfl rfl)
theorem dX2_read_164 : decode cX2_read 164 = .ok (.goto 22, 3) := dk_167 0 22 (dk_at dksX2_read_7 3 rfl rfl)
theorem dX2_read_167 : decode cX2_read 167 = .ok (.aload_n 0, 1) := dk_42 (dk_at dksX2_read_7 6 rfl rfl)
theorem dX2_read_168 : decode cX2_read 168 = .ok (.iload_n 1, 1) := dk_27 (dk_at dksX2_read_7 7 rfl rfl)
theorem dX2_read_169 : decode cX2_read 169 = .ok (.invokevirtual 106, 3) := dk_182 0 106 (dk_at dksX2_read_7 8 rfl rfl)
theorem dX2_read_172 : decode cX2_read 172 = .ok (.istore 6, 2) := dk_54 6 (dk_at dksX2_read_7 11 rfl rfl)
theorem dX2_read_174 : decode cX2_read 174 = .ok (.iload 6, 2) := dk_21 6 (dk_at dksX2_read_7 13 rfl rfl)
theorem dX2_read_176 : decode cX2_read 176 = .ok (.ifCond .ne 7, 3) := dk_154 0 7 (dk_at dksX2_read_7 15 rfl rfl)
theorem dX2_read_179 : decode cX2_read 179 = .ok (.iconst 5, 1) := dk_8 (dk_at dksX2_read_7 18 rfl rfl)
theorem dX2_read_180 : decode cX2_read 180 = .ok (.goto 4, 3) := dk_167 0 4 (dk_at dksX2_read_7 19 rfl rfl)
theorem dX2_read_183 : decode cX2_read 183 = .ok (.iconst 2, 1) := dk_5 (dk_at dksX2_read_7 22 rfl rfl)
theorem dX2_read_184 : decode cX2_read 184 = .ok (.istore 5, 2) := dk_54 5 (dk_at dksX2_read_8 0 rfl rfl)
theorem dX2_read_186 : decode cX2_read 186 = .ok (.aload_n 0, 1) := dk_42 (dk_at dksX2_read_8 2 rfl rfl)
theorem dX2_read_187 : decode cX2_read 187 = .ok (.iload 5, 2) := dk_21 5 (dk_at dksX2_read_8 3 rfl rfl)
theorem dX2_read_189 : decode cX2_read 189 = .ok (.iload_n 1, 1) := dk_27 (dk_at dksX2_read_8 5 rfl rfl)
theorem dX2_read_190 : decode cX2_read 190 = .ok (.iload 4, 2) := dk_21 4 (dk_at dksX2_read_8 6 rfl rfl)
theorem dX2_read_192 : decode cX2_read 192 = .ok (.iload 6, 2) := dk_21 6 (dk_at dksX2_read_8 8 rfl rfl)
theorem dX2_read_194 : decode cX2_read 194 = .ok (.invokevirtual 109, 3) := dk_182 0 109 (dk_at dksX2_read_8 10 rfl rfl)
theorem dX2_read_197 : decode cX2_read 197 = .ok (.iload 5, 2) := dk_21 5 (dk_at dksX2_read_8 13 rfl rfl)
theorem dX2_read_199 : decode cX2_read 199 = .ok (.iconst 5, 1) := dk_8 (dk_at dksX2_read_8 15 rfl rfl)
theorem dX2_read_200 : decode cX2_read 200 = .ok (.if_icmp .eq 7, 3) := dk_159 0 7 (dk_at dksX2_read_8 16 rfl rfl)
theorem dX2_read_203 : decode cX2_read 203 = .ok (.iconst 1, 1) := dk_4 (dk_at dksX2_read_8 19 rfl rfl)
theorem dX2_read_204 : decode cX2_read 204 = .ok (.goto 4, 3) := dk_167 0 4 (dk_at dksX2_read_8 20 rfl rfl)
theorem dX2_read_207 : decode cX2_read 207 = .ok (.iconst 0, 1) := dk_3 (dk_at dksX2_read_8 23 rfl rfl)
theorem dX2_read_208 : decode cX2_read 208 = .ok (.istore_n 2, 1) := dk_61 (dk_at dksX2_read_9 0 rfl rfl)
theorem dX2_read_209 : decode cX2_read 209 = .ok (.iload 4, 2) := dk_21 4 (dk_at dksX2_read_9 1 rfl rfl)
theorem dX2_read_211 : decode cX2_read 211 = .ok (.istore_n 1, 1) := dk_60 (dk_at dksX2_read_9 3 rfl rfl)
theorem dX2_read_212 : decode cX2_read 212 = .ok (.goto (-203), 3) := dk_167 255 53 (dk_at dksX2_read_9 4 rfl rfl)
theorem dX2_read_215 : decode cX2_read 215 = .ok (.iload_n 2, 1) := dk_28 (dk_at dksX2_read_9 7 rfl rfl)
theorem dX2_read_216 : decode cX2_read 216 = .ok (.ifCond .eq 11, 3) := dk_153 0 11 (dk_at dksX2_read_9 8 rfl rfl)
theorem dX2_read_219 : decode cX2_read 219 = .ok (.aload_n 0, 1) := dk_42 (dk_at dksX2_read_9 11 rfl rfl)
theorem dX2_read_220 : decode cX2_read 220 = .ok (.iconst 4, 1) := dk_7 (dk_at dksX2_read_9 12 rfl rfl)
theorem dX2_read_221 : decode cX2_read 221 = .ok (.iload_n 1, 1) := dk_27 (dk_at dksX2_read_9 13 rfl rfl)
theorem dX2_read_222 : decode cX2_read 222 = .ok (.iload_n 1, 1) := dk_27 (dk_at dksX2_read_9 14 rfl rfl)
theorem dX2_read_223 : decode cX2_read 223 = .ok (.iconst 0, 1) := dk_3 (dk_at dksX2_read_9 15 rfl rfl)
theorem dX2_read_224 : decode cX2_read 224 = .ok (.invokevirtual 109, 3) := dk_182 0 109 (dk_at dksX2_read_9 16 rfl rfl)
theorem dX2_read_227 : decode cX2_read 227 = .ok (.return_, 1) := dk_177 (dk_at dksX2_read_9 19 rfl rfl)
abbrev cX2_isLetter : ByteArray := prog_19_method_4_code
def yX2_isLetter : MethodName := ⟨RX2, "isLetter", "(I)Z"⟩
def dkwX2_isLetter_1 : List UInt8 := [3, 172]
abbrev dktX2_isLetter_1 : List UInt8 := dkwX2_isLetter_1 ++ []
def dkwX2_isLetter_0 : List UInt8 := [42, 27, 182, 0, 80, 16, 97, 161, 0, 17, 42, 27, 182, 0, 80, 16, 122, 163, 0, 7, 4, 167, 0, 4]
abbrev dktX2_isLetter_0 : List UInt8 := dkwX2_isLetter_0 ++ dktX2_isLetter_1
theorem dksX2_isLetter_0 : cX2_isLetter.data.toList.drop 0 = dktX2_isLetter_0 := by decide +kernel
theorem dksX2_isLetter_1 : cX2_isLetter.data.toList.drop 24 = dktX2_isLetter_1 := dk_seg dksX2_isLetter_0 24 rfl rfl
theorem dX2_isLetter_0 : decode cX2_isLetter 0 = .ok (.aload_n 0, 1) := dk_42 (dk_at dksX2_isLetter_0 0 rfl rfl)
theorem dX2_isLetter_1 : decode cX2_isLetter 1 = .ok (.iload_n 1, 1) := dk_27 (dk_at dksX2_isLetter_0 1 rfl rfl)
theorem dX2_isLetter_2 : decode cX2_isLetter 2 = .ok (.invokevirtual 80, 3) := dk_182 0 80 (dk_at dksX2_isLetter_0 2 rfl rfl)
theorem dX2_isLetter_5 : decode cX2_isLetter 5 = .ok (.bipush 97, 2) := dk_16 97 (dk_at dksX2_isLetter_0 5 rfl rfl)
theorem dX2_isLetter_7 : decode cX2_isLetter 7 = .ok (.if_icmp .lt 17, 3) := dk_161 0 17 (dk_at dksX2_isLetter_0 7 rfl rfl)
theorem dX2_isLetter_10 : decode cX2_isLetter 10 = .ok (.aload_n 0, 1) := dk_42 (dk_at dksX2_isLetter_0 10 rfl rfl)
theorem dX2_isLetter_11 : decode cX2_isLetter 11 = .ok (.iload_n 1, 1) := dk_27 (dk_at dksX2_isLetter_0 11 rfl rfl)
theorem dX2_isLetter_12 : decode cX2_isLetter 12 = .ok (.invokevirtual 80, 3) := dk_182 0 80 (dk_at dksX2_isLetter_0 12 rfl rfl)
theorem dX2_isLetter_15 : decode cX2_isLetter 15 = .ok (.bipush 122, 2) := dk_16 122 (dk_at dksX2_isLetter_0 15 rfl rfl)
theorem dX2_isLetter_17 : decode cX2_isLetter 17 = .ok (.if_icmp .gt 7, 3) := dk_163 0 7 (dk_at dksX2_isLetter_0 17 rfl rfl)
theorem dX2_isLetter_20 : decode cX2_isLetter 20 = .ok (.iconst 1, 1) := dk_4 (dk_at dksX2_isLetter_0 20 rfl rfl)
theorem dX2_isLetter_21 : decode cX2_isLetter 21 = .ok (.goto 4, 3) := dk_167 0 4 (dk_at dksX2_isLetter_0 21 rfl rfl)
theorem dX2_isLetter_24 : decode cX2_isLetter 24 = .ok (.iconst 0, 1) := dk_3 (dk_at dksX2_isLetter_1 0 rfl rfl)
theorem dX2_isLetter_25 : decode cX2_isLetter 25 = .ok (.ireturn, 1) := dk_172 (dk_at dksX2_isLetter_1 1 rfl rfl)
abbrev cX2_at : ByteArray := prog_19_method_2_code
def yX2_at : MethodName := ⟨RX2, "at", "(I)I"⟩
def dkwX2_at_0 : List UInt8 := [27, 42, 180, 0, 76, 162, 0, 12, 42, 180, 0, 59, 27, 51, 167, 0, 4, 3, 172]
abbrev dktX2_at_0 : List UInt8 := dkwX2_at_0 ++ []
theorem dksX2_at_0 : cX2_at.data.toList.drop 0 = dktX2_at_0 := by decide +kernel
theorem dX2_at_0 : decode cX2_at 0 = .ok (.iload_n 1, 1) := dk_27 (dk_at dksX2_at_0 0 rfl rfl)
theorem dX2_at_1 : decode cX2_at 1 = .ok (.aload_n 0, 1) := dk_42 (dk_at dksX2_at_0 1 rfl rfl)
theorem dX2_at_2 : decode cX2_at 2 = .ok (.getfield 76, 3) := dk_180 0 76 (dk_at dksX2_at_0 2 rfl rfl)
theorem dX2_at_5 : decode cX2_at 5 = .ok (.if_icmp .ge 12, 3) := dk_162 0 12 (dk_at dksX2_at_0 5 rfl rfl)
theorem dX2_at_8 : decode cX2_at 8 = .ok (.aload_n 0, 1) := dk_42 (dk_at dksX2_at_0 8 rfl rfl)
theorem dX2_at_9 : decode cX2_at 9 = .ok (.getfield 59, 3) := dk_180 0 59 (dk_at dksX2_at_0 9 rfl rfl)
theorem dX2_at_12 : decode cX2_at 12 = .ok (.iload_n 1, 1) := dk_27 (dk_at dksX2_at_0 12 rfl rfl)
theorem dX2_at_13 : decode cX2_at 13 = .ok (.baload, 1) := dk_51 (dk_at dksX2_at_0 13 rfl rfl)
theorem dX2_at_14 : decode cX2_at 14 = .ok (.goto 4, 3) := dk_167 0 4 (dk_at dksX2_at_0 14 rfl rfl)
theorem dX2_at_17 : decode cX2_at 17 = .ok (.iconst 0, 1) := dk_3 (dk_at dksX2_at_0 17 rfl rfl)
theorem dX2_at_18 : decode cX2_at 18 = .ok (.ireturn, 1) := dk_172 (dk_at dksX2_at_0 18 rfl rfl)
abbrev cX2_word : ByteArray := prog_19_method_6_code
def yX2_word : MethodName := ⟨RX2, "word", "(II)I"⟩
def dkwX2_word_4 : List UInt8 := [167, 255, 165, 2, 172]
abbrev dktX2_word_4 : List UInt8 := dkwX2_word_4 ++ []
def dkwX2_word_3 : List UInt8 := [167, 0, 4, 3, 54, 4, 132, 5, 1, 167, 255, 212, 21, 4, 153, 0, 5, 29, 172, 132, 3, 1]
abbrev dktX2_word_3 : List UInt8 := dkwX2_word_3 ++ dktX2_word_4
def dkwX2_word_2 : List UInt8 := [42, 180, 0, 53, 29, 50, 21, 5, 27, 100, 182, 0, 91, 42, 180, 0, 59, 21, 5, 51, 160, 0, 7, 4]
abbrev dktX2_word_2 : List UInt8 := dkwX2_word_2 ++ dktX2_word_3
def dkwX2_word_1 : List UInt8 := [160, 0, 7, 4, 167, 0, 4, 3, 54, 4, 27, 54, 5, 21, 5, 28, 162, 0, 44, 21, 4, 153, 0, 39]
abbrev dktX2_word_1 : List UInt8 := dkwX2_word_1 ++ dktX2_word_2
def dkwX2_word_0 : List UInt8 := [3, 62, 29, 42, 180, 0, 53, 190, 162, 0, 88, 42, 180, 0, 53, 29, 50, 182, 0, 87, 28, 27, 100]
abbrev dktX2_word_0 : List UInt8 := dkwX2_word_0 ++ dktX2_word_1
theorem dksX2_word_0 : cX2_word.data.toList.drop 0 = dktX2_word_0 := by decide +kernel
theorem dksX2_word_1 : cX2_word.data.toList.drop 23 = dktX2_word_1 := dk_seg dksX2_word_0 23 rfl rfl
theorem dksX2_word_2 : cX2_word.data.toList.drop 47 = dktX2_word_2 := dk_seg dksX2_word_1 24 rfl rfl
theorem dksX2_word_3 : cX2_word.data.toList.drop 71 = dktX2_word_3 := dk_seg dksX2_word_2 24 rfl rfl
theorem dksX2_word_4 : cX2_word.data.toList.drop 93 = dktX2_word_4 := dk_seg dksX2_word_3 22 rfl rfl
theorem dX2_word_0 : decode cX2_word 0 = .ok (.iconst 0, 1) := dk_3 (dk_at dksX2_word_0 0 rfl rfl)
theorem dX2_word_1 : decode cX2_word 1 = .ok (.istore_n 3, 1) := dk_62 (dk_at dksX2_word_0 1 rfl rfl)
theorem dX2_word_2 : decode cX2_word 2 = .ok (.iload_n 3, 1) := dk_29 (dk_at dksX2_word_0 2 rfl rfl)
theorem dX2_word_3 : decode cX2_word 3 = .ok (.aload_n 0, 1) := dk_42 (dk_at dksX2_word_0 3 rfl rfl)
theorem dX2_word_4 : decode cX2_word 4 = .ok (.getfield 53, 3) := dk_180 0 53 (dk_at dksX2_word_0 4 rfl rfl)
theorem dX2_word_7 : decode cX2_word 7 = .ok (.arraylength, 1) := dk_190 (dk_at dksX2_word_0 7 rfl rfl)
theorem dX2_word_8 : decode cX2_word 8 = .ok (.if_icmp .ge 88, 3) := dk_162 0 88 (dk_at dksX2_word_0 8 rfl rfl)
theorem dX2_word_11 : decode cX2_word 11 = .ok (.aload_n 0, 1) := dk_42 (dk_at dksX2_word_0 11 rfl rfl)
theorem dX2_word_12 : decode cX2_word 12 = .ok (.getfield 53, 3) := dk_180 0 53 (dk_at dksX2_word_0 12 rfl rfl)
theorem dX2_word_15 : decode cX2_word 15 = .ok (.iload_n 3, 1) := dk_29 (dk_at dksX2_word_0 15 rfl rfl)
theorem dX2_word_16 : decode cX2_word 16 = .ok (.aaload, 1) := dk_50 (dk_at dksX2_word_0 16 rfl rfl)
theorem dX2_word_17 : decode cX2_word 17 = .ok (.invokevirtual 87, 3) := dk_182 0 87 (dk_at dksX2_word_0 17 rfl rfl)
theorem dX2_word_20 : decode cX2_word 20 = .ok (.iload_n 2, 1) := dk_28 (dk_at dksX2_word_0 20 rfl rfl)
theorem dX2_word_21 : decode cX2_word 21 = .ok (.iload_n 1, 1) := dk_27 (dk_at dksX2_word_0 21 rfl rfl)
theorem dX2_word_22 : decode cX2_word 22 = .ok (.isub, 1) := dk_100 (dk_at dksX2_word_0 22 rfl rfl)
theorem dX2_word_23 : decode cX2_word 23 = .ok (.if_icmp .ne 7, 3) := dk_160 0 7 (dk_at dksX2_word_1 0 rfl rfl)
theorem dX2_word_26 : decode cX2_word 26 = .ok (.iconst 1, 1) := dk_4 (dk_at dksX2_word_1 3 rfl rfl)
theorem dX2_word_27 : decode cX2_word 27 = .ok (.goto 4, 3) := dk_167 0 4 (dk_at dksX2_word_1 4 rfl rfl)
theorem dX2_word_30 : decode cX2_word 30 = .ok (.iconst 0, 1) := dk_3 (dk_at dksX2_word_1 7 rfl rfl)
theorem dX2_word_31 : decode cX2_word 31 = .ok (.istore 4, 2) := dk_54 4 (dk_at dksX2_word_1 8 rfl rfl)
theorem dX2_word_33 : decode cX2_word 33 = .ok (.iload_n 1, 1) := dk_27 (dk_at dksX2_word_1 10 rfl rfl)
theorem dX2_word_34 : decode cX2_word 34 = .ok (.istore 5, 2) := dk_54 5 (dk_at dksX2_word_1 11 rfl rfl)
theorem dX2_word_36 : decode cX2_word 36 = .ok (.iload 5, 2) := dk_21 5 (dk_at dksX2_word_1 13 rfl rfl)
theorem dX2_word_38 : decode cX2_word 38 = .ok (.iload_n 2, 1) := dk_28 (dk_at dksX2_word_1 15 rfl rfl)
theorem dX2_word_39 : decode cX2_word 39 = .ok (.if_icmp .ge 44, 3) := dk_162 0 44 (dk_at dksX2_word_1 16 rfl rfl)
theorem dX2_word_42 : decode cX2_word 42 = .ok (.iload 4, 2) := dk_21 4 (dk_at dksX2_word_1 19 rfl rfl)
theorem dX2_word_44 : decode cX2_word 44 = .ok (.ifCond .eq 39, 3) := dk_153 0 39 (dk_at dksX2_word_1 21 rfl rfl)
theorem dX2_word_47 : decode cX2_word 47 = .ok (.aload_n 0, 1) := dk_42 (dk_at dksX2_word_2 0 rfl rfl)
theorem dX2_word_48 : decode cX2_word 48 = .ok (.getfield 53, 3) := dk_180 0 53 (dk_at dksX2_word_2 1 rfl rfl)
theorem dX2_word_51 : decode cX2_word 51 = .ok (.iload_n 3, 1) := dk_29 (dk_at dksX2_word_2 4 rfl rfl)
theorem dX2_word_52 : decode cX2_word 52 = .ok (.aaload, 1) := dk_50 (dk_at dksX2_word_2 5 rfl rfl)
theorem dX2_word_53 : decode cX2_word 53 = .ok (.iload 5, 2) := dk_21 5 (dk_at dksX2_word_2 6 rfl rfl)
theorem dX2_word_55 : decode cX2_word 55 = .ok (.iload_n 1, 1) := dk_27 (dk_at dksX2_word_2 8 rfl rfl)
theorem dX2_word_56 : decode cX2_word 56 = .ok (.isub, 1) := dk_100 (dk_at dksX2_word_2 9 rfl rfl)
theorem dX2_word_57 : decode cX2_word 57 = .ok (.invokevirtual 91, 3) := dk_182 0 91 (dk_at dksX2_word_2 10 rfl rfl)
theorem dX2_word_60 : decode cX2_word 60 = .ok (.aload_n 0, 1) := dk_42 (dk_at dksX2_word_2 13 rfl rfl)
theorem dX2_word_61 : decode cX2_word 61 = .ok (.getfield 59, 3) := dk_180 0 59 (dk_at dksX2_word_2 14 rfl rfl)
theorem dX2_word_64 : decode cX2_word 64 = .ok (.iload 5, 2) := dk_21 5 (dk_at dksX2_word_2 17 rfl rfl)
theorem dX2_word_66 : decode cX2_word 66 = .ok (.baload, 1) := dk_51 (dk_at dksX2_word_2 19 rfl rfl)
theorem dX2_word_67 : decode cX2_word 67 = .ok (.if_icmp .ne 7, 3) := dk_160 0 7 (dk_at dksX2_word_2 20 rfl rfl)
theorem dX2_word_70 : decode cX2_word 70 = .ok (.iconst 1, 1) := dk_4 (dk_at dksX2_word_2 23 rfl rfl)
theorem dX2_word_71 : decode cX2_word 71 = .ok (.goto 4, 3) := dk_167 0 4 (dk_at dksX2_word_3 0 rfl rfl)
theorem dX2_word_74 : decode cX2_word 74 = .ok (.iconst 0, 1) := dk_3 (dk_at dksX2_word_3 3 rfl rfl)
theorem dX2_word_75 : decode cX2_word 75 = .ok (.istore 4, 2) := dk_54 4 (dk_at dksX2_word_3 4 rfl rfl)
theorem dX2_word_77 : decode cX2_word 77 = .ok (.iinc 5 1, 3) := dk_132 5 1 (dk_at dksX2_word_3 6 rfl rfl)
theorem dX2_word_80 : decode cX2_word 80 = .ok (.goto (-44), 3) := dk_167 255 212 (dk_at dksX2_word_3 9 rfl rfl)
theorem dX2_word_83 : decode cX2_word 83 = .ok (.iload 4, 2) := dk_21 4 (dk_at dksX2_word_3 12 rfl rfl)
theorem dX2_word_85 : decode cX2_word 85 = .ok (.ifCond .eq 5, 3) := dk_153 0 5 (dk_at dksX2_word_3 14 rfl rfl)
theorem dX2_word_88 : decode cX2_word 88 = .ok (.iload_n 3, 1) := dk_29 (dk_at dksX2_word_3 17 rfl rfl)
theorem dX2_word_89 : decode cX2_word 89 = .ok (.ireturn, 1) := dk_172 (dk_at dksX2_word_3 18 rfl rfl)
theorem dX2_word_90 : decode cX2_word 90 = .ok (.iinc 3 1, 3) := dk_132 3 1 (dk_at dksX2_word_3 19 rfl rfl)
theorem dX2_word_93 : decode cX2_word 93 = .ok (.goto (-91), 3) := dk_167 255 165 (dk_at dksX2_word_4 0 rfl rfl)
theorem dX2_word_96 : decode cX2_word 96 = .ok (.iconst (-1), 1) := dk_2 (dk_at dksX2_word_4 3 rfl rfl)
theorem dX2_word_97 : decode cX2_word 97 = .ok (.ireturn, 1) := dk_172 (dk_at dksX2_word_4 4 rfl rfl)
abbrev cX2_isDigit : ByteArray := prog_19_method_3_code
def yX2_isDigit : MethodName := ⟨RX2, "isDigit", "(I)Z"⟩
def dkwX2_isDigit_1 : List UInt8 := [3, 172]
abbrev dktX2_isDigit_1 : List UInt8 := dkwX2_isDigit_1 ++ []
def dkwX2_isDigit_0 : List UInt8 := [42, 27, 182, 0, 80, 16, 48, 161, 0, 17, 42, 27, 182, 0, 80, 16, 57, 163, 0, 7, 4, 167, 0, 4]
abbrev dktX2_isDigit_0 : List UInt8 := dkwX2_isDigit_0 ++ dktX2_isDigit_1
theorem dksX2_isDigit_0 : cX2_isDigit.data.toList.drop 0 = dktX2_isDigit_0 := by decide +kernel
theorem dksX2_isDigit_1 : cX2_isDigit.data.toList.drop 24 = dktX2_isDigit_1 := dk_seg dksX2_isDigit_0 24 rfl rfl
theorem dX2_isDigit_0 : decode cX2_isDigit 0 = .ok (.aload_n 0, 1) := dk_42 (dk_at dksX2_isDigit_0 0 rfl rfl)
theorem dX2_isDigit_1 : decode cX2_isDigit 1 = .ok (.iload_n 1, 1) := dk_27 (dk_at dksX2_isDigit_0 1 rfl rfl)
theorem dX2_isDigit_2 : decode cX2_isDigit 2 = .ok (.invokevirtual 80, 3) := dk_182 0 80 (dk_at dksX2_isDigit_0 2 rfl rfl)
theorem dX2_isDigit_5 : decode cX2_isDigit 5 = .ok (.bipush 48, 2) := dk_16 48 (dk_at dksX2_isDigit_0 5 rfl rfl)
theorem dX2_isDigit_7 : decode cX2_isDigit 7 = .ok (.if_icmp .lt 17, 3) := dk_161 0 17 (dk_at dksX2_isDigit_0 7 rfl rfl)
theorem dX2_isDigit_10 : decode cX2_isDigit 10 = .ok (.aload_n 0, 1) := dk_42 (dk_at dksX2_isDigit_0 10 rfl rfl)
theorem dX2_isDigit_11 : decode cX2_isDigit 11 = .ok (.iload_n 1, 1) := dk_27 (dk_at dksX2_isDigit_0 11 rfl rfl)
theorem dX2_isDigit_12 : decode cX2_isDigit 12 = .ok (.invokevirtual 80, 3) := dk_182 0 80 (dk_at dksX2_isDigit_0 12 rfl rfl)
theorem dX2_isDigit_15 : decode cX2_isDigit 15 = .ok (.bipush 57, 2) := dk_16 57 (dk_at dksX2_isDigit_0 15 rfl rfl)
theorem dX2_isDigit_17 : decode cX2_isDigit 17 = .ok (.if_icmp .gt 7, 3) := dk_163 0 7 (dk_at dksX2_isDigit_0 17 rfl rfl)
theorem dX2_isDigit_20 : decode cX2_isDigit 20 = .ok (.iconst 1, 1) := dk_4 (dk_at dksX2_isDigit_0 20 rfl rfl)
theorem dX2_isDigit_21 : decode cX2_isDigit 21 = .ok (.goto 4, 3) := dk_167 0 4 (dk_at dksX2_isDigit_0 21 rfl rfl)
theorem dX2_isDigit_24 : decode cX2_isDigit 24 = .ok (.iconst 0, 1) := dk_3 (dk_at dksX2_isDigit_1 0 rfl rfl)
theorem dX2_isDigit_25 : decode cX2_isDigit 25 = .ok (.ireturn, 1) := dk_172 (dk_at dksX2_isDigit_1 1 rfl rfl)
abbrev cX2_sign : ByteArray := prog_19_method_7_code
def yX2_sign : MethodName := ⟨RX2, "sign", "(I)I"⟩
def dkwX2_sign_2 : List UInt8 := [28, 172, 3, 172]
abbrev dktX2_sign_2 : List UInt8 := dkwX2_sign_2 ++ []
def dkwX2_sign_1 : List UInt8 := [170, 0, 0, 0, 103, 0, 0, 0, 40, 0, 0, 0, 61, 0, 0, 0, 101, 0, 0, 0, 101, 0, 0, 0, 101, 0, 0, 0, 101, 0, 0, 0, 103, 0, 0, 0, 101, 0, 0, 0, 103, 0, 0, 0, 101, 0, 0, 0, 103, 0, 0, 0, 103, 0, 0, 0, 103, 0, 0, 0, 103, 0, 0, 0, 103, 0, 0, 0, 103, 0, 0, 0, 103, 0, 0, 0, 103, 0, 0, 0, 103, 0, 0, 0, 103, 0, 0, 0, 103, 0, 0, 0, 101, 0, 0, 0, 101, 0, 0, 0, 101]
abbrev dktX2_sign_1 : List UInt8 := dkwX2_sign_1 ++ dktX2_sign_2
def dkwX2_sign_0 : List UInt8 := [42, 27, 182, 0, 80, 61, 28]
abbrev dktX2_sign_0 : List UInt8 := dkwX2_sign_0 ++ dktX2_sign_1
theorem dksX2_sign_0 : cX2_sign.data.toList.drop 0 = dktX2_sign_0 := by decide +kernel
theorem dksX2_sign_1 : cX2_sign.data.toList.drop 7 = dktX2_sign_1 := dk_seg dksX2_sign_0 7 rfl rfl
theorem dksX2_sign_2 : cX2_sign.data.toList.drop 108 = dktX2_sign_2 := dk_seg dksX2_sign_1 101 rfl rfl
theorem dX2_sign_0 : decode cX2_sign 0 = .ok (.aload_n 0, 1) := dk_42 (dk_at dksX2_sign_0 0 rfl rfl)
theorem dX2_sign_1 : decode cX2_sign 1 = .ok (.iload_n 1, 1) := dk_27 (dk_at dksX2_sign_0 1 rfl rfl)
theorem dX2_sign_2 : decode cX2_sign 2 = .ok (.invokevirtual 80, 3) := dk_182 0 80 (dk_at dksX2_sign_0 2 rfl rfl)
theorem dX2_sign_5 : decode cX2_sign 5 = .ok (.istore_n 2, 1) := dk_61 (dk_at dksX2_sign_0 5 rfl rfl)
theorem dX2_sign_6 : decode cX2_sign 6 = .ok (.iload_n 2, 1) := dk_28 (dk_at dksX2_sign_0 6 rfl rfl)
theorem dX2_sign_7 : decode cX2_sign 7 = .ok (.tableswitch 103 40 61 #[101, 101, 101, 101, 103, 101, 103, 101, 103, 103, 103, 103, 103, 103, 103, 103, 103, 103, 103, 101, 101, 101], 101) := by decide +kernel
theorem dX2_sign_108 : decode cX2_sign 108 = .ok (.iload_n 2, 1) := dk_28 (dk_at dksX2_sign_2 0 rfl rfl)
theorem dX2_sign_109 : decode cX2_sign 109 = .ok (.ireturn, 1) := dk_172 (dk_at dksX2_sign_2 1 rfl rfl)
theorem dX2_sign_110 : decode cX2_sign 110 = .ok (.iconst 0, 1) := dk_3 (dk_at dksX2_sign_2 2 rfl rfl)
theorem dX2_sign_111 : decode cX2_sign 111 = .ok (.ireturn, 1) := dk_172 (dk_at dksX2_sign_2 3 rfl rfl)
abbrev cX2_add : ByteArray := prog_19_method_5_code
def yX2_add : MethodName := ⟨RX2, "add", "(IIII)V"⟩
def dkwX2_add_2 : List UInt8 := [180, 0, 84, 4, 96, 181, 0, 84, 177]
abbrev dktX2_add_2 : List UInt8 := dkwX2_add_2 ++ []
def dkwX2_add_1 : List UInt8 := [180, 0, 70, 42, 180, 0, 84, 29, 147, 86, 42, 180, 0, 73, 42, 180, 0, 84, 21, 4, 147, 86, 42, 89]
abbrev dktX2_add_1 : List UInt8 := dkwX2_add_1 ++ dktX2_add_2
def dkwX2_add_0 : List UInt8 := [42, 180, 0, 63, 42, 180, 0, 84, 27, 145, 84, 42, 180, 0, 66, 42, 180, 0, 84, 28, 147, 86, 42]
abbrev dktX2_add_0 : List UInt8 := dkwX2_add_0 ++ dktX2_add_1
theorem dksX2_add_0 : cX2_add.data.toList.drop 0 = dktX2_add_0 := by decide +kernel
theorem dksX2_add_1 : cX2_add.data.toList.drop 23 = dktX2_add_1 := dk_seg dksX2_add_0 23 rfl rfl
theorem dksX2_add_2 : cX2_add.data.toList.drop 47 = dktX2_add_2 := dk_seg dksX2_add_1 24 rfl rfl
theorem dX2_add_0 : decode cX2_add 0 = .ok (.aload_n 0, 1) := dk_42 (dk_at dksX2_add_0 0 rfl rfl)
theorem dX2_add_1 : decode cX2_add 1 = .ok (.getfield 63, 3) := dk_180 0 63 (dk_at dksX2_add_0 1 rfl rfl)
theorem dX2_add_4 : decode cX2_add 4 = .ok (.aload_n 0, 1) := dk_42 (dk_at dksX2_add_0 4 rfl rfl)
theorem dX2_add_5 : decode cX2_add 5 = .ok (.getfield 84, 3) := dk_180 0 84 (dk_at dksX2_add_0 5 rfl rfl)
theorem dX2_add_8 : decode cX2_add 8 = .ok (.iload_n 1, 1) := dk_27 (dk_at dksX2_add_0 8 rfl rfl)
theorem dX2_add_9 : decode cX2_add 9 = .ok (.i2b, 1) := dk_145 (dk_at dksX2_add_0 9 rfl rfl)
theorem dX2_add_10 : decode cX2_add 10 = .ok (.bastore, 1) := dk_84 (dk_at dksX2_add_0 10 rfl rfl)
theorem dX2_add_11 : decode cX2_add 11 = .ok (.aload_n 0, 1) := dk_42 (dk_at dksX2_add_0 11 rfl rfl)
theorem dX2_add_12 : decode cX2_add 12 = .ok (.getfield 66, 3) := dk_180 0 66 (dk_at dksX2_add_0 12 rfl rfl)
theorem dX2_add_15 : decode cX2_add 15 = .ok (.aload_n 0, 1) := dk_42 (dk_at dksX2_add_0 15 rfl rfl)
theorem dX2_add_16 : decode cX2_add 16 = .ok (.getfield 84, 3) := dk_180 0 84 (dk_at dksX2_add_0 16 rfl rfl)
theorem dX2_add_19 : decode cX2_add 19 = .ok (.iload_n 2, 1) := dk_28 (dk_at dksX2_add_0 19 rfl rfl)
theorem dX2_add_20 : decode cX2_add 20 = .ok (.i2s, 1) := dk_147 (dk_at dksX2_add_0 20 rfl rfl)
theorem dX2_add_21 : decode cX2_add 21 = .ok (.sastore, 1) := dk_86 (dk_at dksX2_add_0 21 rfl rfl)
theorem dX2_add_22 : decode cX2_add 22 = .ok (.aload_n 0, 1) := dk_42 (dk_at dksX2_add_0 22 rfl rfl)
theorem dX2_add_23 : decode cX2_add 23 = .ok (.getfield 70, 3) := dk_180 0 70 (dk_at dksX2_add_1 0 rfl rfl)
theorem dX2_add_26 : decode cX2_add 26 = .ok (.aload_n 0, 1) := dk_42 (dk_at dksX2_add_1 3 rfl rfl)
theorem dX2_add_27 : decode cX2_add 27 = .ok (.getfield 84, 3) := dk_180 0 84 (dk_at dksX2_add_1 4 rfl rfl)
theorem dX2_add_30 : decode cX2_add 30 = .ok (.iload_n 3, 1) := dk_29 (dk_at dksX2_add_1 7 rfl rfl)
theorem dX2_add_31 : decode cX2_add 31 = .ok (.i2s, 1) := dk_147 (dk_at dksX2_add_1 8 rfl rfl)
theorem dX2_add_32 : decode cX2_add 32 = .ok (.sastore, 1) := dk_86 (dk_at dksX2_add_1 9 rfl rfl)
theorem dX2_add_33 : decode cX2_add 33 = .ok (.aload_n 0, 1) := dk_42 (dk_at dksX2_add_1 10 rfl rfl)
theorem dX2_add_34 : decode cX2_add 34 = .ok (.getfield 73, 3) := dk_180 0 73 (dk_at dksX2_add_1 11 rfl rfl)
theorem dX2_add_37 : decode cX2_add 37 = .ok (.aload_n 0, 1) := dk_42 (dk_at dksX2_add_1 14 rfl rfl)
theorem dX2_add_38 : decode cX2_add 38 = .ok (.getfield 84, 3) := dk_180 0 84 (dk_at dksX2_add_1 15 rfl rfl)
theorem dX2_add_41 : decode cX2_add 41 = .ok (.iload 4, 2) := dk_21 4 (dk_at dksX2_add_1 18 rfl rfl)
theorem dX2_add_43 : decode cX2_add 43 = .ok (.i2s, 1) := dk_147 (dk_at dksX2_add_1 20 rfl rfl)
theorem dX2_add_44 : decode cX2_add 44 = .ok (.sastore, 1) := dk_86 (dk_at dksX2_add_1 21 rfl rfl)
theorem dX2_add_45 : decode cX2_add 45 = .ok (.aload_n 0, 1) := dk_42 (dk_at dksX2_add_1 22 rfl rfl)
theorem dX2_add_46 : decode cX2_add 46 = .ok (.dup, 1) := dk_89 (dk_at dksX2_add_1 23 rfl rfl)
theorem dX2_add_47 : decode cX2_add 47 = .ok (.getfield 84, 3) := dk_180 0 84 (dk_at dksX2_add_2 0 rfl rfl)
theorem dX2_add_50 : decode cX2_add 50 = .ok (.iconst 1, 1) := dk_4 (dk_at dksX2_add_2 3 rfl rfl)
theorem dX2_add_51 : decode cX2_add 51 = .ok (.iadd, 1) := dk_96 (dk_at dksX2_add_2 4 rfl rfl)
theorem dX2_add_52 : decode cX2_add 52 = .ok (.putfield 84, 3) := dk_181 0 84 (dk_at dksX2_add_2 5 rfl rfl)
theorem dX2_add_55 : decode cX2_add 55 = .ok (.return_, 1) := dk_177 (dk_at dksX2_add_2 8 rfl rfl)
abbrev cX2_number : ByteArray := prog_19_method_10_code
def yX2_number : MethodName := ⟨RX2, "number", "(I)I"⟩
def dkwX2_number_1 : List UInt8 := [180, 0, 59, 29, 51, 96, 16, 48, 100, 61, 132, 3, 1, 167, 255, 228, 28, 172]
abbrev dktX2_number_1 : List UInt8 := dkwX2_number_1 ++ []
def dkwX2_number_0 : List UInt8 := [3, 61, 42, 180, 0, 66, 27, 53, 62, 29, 42, 180, 0, 70, 27, 53, 162, 0, 24, 16, 10, 28, 104, 42]
abbrev dktX2_number_0 : List UInt8 := dkwX2_number_0 ++ dktX2_number_1
theorem dksX2_number_0 : cX2_number.data.toList.drop 0 = dktX2_number_0 := by decide +kernel
theorem dksX2_number_1 : cX2_number.data.toList.drop 24 = dktX2_number_1 := dk_seg dksX2_number_0 24 rfl rfl
theorem dX2_number_0 : decode cX2_number 0 = .ok (.iconst 0, 1) := dk_3 (dk_at dksX2_number_0 0 rfl rfl)
theorem dX2_number_1 : decode cX2_number 1 = .ok (.istore_n 2, 1) := dk_61 (dk_at dksX2_number_0 1 rfl rfl)
theorem dX2_number_2 : decode cX2_number 2 = .ok (.aload_n 0, 1) := dk_42 (dk_at dksX2_number_0 2 rfl rfl)
theorem dX2_number_3 : decode cX2_number 3 = .ok (.getfield 66, 3) := dk_180 0 66 (dk_at dksX2_number_0 3 rfl rfl)
theorem dX2_number_6 : decode cX2_number 6 = .ok (.iload_n 1, 1) := dk_27 (dk_at dksX2_number_0 6 rfl rfl)
theorem dX2_number_7 : decode cX2_number 7 = .ok (.saload, 1) := dk_53 (dk_at dksX2_number_0 7 rfl rfl)
theorem dX2_number_8 : decode cX2_number 8 = .ok (.istore_n 3, 1) := dk_62 (dk_at dksX2_number_0 8 rfl rfl)
theorem dX2_number_9 : decode cX2_number 9 = .ok (.iload_n 3, 1) := dk_29 (dk_at dksX2_number_0 9 rfl rfl)
theorem dX2_number_10 : decode cX2_number 10 = .ok (.aload_n 0, 1) := dk_42 (dk_at dksX2_number_0 10 rfl rfl)
theorem dX2_number_11 : decode cX2_number 11 = .ok (.getfield 70, 3) := dk_180 0 70 (dk_at dksX2_number_0 11 rfl rfl)
theorem dX2_number_14 : decode cX2_number 14 = .ok (.iload_n 1, 1) := dk_27 (dk_at dksX2_number_0 14 rfl rfl)
theorem dX2_number_15 : decode cX2_number 15 = .ok (.saload, 1) := dk_53 (dk_at dksX2_number_0 15 rfl rfl)
theorem dX2_number_16 : decode cX2_number 16 = .ok (.if_icmp .ge 24, 3) := dk_162 0 24 (dk_at dksX2_number_0 16 rfl rfl)
theorem dX2_number_19 : decode cX2_number 19 = .ok (.bipush 10, 2) := dk_16 10 (dk_at dksX2_number_0 19 rfl rfl)
theorem dX2_number_21 : decode cX2_number 21 = .ok (.iload_n 2, 1) := dk_28 (dk_at dksX2_number_0 21 rfl rfl)
theorem dX2_number_22 : decode cX2_number 22 = .ok (.imul, 1) := dk_104 (dk_at dksX2_number_0 22 rfl rfl)
theorem dX2_number_23 : decode cX2_number 23 = .ok (.aload_n 0, 1) := dk_42 (dk_at dksX2_number_0 23 rfl rfl)
theorem dX2_number_24 : decode cX2_number 24 = .ok (.getfield 59, 3) := dk_180 0 59 (dk_at dksX2_number_1 0 rfl rfl)
theorem dX2_number_27 : decode cX2_number 27 = .ok (.iload_n 3, 1) := dk_29 (dk_at dksX2_number_1 3 rfl rfl)
theorem dX2_number_28 : decode cX2_number 28 = .ok (.baload, 1) := dk_51 (dk_at dksX2_number_1 4 rfl rfl)
theorem dX2_number_29 : decode cX2_number 29 = .ok (.iadd, 1) := dk_96 (dk_at dksX2_number_1 5 rfl rfl)
theorem dX2_number_30 : decode cX2_number 30 = .ok (.bipush 48, 2) := dk_16 48 (dk_at dksX2_number_1 6 rfl rfl)
theorem dX2_number_32 : decode cX2_number 32 = .ok (.isub, 1) := dk_100 (dk_at dksX2_number_1 8 rfl rfl)
theorem dX2_number_33 : decode cX2_number 33 = .ok (.istore_n 2, 1) := dk_61 (dk_at dksX2_number_1 9 rfl rfl)
theorem dX2_number_34 : decode cX2_number 34 = .ok (.iinc 3 1, 3) := dk_132 3 1 (dk_at dksX2_number_1 10 rfl rfl)
theorem dX2_number_37 : decode cX2_number 37 = .ok (.goto (-28), 3) := dk_167 255 228 (dk_at dksX2_number_1 13 rfl rfl)
theorem dX2_number_40 : decode cX2_number 40 = .ok (.iload_n 2, 1) := dk_28 (dk_at dksX2_number_1 16 rfl rfl)
theorem dX2_number_41 : decode cX2_number 41 = .ok (.ireturn, 1) := dk_172 (dk_at dksX2_number_1 17 rfl rfl)
abbrev cX2_text : ByteArray := prog_19_method_9_code
def yX2_text : MethodName := ⟨RX2, "text", "(I)Ljava/lang/String;"⟩
def dkwX2_text_2 : List UInt8 := [182, 0, 120, 176]
abbrev dktX2_text_2 : List UInt8 := dkwX2_text_2 ++ []
def dkwX2_text_1 : List UInt8 := [162, 0, 21, 44, 42, 180, 0, 59, 29, 51, 146, 182, 0, 116, 87, 132, 3, 1, 167, 255, 231, 44]
abbrev dktX2_text_1 : List UInt8 := dkwX2_text_1 ++ dktX2_text_2
def dkwX2_text_0 : List UInt8 := [187, 0, 113, 89, 183, 0, 115, 77, 42, 180, 0, 66, 27, 53, 62, 29, 42, 180, 0, 70, 27, 53]
abbrev dktX2_text_0 : List UInt8 := dkwX2_text_0 ++ dktX2_text_1
theorem dksX2_text_0 : cX2_text.data.toList.drop 0 = dktX2_text_0 := by decide +kernel
theorem dksX2_text_1 : cX2_text.data.toList.drop 22 = dktX2_text_1 := dk_seg dksX2_text_0 22 rfl rfl
theorem dksX2_text_2 : cX2_text.data.toList.drop 44 = dktX2_text_2 := dk_seg dksX2_text_1 22 rfl rfl
theorem dX2_text_0 : decode cX2_text 0 = .ok (.new 113, 3) := dk_187 0 113 (dk_at dksX2_text_0 0 rfl rfl)
theorem dX2_text_3 : decode cX2_text 3 = .ok (.dup, 1) := dk_89 (dk_at dksX2_text_0 3 rfl rfl)
theorem dX2_text_4 : decode cX2_text 4 = .ok (.invokespecial 115, 3) := dk_183 0 115 (dk_at dksX2_text_0 4 rfl rfl)
theorem dX2_text_7 : decode cX2_text 7 = .ok (.astore_n 2, 1) := dk_77 (dk_at dksX2_text_0 7 rfl rfl)
theorem dX2_text_8 : decode cX2_text 8 = .ok (.aload_n 0, 1) := dk_42 (dk_at dksX2_text_0 8 rfl rfl)
theorem dX2_text_9 : decode cX2_text 9 = .ok (.getfield 66, 3) := dk_180 0 66 (dk_at dksX2_text_0 9 rfl rfl)
theorem dX2_text_12 : decode cX2_text 12 = .ok (.iload_n 1, 1) := dk_27 (dk_at dksX2_text_0 12 rfl rfl)
theorem dX2_text_13 : decode cX2_text 13 = .ok (.saload, 1) := dk_53 (dk_at dksX2_text_0 13 rfl rfl)
theorem dX2_text_14 : decode cX2_text 14 = .ok (.istore_n 3, 1) := dk_62 (dk_at dksX2_text_0 14 rfl rfl)
theorem dX2_text_15 : decode cX2_text 15 = .ok (.iload_n 3, 1) := dk_29 (dk_at dksX2_text_0 15 rfl rfl)
theorem dX2_text_16 : decode cX2_text 16 = .ok (.aload_n 0, 1) := dk_42 (dk_at dksX2_text_0 16 rfl rfl)
theorem dX2_text_17 : decode cX2_text 17 = .ok (.getfield 70, 3) := dk_180 0 70 (dk_at dksX2_text_0 17 rfl rfl)
theorem dX2_text_20 : decode cX2_text 20 = .ok (.iload_n 1, 1) := dk_27 (dk_at dksX2_text_0 20 rfl rfl)
theorem dX2_text_21 : decode cX2_text 21 = .ok (.saload, 1) := dk_53 (dk_at dksX2_text_0 21 rfl rfl)
theorem dX2_text_22 : decode cX2_text 22 = .ok (.if_icmp .ge 21, 3) := dk_162 0 21 (dk_at dksX2_text_1 0 rfl rfl)
theorem dX2_text_25 : decode cX2_text 25 = .ok (.aload_n 2, 1) := dk_44 (dk_at dksX2_text_1 3 rfl rfl)
theorem dX2_text_26 : decode cX2_text 26 = .ok (.aload_n 0, 1) := dk_42 (dk_at dksX2_text_1 4 rfl rfl)
theorem dX2_text_27 : decode cX2_text 27 = .ok (.getfield 59, 3) := dk_180 0 59 (dk_at dksX2_text_1 5 rfl rfl)
theorem dX2_text_30 : decode cX2_text 30 = .ok (.iload_n 3, 1) := dk_29 (dk_at dksX2_text_1 8 rfl rfl)
theorem dX2_text_31 : decode cX2_text 31 = .ok (.baload, 1) := dk_51 (dk_at dksX2_text_1 9 rfl rfl)
theorem dX2_text_32 : decode cX2_text 32 = .ok (.i2c, 1) := dk_146 (dk_at dksX2_text_1 10 rfl rfl)
theorem dX2_text_33 : decode cX2_text 33 = .ok (.invokevirtual 116, 3) := dk_182 0 116 (dk_at dksX2_text_1 11 rfl rfl)
theorem dX2_text_36 : decode cX2_text 36 = .ok (.pop, 1) := dk_87 (dk_at dksX2_text_1 14 rfl rfl)
theorem dX2_text_37 : decode cX2_text 37 = .ok (.iinc 3 1, 3) := dk_132 3 1 (dk_at dksX2_text_1 15 rfl rfl)
theorem dX2_text_40 : decode cX2_text 40 = .ok (.goto (-25), 3) := dk_167 255 231 (dk_at dksX2_text_1 18 rfl rfl)
theorem dX2_text_43 : decode cX2_text 43 = .ok (.aload_n 2, 1) := dk_44 (dk_at dksX2_text_1 21 rfl rfl)
theorem dX2_text_44 : decode cX2_text 44 = .ok (.invokevirtual 120, 3) := dk_182 0 120 (dk_at dksX2_text_2 0 rfl rfl)
theorem dX2_text_47 : decode cX2_text 47 = .ok (.areturn, 1) := dk_176 (dk_at dksX2_text_2 3 rfl rfl)
theorem q124 : (Jvm.Cond.initialized "RainLoom$Tokens") ∈ lw_all := lw_g (lw_at lw_m1 6 rfl) rfl
theorem q240 : (Jvm.Cond.instantiable "RainLoom$Tokens" (8 : Nat)) ∈ lw_all := lw_g (lw_at lw_m1 122 rfl) rfl
theorem q242 : (Jvm.Cond.instanceMethod ({ cls := "RainLoom$Tokens", name := "<init>", desc := "()V" } : Jvm.MethodName)) ∈ lw_all := lw_g (lw_at lw_m1 124 rfl) rfl
theorem q243 : (Jvm.Cond.code ({ cls := "RainLoom$Tokens", name := "<init>", desc := "()V" } : Jvm.MethodName) prog_19_method_1_code (1 : Nat) (Option.none : Option Jvm.ClassFile.FieldType)) ∈ lw_all := lw_g (lw_at lw_m1 125 rfl) rfl
theorem q244 : (Jvm.Cond.methodLink "RainLoom$Tokens" (3 : Nat) ({ cls := "java/lang/Object", name := "<init>", desc := "()V" } : Jvm.MethodName)) ∈ lw_all := lw_g (lw_at lw_m1 126 rfl) rfl
theorem q245 : (Jvm.Cond.classLink "RainLoom$Tokens" (9 : Nat) "java/lang/String") ∈ lw_all := lw_g (lw_at lw_m1 127 rfl) rfl
theorem q247 : (Jvm.Cond.stringRef "RainLoom$Tokens" (11 : Nat) "row") ∈ lw_tbl := lw_at lw_m1 129 rfl
theorem q248 : (Jvm.Cond.stringRef "RainLoom$Tokens" (13 : Nat) "field") ∈ lw_tbl := lw_at lw_m1 130 rfl
theorem q249 : (Jvm.Cond.stringRef "RainLoom$Tokens" (15 : Nat) "loom") ∈ lw_tbl := lw_at lw_m1 131 rfl
theorem q250 : (Jvm.Cond.stringRef "RainLoom$Tokens" (17 : Nat) "weaves") ∈ lw_tbl := lw_at lw_m1 132 rfl
theorem q251 : (Jvm.Cond.stringRef "RainLoom$Tokens" (19 : Nat) "dries") ∈ lw_tbl := lw_at lw_m1 133 rfl
theorem q252 : (Jvm.Cond.stringRef "RainLoom$Tokens" (21 : Nat) "gathers") ∈ lw_tbl := lw_at lw_m1 134 rfl
theorem q253 : (Jvm.Cond.stringRef "RainLoom$Tokens" (23 : Nat) "store") ∈ lw_tbl := lw_at lw_m1 135 rfl
theorem q254 : (Jvm.Cond.stringRef "RainLoom$Tokens" (25 : Nat) "gusts") ∈ lw_tbl := lw_at lw_m1 136 rfl
theorem q255 : (Jvm.Cond.stringRef "RainLoom$Tokens" (27 : Nat) "seed") ∈ lw_tbl := lw_at lw_m1 137 rfl
theorem q256 : (Jvm.Cond.stringRef "RainLoom$Tokens" (29 : Nat) "if") ∈ lw_tbl := lw_at lw_m1 138 rfl
theorem q257 : (Jvm.Cond.stringRef "RainLoom$Tokens" (31 : Nat) "then") ∈ lw_tbl := lw_at lw_m1 139 rfl
theorem q258 : (Jvm.Cond.stringRef "RainLoom$Tokens" (33 : Nat) "else") ∈ lw_tbl := lw_at lw_m1 140 rfl
theorem q259 : (Jvm.Cond.stringRef "RainLoom$Tokens" (35 : Nat) "shed") ∈ lw_tbl := lw_at lw_m1 141 rfl
theorem q260 : (Jvm.Cond.stringRef "RainLoom$Tokens" (37 : Nat) "warp") ∈ lw_tbl := lw_at lw_m1 142 rfl
theorem q261 : (Jvm.Cond.stringRef "RainLoom$Tokens" (39 : Nat) "pick") ∈ lw_tbl := lw_at lw_m1 143 rfl
theorem q262 : (Jvm.Cond.stringRef "RainLoom$Tokens" (41 : Nat) "water") ∈ lw_tbl := lw_at lw_m1 144 rfl
theorem q263 : (Jvm.Cond.stringRef "RainLoom$Tokens" (43 : Nat) "needs") ∈ lw_tbl := lw_at lw_m1 145 rfl
theorem q264 : (Jvm.Cond.stringRef "RainLoom$Tokens" (45 : Nat) "drowns") ∈ lw_tbl := lw_at lw_m1 146 rfl
theorem q265 : (Jvm.Cond.stringRef "RainLoom$Tokens" (47 : Nat) "day") ∈ lw_tbl := lw_at lw_m1 147 rfl
theorem q266 : (Jvm.Cond.stringRef "RainLoom$Tokens" (49 : Nat) "which") ∈ lw_tbl := lw_at lw_m1 148 rfl
theorem q267 : (Jvm.Cond.stringRef "RainLoom$Tokens" (51 : Nat) "wide") ∈ lw_tbl := lw_at lw_m1 149 rfl
theorem q268 : (Jvm.Cond.fieldLink "RainLoom$Tokens" (53 : Nat) "RainLoom$Tokens" "words" "[Ljava/lang/String;") ∈ lw_all := lw_g (lw_at lw_m1 150 rfl) rfl
theorem q269 : (Jvm.Cond.fieldLink "RainLoom$Tokens" (59 : Nat) "RainLoom$Tokens" "tape" "[B") ∈ lw_all := lw_g (lw_at lw_m1 151 rfl) rfl
theorem q271 : (Jvm.Cond.fieldLink "RainLoom$Tokens" (76 : Nat) "RainLoom$Tokens" "taped" "I") ∈ lw_all := lw_g (lw_at lw_m1 153 rfl) rfl
theorem q273 : (Jvm.Cond.fieldLink "RainLoom$Tokens" (63 : Nat) "RainLoom$Tokens" "sort" "[B") ∈ lw_all := lw_g (lw_at lw_m1 155 rfl) rfl
theorem q275 : (Jvm.Cond.fieldLink "RainLoom$Tokens" (66 : Nat) "RainLoom$Tokens" "from" "[S") ∈ lw_all := lw_g (lw_at lw_m1 157 rfl) rfl
theorem q277 : (Jvm.Cond.fieldLink "RainLoom$Tokens" (70 : Nat) "RainLoom$Tokens" "to" "[S") ∈ lw_all := lw_g (lw_at lw_m1 159 rfl) rfl
theorem q278 : (Jvm.Cond.fieldLink "RainLoom$Tokens" (73 : Nat) "RainLoom$Tokens" "what" "[S") ∈ lw_all := lw_g (lw_at lw_m1 160 rfl) rfl
theorem q280 : (Jvm.Cond.fieldLink "RainLoom$Tokens" (84 : Nat) "RainLoom$Tokens" "many" "I") ∈ lw_all := lw_g (lw_at lw_m1 162 rfl) rfl
theorem q281 : (Jvm.Cond.laysFinal "RainLoom$Tokens" "RainLoom$Tokens" "words" "[Ljava/lang/String;") ∈ lw_all := lw_g (lw_at lw_m1 163 rfl) rfl
theorem q282 : (Jvm.Cond.soleField "RainLoom$Tokens" "words") ∈ lw_all := lw_g (lw_at lw_m1 164 rfl) rfl
theorem q283 : (Jvm.Cond.laysFinal "RainLoom$Tokens" "RainLoom$Tokens" "tape" "[B") ∈ lw_all := lw_g (lw_at lw_m1 165 rfl) rfl
theorem q284 : (Jvm.Cond.soleField "RainLoom$Tokens" "tape") ∈ lw_all := lw_g (lw_at lw_m1 166 rfl) rfl
theorem q285 : (Jvm.Cond.lays "RainLoom$Tokens" "RainLoom$Tokens" "taped" "I") ∈ lw_all := lw_g (lw_at lw_m1 167 rfl) rfl
theorem q286 : (Jvm.Cond.soleField "RainLoom$Tokens" "taped") ∈ lw_all := lw_g (lw_at lw_m1 168 rfl) rfl
theorem q287 : (Jvm.Cond.laysFinal "RainLoom$Tokens" "RainLoom$Tokens" "sort" "[B") ∈ lw_all := lw_g (lw_at lw_m1 169 rfl) rfl
theorem q288 : (Jvm.Cond.soleField "RainLoom$Tokens" "sort") ∈ lw_all := lw_g (lw_at lw_m1 170 rfl) rfl
theorem q289 : (Jvm.Cond.laysFinal "RainLoom$Tokens" "RainLoom$Tokens" "from" "[S") ∈ lw_all := lw_g (lw_at lw_m1 171 rfl) rfl
theorem q290 : (Jvm.Cond.soleField "RainLoom$Tokens" "from") ∈ lw_all := lw_g (lw_at lw_m1 172 rfl) rfl
theorem q291 : (Jvm.Cond.laysFinal "RainLoom$Tokens" "RainLoom$Tokens" "to" "[S") ∈ lw_all := lw_g (lw_at lw_m1 173 rfl) rfl
theorem q292 : (Jvm.Cond.soleField "RainLoom$Tokens" "to") ∈ lw_all := lw_g (lw_at lw_m1 174 rfl) rfl
theorem q293 : (Jvm.Cond.laysFinal "RainLoom$Tokens" "RainLoom$Tokens" "what" "[S") ∈ lw_all := lw_g (lw_at lw_m1 175 rfl) rfl
theorem q294 : (Jvm.Cond.soleField "RainLoom$Tokens" "what") ∈ lw_all := lw_g (lw_at lw_m1 176 rfl) rfl
theorem q295 : (Jvm.Cond.lays "RainLoom$Tokens" "RainLoom$Tokens" "many" "I") ∈ lw_all := lw_g (lw_at lw_m1 177 rfl) rfl
theorem q296 : (Jvm.Cond.soleField "RainLoom$Tokens" "many") ∈ lw_all := lw_g (lw_at lw_m1 178 rfl) rfl
theorem q297 : (Jvm.Cond.superclass "RainLoom$Tokens" "java/lang/Object") ∈ lw_all := lw_g (lw_at lw_m1 179 rfl) rfl
theorem q661 : (Jvm.Cond.instanceMethod ({ cls := "RainLoom$Tokens", name := "read", desc := "()V" } : Jvm.MethodName)) ∈ lw_all := lw_g (lw_at lw_m3 63 rfl) rfl
theorem q662 : (Jvm.Cond.selects "RainLoom$Tokens" ({ cls := "RainLoom$Tokens", name := "read", desc := "()V" } : Jvm.MethodName) ({ cls := "RainLoom$Tokens", name := "read", desc := "()V" } : Jvm.MethodName)) ∈ lw_all := lw_g (lw_at lw_m3 64 rfl) rfl
theorem q663 : (Jvm.Cond.code ({ cls := "RainLoom$Tokens", name := "read", desc := "()V" } : Jvm.MethodName) prog_19_method_8_code (7 : Nat) (Option.none : Option Jvm.ClassFile.FieldType)) ∈ lw_all := lw_g (lw_at lw_m3 65 rfl) rfl
theorem q664 : (Jvm.Cond.methodLink "RainLoom$Tokens" (95 : Nat) ({ cls := "RainLoom$Tokens", name := "isLetter", desc := "(I)Z" } : Jvm.MethodName)) ∈ lw_all := lw_g (lw_at lw_m3 66 rfl) rfl
theorem q665 : (Jvm.Cond.privateMethod ({ cls := "RainLoom$Tokens", name := "isLetter", desc := "(I)Z" } : Jvm.MethodName)) ∈ lw_tbl := lw_at lw_m3 67 rfl
theorem q666 : (Jvm.Cond.instanceMethod ({ cls := "RainLoom$Tokens", name := "isLetter", desc := "(I)Z" } : Jvm.MethodName)) ∈ lw_all := lw_g (lw_at lw_m3 68 rfl) rfl
theorem q667 : (Jvm.Cond.code ({ cls := "RainLoom$Tokens", name := "isLetter", desc := "(I)Z" } : Jvm.MethodName) prog_19_method_4_code (2 : Nat) (Option.some Jvm.ClassFile.FieldType.boolean)) ∈ lw_all := lw_g (lw_at lw_m3 69 rfl) rfl
theorem q668 : (Jvm.Cond.methodLink "RainLoom$Tokens" (80 : Nat) ({ cls := "RainLoom$Tokens", name := "at", desc := "(I)I" } : Jvm.MethodName)) ∈ lw_all := lw_g (lw_at lw_m3 70 rfl) rfl
theorem q669 : (Jvm.Cond.privateMethod ({ cls := "RainLoom$Tokens", name := "at", desc := "(I)I" } : Jvm.MethodName)) ∈ lw_tbl := lw_at lw_m3 71 rfl
theorem q670 : (Jvm.Cond.instanceMethod ({ cls := "RainLoom$Tokens", name := "at", desc := "(I)I" } : Jvm.MethodName)) ∈ lw_all := lw_g (lw_at lw_m3 72 rfl) rfl
theorem q671 : (Jvm.Cond.code ({ cls := "RainLoom$Tokens", name := "at", desc := "(I)I" } : Jvm.MethodName) prog_19_method_2_code (2 : Nat) (Option.some Jvm.ClassFile.FieldType.int)) ∈ lw_all := lw_g (lw_at lw_m3 73 rfl) rfl
theorem q672 : (Jvm.Cond.methodLink "RainLoom$Tokens" (99 : Nat) ({ cls := "RainLoom$Tokens", name := "word", desc := "(II)I" } : Jvm.MethodName)) ∈ lw_all := lw_g (lw_at lw_m3 74 rfl) rfl
theorem q673 : (Jvm.Cond.privateMethod ({ cls := "RainLoom$Tokens", name := "word", desc := "(II)I" } : Jvm.MethodName)) ∈ lw_tbl := lw_at lw_m3 75 rfl
theorem q674 : (Jvm.Cond.instanceMethod ({ cls := "RainLoom$Tokens", name := "word", desc := "(II)I" } : Jvm.MethodName)) ∈ lw_all := lw_g (lw_at lw_m3 76 rfl) rfl
theorem q675 : (Jvm.Cond.code ({ cls := "RainLoom$Tokens", name := "word", desc := "(II)I" } : Jvm.MethodName) prog_19_method_6_code (6 : Nat) (Option.some Jvm.ClassFile.FieldType.int)) ∈ lw_all := lw_g (lw_at lw_m3 77 rfl) rfl
theorem q676 : (Jvm.Cond.methodLink "RainLoom$Tokens" (87 : Nat) ({ cls := "java/lang/String", name := "length", desc := "()I" } : Jvm.MethodName)) ∈ lw_all := lw_g (lw_at lw_m3 78 rfl) rfl
theorem q686 : (Jvm.Cond.methodLink "RainLoom$Tokens" (91 : Nat) ({ cls := "java/lang/String", name := "charAt", desc := "(I)C" } : Jvm.MethodName)) ∈ lw_all := lw_g (lw_at lw_m3 88 rfl) rfl
theorem q722 : (Jvm.Cond.methodLink "RainLoom$Tokens" (103 : Nat) ({ cls := "RainLoom$Tokens", name := "isDigit", desc := "(I)Z" } : Jvm.MethodName)) ∈ lw_all := lw_g (lw_at lw_m3 124 rfl) rfl
theorem q723 : (Jvm.Cond.privateMethod ({ cls := "RainLoom$Tokens", name := "isDigit", desc := "(I)Z" } : Jvm.MethodName)) ∈ lw_tbl := lw_at lw_m3 125 rfl
theorem q724 : (Jvm.Cond.instanceMethod ({ cls := "RainLoom$Tokens", name := "isDigit", desc := "(I)Z" } : Jvm.MethodName)) ∈ lw_all := lw_g (lw_at lw_m3 126 rfl) rfl
theorem q725 : (Jvm.Cond.code ({ cls := "RainLoom$Tokens", name := "isDigit", desc := "(I)Z" } : Jvm.MethodName) prog_19_method_3_code (2 : Nat) (Option.some Jvm.ClassFile.FieldType.boolean)) ∈ lw_all := lw_g (lw_at lw_m3 127 rfl) rfl
theorem q726 : (Jvm.Cond.methodLink "RainLoom$Tokens" (106 : Nat) ({ cls := "RainLoom$Tokens", name := "sign", desc := "(I)I" } : Jvm.MethodName)) ∈ lw_all := lw_g (lw_at lw_m3 128 rfl) rfl
theorem q727 : (Jvm.Cond.privateMethod ({ cls := "RainLoom$Tokens", name := "sign", desc := "(I)I" } : Jvm.MethodName)) ∈ lw_tbl := lw_at lw_m3 129 rfl
theorem q728 : (Jvm.Cond.instanceMethod ({ cls := "RainLoom$Tokens", name := "sign", desc := "(I)I" } : Jvm.MethodName)) ∈ lw_all := lw_g (lw_at lw_m3 130 rfl) rfl
theorem q729 : (Jvm.Cond.code ({ cls := "RainLoom$Tokens", name := "sign", desc := "(I)I" } : Jvm.MethodName) prog_19_method_7_code (3 : Nat) (Option.some Jvm.ClassFile.FieldType.int)) ∈ lw_all := lw_g (lw_at lw_m3 131 rfl) rfl
theorem q730 : (Jvm.Cond.methodLink "RainLoom$Tokens" (109 : Nat) ({ cls := "RainLoom$Tokens", name := "add", desc := "(IIII)V" } : Jvm.MethodName)) ∈ lw_all := lw_g (lw_at lw_m3 132 rfl) rfl
theorem q731 : (Jvm.Cond.privateMethod ({ cls := "RainLoom$Tokens", name := "add", desc := "(IIII)V" } : Jvm.MethodName)) ∈ lw_tbl := lw_at lw_m3 133 rfl
theorem q732 : (Jvm.Cond.instanceMethod ({ cls := "RainLoom$Tokens", name := "add", desc := "(IIII)V" } : Jvm.MethodName)) ∈ lw_all := lw_g (lw_at lw_m3 134 rfl) rfl
theorem q733 : (Jvm.Cond.code ({ cls := "RainLoom$Tokens", name := "add", desc := "(IIII)V" } : Jvm.MethodName) prog_19_method_5_code (5 : Nat) (Option.none : Option Jvm.ClassFile.FieldType)) ∈ lw_all := lw_g (lw_at lw_m3 135 rfl) rfl
theorem q820 : (Jvm.Cond.instanceMethod ({ cls := "RainLoom$Tokens", name := "number", desc := "(I)I" } : Jvm.MethodName)) ∈ lw_all := lw_g (lw_at lw_m3 222 rfl) rfl
theorem q821 : (Jvm.Cond.selects "RainLoom$Tokens" ({ cls := "RainLoom$Tokens", name := "number", desc := "(I)I" } : Jvm.MethodName) ({ cls := "RainLoom$Tokens", name := "number", desc := "(I)I" } : Jvm.MethodName)) ∈ lw_all := lw_g (lw_at lw_m3 223 rfl) rfl
theorem q822 : (Jvm.Cond.code ({ cls := "RainLoom$Tokens", name := "number", desc := "(I)I" } : Jvm.MethodName) prog_19_method_10_code (4 : Nat) (Option.some Jvm.ClassFile.FieldType.int)) ∈ lw_all := lw_g (lw_at lw_m3 224 rfl) rfl
theorem q873 : (Jvm.Cond.instanceMethod ({ cls := "RainLoom$Tokens", name := "text", desc := "(I)Ljava/lang/String;" } : Jvm.MethodName)) ∈ lw_all := lw_g (lw_at lw_m4 35 rfl) rfl
theorem q874 : (Jvm.Cond.selects "RainLoom$Tokens" ({ cls := "RainLoom$Tokens", name := "text", desc := "(I)Ljava/lang/String;" } : Jvm.MethodName) ({ cls := "RainLoom$Tokens", name := "text", desc := "(I)Ljava/lang/String;" } : Jvm.MethodName)) ∈ lw_all := lw_g (lw_at lw_m4 36 rfl) rfl
theorem q875 : (Jvm.Cond.code ({ cls := "RainLoom$Tokens", name := "text", desc := "(I)Ljava/lang/String;" } : Jvm.MethodName) prog_19_method_9_code (4 : Nat) (Option.some (Jvm.ClassFile.FieldType.object "java/lang/String"))) ∈ lw_all := lw_g (lw_at lw_m4 37 rfl) rfl
theorem q876 : (Jvm.Cond.classLink "RainLoom$Tokens" (113 : Nat) "java/lang/StringBuilder") ∈ lw_all := lw_g (lw_at lw_m4 38 rfl) rfl
theorem q878 : (Jvm.Cond.methodLink "RainLoom$Tokens" (115 : Nat) ({ cls := "java/lang/StringBuilder", name := "<init>", desc := "()V" } : Jvm.MethodName)) ∈ lw_all := lw_g (lw_at lw_m4 40 rfl) rfl
theorem q906 : (Jvm.Cond.methodLink "RainLoom$Tokens" (116 : Nat) ({ cls := "java/lang/StringBuilder", name := "append", desc := "(C)Ljava/lang/StringBuilder;" } : Jvm.MethodName)) ∈ lw_all := lw_g (lw_at lw_m4 68 rfl) rfl
theorem q981 : (Jvm.Cond.methodLink "RainLoom$Tokens" (120 : Nat) ({ cls := "java/lang/StringBuilder", name := "toString", desc := "()Ljava/lang/String;" } : Jvm.MethodName)) ∈ lw_all := lw_g (lw_at lw_m4 143 rfl) rfl
theorem q1131 : (Jvm.Cond.selects "RainLoom$Tokens" ({ cls := "java/lang/Object", name := "getClass", desc := "()Ljava/lang/Class;" } : Jvm.MethodName) ({ cls := "java/lang/Object", name := "getClass", desc := "()Ljava/lang/Class;" } : Jvm.MethodName)) ∈ lw_all := lw_g (lw_at lw_m5 53 rfl) rfl
theorem q2184 : (Jvm.Cond.castable "RainLoom$Tokens" "java/lang/Object") ∈ lw_tbl := lw_at lw_m9 146 rfl
theorem in_X2 : ∀ w ∈ wsX20, w ∈ lw_all := lw_in wsX20 [281, 283, 285, 287, 289, 291, 293, 295] (by decide +kernel) (by decide +kernel)

/-! RainLoom$Loom -/
set_option maxRecDepth 100000
def RX20 : String := "RainLoom$Loom"
def TX20 : u_T := fun k => match k with
  | 0 => ("RainLoom$Named", "name", "Ljava/lang/String;", true)
  | 1 => ("RainLoom$Loom", "wide", "I", false)
  | _ => ("RainLoom$Loom", "pick", "I", false)
def tyX20 : Nat → FieldType := fun k => match k with
  | 0 => .object "java/lang/String"
  | 1 => .int
  | _ => .int
abbrev wsX200 : List Cond := u_ws RX20 TX20 3
theorem nmX20 : ∀ a, a < 3 → ∀ b, b < 3 → a ≠ b → (TX20 a).2.1 ≠ (TX20 b).2.1 := by decide +kernel
theorem tyX20_ok : ∀ k, k < 3 → parseFieldDescriptor (TX20 k).2.2.1 = some (tyX20 k) := by decide +kernel
abbrev cX20_init : ByteArray := prog_12_method_1_code
def yX20_init : MethodName := ⟨RX20, "<init>", "(Ljava/lang/String;)V"⟩
def dkwX20_init_0 : List UInt8 := [42, 43, 183, 0, 1, 177]
abbrev dktX20_init_0 : List UInt8 := dkwX20_init_0 ++ []
theorem dksX20_init_0 : cX20_init.data.toList.drop 0 = dktX20_init_0 := by decide +kernel
theorem dX20_init_0 : decode cX20_init 0 = .ok (.aload_n 0, 1) := dk_42 (dk_at dksX20_init_0 0 rfl rfl)
theorem dX20_init_1 : decode cX20_init 1 = .ok (.aload_n 1, 1) := dk_43 (dk_at dksX20_init_0 1 rfl rfl)
theorem dX20_init_2 : decode cX20_init 2 = .ok (.invokespecial 1, 3) := dk_183 0 1 (dk_at dksX20_init_0 2 rfl rfl)
theorem dX20_init_5 : decode cX20_init 5 = .ok (.return_, 1) := dk_177 (dk_at dksX20_init_0 5 rfl rfl)
theorem q156 : (Jvm.Cond.initialized "RainLoom$Loom") ∈ lw_all := lw_g (lw_at lw_m1 38 rfl) rfl
theorem q1127 : (Jvm.Cond.selects "RainLoom$Loom" ({ cls := "java/lang/Object", name := "getClass", desc := "()Ljava/lang/Class;" } : Jvm.MethodName) ({ cls := "java/lang/Object", name := "getClass", desc := "()Ljava/lang/Class;" } : Jvm.MethodName)) ∈ lw_all := lw_g (lw_at lw_m5 49 rfl) rfl
theorem q1147 : (Jvm.Cond.instantiable "RainLoom$Loom" (3 : Nat)) ∈ lw_all := lw_g (lw_at lw_m5 69 rfl) rfl
theorem q1149 : (Jvm.Cond.instanceMethod ({ cls := "RainLoom$Loom", name := "<init>", desc := "(Ljava/lang/String;)V" } : Jvm.MethodName)) ∈ lw_all := lw_g (lw_at lw_m5 71 rfl) rfl
theorem q1150 : (Jvm.Cond.code ({ cls := "RainLoom$Loom", name := "<init>", desc := "(Ljava/lang/String;)V" } : Jvm.MethodName) prog_12_method_1_code (2 : Nat) (Option.none : Option Jvm.ClassFile.FieldType)) ∈ lw_all := lw_g (lw_at lw_m5 72 rfl) rfl
theorem q1151 : (Jvm.Cond.methodLink "RainLoom$Loom" (1 : Nat) ({ cls := "RainLoom$Named", name := "<init>", desc := "(Ljava/lang/String;)V" } : Jvm.MethodName)) ∈ lw_all := lw_g (lw_at lw_m5 73 rfl) rfl
theorem q1157 : (Jvm.Cond.lays "RainLoom$Loom" "RainLoom$Loom" "wide" "I") ∈ lw_all := lw_g (lw_at lw_m5 79 rfl) rfl
theorem q1158 : (Jvm.Cond.soleField "RainLoom$Loom" "wide") ∈ lw_all := lw_g (lw_at lw_m5 80 rfl) rfl
theorem q1159 : (Jvm.Cond.lays "RainLoom$Loom" "RainLoom$Loom" "pick" "I") ∈ lw_all := lw_g (lw_at lw_m5 81 rfl) rfl
theorem q1160 : (Jvm.Cond.soleField "RainLoom$Loom" "pick") ∈ lw_all := lw_g (lw_at lw_m5 82 rfl) rfl
theorem q1161 : (Jvm.Cond.laysFinal "RainLoom$Loom" "RainLoom$Named" "name" "Ljava/lang/String;") ∈ lw_all := lw_g (lw_at lw_m5 83 rfl) rfl
theorem q1162 : (Jvm.Cond.superclass "RainLoom$Loom" "RainLoom$Named") ∈ lw_all := lw_g (lw_at lw_m5 84 rfl) rfl
theorem q2176 : (Jvm.Cond.castable "RainLoom$Loom" "RainLoom$Named") ∈ lw_tbl := lw_at lw_m9 138 rfl
theorem q2199 : (Jvm.Cond.castable "RainLoom$Loom" "java/lang/Object") ∈ lw_tbl := lw_at lw_m9 161 rfl
theorem in_X20 : ∀ w ∈ wsX200, w ∈ lw_all := lw_in wsX200 [1161, 1157, 1159] (by decide +kernel) (by decide +kernel)

/-! RainLoom$Parser -/
set_option maxRecDepth 100000
def RX3 : String := "RainLoom$Parser"
def TX3 : u_T := fun k => match k with
  | 0 => ("RainLoom$Parser", "t", "LRainLoom$Tokens;", true)
  | 1 => ("RainLoom$Parser", "fault", "LRainLoom$Fault;", true)
  | 2 => ("RainLoom$Parser", "text", "LRainLoom$Text;", false)
  | 3 => ("RainLoom$Parser", "at", "I", false)
  | 4 => ("RainLoom$Parser", "open", "I", false)
  | 5 => ("RainLoom$Parser", "worst", "I", false)
  | _ => ("RainLoom$Parser", "worstToken", "I", false)
def tyX3 : Nat → FieldType := fun k => match k with
  | 0 => .object "RainLoom$Tokens"
  | 1 => .object "RainLoom$Fault"
  | 2 => .object "RainLoom$Text"
  | 3 => .int
  | 4 => .int
  | 5 => .int
  | _ => .int
abbrev wsX30 : List Cond := u_ws RX3 TX3 7
theorem nmX3 : ∀ a, a < 7 → ∀ b, b < 7 → a ≠ b → (TX3 a).2.1 ≠ (TX3 b).2.1 := by decide +kernel
theorem tyX3_ok : ∀ k, k < 7 → parseFieldDescriptor (TX3 k).2.2.1 = some (tyX3 k) := by decide +kernel
abbrev cX3_init : ByteArray := prog_15_method_1_code
def yX3_init : MethodName := ⟨RX3, "<init>", "(LRainLoom$Tokens;LRainLoom$Fault;)V"⟩
def dkwX3_init_0 : List UInt8 := [42, 183, 0, 3, 42, 43, 181, 0, 9, 42, 44, 181, 0, 15, 177]
abbrev dktX3_init_0 : List UInt8 := dkwX3_init_0 ++ []
theorem dksX3_init_0 : cX3_init.data.toList.drop 0 = dktX3_init_0 := by decide +kernel
theorem dX3_init_0 : decode cX3_init 0 = .ok (.aload_n 0, 1) := dk_42 (dk_at dksX3_init_0 0 rfl rfl)
theorem dX3_init_1 : decode cX3_init 1 = .ok (.invokespecial 3, 3) := dk_183 0 3 (dk_at dksX3_init_0 1 rfl rfl)
theorem dX3_init_4 : decode cX3_init 4 = .ok (.aload_n 0, 1) := dk_42 (dk_at dksX3_init_0 4 rfl rfl)
theorem dX3_init_5 : decode cX3_init 5 = .ok (.aload_n 1, 1) := dk_43 (dk_at dksX3_init_0 5 rfl rfl)
theorem dX3_init_6 : decode cX3_init 6 = .ok (.putfield 9, 3) := dk_181 0 9 (dk_at dksX3_init_0 6 rfl rfl)
theorem dX3_init_9 : decode cX3_init 9 = .ok (.aload_n 0, 1) := dk_42 (dk_at dksX3_init_0 9 rfl rfl)
theorem dX3_init_10 : decode cX3_init 10 = .ok (.aload_n 2, 1) := dk_44 (dk_at dksX3_init_0 10 rfl rfl)
theorem dX3_init_11 : decode cX3_init 11 = .ok (.putfield 15, 3) := dk_181 0 15 (dk_at dksX3_init_0 11 rfl rfl)
theorem dX3_init_14 : decode cX3_init 14 = .ok (.return_, 1) := dk_177 (dk_at dksX3_init_0 14 rfl rfl)
abbrev cX3_read : ByteArray := prog_15_method_15_code
def yX3_read : MethodName := ⟨RX3, "read", "()LRainLoom$Text;"⟩
def dkwX3_read_4 : List UInt8 := [191, 42, 180, 0, 83, 176]
abbrev dktX3_read_4 : List UInt8 := dkwX3_read_4 ++ []
def dkwX3_read_3 : List UInt8 := [182, 0, 35, 191, 42, 180, 0, 83, 182, 0, 106, 154, 0, 14, 42, 16, 6, 42, 180, 0, 31, 182, 0, 35]
abbrev dktX3_read_3 : List UInt8 := dkwX3_read_3 ++ dktX3_read_4
def dkwX3_read_2 : List UInt8 := [182, 0, 102, 167, 255, 238, 42, 180, 0, 38, 153, 0, 16, 42, 42, 180, 0, 38, 42, 180, 0, 41]
abbrev dktX3_read_2 : List UInt8 := dkwX3_read_2 ++ dktX3_read_3
def dkwX3_read_1 : List UInt8 := [3, 181, 0, 96, 42, 3, 181, 0, 38, 42, 182, 0, 65, 7, 159, 0, 16, 42, 182, 0, 99, 42, 16, 59]
abbrev dktX3_read_1 : List UInt8 := dkwX3_read_1 ++ dktX3_read_2
def dkwX3_read_0 : List UInt8 := [42, 180, 0, 9, 182, 0, 92, 42, 187, 0, 87, 89, 183, 0, 95, 181, 0, 83, 42, 3, 181, 0, 31, 42]
abbrev dktX3_read_0 : List UInt8 := dkwX3_read_0 ++ dktX3_read_1
theorem dksX3_read_0 : cX3_read.data.toList.drop 0 = dktX3_read_0 := by decide +kernel
theorem dksX3_read_1 : cX3_read.data.toList.drop 24 = dktX3_read_1 := dk_seg dksX3_read_0 24 rfl rfl
theorem dksX3_read_2 : cX3_read.data.toList.drop 48 = dktX3_read_2 := dk_seg dksX3_read_1 24 rfl rfl
theorem dksX3_read_3 : cX3_read.data.toList.drop 70 = dktX3_read_3 := dk_seg dksX3_read_2 22 rfl rfl
theorem dksX3_read_4 : cX3_read.data.toList.drop 94 = dktX3_read_4 := dk_seg dksX3_read_3 24 rfl rfl
theorem dX3_read_0 : decode cX3_read 0 = .ok (.aload_n 0, 1) := dk_42 (dk_at dksX3_read_0 0 rfl rfl)
theorem dX3_read_1 : decode cX3_read 1 = .ok (.getfield 9, 3) := dk_180 0 9 (dk_at dksX3_read_0 1 rfl rfl)
theorem dX3_read_4 : decode cX3_read 4 = .ok (.invokevirtual 92, 3) := dk_182 0 92 (dk_at dksX3_read_0 4 rfl rfl)
theorem dX3_read_7 : decode cX3_read 7 = .ok (.aload_n 0, 1) := dk_42 (dk_at dksX3_read_0 7 rfl rfl)
theorem dX3_read_8 : decode cX3_read 8 = .ok (.new 87, 3) := dk_187 0 87 (dk_at dksX3_read_0 8 rfl rfl)
theorem dX3_read_11 : decode cX3_read 11 = .ok (.dup, 1) := dk_89 (dk_at dksX3_read_0 11 rfl rfl)
theorem dX3_read_12 : decode cX3_read 12 = .ok (.invokespecial 95, 3) := dk_183 0 95 (dk_at dksX3_read_0 12 rfl rfl)
theorem dX3_read_15 : decode cX3_read 15 = .ok (.putfield 83, 3) := dk_181 0 83 (dk_at dksX3_read_0 15 rfl rfl)
theorem dX3_read_18 : decode cX3_read 18 = .ok (.aload_n 0, 1) := dk_42 (dk_at dksX3_read_0 18 rfl rfl)
theorem dX3_read_19 : decode cX3_read 19 = .ok (.iconst 0, 1) := dk_3 (dk_at dksX3_read_0 19 rfl rfl)
theorem dX3_read_20 : decode cX3_read 20 = .ok (.putfield 31, 3) := dk_181 0 31 (dk_at dksX3_read_0 20 rfl rfl)
theorem dX3_read_23 : decode cX3_read 23 = .ok (.aload_n 0, 1) := dk_42 (dk_at dksX3_read_0 23 rfl rfl)
theorem dX3_read_24 : decode cX3_read 24 = .ok (.iconst 0, 1) := dk_3 (dk_at dksX3_read_1 0 rfl rfl)
theorem dX3_read_25 : decode cX3_read 25 = .ok (.putfield 96, 3) := dk_181 0 96 (dk_at dksX3_read_1 1 rfl rfl)
theorem dX3_read_28 : decode cX3_read 28 = .ok (.aload_n 0, 1) := dk_42 (dk_at dksX3_read_1 4 rfl rfl)
theorem dX3_read_29 : decode cX3_read 29 = .ok (.iconst 0, 1) := dk_3 (dk_at dksX3_read_1 5 rfl rfl)
theorem dX3_read_30 : decode cX3_read 30 = .ok (.putfield 38, 3) := dk_181 0 38 (dk_at dksX3_read_1 6 rfl rfl)
theorem dX3_read_33 : decode cX3_read 33 = .ok (.aload_n 0, 1) := dk_42 (dk_at dksX3_read_1 9 rfl rfl)
theorem dX3_read_34 : decode cX3_read 34 = .ok (.invokevirtual 65, 3) := dk_182 0 65 (dk_at dksX3_read_1 10 rfl rfl)
theorem dX3_read_37 : decode cX3_read 37 = .ok (.iconst 4, 1) := dk_7 (dk_at dksX3_read_1 13 rfl rfl)
theorem dX3_read_38 : decode cX3_read 38 = .ok (.if_icmp .eq 16, 3) := dk_159 0 16 (dk_at dksX3_read_1 14 rfl rfl)
theorem dX3_read_41 : decode cX3_read 41 = .ok (.aload_n 0, 1) := dk_42 (dk_at dksX3_read_1 17 rfl rfl)
theorem dX3_read_42 : decode cX3_read 42 = .ok (.invokevirtual 99, 3) := dk_182 0 99 (dk_at dksX3_read_1 18 rfl rfl)
theorem dX3_read_45 : decode cX3_read 45 = .ok (.aload_n 0, 1) := dk_42 (dk_at dksX3_read_1 21 rfl rfl)
theorem dX3_read_46 : decode cX3_read 46 = .ok (.bipush 59, 2) := dk_16 59 (dk_at dksX3_read_1 22 rfl rfl)
theorem dX3_read_48 : decode cX3_read 48 = .ok (.invokevirtual 102, 3) := dk_182 0 102 (dk_at dksX3_read_2 0 rfl rfl)
theorem dX3_read_51 : decode cX3_read 51 = .ok (.goto (-18), 3) := dk_167 255 238 (dk_at dksX3_read_2 3 rfl rfl)
theorem dX3_read_54 : decode cX3_read 54 = .ok (.aload_n 0, 1) := dk_42 (dk_at dksX3_read_2 6 rfl rfl)
theorem dX3_read_55 : decode cX3_read 55 = .ok (.getfield 38, 3) := dk_180 0 38 (dk_at dksX3_read_2 7 rfl rfl)
theorem dX3_read_58 : decode cX3_read 58 = .ok (.ifCond .eq 16, 3) := dk_153 0 16 (dk_at dksX3_read_2 10 rfl rfl)
theorem dX3_read_61 : decode cX3_read 61 = .ok (.aload_n 0, 1) := dk_42 (dk_at dksX3_read_2 13 rfl rfl)
theorem dX3_read_62 : decode cX3_read 62 = .ok (.aload_n 0, 1) := dk_42 (dk_at dksX3_read_2 14 rfl rfl)
theorem dX3_read_63 : decode cX3_read 63 = .ok (.getfield 38, 3) := dk_180 0 38 (dk_at dksX3_read_2 15 rfl rfl)
theorem dX3_read_66 : decode cX3_read 66 = .ok (.aload_n 0, 1) := dk_42 (dk_at dksX3_read_2 18 rfl rfl)
theorem dX3_read_67 : decode cX3_read 67 = .ok (.getfield 41, 3) := dk_180 0 41 (dk_at dksX3_read_2 19 rfl rfl)
theorem dX3_read_70 : decode cX3_read 70 = .ok (.invokevirtual 35, 3) := dk_182 0 35 (dk_at dksX3_read_3 0 rfl rfl)
theorem dX3_read_73 : decode cX3_read 73 = .ok (.athrow, 1) := dk_191 (dk_at dksX3_read_3 3 rfl rfl)
theorem dX3_read_74 : decode cX3_read 74 = .ok (.aload_n 0, 1) := dk_42 (dk_at dksX3_read_3 4 rfl rfl)
theorem dX3_read_75 : decode cX3_read 75 = .ok (.getfield 83, 3) := dk_180 0 83 (dk_at dksX3_read_3 5 rfl rfl)
theorem dX3_read_78 : decode cX3_read 78 = .ok (.invokevirtual 106, 3) := dk_182 0 106 (dk_at dksX3_read_3 8 rfl rfl)
theorem dX3_read_81 : decode cX3_read 81 = .ok (.ifCond .ne 14, 3) := dk_154 0 14 (dk_at dksX3_read_3 11 rfl rfl)
theorem dX3_read_84 : decode cX3_read 84 = .ok (.aload_n 0, 1) := dk_42 (dk_at dksX3_read_3 14 rfl rfl)
theorem dX3_read_85 : decode cX3_read 85 = .ok (.bipush 6, 2) := dk_16 6 (dk_at dksX3_read_3 15 rfl rfl)
theorem dX3_read_87 : decode cX3_read 87 = .ok (.aload_n 0, 1) := dk_42 (dk_at dksX3_read_3 17 rfl rfl)
theorem dX3_read_88 : decode cX3_read 88 = .ok (.getfield 31, 3) := dk_180 0 31 (dk_at dksX3_read_3 18 rfl rfl)
theorem dX3_read_91 : decode cX3_read 91 = .ok (.invokevirtual 35, 3) := dk_182 0 35 (dk_at dksX3_read_3 21 rfl rfl)
theorem dX3_read_94 : decode cX3_read 94 = .ok (.athrow, 1) := dk_191 (dk_at dksX3_read_4 0 rfl rfl)
theorem dX3_read_95 : decode cX3_read 95 = .ok (.aload_n 0, 1) := dk_42 (dk_at dksX3_read_4 1 rfl rfl)
theorem dX3_read_96 : decode cX3_read 96 = .ok (.getfield 83, 3) := dk_180 0 83 (dk_at dksX3_read_4 2 rfl rfl)
theorem dX3_read_99 : decode cX3_read 99 = .ok (.areturn, 1) := dk_176 (dk_at dksX3_read_4 5 rfl rfl)
abbrev cX3_sort : ByteArray := prog_15_method_5_code
def yX3_sort : MethodName := ⟨RX3, "sort", "()I"⟩
def dkwX3_sort_1 : List UInt8 := [180, 0, 9, 180, 0, 44, 42, 180, 0, 31, 51, 172]
abbrev dktX3_sort_1 : List UInt8 := dkwX3_sort_1 ++ []
def dkwX3_sort_0 : List UInt8 := [42, 180, 0, 9, 180, 0, 44, 42, 180, 0, 31, 51, 8, 160, 0, 9, 42, 4, 182, 0, 48, 191, 42]
abbrev dktX3_sort_0 : List UInt8 := dkwX3_sort_0 ++ dktX3_sort_1
theorem dksX3_sort_0 : cX3_sort.data.toList.drop 0 = dktX3_sort_0 := by decide +kernel
theorem dksX3_sort_1 : cX3_sort.data.toList.drop 23 = dktX3_sort_1 := dk_seg dksX3_sort_0 23 rfl rfl
theorem dX3_sort_0 : decode cX3_sort 0 = .ok (.aload_n 0, 1) := dk_42 (dk_at dksX3_sort_0 0 rfl rfl)
theorem dX3_sort_1 : decode cX3_sort 1 = .ok (.getfield 9, 3) := dk_180 0 9 (dk_at dksX3_sort_0 1 rfl rfl)
theorem dX3_sort_4 : decode cX3_sort 4 = .ok (.getfield 44, 3) := dk_180 0 44 (dk_at dksX3_sort_0 4 rfl rfl)
theorem dX3_sort_7 : decode cX3_sort 7 = .ok (.aload_n 0, 1) := dk_42 (dk_at dksX3_sort_0 7 rfl rfl)
theorem dX3_sort_8 : decode cX3_sort 8 = .ok (.getfield 31, 3) := dk_180 0 31 (dk_at dksX3_sort_0 8 rfl rfl)
theorem dX3_sort_11 : decode cX3_sort 11 = .ok (.baload, 1) := dk_51 (dk_at dksX3_sort_0 11 rfl rfl)
theorem dX3_sort_12 : decode cX3_sort 12 = .ok (.iconst 5, 1) := dk_8 (dk_at dksX3_sort_0 12 rfl rfl)
theorem dX3_sort_13 : decode cX3_sort 13 = .ok (.if_icmp .ne 9, 3) := dk_160 0 9 (dk_at dksX3_sort_0 13 rfl rfl)
theorem dX3_sort_16 : decode cX3_sort 16 = .ok (.aload_n 0, 1) := dk_42 (dk_at dksX3_sort_0 16 rfl rfl)
theorem dX3_sort_17 : decode cX3_sort 17 = .ok (.iconst 1, 1) := dk_4 (dk_at dksX3_sort_0 17 rfl rfl)
theorem dX3_sort_18 : decode cX3_sort 18 = .ok (.invokevirtual 48, 3) := dk_182 0 48 (dk_at dksX3_sort_0 18 rfl rfl)
theorem dX3_sort_21 : decode cX3_sort 21 = .ok (.athrow, 1) := dk_191 (dk_at dksX3_sort_0 21 rfl rfl)
theorem dX3_sort_22 : decode cX3_sort 22 = .ok (.aload_n 0, 1) := dk_42 (dk_at dksX3_sort_0 22 rfl rfl)
theorem dX3_sort_23 : decode cX3_sort 23 = .ok (.getfield 9, 3) := dk_180 0 9 (dk_at dksX3_sort_1 0 rfl rfl)
theorem dX3_sort_26 : decode cX3_sort 26 = .ok (.getfield 44, 3) := dk_180 0 44 (dk_at dksX3_sort_1 3 rfl rfl)
theorem dX3_sort_29 : decode cX3_sort 29 = .ok (.aload_n 0, 1) := dk_42 (dk_at dksX3_sort_1 6 rfl rfl)
theorem dX3_sort_30 : decode cX3_sort 30 = .ok (.getfield 31, 3) := dk_180 0 31 (dk_at dksX3_sort_1 7 rfl rfl)
theorem dX3_sort_33 : decode cX3_sort 33 = .ok (.baload, 1) := dk_51 (dk_at dksX3_sort_1 10 rfl rfl)
theorem dX3_sort_34 : decode cX3_sort 34 = .ok (.ireturn, 1) := dk_172 (dk_at dksX3_sort_1 11 rfl rfl)
abbrev cX3_wrong : ByteArray := prog_15_method_3_code
def yX3_wrong : MethodName := ⟨RX3, "wrong", "(I)LRainLoom$Fault;"⟩
def dkwX3_wrong_0 : List UInt8 := [42, 27, 42, 180, 0, 31, 182, 0, 35, 176]
abbrev dktX3_wrong_0 : List UInt8 := dkwX3_wrong_0 ++ []
theorem dksX3_wrong_0 : cX3_wrong.data.toList.drop 0 = dktX3_wrong_0 := by decide +kernel
theorem dX3_wrong_0 : decode cX3_wrong 0 = .ok (.aload_n 0, 1) := dk_42 (dk_at dksX3_wrong_0 0 rfl rfl)
theorem dX3_wrong_1 : decode cX3_wrong 1 = .ok (.iload_n 1, 1) := dk_27 (dk_at dksX3_wrong_0 1 rfl rfl)
theorem dX3_wrong_2 : decode cX3_wrong 2 = .ok (.aload_n 0, 1) := dk_42 (dk_at dksX3_wrong_0 2 rfl rfl)
theorem dX3_wrong_3 : decode cX3_wrong 3 = .ok (.getfield 31, 3) := dk_180 0 31 (dk_at dksX3_wrong_0 3 rfl rfl)
theorem dX3_wrong_6 : decode cX3_wrong 6 = .ok (.invokevirtual 35, 3) := dk_182 0 35 (dk_at dksX3_wrong_0 6 rfl rfl)
theorem dX3_wrong_9 : decode cX3_wrong 9 = .ok (.areturn, 1) := dk_176 (dk_at dksX3_wrong_0 9 rfl rfl)
abbrev cX3_wrongAt : ByteArray := prog_15_method_2_code
def yX3_wrongAt : MethodName := ⟨RX3, "wrongAt", "(II)LRainLoom$Fault;"⟩
def dkwX3_wrongAt_0 : List UInt8 := [42, 180, 0, 15, 27, 42, 180, 0, 9, 180, 0, 19, 28, 53, 182, 0, 25, 176]
abbrev dktX3_wrongAt_0 : List UInt8 := dkwX3_wrongAt_0 ++ []
theorem dksX3_wrongAt_0 : cX3_wrongAt.data.toList.drop 0 = dktX3_wrongAt_0 := by decide +kernel
theorem dX3_wrongAt_0 : decode cX3_wrongAt 0 = .ok (.aload_n 0, 1) := dk_42 (dk_at dksX3_wrongAt_0 0 rfl rfl)
theorem dX3_wrongAt_1 : decode cX3_wrongAt 1 = .ok (.getfield 15, 3) := dk_180 0 15 (dk_at dksX3_wrongAt_0 1 rfl rfl)
theorem dX3_wrongAt_4 : decode cX3_wrongAt 4 = .ok (.iload_n 1, 1) := dk_27 (dk_at dksX3_wrongAt_0 4 rfl rfl)
theorem dX3_wrongAt_5 : decode cX3_wrongAt 5 = .ok (.aload_n 0, 1) := dk_42 (dk_at dksX3_wrongAt_0 5 rfl rfl)
theorem dX3_wrongAt_6 : decode cX3_wrongAt 6 = .ok (.getfield 9, 3) := dk_180 0 9 (dk_at dksX3_wrongAt_0 6 rfl rfl)
theorem dX3_wrongAt_9 : decode cX3_wrongAt 9 = .ok (.getfield 19, 3) := dk_180 0 19 (dk_at dksX3_wrongAt_0 9 rfl rfl)
theorem dX3_wrongAt_12 : decode cX3_wrongAt 12 = .ok (.iload_n 2, 1) := dk_28 (dk_at dksX3_wrongAt_0 12 rfl rfl)
theorem dX3_wrongAt_13 : decode cX3_wrongAt 13 = .ok (.saload, 1) := dk_53 (dk_at dksX3_wrongAt_0 13 rfl rfl)
theorem dX3_wrongAt_14 : decode cX3_wrongAt 14 = .ok (.invokevirtual 25, 3) := dk_182 0 25 (dk_at dksX3_wrongAt_0 14 rfl rfl)
theorem dX3_wrongAt_17 : decode cX3_wrongAt 17 = .ok (.areturn, 1) := dk_176 (dk_at dksX3_wrongAt_0 17 rfl rfl)
abbrev cX3_told : ByteArray := prog_15_method_16_code
def yX3_told : MethodName := ⟨RX3, "told", "()V"⟩
def dkwX3_told_13 : List UInt8 := [177]
abbrev dktX3_told_13 : List UInt8 := dkwX3_told_13 ++ []
def dkwX3_told_12 : List UInt8 := [42, 180, 0, 83, 42, 3, 17, 39, 15, 182, 0, 142, 181, 0, 173, 167, 0, 9, 42, 4, 182, 0, 48, 191]
abbrev dktX3_told_12 : List UInt8 := dkwX3_told_12 ++ dktX3_told_13
def dkwX3_told_11 : List UInt8 := [182, 0, 59, 42, 180, 0, 83, 42, 3, 16, 100, 182, 0, 142, 181, 0, 170, 167, 0, 31, 42, 182, 0, 59]
abbrev dktX3_told_11 : List UInt8 := dkwX3_told_11 ++ dktX3_told_12
def dkwX3_told_10 : List UInt8 := [182, 0, 59, 42, 180, 0, 83, 42, 3, 17, 39, 15, 182, 0, 142, 181, 0, 167, 167, 0, 52, 42]
abbrev dktX3_told_10 : List UInt8 := dkwX3_told_10 ++ dktX3_told_11
def dkwX3_told_9 : List UInt8 := [182, 0, 142, 181, 0, 164, 42, 180, 0, 83, 180, 0, 155, 44, 182, 0, 151, 87, 167, 0, 74, 42]
abbrev dktX3_told_9 : List UInt8 := dkwX3_told_9 ++ dktX3_told_10
def dkwX3_told_8 : List UInt8 := [182, 0, 135, 183, 0, 160, 77, 44, 42, 4, 16, 8, 182, 0, 142, 181, 0, 161, 44, 42, 3, 16, 99]
abbrev dktX3_told_8 : List UInt8 := dkwX3_told_8 ++ dktX3_told_9
def dkwX3_told_7 : List UInt8 := [167, 0, 138, 42, 42, 180, 0, 83, 180, 0, 155, 182, 0, 125, 7, 182, 0, 130, 187, 0, 158, 89, 42]
abbrev dktX3_told_7 : List UInt8 := dkwX3_told_7 ++ dktX3_told_8
def dkwX3_told_6 : List UInt8 := [42, 3, 17, 3, 231, 182, 0, 142, 181, 0, 148, 42, 180, 0, 83, 180, 0, 121, 44, 182, 0, 151, 87]
abbrev dktX3_told_6 : List UInt8 := dkwX3_told_6 ++ dktX3_told_7
def dkwX3_told_5 : List UInt8 := [187, 0, 133, 89, 42, 182, 0, 135, 183, 0, 139, 77, 44, 42, 3, 16, 99, 182, 0, 142, 181, 0, 145, 44]
abbrev dktX3_told_5 : List UInt8 := dkwX3_told_5 ++ dktX3_told_6
def dkwX3_told_4 : List UInt8 := [42, 182, 0, 118, 167, 0, 204, 42, 42, 180, 0, 83, 180, 0, 121, 182, 0, 125, 16, 6, 182, 0, 130]
abbrev dktX3_told_4 : List UInt8 := dkwX3_told_4 ++ dktX3_told_5
def dkwX3_told_3 : List UInt8 := [170, 0, 0, 0, 0, 0, 0, 254, 0, 0, 0, 0, 0, 0, 0, 8, 0, 0, 0, 52, 0, 0, 0, 59, 0, 0, 0, 125, 0, 0, 0, 254, 0, 0, 0, 254, 0, 0, 0, 254, 0, 0, 0, 189, 0, 0, 0, 211, 0, 0, 0, 232]
abbrev dktX3_told_3 : List UInt8 := dkwX3_told_3 ++ dktX3_told_4
def dkwX3_told_2 : List UInt8 := [100, 42, 182, 0, 114, 83, 177, 27]
abbrev dktX3_told_2 : List UInt8 := dkwX3_told_2 ++ dktX3_told_3
def dkwX3_told_1 : List UInt8 := [60, 27, 6, 161, 0, 28, 27, 8, 163, 0, 23, 42, 182, 0, 59, 42, 180, 0, 83, 180, 0, 110, 27, 6]
abbrev dktX3_told_1 : List UInt8 := dkwX3_told_1 ++ dktX3_told_2
def dkwX3_told_0 : List UInt8 := [42, 182, 0, 65, 6, 160, 0, 18, 42, 180, 0, 9, 180, 0, 52, 42, 180, 0, 31, 53, 167, 0, 4, 2]
abbrev dktX3_told_0 : List UInt8 := dkwX3_told_0 ++ dktX3_told_1
theorem dksX3_told_0 : cX3_told.data.toList.drop 0 = dktX3_told_0 := by decide +kernel
theorem dksX3_told_1 : cX3_told.data.toList.drop 24 = dktX3_told_1 := dk_seg dksX3_told_0 24 rfl rfl
theorem dksX3_told_2 : cX3_told.data.toList.drop 48 = dktX3_told_2 := dk_seg dksX3_told_1 24 rfl rfl
theorem dksX3_told_3 : cX3_told.data.toList.drop 56 = dktX3_told_3 := dk_seg dksX3_told_2 8 rfl rfl
theorem dksX3_told_4 : cX3_told.data.toList.drop 108 = dktX3_told_4 := dk_seg dksX3_told_3 52 rfl rfl
theorem dksX3_told_5 : cX3_told.data.toList.drop 131 = dktX3_told_5 := dk_seg dksX3_told_4 23 rfl rfl
theorem dksX3_told_6 : cX3_told.data.toList.drop 155 = dktX3_told_6 := dk_seg dksX3_told_5 24 rfl rfl
theorem dksX3_told_7 : cX3_told.data.toList.drop 178 = dktX3_told_7 := dk_seg dksX3_told_6 23 rfl rfl
theorem dksX3_told_8 : cX3_told.data.toList.drop 201 = dktX3_told_8 := dk_seg dksX3_told_7 23 rfl rfl
theorem dksX3_told_9 : cX3_told.data.toList.drop 224 = dktX3_told_9 := dk_seg dksX3_told_8 23 rfl rfl
theorem dksX3_told_10 : cX3_told.data.toList.drop 246 = dktX3_told_10 := dk_seg dksX3_told_9 22 rfl rfl
theorem dksX3_told_11 : cX3_told.data.toList.drop 268 = dktX3_told_11 := dk_seg dksX3_told_10 22 rfl rfl
theorem dksX3_told_12 : cX3_told.data.toList.drop 292 = dktX3_told_12 := dk_seg dksX3_told_11 24 rfl rfl
theorem dksX3_told_13 : cX3_told.data.toList.drop 316 = dktX3_told_13 := dk_seg dksX3_told_12 24 rfl rfl
theorem dX3_told_0 : decode cX3_told 0 = .ok (.aload_n 0, 1) := dk_42 (dk_at dksX3_told_0 0 rfl rfl)
theorem dX3_told_1 : decode cX3_told 1 = .ok (.invokevirtual 65, 3) := dk_182 0 65 (dk_at dksX3_told_0 1 rfl rfl)
theorem dX3_told_4 : decode cX3_told 4 = .ok (.iconst 3, 1) := dk_6 (dk_at dksX3_told_0 4 rfl rfl)
theorem dX3_told_5 : decode cX3_told 5 = .ok (.if_icmp .ne 18, 3) := dk_160 0 18 (dk_at dksX3_told_0 5 rfl rfl)
theorem dX3_told_8 : decode cX3_told 8 = .ok (.aload_n 0, 1) := dk_42 (dk_at dksX3_told_0 8 rfl rfl)
theorem dX3_told_9 : decode cX3_told 9 = .ok (.getfield 9, 3) := dk_180 0 9 (dk_at dksX3_told_0 9 rfl rfl)
theorem dX3_told_12 : decode cX3_told 12 = .ok (.getfield 52, 3) := dk_180 0 52 (dk_at dksX3_told_0 12 rfl rfl)
theorem dX3_told_15 : decode cX3_told 15 = .ok (.aload_n 0, 1) := dk_42 (dk_at dksX3_told_0 15 rfl rfl)
theorem dX3_told_16 : decode cX3_told 16 = .ok (.getfield 31, 3) := dk_180 0 31 (dk_at dksX3_told_0 16 rfl rfl)
theorem dX3_told_19 : decode cX3_told 19 = .ok (.saload, 1) := dk_53 (dk_at dksX3_told_0 19 rfl rfl)
theorem dX3_told_20 : decode cX3_told 20 = .ok (.goto 4, 3) := dk_167 0 4 (dk_at dksX3_told_0 20 rfl rfl)
theorem dX3_told_23 : decode cX3_told 23 = .ok (.iconst (-1), 1) := dk_2 (dk_at dksX3_told_0 23 rfl rfl)
theorem dX3_told_24 : decode cX3_told 24 = .ok (.istore_n 1, 1) := dk_60 (dk_at dksX3_told_1 0 rfl rfl)
theorem dX3_told_25 : decode cX3_told 25 = .ok (.iload_n 1, 1) := dk_27 (dk_at dksX3_told_1 1 rfl rfl)
theorem dX3_told_26 : decode cX3_told 26 = .ok (.iconst 3, 1) := dk_6 (dk_at dksX3_told_1 2 rfl rfl)
theorem dX3_told_27 : decode cX3_told 27 = .ok (.if_icmp .lt 28, 3) := dk_161 0 28 (dk_at dksX3_told_1 3 rfl rfl)
theorem dX3_told_30 : decode cX3_told 30 = .ok (.iload_n 1, 1) := dk_27 (dk_at dksX3_told_1 6 rfl rfl)
theorem dX3_told_31 : decode cX3_told 31 = .ok (.iconst 5, 1) := dk_8 (dk_at dksX3_told_1 7 rfl rfl)
theorem dX3_told_32 : decode cX3_told 32 = .ok (.if_icmp .gt 23, 3) := dk_163 0 23 (dk_at dksX3_told_1 8 rfl rfl)
theorem dX3_told_35 : decode cX3_told 35 = .ok (.aload_n 0, 1) := dk_42 (dk_at dksX3_told_1 11 rfl rfl)
theorem dX3_told_36 : decode cX3_told 36 = .ok (.invokevirtual 59, 3) := dk_182 0 59 (dk_at dksX3_told_1 12 rfl rfl)
theorem dX3_told_39 : decode cX3_told 39 = .ok (.aload_n 0, 1) := dk_42 (dk_at dksX3_told_1 15 rfl rfl)
theorem dX3_told_40 : decode cX3_told 40 = .ok (.getfield 83, 3) := dk_180 0 83 (dk_at dksX3_told_1 16 rfl rfl)
theorem dX3_told_43 : decode cX3_told 43 = .ok (.getfield 110, 3) := dk_180 0 110 (dk_at dksX3_told_1 19 rfl rfl)
theorem dX3_told_46 : decode cX3_told 46 = .ok (.iload_n 1, 1) := dk_27 (dk_at dksX3_told_1 22 rfl rfl)
theorem dX3_told_47 : decode cX3_told 47 = .ok (.iconst 3, 1) := dk_6 (dk_at dksX3_told_1 23 rfl rfl)
theorem dX3_told_48 : decode cX3_told 48 = .ok (.isub, 1) := dk_100 (dk_at dksX3_told_2 0 rfl rfl)
theorem dX3_told_49 : decode cX3_told 49 = .ok (.aload_n 0, 1) := dk_42 (dk_at dksX3_told_2 1 rfl rfl)
theorem dX3_told_50 : decode cX3_told 50 = .ok (.invokevirtual 114, 3) := dk_182 0 114 (dk_at dksX3_told_2 2 rfl rfl)
theorem dX3_told_53 : decode cX3_told 53 = .ok (.aastore, 1) := dk_83 (dk_at dksX3_told_2 5 rfl rfl)
theorem dX3_told_54 : decode cX3_told 54 = .ok (.return_, 1) := dk_177 (dk_at dksX3_told_2 6 rfl rfl)
theorem dX3_told_55 : decode cX3_told 55 = .ok (.iload_n 1, 1) := dk_27 (dk_at dksX3_told_2 7 rfl rfl)
theorem dX3_told_56 : decode cX3_told 56 = .ok (.tableswitch 254 0 8 #[52, 59, 125, 254, 254, 254, 189, 211, 232], 52) := by decide +kernel
theorem dX3_told_108 : decode cX3_told 108 = .ok (.aload_n 0, 1) := dk_42 (dk_at dksX3_told_4 0 rfl rfl)
theorem dX3_told_109 : decode cX3_told 109 = .ok (.invokevirtual 118, 3) := dk_182 0 118 (dk_at dksX3_told_4 1 rfl rfl)
theorem dX3_told_112 : decode cX3_told 112 = .ok (.goto 204, 3) := dk_167 0 204 (dk_at dksX3_told_4 4 rfl rfl)
theorem dX3_told_115 : decode cX3_told 115 = .ok (.aload_n 0, 1) := dk_42 (dk_at dksX3_told_4 7 rfl rfl)
theorem dX3_told_116 : decode cX3_told 116 = .ok (.aload_n 0, 1) := dk_42 (dk_at dksX3_told_4 8 rfl rfl)
theorem dX3_told_117 : decode cX3_told 117 = .ok (.getfield 83, 3) := dk_180 0 83 (dk_at dksX3_told_4 9 rfl rfl)
theorem dX3_told_120 : decode cX3_told 120 = .ok (.getfield 121, 3) := dk_180 0 121 (dk_at dksX3_told_4 12 rfl rfl)
theorem dX3_told_123 : decode cX3_told 123 = .ok (.invokevirtual 125, 3) := dk_182 0 125 (dk_at dksX3_told_4 15 rfl rfl)
theorem dX3_told_126 : decode cX3_told 126 = .ok (.bipush 6, 2) := dk_16 6 (dk_at dksX3_told_4 18 rfl rfl)
theorem dX3_told_128 : decode cX3_told 128 = .ok (.invokevirtual 130, 3) := dk_182 0 130 (dk_at dksX3_told_4 20 rfl rfl)
theorem dX3_told_131 : decode cX3_told 131 = .ok (.new 133, 3) := dk_187 0 133 (dk_at dksX3_told_5 0 rfl rfl)
theorem dX3_told_134 : decode cX3_told 134 = .ok (.dup, 1) := dk_89 (dk_at dksX3_told_5 3 rfl rfl)
theorem dX3_told_135 : decode cX3_told 135 = .ok (.aload_n 0, 1) := dk_42 (dk_at dksX3_told_5 4 rfl rfl)
theorem dX3_told_136 : decode cX3_told 136 = .ok (.invokevirtual 135, 3) := dk_182 0 135 (dk_at dksX3_told_5 5 rfl rfl)
theorem dX3_told_139 : decode cX3_told 139 = .ok (.invokespecial 139, 3) := dk_183 0 139 (dk_at dksX3_told_5 8 rfl rfl)
theorem dX3_told_142 : decode cX3_told 142 = .ok (.astore_n 2, 1) := dk_77 (dk_at dksX3_told_5 11 rfl rfl)
theorem dX3_told_143 : decode cX3_told 143 = .ok (.aload_n 2, 1) := dk_44 (dk_at dksX3_told_5 12 rfl rfl)
theorem dX3_told_144 : decode cX3_told 144 = .ok (.aload_n 0, 1) := dk_42 (dk_at dksX3_told_5 13 rfl rfl)
theorem dX3_told_145 : decode cX3_told 145 = .ok (.iconst 0, 1) := dk_3 (dk_at dksX3_told_5 14 rfl rfl)
theorem dX3_told_146 : decode cX3_told 146 = .ok (.bipush 99, 2) := dk_16 99 (dk_at dksX3_told_5 15 rfl rfl)
theorem dX3_told_148 : decode cX3_told 148 = .ok (.invokevirtual 142, 3) := dk_182 0 142 (dk_at dksX3_told_5 17 rfl rfl)
theorem dX3_told_151 : decode cX3_told 151 = .ok (.putfield 145, 3) := dk_181 0 145 (dk_at dksX3_told_5 20 rfl rfl)
theorem dX3_told_154 : decode cX3_told 154 = .ok (.aload_n 2, 1) := dk_44 (dk_at dksX3_told_5 23 rfl rfl)
theorem dX3_told_155 : decode cX3_told 155 = .ok (.aload_n 0, 1) := dk_42 (dk_at dksX3_told_6 0 rfl rfl)
theorem dX3_told_156 : decode cX3_told 156 = .ok (.iconst 0, 1) := dk_3 (dk_at dksX3_told_6 1 rfl rfl)
theorem dX3_told_157 : decode cX3_told 157 = .ok (.sipush 999, 3) := dk_17 3 231 (dk_at dksX3_told_6 2 rfl rfl)
theorem dX3_told_160 : decode cX3_told 160 = .ok (.invokevirtual 142, 3) := dk_182 0 142 (dk_at dksX3_told_6 5 rfl rfl)
theorem dX3_told_163 : decode cX3_told 163 = .ok (.putfield 148, 3) := dk_181 0 148 (dk_at dksX3_told_6 8 rfl rfl)
theorem dX3_told_166 : decode cX3_told 166 = .ok (.aload_n 0, 1) := dk_42 (dk_at dksX3_told_6 11 rfl rfl)
theorem dX3_told_167 : decode cX3_told 167 = .ok (.getfield 83, 3) := dk_180 0 83 (dk_at dksX3_told_6 12 rfl rfl)
theorem dX3_told_170 : decode cX3_told 170 = .ok (.getfield 121, 3) := dk_180 0 121 (dk_at dksX3_told_6 15 rfl rfl)
theorem dX3_told_173 : decode cX3_told 173 = .ok (.aload_n 2, 1) := dk_44 (dk_at dksX3_told_6 18 rfl rfl)
theorem dX3_told_174 : decode cX3_told 174 = .ok (.invokevirtual 151, 3) := dk_182 0 151 (dk_at dksX3_told_6 19 rfl rfl)
theorem dX3_told_177 : decode cX3_told 177 = .ok (.pop, 1) := dk_87 (dk_at dksX3_told_6 22 rfl rfl)
theorem dX3_told_178 : decode cX3_told 178 = .ok (.goto 138, 3) := dk_167 0 138 (dk_at dksX3_told_7 0 rfl rfl)
theorem dX3_told_181 : decode cX3_told 181 = .ok (.aload_n 0, 1) := dk_42 (dk_at dksX3_told_7 3 rfl rfl)
theorem dX3_told_182 : decode cX3_told 182 = .ok (.aload_n 0, 1) := dk_42 (dk_at dksX3_told_7 4 rfl rfl)
theorem dX3_told_183 : decode cX3_told 183 = .ok (.getfield 83, 3) := dk_180 0 83 (dk_at dksX3_told_7 5 rfl rfl)
theorem dX3_told_186 : decode cX3_told 186 = .ok (.getfield 155, 3) := dk_180 0 155 (dk_at dksX3_told_7 8 rfl rfl)
theorem dX3_told_189 : decode cX3_told 189 = .ok (.invokevirtual 125, 3) := dk_182 0 125 (dk_at dksX3_told_7 11 rfl rfl)
theorem dX3_told_192 : decode cX3_told 192 = .ok (.iconst 4, 1) := dk_7 (dk_at dksX3_told_7 14 rfl rfl)
theorem dX3_told_193 : decode cX3_told 193 = .ok (.invokevirtual 130, 3) := dk_182 0 130 (dk_at dksX3_told_7 15 rfl rfl)
theorem dX3_told_196 : decode cX3_told 196 = .ok (.new 158, 3) := dk_187 0 158 (dk_at dksX3_told_7 18 rfl rfl)
theorem dX3_told_199 : decode cX3_told 199 = .ok (.dup, 1) := dk_89 (dk_at dksX3_told_7 21 rfl rfl)
theorem dX3_told_200 : decode cX3_told 200 = .ok (.aload_n 0, 1) := dk_42 (dk_at dksX3_told_7 22 rfl rfl)
theorem dX3_told_201 : decode cX3_told 201 = .ok (.invokevirtual 135, 3) := dk_182 0 135 (dk_at dksX3_told_8 0 rfl rfl)
theorem dX3_told_204 : decode cX3_told 204 = .ok (.invokespecial 160, 3) := dk_183 0 160 (dk_at dksX3_told_8 3 rfl rfl)
theorem dX3_told_207 : decode cX3_told 207 = .ok (.astore_n 2, 1) := dk_77 (dk_at dksX3_told_8 6 rfl rfl)
theorem dX3_told_208 : decode cX3_told 208 = .ok (.aload_n 2, 1) := dk_44 (dk_at dksX3_told_8 7 rfl rfl)
theorem dX3_told_209 : decode cX3_told 209 = .ok (.aload_n 0, 1) := dk_42 (dk_at dksX3_told_8 8 rfl rfl)
theorem dX3_told_210 : decode cX3_told 210 = .ok (.iconst 1, 1) := dk_4 (dk_at dksX3_told_8 9 rfl rfl)
theorem dX3_told_211 : decode cX3_told 211 = .ok (.bipush 8, 2) := dk_16 8 (dk_at dksX3_told_8 10 rfl rfl)
theorem dX3_told_213 : decode cX3_told 213 = .ok (.invokevirtual 142, 3) := dk_182 0 142 (dk_at dksX3_told_8 12 rfl rfl)
theorem dX3_told_216 : decode cX3_told 216 = .ok (.putfield 161, 3) := dk_181 0 161 (dk_at dksX3_told_8 15 rfl rfl)
theorem dX3_told_219 : decode cX3_told 219 = .ok (.aload_n 2, 1) := dk_44 (dk_at dksX3_told_8 18 rfl rfl)
theorem dX3_told_220 : decode cX3_told 220 = .ok (.aload_n 0, 1) := dk_42 (dk_at dksX3_told_8 19 rfl rfl)
theorem dX3_told_221 : decode cX3_told 221 = .ok (.iconst 0, 1) := dk_3 (dk_at dksX3_told_8 20 rfl rfl)
theorem dX3_told_222 : decode cX3_told 222 = .ok (.bipush 99, 2) := dk_16 99 (dk_at dksX3_told_8 21 rfl rfl)
theorem dX3_told_224 : decode cX3_told 224 = .ok (.invokevirtual 142, 3) := dk_182 0 142 (dk_at dksX3_told_9 0 rfl rfl)
theorem dX3_told_227 : decode cX3_told 227 = .ok (.putfield 164, 3) := dk_181 0 164 (dk_at dksX3_told_9 3 rfl rfl)
theorem dX3_told_230 : decode cX3_told 230 = .ok (.aload_n 0, 1) := dk_42 (dk_at dksX3_told_9 6 rfl rfl)
theorem dX3_told_231 : decode cX3_told 231 = .ok (.getfield 83, 3) := dk_180 0 83 (dk_at dksX3_told_9 7 rfl rfl)
theorem dX3_told_234 : decode cX3_told 234 = .ok (.getfield 155, 3) := dk_180 0 155 (dk_at dksX3_told_9 10 rfl rfl)
theorem dX3_told_237 : decode cX3_told 237 = .ok (.aload_n 2, 1) := dk_44 (dk_at dksX3_told_9 13 rfl rfl)
theorem dX3_told_238 : decode cX3_told 238 = .ok (.invokevirtual 151, 3) := dk_182 0 151 (dk_at dksX3_told_9 14 rfl rfl)
theorem dX3_told_241 : decode cX3_told 241 = .ok (.pop, 1) := dk_87 (dk_at dksX3_told_9 17 rfl rfl)
theorem dX3_told_242 : decode cX3_told 242 = .ok (.goto 74, 3) := dk_167 0 74 (dk_at dksX3_told_9 18 rfl rfl)
theorem dX3_told_245 : decode cX3_told 245 = .ok (.aload_n 0, 1) := dk_42 (dk_at dksX3_told_9 21 rfl rfl)
theorem dX3_told_246 : decode cX3_told 246 = .ok (.invokevirtual 59, 3) := dk_182 0 59 (dk_at dksX3_told_10 0 rfl rfl)
theorem dX3_told_249 : decode cX3_told 249 = .ok (.aload_n 0, 1) := dk_42 (dk_at dksX3_told_10 3 rfl rfl)
theorem dX3_told_250 : decode cX3_told 250 = .ok (.getfield 83, 3) := dk_180 0 83 (dk_at dksX3_told_10 4 rfl rfl)
theorem dX3_told_253 : decode cX3_told 253 = .ok (.aload_n 0, 1) := dk_42 (dk_at dksX3_told_10 7 rfl rfl)
theorem dX3_told_254 : decode cX3_told 254 = .ok (.iconst 0, 1) := dk_3 (dk_at dksX3_told_10 8 rfl rfl)
theorem dX3_told_255 : decode cX3_told 255 = .ok (.sipush 9999, 3) := dk_17 39 15 (dk_at dksX3_told_10 9 rfl rfl)
theorem dX3_told_258 : decode cX3_told 258 = .ok (.invokevirtual 142, 3) := dk_182 0 142 (dk_at dksX3_told_10 12 rfl rfl)
theorem dX3_told_261 : decode cX3_told 261 = .ok (.putfield 167, 3) := dk_181 0 167 (dk_at dksX3_told_10 15 rfl rfl)
theorem dX3_told_264 : decode cX3_told 264 = .ok (.goto 52, 3) := dk_167 0 52 (dk_at dksX3_told_10 18 rfl rfl)
theorem dX3_told_267 : decode cX3_told 267 = .ok (.aload_n 0, 1) := dk_42 (dk_at dksX3_told_10 21 rfl rfl)
theorem dX3_told_268 : decode cX3_told 268 = .ok (.invokevirtual 59, 3) := dk_182 0 59 (dk_at dksX3_told_11 0 rfl rfl)
theorem dX3_told_271 : decode cX3_told 271 = .ok (.aload_n 0, 1) := dk_42 (dk_at dksX3_told_11 3 rfl rfl)
theorem dX3_told_272 : decode cX3_told 272 = .ok (.getfield 83, 3) := dk_180 0 83 (dk_at dksX3_told_11 4 rfl rfl)
theorem dX3_told_275 : decode cX3_told 275 = .ok (.aload_n 0, 1) := dk_42 (dk_at dksX3_told_11 7 rfl rfl)
theorem dX3_told_276 : decode cX3_told 276 = .ok (.iconst 0, 1) := dk_3 (dk_at dksX3_told_11 8 rfl rfl)
theorem dX3_told_277 : decode cX3_told 277 = .ok (.bipush 100, 2) := dk_16 100 (dk_at dksX3_told_11 9 rfl rfl)
theorem dX3_told_279 : decode cX3_told 279 = .ok (.invokevirtual 142, 3) := dk_182 0 142 (dk_at dksX3_told_11 11 rfl rfl)
theorem dX3_told_282 : decode cX3_told 282 = .ok (.putfield 170, 3) := dk_181 0 170 (dk_at dksX3_told_11 14 rfl rfl)
theorem dX3_told_285 : decode cX3_told 285 = .ok (.goto 31, 3) := dk_167 0 31 (dk_at dksX3_told_11 17 rfl rfl)
theorem dX3_told_288 : decode cX3_told 288 = .ok (.aload_n 0, 1) := dk_42 (dk_at dksX3_told_11 20 rfl rfl)
theorem dX3_told_289 : decode cX3_told 289 = .ok (.invokevirtual 59, 3) := dk_182 0 59 (dk_at dksX3_told_11 21 rfl rfl)
theorem dX3_told_292 : decode cX3_told 292 = .ok (.aload_n 0, 1) := dk_42 (dk_at dksX3_told_12 0 rfl rfl)
theorem dX3_told_293 : decode cX3_told 293 = .ok (.getfield 83, 3) := dk_180 0 83 (dk_at dksX3_told_12 1 rfl rfl)
theorem dX3_told_296 : decode cX3_told 296 = .ok (.aload_n 0, 1) := dk_42 (dk_at dksX3_told_12 4 rfl rfl)
theorem dX3_told_297 : decode cX3_told 297 = .ok (.iconst 0, 1) := dk_3 (dk_at dksX3_told_12 5 rfl rfl)
theorem dX3_told_298 : decode cX3_told 298 = .ok (.sipush 9999, 3) := dk_17 39 15 (dk_at dksX3_told_12 6 rfl rfl)
theorem dX3_told_301 : decode cX3_told 301 = .ok (.invokevirtual 142, 3) := dk_182 0 142 (dk_at dksX3_told_12 9 rfl rfl)
theorem dX3_told_304 : decode cX3_told 304 = .ok (.putfield 173, 3) := dk_181 0 173 (dk_at dksX3_told_12 12 rfl rfl)
theorem dX3_told_307 : decode cX3_told 307 = .ok (.goto 9, 3) := dk_167 0 9 (dk_at dksX3_told_12 15 rfl rfl)
theorem dX3_told_310 : decode cX3_told 310 = .ok (.aload_n 0, 1) := dk_42 (dk_at dksX3_told_12 18 rfl rfl)
theorem dX3_told_311 : decode cX3_told 311 = .ok (.iconst 1, 1) := dk_4 (dk_at dksX3_told_12 19 rfl rfl)
theorem dX3_told_312 : decode cX3_told 312 = .ok (.invokevirtual 48, 3) := dk_182 0 48 (dk_at dksX3_told_12 20 rfl rfl)
theorem dX3_told_315 : decode cX3_told 315 = .ok (.athrow, 1) := dk_191 (dk_at dksX3_told_12 23 rfl rfl)
theorem dX3_told_316 : decode cX3_told 316 = .ok (.return_, 1) := dk_177 (dk_at dksX3_told_13 0 rfl rfl)
abbrev cX3_pass : ByteArray := prog_15_method_6_code
def yX3_pass : MethodName := ⟨RX3, "pass", "()V"⟩
def dkwX3_pass_1 : List UInt8 := [181, 0, 31, 177]
abbrev dktX3_pass_1 : List UInt8 := dkwX3_pass_1 ++ []
def dkwX3_pass_0 : List UInt8 := [42, 180, 0, 31, 17, 1, 144, 161, 0, 9, 42, 5, 182, 0, 48, 191, 42, 89, 180, 0, 31, 4, 96]
abbrev dktX3_pass_0 : List UInt8 := dkwX3_pass_0 ++ dktX3_pass_1
theorem dksX3_pass_0 : cX3_pass.data.toList.drop 0 = dktX3_pass_0 := by decide +kernel
theorem dksX3_pass_1 : cX3_pass.data.toList.drop 23 = dktX3_pass_1 := dk_seg dksX3_pass_0 23 rfl rfl
theorem dX3_pass_0 : decode cX3_pass 0 = .ok (.aload_n 0, 1) := dk_42 (dk_at dksX3_pass_0 0 rfl rfl)
theorem dX3_pass_1 : decode cX3_pass 1 = .ok (.getfield 31, 3) := dk_180 0 31 (dk_at dksX3_pass_0 1 rfl rfl)
theorem dX3_pass_4 : decode cX3_pass 4 = .ok (.sipush 400, 3) := dk_17 1 144 (dk_at dksX3_pass_0 4 rfl rfl)
theorem dX3_pass_7 : decode cX3_pass 7 = .ok (.if_icmp .lt 9, 3) := dk_161 0 9 (dk_at dksX3_pass_0 7 rfl rfl)
theorem dX3_pass_10 : decode cX3_pass 10 = .ok (.aload_n 0, 1) := dk_42 (dk_at dksX3_pass_0 10 rfl rfl)
theorem dX3_pass_11 : decode cX3_pass 11 = .ok (.iconst 2, 1) := dk_5 (dk_at dksX3_pass_0 11 rfl rfl)
theorem dX3_pass_12 : decode cX3_pass 12 = .ok (.invokevirtual 48, 3) := dk_182 0 48 (dk_at dksX3_pass_0 12 rfl rfl)
theorem dX3_pass_15 : decode cX3_pass 15 = .ok (.athrow, 1) := dk_191 (dk_at dksX3_pass_0 15 rfl rfl)
theorem dX3_pass_16 : decode cX3_pass 16 = .ok (.aload_n 0, 1) := dk_42 (dk_at dksX3_pass_0 16 rfl rfl)
theorem dX3_pass_17 : decode cX3_pass 17 = .ok (.dup, 1) := dk_89 (dk_at dksX3_pass_0 17 rfl rfl)
theorem dX3_pass_18 : decode cX3_pass 18 = .ok (.getfield 31, 3) := dk_180 0 31 (dk_at dksX3_pass_0 18 rfl rfl)
theorem dX3_pass_21 : decode cX3_pass 21 = .ok (.iconst 1, 1) := dk_4 (dk_at dksX3_pass_0 21 rfl rfl)
theorem dX3_pass_22 : decode cX3_pass 22 = .ok (.iadd, 1) := dk_96 (dk_at dksX3_pass_0 22 rfl rfl)
theorem dX3_pass_23 : decode cX3_pass 23 = .ok (.putfield 31, 3) := dk_181 0 31 (dk_at dksX3_pass_1 0 rfl rfl)
theorem dX3_pass_26 : decode cX3_pass 26 = .ok (.return_, 1) := dk_177 (dk_at dksX3_pass_1 3 rfl rfl)
abbrev cX3_law : ByteArray := prog_15_method_18_code
def yX3_law : MethodName := ⟨RX3, "law", "()LRainLoom$Law;"⟩
def dkwX3_law_4 : List UInt8 := [96, 181, 0, 196, 167, 255, 171, 43, 180, 0, 213, 43, 180, 0, 196, 42, 182, 0, 203, 83, 43, 176]
abbrev dktX3_law_4 : List UInt8 := dkwX3_law_4 ++ []
def dkwX3_law_3 : List UInt8 := [180, 0, 213, 43, 180, 0, 196, 42, 182, 0, 203, 83, 42, 16, 11, 182, 0, 210, 43, 89, 180, 0, 196, 4]
abbrev dktX3_law_3 : List UInt8 := dkwX3_law_3 ++ dktX3_law_4
def dkwX3_law_2 : List UInt8 := [182, 0, 102, 43, 180, 0, 207, 43, 180, 0, 196, 42, 182, 0, 203, 83, 42, 16, 10, 182, 0, 210, 43]
abbrev dktX3_law_2 : List UInt8 := dkwX3_law_2 ++ dktX3_law_3
def dkwX3_law_1 : List UInt8 := [43, 180, 0, 196, 7, 182, 0, 130, 43, 180, 0, 199, 43, 180, 0, 196, 42, 182, 0, 203, 83, 42, 16, 60]
abbrev dktX3_law_1 : List UInt8 := dkwX3_law_1 ++ dktX3_law_2
def dkwX3_law_0 : List UInt8 := [187, 0, 193, 89, 183, 0, 195, 76, 42, 16, 61, 182, 0, 102, 42, 16, 9, 182, 0, 62, 153, 0, 82, 42]
abbrev dktX3_law_0 : List UInt8 := dkwX3_law_0 ++ dktX3_law_1
theorem dksX3_law_0 : cX3_law.data.toList.drop 0 = dktX3_law_0 := by decide +kernel
theorem dksX3_law_1 : cX3_law.data.toList.drop 24 = dktX3_law_1 := dk_seg dksX3_law_0 24 rfl rfl
theorem dksX3_law_2 : cX3_law.data.toList.drop 48 = dktX3_law_2 := dk_seg dksX3_law_1 24 rfl rfl
theorem dksX3_law_3 : cX3_law.data.toList.drop 71 = dktX3_law_3 := dk_seg dksX3_law_2 23 rfl rfl
theorem dksX3_law_4 : cX3_law.data.toList.drop 95 = dktX3_law_4 := dk_seg dksX3_law_3 24 rfl rfl
theorem dX3_law_0 : decode cX3_law 0 = .ok (.new 193, 3) := dk_187 0 193 (dk_at dksX3_law_0 0 rfl rfl)
theorem dX3_law_3 : decode cX3_law 3 = .ok (.dup, 1) := dk_89 (dk_at dksX3_law_0 3 rfl rfl)
theorem dX3_law_4 : decode cX3_law 4 = .ok (.invokespecial 195, 3) := dk_183 0 195 (dk_at dksX3_law_0 4 rfl rfl)
theorem dX3_law_7 : decode cX3_law 7 = .ok (.astore_n 1, 1) := dk_76 (dk_at dksX3_law_0 7 rfl rfl)
theorem dX3_law_8 : decode cX3_law 8 = .ok (.aload_n 0, 1) := dk_42 (dk_at dksX3_law_0 8 rfl rfl)
theorem dX3_law_9 : decode cX3_law 9 = .ok (.bipush 61, 2) := dk_16 61 (dk_at dksX3_law_0 9 rfl rfl)
theorem dX3_law_11 : decode cX3_law 11 = .ok (.invokevirtual 102, 3) := dk_182 0 102 (dk_at dksX3_law_0 11 rfl rfl)
theorem dX3_law_14 : decode cX3_law 14 = .ok (.aload_n 0, 1) := dk_42 (dk_at dksX3_law_0 14 rfl rfl)
theorem dX3_law_15 : decode cX3_law 15 = .ok (.bipush 9, 2) := dk_16 9 (dk_at dksX3_law_0 15 rfl rfl)
theorem dX3_law_17 : decode cX3_law 17 = .ok (.invokevirtual 62, 3) := dk_182 0 62 (dk_at dksX3_law_0 17 rfl rfl)
theorem dX3_law_20 : decode cX3_law 20 = .ok (.ifCond .eq 82, 3) := dk_153 0 82 (dk_at dksX3_law_0 20 rfl rfl)
theorem dX3_law_23 : decode cX3_law 23 = .ok (.aload_n 0, 1) := dk_42 (dk_at dksX3_law_0 23 rfl rfl)
theorem dX3_law_24 : decode cX3_law 24 = .ok (.aload_n 1, 1) := dk_43 (dk_at dksX3_law_1 0 rfl rfl)
theorem dX3_law_25 : decode cX3_law 25 = .ok (.getfield 196, 3) := dk_180 0 196 (dk_at dksX3_law_1 1 rfl rfl)
theorem dX3_law_28 : decode cX3_law 28 = .ok (.iconst 4, 1) := dk_7 (dk_at dksX3_law_1 4 rfl rfl)
theorem dX3_law_29 : decode cX3_law 29 = .ok (.invokevirtual 130, 3) := dk_182 0 130 (dk_at dksX3_law_1 5 rfl rfl)
theorem dX3_law_32 : decode cX3_law 32 = .ok (.aload_n 1, 1) := dk_43 (dk_at dksX3_law_1 8 rfl rfl)
theorem dX3_law_33 : decode cX3_law 33 = .ok (.getfield 199, 3) := dk_180 0 199 (dk_at dksX3_law_1 9 rfl rfl)
theorem dX3_law_36 : decode cX3_law 36 = .ok (.aload_n 1, 1) := dk_43 (dk_at dksX3_law_1 12 rfl rfl)
theorem dX3_law_37 : decode cX3_law 37 = .ok (.getfield 196, 3) := dk_180 0 196 (dk_at dksX3_law_1 13 rfl rfl)
theorem dX3_law_40 : decode cX3_law 40 = .ok (.aload_n 0, 1) := dk_42 (dk_at dksX3_law_1 16 rfl rfl)
theorem dX3_law_41 : decode cX3_law 41 = .ok (.invokevirtual 203, 3) := dk_182 0 203 (dk_at dksX3_law_1 17 rfl rfl)
theorem dX3_law_44 : decode cX3_law 44 = .ok (.aastore, 1) := dk_83 (dk_at dksX3_law_1 20 rfl rfl)
theorem dX3_law_45 : decode cX3_law 45 = .ok (.aload_n 0, 1) := dk_42 (dk_at dksX3_law_1 21 rfl rfl)
theorem dX3_law_46 : decode cX3_law 46 = .ok (.bipush 60, 2) := dk_16 60 (dk_at dksX3_law_1 22 rfl rfl)
theorem dX3_law_48 : decode cX3_law 48 = .ok (.invokevirtual 102, 3) := dk_182 0 102 (dk_at dksX3_law_2 0 rfl rfl)
theorem dX3_law_51 : decode cX3_law 51 = .ok (.aload_n 1, 1) := dk_43 (dk_at dksX3_law_2 3 rfl rfl)
theorem dX3_law_52 : decode cX3_law 52 = .ok (.getfield 207, 3) := dk_180 0 207 (dk_at dksX3_law_2 4 rfl rfl)
theorem dX3_law_55 : decode cX3_law 55 = .ok (.aload_n 1, 1) := dk_43 (dk_at dksX3_law_2 7 rfl rfl)
theorem dX3_law_56 : decode cX3_law 56 = .ok (.getfield 196, 3) := dk_180 0 196 (dk_at dksX3_law_2 8 rfl rfl)
theorem dX3_law_59 : decode cX3_law 59 = .ok (.aload_n 0, 1) := dk_42 (dk_at dksX3_law_2 11 rfl rfl)
theorem dX3_law_60 : decode cX3_law 60 = .ok (.invokevirtual 203, 3) := dk_182 0 203 (dk_at dksX3_law_2 12 rfl rfl)
theorem dX3_law_63 : decode cX3_law 63 = .ok (.aastore, 1) := dk_83 (dk_at dksX3_law_2 15 rfl rfl)
theorem dX3_law_64 : decode cX3_law 64 = .ok (.aload_n 0, 1) := dk_42 (dk_at dksX3_law_2 16 rfl rfl)
theorem dX3_law_65 : decode cX3_law 65 = .ok (.bipush 10, 2) := dk_16 10 (dk_at dksX3_law_2 17 rfl rfl)
theorem dX3_law_67 : decode cX3_law 67 = .ok (.invokevirtual 210, 3) := dk_182 0 210 (dk_at dksX3_law_2 19 rfl rfl)
theorem dX3_law_70 : decode cX3_law 70 = .ok (.aload_n 1, 1) := dk_43 (dk_at dksX3_law_2 22 rfl rfl)
theorem dX3_law_71 : decode cX3_law 71 = .ok (.getfield 213, 3) := dk_180 0 213 (dk_at dksX3_law_3 0 rfl rfl)
theorem dX3_law_74 : decode cX3_law 74 = .ok (.aload_n 1, 1) := dk_43 (dk_at dksX3_law_3 3 rfl rfl)
theorem dX3_law_75 : decode cX3_law 75 = .ok (.getfield 196, 3) := dk_180 0 196 (dk_at dksX3_law_3 4 rfl rfl)
theorem dX3_law_78 : decode cX3_law 78 = .ok (.aload_n 0, 1) := dk_42 (dk_at dksX3_law_3 7 rfl rfl)
theorem dX3_law_79 : decode cX3_law 79 = .ok (.invokevirtual 203, 3) := dk_182 0 203 (dk_at dksX3_law_3 8 rfl rfl)
theorem dX3_law_82 : decode cX3_law 82 = .ok (.aastore, 1) := dk_83 (dk_at dksX3_law_3 11 rfl rfl)
theorem dX3_law_83 : decode cX3_law 83 = .ok (.aload_n 0, 1) := dk_42 (dk_at dksX3_law_3 12 rfl rfl)
theorem dX3_law_84 : decode cX3_law 84 = .ok (.bipush 11, 2) := dk_16 11 (dk_at dksX3_law_3 13 rfl rfl)
theorem dX3_law_86 : decode cX3_law 86 = .ok (.invokevirtual 210, 3) := dk_182 0 210 (dk_at dksX3_law_3 15 rfl rfl)
theorem dX3_law_89 : decode cX3_law 89 = .ok (.aload_n 1, 1) := dk_43 (dk_at dksX3_law_3 18 rfl rfl)
theorem dX3_law_90 : decode cX3_law 90 = .ok (.dup, 1) := dk_89 (dk_at dksX3_law_3 19 rfl rfl)
theorem dX3_law_91 : decode cX3_law 91 = .ok (.getfield 196, 3) := dk_180 0 196 (dk_at dksX3_law_3 20 rfl rfl)
theorem dX3_law_94 : decode cX3_law 94 = .ok (.iconst 1, 1) := dk_4 (dk_at dksX3_law_3 23 rfl rfl)
theorem dX3_law_95 : decode cX3_law 95 = .ok (.iadd, 1) := dk_96 (dk_at dksX3_law_4 0 rfl rfl)
theorem dX3_law_96 : decode cX3_law 96 = .ok (.putfield 196, 3) := dk_181 0 196 (dk_at dksX3_law_4 1 rfl rfl)
theorem dX3_law_99 : decode cX3_law 99 = .ok (.goto (-85), 3) := dk_167 255 171 (dk_at dksX3_law_4 4 rfl rfl)
theorem dX3_law_102 : decode cX3_law 102 = .ok (.aload_n 1, 1) := dk_43 (dk_at dksX3_law_4 7 rfl rfl)
theorem dX3_law_103 : decode cX3_law 103 = .ok (.getfield 213, 3) := dk_180 0 213 (dk_at dksX3_law_4 8 rfl rfl)
theorem dX3_law_106 : decode cX3_law 106 = .ok (.aload_n 1, 1) := dk_43 (dk_at dksX3_law_4 11 rfl rfl)
theorem dX3_law_107 : decode cX3_law 107 = .ok (.getfield 196, 3) := dk_180 0 196 (dk_at dksX3_law_4 12 rfl rfl)
theorem dX3_law_110 : decode cX3_law 110 = .ok (.aload_n 0, 1) := dk_42 (dk_at dksX3_law_4 15 rfl rfl)
theorem dX3_law_111 : decode cX3_law 111 = .ok (.invokevirtual 203, 3) := dk_182 0 203 (dk_at dksX3_law_4 16 rfl rfl)
theorem dX3_law_114 : decode cX3_law 114 = .ok (.aastore, 1) := dk_83 (dk_at dksX3_law_4 19 rfl rfl)
theorem dX3_law_115 : decode cX3_law 115 = .ok (.aload_n 1, 1) := dk_43 (dk_at dksX3_law_4 20 rfl rfl)
theorem dX3_law_116 : decode cX3_law 116 = .ok (.areturn, 1) := dk_176 (dk_at dksX3_law_4 21 rfl rfl)
abbrev cX3_sign : ByteArray := prog_15_method_9_code
def yX3_sign : MethodName := ⟨RX3, "sign", "(I)V"⟩
def dkwX3_sign_0 : List UInt8 := [42, 27, 182, 0, 55, 154, 0, 9, 42, 4, 182, 0, 48, 191, 42, 182, 0, 59, 177]
abbrev dktX3_sign_0 : List UInt8 := dkwX3_sign_0 ++ []
theorem dksX3_sign_0 : cX3_sign.data.toList.drop 0 = dktX3_sign_0 := by decide +kernel
theorem dX3_sign_0 : decode cX3_sign 0 = .ok (.aload_n 0, 1) := dk_42 (dk_at dksX3_sign_0 0 rfl rfl)
theorem dX3_sign_1 : decode cX3_sign 1 = .ok (.iload_n 1, 1) := dk_27 (dk_at dksX3_sign_0 1 rfl rfl)
theorem dX3_sign_2 : decode cX3_sign 2 = .ok (.invokevirtual 55, 3) := dk_182 0 55 (dk_at dksX3_sign_0 2 rfl rfl)
theorem dX3_sign_5 : decode cX3_sign 5 = .ok (.ifCond .ne 9, 3) := dk_154 0 9 (dk_at dksX3_sign_0 5 rfl rfl)
theorem dX3_sign_8 : decode cX3_sign 8 = .ok (.aload_n 0, 1) := dk_42 (dk_at dksX3_sign_0 8 rfl rfl)
theorem dX3_sign_9 : decode cX3_sign 9 = .ok (.iconst 1, 1) := dk_4 (dk_at dksX3_sign_0 9 rfl rfl)
theorem dX3_sign_10 : decode cX3_sign 10 = .ok (.invokevirtual 48, 3) := dk_182 0 48 (dk_at dksX3_sign_0 10 rfl rfl)
theorem dX3_sign_13 : decode cX3_sign 13 = .ok (.athrow, 1) := dk_191 (dk_at dksX3_sign_0 13 rfl rfl)
theorem dX3_sign_14 : decode cX3_sign 14 = .ok (.aload_n 0, 1) := dk_42 (dk_at dksX3_sign_0 14 rfl rfl)
theorem dX3_sign_15 : decode cX3_sign 15 = .ok (.invokevirtual 59, 3) := dk_182 0 59 (dk_at dksX3_sign_0 15 rfl rfl)
theorem dX3_sign_18 : decode cX3_sign 18 = .ok (.return_, 1) := dk_177 (dk_at dksX3_sign_0 18 rfl rfl)
abbrev cX3_isSign : ByteArray := prog_15_method_7_code
def yX3_isSign : MethodName := ⟨RX3, "isSign", "(I)Z"⟩
def dkwX3_isSign_1 : List UInt8 := [180, 0, 31, 53, 27, 160, 0, 7, 4, 167, 0, 4, 3, 172]
abbrev dktX3_isSign_1 : List UInt8 := dkwX3_isSign_1 ++ []
def dkwX3_isSign_0 : List UInt8 := [42, 180, 0, 9, 180, 0, 44, 42, 180, 0, 31, 51, 5, 160, 0, 23, 42, 180, 0, 9, 180, 0, 52, 42]
abbrev dktX3_isSign_0 : List UInt8 := dkwX3_isSign_0 ++ dktX3_isSign_1
theorem dksX3_isSign_0 : cX3_isSign.data.toList.drop 0 = dktX3_isSign_0 := by decide +kernel
theorem dksX3_isSign_1 : cX3_isSign.data.toList.drop 24 = dktX3_isSign_1 := dk_seg dksX3_isSign_0 24 rfl rfl
theorem dX3_isSign_0 : decode cX3_isSign 0 = .ok (.aload_n 0, 1) := dk_42 (dk_at dksX3_isSign_0 0 rfl rfl)
theorem dX3_isSign_1 : decode cX3_isSign 1 = .ok (.getfield 9, 3) := dk_180 0 9 (dk_at dksX3_isSign_0 1 rfl rfl)
theorem dX3_isSign_4 : decode cX3_isSign 4 = .ok (.getfield 44, 3) := dk_180 0 44 (dk_at dksX3_isSign_0 4 rfl rfl)
theorem dX3_isSign_7 : decode cX3_isSign 7 = .ok (.aload_n 0, 1) := dk_42 (dk_at dksX3_isSign_0 7 rfl rfl)
theorem dX3_isSign_8 : decode cX3_isSign 8 = .ok (.getfield 31, 3) := dk_180 0 31 (dk_at dksX3_isSign_0 8 rfl rfl)
theorem dX3_isSign_11 : decode cX3_isSign 11 = .ok (.baload, 1) := dk_51 (dk_at dksX3_isSign_0 11 rfl rfl)
theorem dX3_isSign_12 : decode cX3_isSign 12 = .ok (.iconst 2, 1) := dk_5 (dk_at dksX3_isSign_0 12 rfl rfl)
theorem dX3_isSign_13 : decode cX3_isSign 13 = .ok (.if_icmp .ne 23, 3) := dk_160 0 23 (dk_at dksX3_isSign_0 13 rfl rfl)
theorem dX3_isSign_16 : decode cX3_isSign 16 = .ok (.aload_n 0, 1) := dk_42 (dk_at dksX3_isSign_0 16 rfl rfl)
theorem dX3_isSign_17 : decode cX3_isSign 17 = .ok (.getfield 9, 3) := dk_180 0 9 (dk_at dksX3_isSign_0 17 rfl rfl)
theorem dX3_isSign_20 : decode cX3_isSign 20 = .ok (.getfield 52, 3) := dk_180 0 52 (dk_at dksX3_isSign_0 20 rfl rfl)
theorem dX3_isSign_23 : decode cX3_isSign 23 = .ok (.aload_n 0, 1) := dk_42 (dk_at dksX3_isSign_0 23 rfl rfl)
theorem dX3_isSign_24 : decode cX3_isSign 24 = .ok (.getfield 31, 3) := dk_180 0 31 (dk_at dksX3_isSign_1 0 rfl rfl)
theorem dX3_isSign_27 : decode cX3_isSign 27 = .ok (.saload, 1) := dk_53 (dk_at dksX3_isSign_1 3 rfl rfl)
theorem dX3_isSign_28 : decode cX3_isSign 28 = .ok (.iload_n 1, 1) := dk_27 (dk_at dksX3_isSign_1 4 rfl rfl)
theorem dX3_isSign_29 : decode cX3_isSign 29 = .ok (.if_icmp .ne 7, 3) := dk_160 0 7 (dk_at dksX3_isSign_1 5 rfl rfl)
theorem dX3_isSign_32 : decode cX3_isSign 32 = .ok (.iconst 1, 1) := dk_4 (dk_at dksX3_isSign_1 8 rfl rfl)
theorem dX3_isSign_33 : decode cX3_isSign 33 = .ok (.goto 4, 3) := dk_167 0 4 (dk_at dksX3_isSign_1 9 rfl rfl)
theorem dX3_isSign_36 : decode cX3_isSign 36 = .ok (.iconst 0, 1) := dk_3 (dk_at dksX3_isSign_1 12 rfl rfl)
theorem dX3_isSign_37 : decode cX3_isSign 37 = .ok (.ireturn, 1) := dk_172 (dk_at dksX3_isSign_1 13 rfl rfl)
abbrev cX3_isWord : ByteArray := prog_15_method_8_code
def yX3_isWord : MethodName := ⟨RX3, "isWord", "(I)Z"⟩
def dkwX3_isWord_1 : List UInt8 := [180, 0, 31, 53, 27, 160, 0, 7, 4, 167, 0, 4, 3, 172]
abbrev dktX3_isWord_1 : List UInt8 := dkwX3_isWord_1 ++ []
def dkwX3_isWord_0 : List UInt8 := [42, 180, 0, 9, 180, 0, 44, 42, 180, 0, 31, 51, 6, 160, 0, 23, 42, 180, 0, 9, 180, 0, 52, 42]
abbrev dktX3_isWord_0 : List UInt8 := dkwX3_isWord_0 ++ dktX3_isWord_1
theorem dksX3_isWord_0 : cX3_isWord.data.toList.drop 0 = dktX3_isWord_0 := by decide +kernel
theorem dksX3_isWord_1 : cX3_isWord.data.toList.drop 24 = dktX3_isWord_1 := dk_seg dksX3_isWord_0 24 rfl rfl
theorem dX3_isWord_0 : decode cX3_isWord 0 = .ok (.aload_n 0, 1) := dk_42 (dk_at dksX3_isWord_0 0 rfl rfl)
theorem dX3_isWord_1 : decode cX3_isWord 1 = .ok (.getfield 9, 3) := dk_180 0 9 (dk_at dksX3_isWord_0 1 rfl rfl)
theorem dX3_isWord_4 : decode cX3_isWord 4 = .ok (.getfield 44, 3) := dk_180 0 44 (dk_at dksX3_isWord_0 4 rfl rfl)
theorem dX3_isWord_7 : decode cX3_isWord 7 = .ok (.aload_n 0, 1) := dk_42 (dk_at dksX3_isWord_0 7 rfl rfl)
theorem dX3_isWord_8 : decode cX3_isWord 8 = .ok (.getfield 31, 3) := dk_180 0 31 (dk_at dksX3_isWord_0 8 rfl rfl)
theorem dX3_isWord_11 : decode cX3_isWord 11 = .ok (.baload, 1) := dk_51 (dk_at dksX3_isWord_0 11 rfl rfl)
theorem dX3_isWord_12 : decode cX3_isWord 12 = .ok (.iconst 3, 1) := dk_6 (dk_at dksX3_isWord_0 12 rfl rfl)
theorem dX3_isWord_13 : decode cX3_isWord 13 = .ok (.if_icmp .ne 23, 3) := dk_160 0 23 (dk_at dksX3_isWord_0 13 rfl rfl)
theorem dX3_isWord_16 : decode cX3_isWord 16 = .ok (.aload_n 0, 1) := dk_42 (dk_at dksX3_isWord_0 16 rfl rfl)
theorem dX3_isWord_17 : decode cX3_isWord 17 = .ok (.getfield 9, 3) := dk_180 0 9 (dk_at dksX3_isWord_0 17 rfl rfl)
theorem dX3_isWord_20 : decode cX3_isWord 20 = .ok (.getfield 52, 3) := dk_180 0 52 (dk_at dksX3_isWord_0 20 rfl rfl)
theorem dX3_isWord_23 : decode cX3_isWord 23 = .ok (.aload_n 0, 1) := dk_42 (dk_at dksX3_isWord_0 23 rfl rfl)
theorem dX3_isWord_24 : decode cX3_isWord 24 = .ok (.getfield 31, 3) := dk_180 0 31 (dk_at dksX3_isWord_1 0 rfl rfl)
theorem dX3_isWord_27 : decode cX3_isWord 27 = .ok (.saload, 1) := dk_53 (dk_at dksX3_isWord_1 3 rfl rfl)
theorem dX3_isWord_28 : decode cX3_isWord 28 = .ok (.iload_n 1, 1) := dk_27 (dk_at dksX3_isWord_1 4 rfl rfl)
theorem dX3_isWord_29 : decode cX3_isWord 29 = .ok (.if_icmp .ne 7, 3) := dk_160 0 7 (dk_at dksX3_isWord_1 5 rfl rfl)
theorem dX3_isWord_32 : decode cX3_isWord 32 = .ok (.iconst 1, 1) := dk_4 (dk_at dksX3_isWord_1 8 rfl rfl)
theorem dX3_isWord_33 : decode cX3_isWord 33 = .ok (.goto 4, 3) := dk_167 0 4 (dk_at dksX3_isWord_1 9 rfl rfl)
theorem dX3_isWord_36 : decode cX3_isWord 36 = .ok (.iconst 0, 1) := dk_3 (dk_at dksX3_isWord_1 12 rfl rfl)
theorem dX3_isWord_37 : decode cX3_isWord 37 = .ok (.ireturn, 1) := dk_172 (dk_at dksX3_isWord_1 13 rfl rfl)
abbrev cX3_begins : ByteArray := prog_15_method_14_code
def yX3_begins : MethodName := ⟨RX3, "begins", "(II)V"⟩
def dkwX3_begins_0 : List UInt8 := [27, 28, 160, 0, 9, 42, 5, 182, 0, 48, 191, 42, 182, 0, 59, 177]
abbrev dktX3_begins_0 : List UInt8 := dkwX3_begins_0 ++ []
theorem dksX3_begins_0 : cX3_begins.data.toList.drop 0 = dktX3_begins_0 := by decide +kernel
theorem dX3_begins_0 : decode cX3_begins 0 = .ok (.iload_n 1, 1) := dk_27 (dk_at dksX3_begins_0 0 rfl rfl)
theorem dX3_begins_1 : decode cX3_begins 1 = .ok (.iload_n 2, 1) := dk_28 (dk_at dksX3_begins_0 1 rfl rfl)
theorem dX3_begins_2 : decode cX3_begins 2 = .ok (.if_icmp .ne 9, 3) := dk_160 0 9 (dk_at dksX3_begins_0 2 rfl rfl)
theorem dX3_begins_5 : decode cX3_begins 5 = .ok (.aload_n 0, 1) := dk_42 (dk_at dksX3_begins_0 5 rfl rfl)
theorem dX3_begins_6 : decode cX3_begins 6 = .ok (.iconst 2, 1) := dk_5 (dk_at dksX3_begins_0 6 rfl rfl)
theorem dX3_begins_7 : decode cX3_begins 7 = .ok (.invokevirtual 48, 3) := dk_182 0 48 (dk_at dksX3_begins_0 7 rfl rfl)
theorem dX3_begins_10 : decode cX3_begins 10 = .ok (.athrow, 1) := dk_191 (dk_at dksX3_begins_0 10 rfl rfl)
theorem dX3_begins_11 : decode cX3_begins 11 = .ok (.aload_n 0, 1) := dk_42 (dk_at dksX3_begins_0 11 rfl rfl)
theorem dX3_begins_12 : decode cX3_begins 12 = .ok (.invokevirtual 59, 3) := dk_182 0 59 (dk_at dksX3_begins_0 12 rfl rfl)
theorem dX3_begins_15 : decode cX3_begins 15 = .ok (.return_, 1) := dk_177 (dk_at dksX3_begins_0 15 rfl rfl)
abbrev cX3_sum : ByteArray := prog_15_method_19_code
def yX3_sum : MethodName := ⟨RX3, "sum", "()LRainLoom$Sum;"⟩
def dkwX3_sum_2 : List UInt8 := [182, 0, 216, 183, 0, 221, 76, 167, 255, 207, 43, 176]
abbrev dktX3_sum_2 : List UInt8 := dkwX3_sum_2 ++ []
def dkwX3_sum_1 : List UInt8 := [180, 0, 9, 180, 0, 52, 42, 180, 0, 31, 53, 61, 42, 182, 0, 59, 187, 0, 219, 89, 28, 43, 42]
abbrev dktX3_sum_1 : List UInt8 := dkwX3_sum_1 ++ dktX3_sum_2
def dkwX3_sum_0 : List UInt8 := [42, 182, 0, 216, 76, 42, 16, 43, 182, 0, 55, 154, 0, 12, 42, 16, 45, 182, 0, 55, 153, 0, 37, 42]
abbrev dktX3_sum_0 : List UInt8 := dkwX3_sum_0 ++ dktX3_sum_1
theorem dksX3_sum_0 : cX3_sum.data.toList.drop 0 = dktX3_sum_0 := by decide +kernel
theorem dksX3_sum_1 : cX3_sum.data.toList.drop 24 = dktX3_sum_1 := dk_seg dksX3_sum_0 24 rfl rfl
theorem dksX3_sum_2 : cX3_sum.data.toList.drop 47 = dktX3_sum_2 := dk_seg dksX3_sum_1 23 rfl rfl
theorem dX3_sum_0 : decode cX3_sum 0 = .ok (.aload_n 0, 1) := dk_42 (dk_at dksX3_sum_0 0 rfl rfl)
theorem dX3_sum_1 : decode cX3_sum 1 = .ok (.invokevirtual 216, 3) := dk_182 0 216 (dk_at dksX3_sum_0 1 rfl rfl)
theorem dX3_sum_4 : decode cX3_sum 4 = .ok (.astore_n 1, 1) := dk_76 (dk_at dksX3_sum_0 4 rfl rfl)
theorem dX3_sum_5 : decode cX3_sum 5 = .ok (.aload_n 0, 1) := dk_42 (dk_at dksX3_sum_0 5 rfl rfl)
theorem dX3_sum_6 : decode cX3_sum 6 = .ok (.bipush 43, 2) := dk_16 43 (dk_at dksX3_sum_0 6 rfl rfl)
theorem dX3_sum_8 : decode cX3_sum 8 = .ok (.invokevirtual 55, 3) := dk_182 0 55 (dk_at dksX3_sum_0 8 rfl rfl)
theorem dX3_sum_11 : decode cX3_sum 11 = .ok (.ifCond .ne 12, 3) := dk_154 0 12 (dk_at dksX3_sum_0 11 rfl rfl)
theorem dX3_sum_14 : decode cX3_sum 14 = .ok (.aload_n 0, 1) := dk_42 (dk_at dksX3_sum_0 14 rfl rfl)
theorem dX3_sum_15 : decode cX3_sum 15 = .ok (.bipush 45, 2) := dk_16 45 (dk_at dksX3_sum_0 15 rfl rfl)
theorem dX3_sum_17 : decode cX3_sum 17 = .ok (.invokevirtual 55, 3) := dk_182 0 55 (dk_at dksX3_sum_0 17 rfl rfl)
theorem dX3_sum_20 : decode cX3_sum 20 = .ok (.ifCond .eq 37, 3) := dk_153 0 37 (dk_at dksX3_sum_0 20 rfl rfl)
theorem dX3_sum_23 : decode cX3_sum 23 = .ok (.aload_n 0, 1) := dk_42 (dk_at dksX3_sum_0 23 rfl rfl)
theorem dX3_sum_24 : decode cX3_sum 24 = .ok (.getfield 9, 3) := dk_180 0 9 (dk_at dksX3_sum_1 0 rfl rfl)
theorem dX3_sum_27 : decode cX3_sum 27 = .ok (.getfield 52, 3) := dk_180 0 52 (dk_at dksX3_sum_1 3 rfl rfl)
theorem dX3_sum_30 : decode cX3_sum 30 = .ok (.aload_n 0, 1) := dk_42 (dk_at dksX3_sum_1 6 rfl rfl)
theorem dX3_sum_31 : decode cX3_sum 31 = .ok (.getfield 31, 3) := dk_180 0 31 (dk_at dksX3_sum_1 7 rfl rfl)
theorem dX3_sum_34 : decode cX3_sum 34 = .ok (.saload, 1) := dk_53 (dk_at dksX3_sum_1 10 rfl rfl)
theorem dX3_sum_35 : decode cX3_sum 35 = .ok (.istore_n 2, 1) := dk_61 (dk_at dksX3_sum_1 11 rfl rfl)
theorem dX3_sum_36 : decode cX3_sum 36 = .ok (.aload_n 0, 1) := dk_42 (dk_at dksX3_sum_1 12 rfl rfl)
theorem dX3_sum_37 : decode cX3_sum 37 = .ok (.invokevirtual 59, 3) := dk_182 0 59 (dk_at dksX3_sum_1 13 rfl rfl)
theorem dX3_sum_40 : decode cX3_sum 40 = .ok (.new 219, 3) := dk_187 0 219 (dk_at dksX3_sum_1 16 rfl rfl)
theorem dX3_sum_43 : decode cX3_sum 43 = .ok (.dup, 1) := dk_89 (dk_at dksX3_sum_1 19 rfl rfl)
theorem dX3_sum_44 : decode cX3_sum 44 = .ok (.iload_n 2, 1) := dk_28 (dk_at dksX3_sum_1 20 rfl rfl)
theorem dX3_sum_45 : decode cX3_sum 45 = .ok (.aload_n 1, 1) := dk_43 (dk_at dksX3_sum_1 21 rfl rfl)
theorem dX3_sum_46 : decode cX3_sum 46 = .ok (.aload_n 0, 1) := dk_42 (dk_at dksX3_sum_1 22 rfl rfl)
theorem dX3_sum_47 : decode cX3_sum 47 = .ok (.invokevirtual 216, 3) := dk_182 0 216 (dk_at dksX3_sum_2 0 rfl rfl)
theorem dX3_sum_50 : decode cX3_sum 50 = .ok (.invokespecial 221, 3) := dk_183 0 221 (dk_at dksX3_sum_2 3 rfl rfl)
theorem dX3_sum_53 : decode cX3_sum 53 = .ok (.astore_n 1, 1) := dk_76 (dk_at dksX3_sum_2 6 rfl rfl)
theorem dX3_sum_54 : decode cX3_sum 54 = .ok (.goto (-49), 3) := dk_167 255 207 (dk_at dksX3_sum_2 7 rfl rfl)
theorem dX3_sum_57 : decode cX3_sum 57 = .ok (.aload_n 1, 1) := dk_43 (dk_at dksX3_sum_2 10 rfl rfl)
theorem dX3_sum_58 : decode cX3_sum 58 = .ok (.areturn, 1) := dk_176 (dk_at dksX3_sum_2 11 rfl rfl)
abbrev cX3_part : ByteArray := prog_15_method_20_code
def yX3_part : MethodName := ⟨RX3, "part", "()LRainLoom$Sum;"⟩
def dkwX3_part_2 : List UInt8 := [182, 0, 224, 183, 0, 221, 76, 167, 255, 207, 43, 176]
abbrev dktX3_part_2 : List UInt8 := dkwX3_part_2 ++ []
def dkwX3_part_1 : List UInt8 := [180, 0, 9, 180, 0, 52, 42, 180, 0, 31, 53, 61, 42, 182, 0, 59, 187, 0, 219, 89, 28, 43, 42]
abbrev dktX3_part_1 : List UInt8 := dkwX3_part_1 ++ dktX3_part_2
def dkwX3_part_0 : List UInt8 := [42, 182, 0, 224, 76, 42, 16, 42, 182, 0, 55, 154, 0, 12, 42, 16, 47, 182, 0, 55, 153, 0, 37, 42]
abbrev dktX3_part_0 : List UInt8 := dkwX3_part_0 ++ dktX3_part_1
theorem dksX3_part_0 : cX3_part.data.toList.drop 0 = dktX3_part_0 := by decide +kernel
theorem dksX3_part_1 : cX3_part.data.toList.drop 24 = dktX3_part_1 := dk_seg dksX3_part_0 24 rfl rfl
theorem dksX3_part_2 : cX3_part.data.toList.drop 47 = dktX3_part_2 := dk_seg dksX3_part_1 23 rfl rfl
theorem dX3_part_0 : decode cX3_part 0 = .ok (.aload_n 0, 1) := dk_42 (dk_at dksX3_part_0 0 rfl rfl)
theorem dX3_part_1 : decode cX3_part 1 = .ok (.invokevirtual 224, 3) := dk_182 0 224 (dk_at dksX3_part_0 1 rfl rfl)
theorem dX3_part_4 : decode cX3_part 4 = .ok (.astore_n 1, 1) := dk_76 (dk_at dksX3_part_0 4 rfl rfl)
theorem dX3_part_5 : decode cX3_part 5 = .ok (.aload_n 0, 1) := dk_42 (dk_at dksX3_part_0 5 rfl rfl)
theorem dX3_part_6 : decode cX3_part 6 = .ok (.bipush 42, 2) := dk_16 42 (dk_at dksX3_part_0 6 rfl rfl)
theorem dX3_part_8 : decode cX3_part 8 = .ok (.invokevirtual 55, 3) := dk_182 0 55 (dk_at dksX3_part_0 8 rfl rfl)
theorem dX3_part_11 : decode cX3_part 11 = .ok (.ifCond .ne 12, 3) := dk_154 0 12 (dk_at dksX3_part_0 11 rfl rfl)
theorem dX3_part_14 : decode cX3_part 14 = .ok (.aload_n 0, 1) := dk_42 (dk_at dksX3_part_0 14 rfl rfl)
theorem dX3_part_15 : decode cX3_part 15 = .ok (.bipush 47, 2) := dk_16 47 (dk_at dksX3_part_0 15 rfl rfl)
theorem dX3_part_17 : decode cX3_part 17 = .ok (.invokevirtual 55, 3) := dk_182 0 55 (dk_at dksX3_part_0 17 rfl rfl)
theorem dX3_part_20 : decode cX3_part 20 = .ok (.ifCond .eq 37, 3) := dk_153 0 37 (dk_at dksX3_part_0 20 rfl rfl)
theorem dX3_part_23 : decode cX3_part 23 = .ok (.aload_n 0, 1) := dk_42 (dk_at dksX3_part_0 23 rfl rfl)
theorem dX3_part_24 : decode cX3_part 24 = .ok (.getfield 9, 3) := dk_180 0 9 (dk_at dksX3_part_1 0 rfl rfl)
theorem dX3_part_27 : decode cX3_part 27 = .ok (.getfield 52, 3) := dk_180 0 52 (dk_at dksX3_part_1 3 rfl rfl)
theorem dX3_part_30 : decode cX3_part 30 = .ok (.aload_n 0, 1) := dk_42 (dk_at dksX3_part_1 6 rfl rfl)
theorem dX3_part_31 : decode cX3_part 31 = .ok (.getfield 31, 3) := dk_180 0 31 (dk_at dksX3_part_1 7 rfl rfl)
theorem dX3_part_34 : decode cX3_part 34 = .ok (.saload, 1) := dk_53 (dk_at dksX3_part_1 10 rfl rfl)
theorem dX3_part_35 : decode cX3_part 35 = .ok (.istore_n 2, 1) := dk_61 (dk_at dksX3_part_1 11 rfl rfl)
theorem dX3_part_36 : decode cX3_part 36 = .ok (.aload_n 0, 1) := dk_42 (dk_at dksX3_part_1 12 rfl rfl)
theorem dX3_part_37 : decode cX3_part 37 = .ok (.invokevirtual 59, 3) := dk_182 0 59 (dk_at dksX3_part_1 13 rfl rfl)
theorem dX3_part_40 : decode cX3_part 40 = .ok (.new 219, 3) := dk_187 0 219 (dk_at dksX3_part_1 16 rfl rfl)
theorem dX3_part_43 : decode cX3_part 43 = .ok (.dup, 1) := dk_89 (dk_at dksX3_part_1 19 rfl rfl)
theorem dX3_part_44 : decode cX3_part 44 = .ok (.iload_n 2, 1) := dk_28 (dk_at dksX3_part_1 20 rfl rfl)
theorem dX3_part_45 : decode cX3_part 45 = .ok (.aload_n 1, 1) := dk_43 (dk_at dksX3_part_1 21 rfl rfl)
theorem dX3_part_46 : decode cX3_part 46 = .ok (.aload_n 0, 1) := dk_42 (dk_at dksX3_part_1 22 rfl rfl)
theorem dX3_part_47 : decode cX3_part 47 = .ok (.invokevirtual 224, 3) := dk_182 0 224 (dk_at dksX3_part_2 0 rfl rfl)
theorem dX3_part_50 : decode cX3_part 50 = .ok (.invokespecial 221, 3) := dk_183 0 221 (dk_at dksX3_part_2 3 rfl rfl)
theorem dX3_part_53 : decode cX3_part 53 = .ok (.astore_n 1, 1) := dk_76 (dk_at dksX3_part_2 6 rfl rfl)
theorem dX3_part_54 : decode cX3_part 54 = .ok (.goto (-49), 3) := dk_167 255 207 (dk_at dksX3_part_2 7 rfl rfl)
theorem dX3_part_57 : decode cX3_part 57 = .ok (.aload_n 1, 1) := dk_43 (dk_at dksX3_part_2 10 rfl rfl)
theorem dX3_part_58 : decode cX3_part 58 = .ok (.areturn, 1) := dk_176 (dk_at dksX3_part_2 11 rfl rfl)
abbrev cX3_unit : ByteArray := prog_15_method_21_code
def yX3_unit : MethodName := ⟨RX3, "unit", "()LRainLoom$Sum;"⟩
def dkwX3_unit_6 : List UInt8 := [182, 0, 102, 42, 89, 180, 0, 96, 4, 100, 181, 0, 96, 43, 176]
abbrev dktX3_unit_6 : List UInt8 := dkwX3_unit_6 ++ []
def dkwX3_unit_5 : List UInt8 := [42, 89, 180, 0, 96, 4, 96, 181, 0, 96, 42, 182, 0, 59, 42, 182, 0, 203, 76, 42, 16, 41]
abbrev dktX3_unit_5 : List UInt8 := dkwX3_unit_5 ++ dktX3_unit_6
def dkwX3_unit_4 : List UInt8 := [154, 0, 9, 42, 4, 182, 0, 48, 191, 42, 180, 0, 96, 16, 6, 160, 0, 9, 42, 5, 182, 0, 48, 191]
abbrev dktX3_unit_4 : List UInt8 := dkwX3_unit_4 ++ dktX3_unit_5
def dkwX3_unit_3 : List UInt8 := [180, 0, 52, 42, 180, 0, 31, 4, 100, 53, 16, 12, 100, 183, 0, 233, 176, 42, 16, 40, 182, 0, 55]
abbrev dktX3_unit_3 : List UInt8 := dkwX3_unit_3 ++ dktX3_unit_4
def dkwX3_unit_2 : List UInt8 := [42, 180, 0, 31, 53, 16, 12, 161, 0, 32, 42, 182, 0, 59, 187, 0, 231, 89, 42, 180, 0, 9]
abbrev dktX3_unit_2 : List UInt8 := dkwX3_unit_2 ++ dktX3_unit_3
def dkwX3_unit_1 : List UInt8 := [4, 100, 182, 0, 72, 183, 0, 229, 176, 42, 182, 0, 65, 6, 160, 0, 49, 42, 180, 0, 9, 180, 0, 52]
abbrev dktX3_unit_1 : List UInt8 := dkwX3_unit_1 ++ dktX3_unit_2
def dkwX3_unit_0 : List UInt8 := [42, 182, 0, 65, 4, 160, 0, 28, 42, 182, 0, 59, 187, 0, 227, 89, 42, 180, 0, 9, 42, 180, 0, 31]
abbrev dktX3_unit_0 : List UInt8 := dkwX3_unit_0 ++ dktX3_unit_1
theorem dksX3_unit_0 : cX3_unit.data.toList.drop 0 = dktX3_unit_0 := by decide +kernel
theorem dksX3_unit_1 : cX3_unit.data.toList.drop 24 = dktX3_unit_1 := dk_seg dksX3_unit_0 24 rfl rfl
theorem dksX3_unit_2 : cX3_unit.data.toList.drop 48 = dktX3_unit_2 := dk_seg dksX3_unit_1 24 rfl rfl
theorem dksX3_unit_3 : cX3_unit.data.toList.drop 70 = dktX3_unit_3 := dk_seg dksX3_unit_2 22 rfl rfl
theorem dksX3_unit_4 : cX3_unit.data.toList.drop 93 = dktX3_unit_4 := dk_seg dksX3_unit_3 23 rfl rfl
theorem dksX3_unit_5 : cX3_unit.data.toList.drop 117 = dktX3_unit_5 := dk_seg dksX3_unit_4 24 rfl rfl
theorem dksX3_unit_6 : cX3_unit.data.toList.drop 139 = dktX3_unit_6 := dk_seg dksX3_unit_5 22 rfl rfl
theorem dX3_unit_0 : decode cX3_unit 0 = .ok (.aload_n 0, 1) := dk_42 (dk_at dksX3_unit_0 0 rfl rfl)
theorem dX3_unit_1 : decode cX3_unit 1 = .ok (.invokevirtual 65, 3) := dk_182 0 65 (dk_at dksX3_unit_0 1 rfl rfl)
theorem dX3_unit_4 : decode cX3_unit 4 = .ok (.iconst 1, 1) := dk_4 (dk_at dksX3_unit_0 4 rfl rfl)
theorem dX3_unit_5 : decode cX3_unit 5 = .ok (.if_icmp .ne 28, 3) := dk_160 0 28 (dk_at dksX3_unit_0 5 rfl rfl)
theorem dX3_unit_8 : decode cX3_unit 8 = .ok (.aload_n 0, 1) := dk_42 (dk_at dksX3_unit_0 8 rfl rfl)
theorem dX3_unit_9 : decode cX3_unit 9 = .ok (.invokevirtual 59, 3) := dk_182 0 59 (dk_at dksX3_unit_0 9 rfl rfl)
theorem dX3_unit_12 : decode cX3_unit 12 = .ok (.new 227, 3) := dk_187 0 227 (dk_at dksX3_unit_0 12 rfl rfl)
theorem dX3_unit_15 : decode cX3_unit 15 = .ok (.dup, 1) := dk_89 (dk_at dksX3_unit_0 15 rfl rfl)
theorem dX3_unit_16 : decode cX3_unit 16 = .ok (.aload_n 0, 1) := dk_42 (dk_at dksX3_unit_0 16 rfl rfl)
theorem dX3_unit_17 : decode cX3_unit 17 = .ok (.getfield 9, 3) := dk_180 0 9 (dk_at dksX3_unit_0 17 rfl rfl)
theorem dX3_unit_20 : decode cX3_unit 20 = .ok (.aload_n 0, 1) := dk_42 (dk_at dksX3_unit_0 20 rfl rfl)
theorem dX3_unit_21 : decode cX3_unit 21 = .ok (.getfield 31, 3) := dk_180 0 31 (dk_at dksX3_unit_0 21 rfl rfl)
theorem dX3_unit_24 : decode cX3_unit 24 = .ok (.iconst 1, 1) := dk_4 (dk_at dksX3_unit_1 0 rfl rfl)
theorem dX3_unit_25 : decode cX3_unit 25 = .ok (.isub, 1) := dk_100 (dk_at dksX3_unit_1 1 rfl rfl)
theorem dX3_unit_26 : decode cX3_unit 26 = .ok (.invokevirtual 72, 3) := dk_182 0 72 (dk_at dksX3_unit_1 2 rfl rfl)
theorem dX3_unit_29 : decode cX3_unit 29 = .ok (.invokespecial 229, 3) := dk_183 0 229 (dk_at dksX3_unit_1 5 rfl rfl)
theorem dX3_unit_32 : decode cX3_unit 32 = .ok (.areturn, 1) := dk_176 (dk_at dksX3_unit_1 8 rfl rfl)
theorem dX3_unit_33 : decode cX3_unit 33 = .ok (.aload_n 0, 1) := dk_42 (dk_at dksX3_unit_1 9 rfl rfl)
theorem dX3_unit_34 : decode cX3_unit 34 = .ok (.invokevirtual 65, 3) := dk_182 0 65 (dk_at dksX3_unit_1 10 rfl rfl)
theorem dX3_unit_37 : decode cX3_unit 37 = .ok (.iconst 3, 1) := dk_6 (dk_at dksX3_unit_1 13 rfl rfl)
theorem dX3_unit_38 : decode cX3_unit 38 = .ok (.if_icmp .ne 49, 3) := dk_160 0 49 (dk_at dksX3_unit_1 14 rfl rfl)
theorem dX3_unit_41 : decode cX3_unit 41 = .ok (.aload_n 0, 1) := dk_42 (dk_at dksX3_unit_1 17 rfl rfl)
theorem dX3_unit_42 : decode cX3_unit 42 = .ok (.getfield 9, 3) := dk_180 0 9 (dk_at dksX3_unit_1 18 rfl rfl)
theorem dX3_unit_45 : decode cX3_unit 45 = .ok (.getfield 52, 3) := dk_180 0 52 (dk_at dksX3_unit_1 21 rfl rfl)
theorem dX3_unit_48 : decode cX3_unit 48 = .ok (.aload_n 0, 1) := dk_42 (dk_at dksX3_unit_2 0 rfl rfl)
theorem dX3_unit_49 : decode cX3_unit 49 = .ok (.getfield 31, 3) := dk_180 0 31 (dk_at dksX3_unit_2 1 rfl rfl)
theorem dX3_unit_52 : decode cX3_unit 52 = .ok (.saload, 1) := dk_53 (dk_at dksX3_unit_2 4 rfl rfl)
theorem dX3_unit_53 : decode cX3_unit 53 = .ok (.bipush 12, 2) := dk_16 12 (dk_at dksX3_unit_2 5 rfl rfl)
theorem dX3_unit_55 : decode cX3_unit 55 = .ok (.if_icmp .lt 32, 3) := dk_161 0 32 (dk_at dksX3_unit_2 7 rfl rfl)
theorem dX3_unit_58 : decode cX3_unit 58 = .ok (.aload_n 0, 1) := dk_42 (dk_at dksX3_unit_2 10 rfl rfl)
theorem dX3_unit_59 : decode cX3_unit 59 = .ok (.invokevirtual 59, 3) := dk_182 0 59 (dk_at dksX3_unit_2 11 rfl rfl)
theorem dX3_unit_62 : decode cX3_unit 62 = .ok (.new 231, 3) := dk_187 0 231 (dk_at dksX3_unit_2 14 rfl rfl)
theorem dX3_unit_65 : decode cX3_unit 65 = .ok (.dup, 1) := dk_89 (dk_at dksX3_unit_2 17 rfl rfl)
theorem dX3_unit_66 : decode cX3_unit 66 = .ok (.aload_n 0, 1) := dk_42 (dk_at dksX3_unit_2 18 rfl rfl)
theorem dX3_unit_67 : decode cX3_unit 67 = .ok (.getfield 9, 3) := dk_180 0 9 (dk_at dksX3_unit_2 19 rfl rfl)
theorem dX3_unit_70 : decode cX3_unit 70 = .ok (.getfield 52, 3) := dk_180 0 52 (dk_at dksX3_unit_3 0 rfl rfl)
theorem dX3_unit_73 : decode cX3_unit 73 = .ok (.aload_n 0, 1) := dk_42 (dk_at dksX3_unit_3 3 rfl rfl)
theorem dX3_unit_74 : decode cX3_unit 74 = .ok (.getfield 31, 3) := dk_180 0 31 (dk_at dksX3_unit_3 4 rfl rfl)
theorem dX3_unit_77 : decode cX3_unit 77 = .ok (.iconst 1, 1) := dk_4 (dk_at dksX3_unit_3 7 rfl rfl)
theorem dX3_unit_78 : decode cX3_unit 78 = .ok (.isub, 1) := dk_100 (dk_at dksX3_unit_3 8 rfl rfl)
theorem dX3_unit_79 : decode cX3_unit 79 = .ok (.saload, 1) := dk_53 (dk_at dksX3_unit_3 9 rfl rfl)
theorem dX3_unit_80 : decode cX3_unit 80 = .ok (.bipush 12, 2) := dk_16 12 (dk_at dksX3_unit_3 10 rfl rfl)
theorem dX3_unit_82 : decode cX3_unit 82 = .ok (.isub, 1) := dk_100 (dk_at dksX3_unit_3 12 rfl rfl)
theorem dX3_unit_83 : decode cX3_unit 83 = .ok (.invokespecial 233, 3) := dk_183 0 233 (dk_at dksX3_unit_3 13 rfl rfl)
theorem dX3_unit_86 : decode cX3_unit 86 = .ok (.areturn, 1) := dk_176 (dk_at dksX3_unit_3 16 rfl rfl)
theorem dX3_unit_87 : decode cX3_unit 87 = .ok (.aload_n 0, 1) := dk_42 (dk_at dksX3_unit_3 17 rfl rfl)
theorem dX3_unit_88 : decode cX3_unit 88 = .ok (.bipush 40, 2) := dk_16 40 (dk_at dksX3_unit_3 18 rfl rfl)
theorem dX3_unit_90 : decode cX3_unit 90 = .ok (.invokevirtual 55, 3) := dk_182 0 55 (dk_at dksX3_unit_3 20 rfl rfl)
theorem dX3_unit_93 : decode cX3_unit 93 = .ok (.ifCond .ne 9, 3) := dk_154 0 9 (dk_at dksX3_unit_4 0 rfl rfl)
theorem dX3_unit_96 : decode cX3_unit 96 = .ok (.aload_n 0, 1) := dk_42 (dk_at dksX3_unit_4 3 rfl rfl)
theorem dX3_unit_97 : decode cX3_unit 97 = .ok (.iconst 1, 1) := dk_4 (dk_at dksX3_unit_4 4 rfl rfl)
theorem dX3_unit_98 : decode cX3_unit 98 = .ok (.invokevirtual 48, 3) := dk_182 0 48 (dk_at dksX3_unit_4 5 rfl rfl)
theorem dX3_unit_101 : decode cX3_unit 101 = .ok (.athrow, 1) := dk_191 (dk_at dksX3_unit_4 8 rfl rfl)
theorem dX3_unit_102 : decode cX3_unit 102 = .ok (.aload_n 0, 1) := dk_42 (dk_at dksX3_unit_4 9 rfl rfl)
theorem dX3_unit_103 : decode cX3_unit 103 = .ok (.getfield 96, 3) := dk_180 0 96 (dk_at dksX3_unit_4 10 rfl rfl)
theorem dX3_unit_106 : decode cX3_unit 106 = .ok (.bipush 6, 2) := dk_16 6 (dk_at dksX3_unit_4 13 rfl rfl)
theorem dX3_unit_108 : decode cX3_unit 108 = .ok (.if_icmp .ne 9, 3) := dk_160 0 9 (dk_at dksX3_unit_4 15 rfl rfl)
theorem dX3_unit_111 : decode cX3_unit 111 = .ok (.aload_n 0, 1) := dk_42 (dk_at dksX3_unit_4 18 rfl rfl)
theorem dX3_unit_112 : decode cX3_unit 112 = .ok (.iconst 2, 1) := dk_5 (dk_at dksX3_unit_4 19 rfl rfl)
theorem dX3_unit_113 : decode cX3_unit 113 = .ok (.invokevirtual 48, 3) := dk_182 0 48 (dk_at dksX3_unit_4 20 rfl rfl)
theorem dX3_unit_116 : decode cX3_unit 116 = .ok (.athrow, 1) := dk_191 (dk_at dksX3_unit_4 23 rfl rfl)
theorem dX3_unit_117 : decode cX3_unit 117 = .ok (.aload_n 0, 1) := dk_42 (dk_at dksX3_unit_5 0 rfl rfl)
theorem dX3_unit_118 : decode cX3_unit 118 = .ok (.dup, 1) := dk_89 (dk_at dksX3_unit_5 1 rfl rfl)
theorem dX3_unit_119 : decode cX3_unit 119 = .ok (.getfield 96, 3) := dk_180 0 96 (dk_at dksX3_unit_5 2 rfl rfl)
theorem dX3_unit_122 : decode cX3_unit 122 = .ok (.iconst 1, 1) := dk_4 (dk_at dksX3_unit_5 5 rfl rfl)
theorem dX3_unit_123 : decode cX3_unit 123 = .ok (.iadd, 1) := dk_96 (dk_at dksX3_unit_5 6 rfl rfl)
theorem dX3_unit_124 : decode cX3_unit 124 = .ok (.putfield 96, 3) := dk_181 0 96 (dk_at dksX3_unit_5 7 rfl rfl)
theorem dX3_unit_127 : decode cX3_unit 127 = .ok (.aload_n 0, 1) := dk_42 (dk_at dksX3_unit_5 10 rfl rfl)
theorem dX3_unit_128 : decode cX3_unit 128 = .ok (.invokevirtual 59, 3) := dk_182 0 59 (dk_at dksX3_unit_5 11 rfl rfl)
theorem dX3_unit_131 : decode cX3_unit 131 = .ok (.aload_n 0, 1) := dk_42 (dk_at dksX3_unit_5 14 rfl rfl)
theorem dX3_unit_132 : decode cX3_unit 132 = .ok (.invokevirtual 203, 3) := dk_182 0 203 (dk_at dksX3_unit_5 15 rfl rfl)
theorem dX3_unit_135 : decode cX3_unit 135 = .ok (.astore_n 1, 1) := dk_76 (dk_at dksX3_unit_5 18 rfl rfl)
theorem dX3_unit_136 : decode cX3_unit 136 = .ok (.aload_n 0, 1) := dk_42 (dk_at dksX3_unit_5 19 rfl rfl)
theorem dX3_unit_137 : decode cX3_unit 137 = .ok (.bipush 41, 2) := dk_16 41 (dk_at dksX3_unit_5 20 rfl rfl)
theorem dX3_unit_139 : decode cX3_unit 139 = .ok (.invokevirtual 102, 3) := dk_182 0 102 (dk_at dksX3_unit_6 0 rfl rfl)
theorem dX3_unit_142 : decode cX3_unit 142 = .ok (.aload_n 0, 1) := dk_42 (dk_at dksX3_unit_6 3 rfl rfl)
theorem dX3_unit_143 : decode cX3_unit 143 = .ok (.dup, 1) := dk_89 (dk_at dksX3_unit_6 4 rfl rfl)
theorem dX3_unit_144 : decode cX3_unit 144 = .ok (.getfield 96, 3) := dk_180 0 96 (dk_at dksX3_unit_6 5 rfl rfl)
theorem dX3_unit_147 : decode cX3_unit 147 = .ok (.iconst 1, 1) := dk_4 (dk_at dksX3_unit_6 8 rfl rfl)
theorem dX3_unit_148 : decode cX3_unit 148 = .ok (.isub, 1) := dk_100 (dk_at dksX3_unit_6 9 rfl rfl)
theorem dX3_unit_149 : decode cX3_unit 149 = .ok (.putfield 96, 3) := dk_181 0 96 (dk_at dksX3_unit_6 10 rfl rfl)
theorem dX3_unit_152 : decode cX3_unit 152 = .ok (.aload_n 1, 1) := dk_43 (dk_at dksX3_unit_6 13 rfl rfl)
theorem dX3_unit_153 : decode cX3_unit 153 = .ok (.areturn, 1) := dk_176 (dk_at dksX3_unit_6 14 rfl rfl)
abbrev cX3_word : ByteArray := prog_15_method_10_code
def yX3_word : MethodName := ⟨RX3, "word", "(I)V"⟩
def dkwX3_word_0 : List UInt8 := [42, 27, 182, 0, 62, 154, 0, 9, 42, 4, 182, 0, 48, 191, 42, 182, 0, 59, 177]
abbrev dktX3_word_0 : List UInt8 := dkwX3_word_0 ++ []
theorem dksX3_word_0 : cX3_word.data.toList.drop 0 = dktX3_word_0 := by decide +kernel
theorem dX3_word_0 : decode cX3_word 0 = .ok (.aload_n 0, 1) := dk_42 (dk_at dksX3_word_0 0 rfl rfl)
theorem dX3_word_1 : decode cX3_word 1 = .ok (.iload_n 1, 1) := dk_27 (dk_at dksX3_word_0 1 rfl rfl)
theorem dX3_word_2 : decode cX3_word 2 = .ok (.invokevirtual 62, 3) := dk_182 0 62 (dk_at dksX3_word_0 2 rfl rfl)
theorem dX3_word_5 : decode cX3_word 5 = .ok (.ifCond .ne 9, 3) := dk_154 0 9 (dk_at dksX3_word_0 5 rfl rfl)
theorem dX3_word_8 : decode cX3_word 8 = .ok (.aload_n 0, 1) := dk_42 (dk_at dksX3_word_0 8 rfl rfl)
theorem dX3_word_9 : decode cX3_word 9 = .ok (.iconst 1, 1) := dk_4 (dk_at dksX3_word_0 9 rfl rfl)
theorem dX3_word_10 : decode cX3_word 10 = .ok (.invokevirtual 48, 3) := dk_182 0 48 (dk_at dksX3_word_0 10 rfl rfl)
theorem dX3_word_13 : decode cX3_word 13 = .ok (.athrow, 1) := dk_191 (dk_at dksX3_word_0 13 rfl rfl)
theorem dX3_word_14 : decode cX3_word 14 = .ok (.aload_n 0, 1) := dk_42 (dk_at dksX3_word_0 14 rfl rfl)
theorem dX3_word_15 : decode cX3_word 15 = .ok (.invokevirtual 59, 3) := dk_182 0 59 (dk_at dksX3_word_0 15 rfl rfl)
theorem dX3_word_18 : decode cX3_word 18 = .ok (.return_, 1) := dk_177 (dk_at dksX3_word_0 18 rfl rfl)
abbrev cX3_rowTold : ByteArray := prog_15_method_17_code
def yX3_rowTold : MethodName := ⟨RX3, "rowTold", "()V"⟩
def dkwX3_rowTold_8 : List UInt8 := [89, 180, 0, 176, 4, 96, 181, 0, 176, 177]
abbrev dktX3_rowTold_8 : List UInt8 := dkwX3_rowTold_8 ++ []
def dkwX3_rowTold_7 : List UInt8 := [16, 254, 79, 132, 4, 1, 167, 255, 160, 29, 154, 0, 10, 42, 16, 6, 27, 182, 0, 75, 42, 180, 0, 83]
abbrev dktX3_rowTold_7 : List UInt8 := dkwX3_rowTold_7 ++ dktX3_rowTold_8
def dkwX3_rowTold_6 : List UInt8 := [96, 21, 5, 16, 97, 161, 0, 18, 21, 5, 16, 102, 163, 0, 11, 21, 5, 16, 97, 100, 167, 0, 5]
abbrev dktX3_rowTold_6 : List UInt8 := dkwX3_rowTold_6 ++ dktX3_rowTold_7
def dkwX3_rowTold_5 : List UInt8 := [167, 0, 4, 3, 62, 42, 180, 0, 83, 180, 0, 189, 42, 180, 0, 83, 180, 0, 176, 16, 8, 104, 21, 4]
abbrev dktX3_rowTold_5 : List UInt8 := dkwX3_rowTold_5 ++ dktX3_rowTold_6
def dkwX3_rowTold_4 : List UInt8 := [21, 5, 16, 111, 159, 0, 17, 21, 5, 16, 97, 161, 0, 14, 21, 5, 16, 102, 163, 0, 7, 4]
abbrev dktX3_rowTold_4 : List UInt8 := dkwX3_rowTold_4 ++ dktX3_rowTold_5
def dkwX3_rowTold_3 : List UInt8 := [54, 4, 21, 4, 44, 182, 0, 179, 162, 0, 93, 44, 21, 4, 182, 0, 185, 54, 5, 29, 153, 0, 28]
abbrev dktX3_rowTold_3 : List UInt8 := dkwX3_rowTold_3 ++ dktX3_rowTold_4
def dkwX3_rowTold_2 : List UInt8 := [181, 0, 184, 44, 182, 0, 179, 42, 180, 0, 83, 180, 0, 184, 160, 0, 7, 4, 167, 0, 4, 3, 62, 3]
abbrev dktX3_rowTold_2 : List UInt8 := dkwX3_rowTold_2 ++ dktX3_rowTold_3
def dkwX3_rowTold_1 : List UInt8 := [182, 0, 79, 77, 42, 180, 0, 83, 180, 0, 176, 154, 0, 14, 42, 180, 0, 83, 44, 182, 0, 179]
abbrev dktX3_rowTold_1 : List UInt8 := dkwX3_rowTold_1 ++ dktX3_rowTold_2
def dkwX3_rowTold_0 : List UInt8 := [42, 42, 180, 0, 83, 180, 0, 176, 16, 6, 182, 0, 130, 42, 3, 182, 0, 68, 60, 42, 180, 0, 9, 27]
abbrev dktX3_rowTold_0 : List UInt8 := dkwX3_rowTold_0 ++ dktX3_rowTold_1
theorem dksX3_rowTold_0 : cX3_rowTold.data.toList.drop 0 = dktX3_rowTold_0 := by decide +kernel
theorem dksX3_rowTold_1 : cX3_rowTold.data.toList.drop 24 = dktX3_rowTold_1 := dk_seg dksX3_rowTold_0 24 rfl rfl
theorem dksX3_rowTold_2 : cX3_rowTold.data.toList.drop 46 = dktX3_rowTold_2 := dk_seg dksX3_rowTold_1 22 rfl rfl
theorem dksX3_rowTold_3 : cX3_rowTold.data.toList.drop 70 = dktX3_rowTold_3 := dk_seg dksX3_rowTold_2 24 rfl rfl
theorem dksX3_rowTold_4 : cX3_rowTold.data.toList.drop 93 = dktX3_rowTold_4 := dk_seg dksX3_rowTold_3 23 rfl rfl
theorem dksX3_rowTold_5 : cX3_rowTold.data.toList.drop 115 = dktX3_rowTold_5 := dk_seg dksX3_rowTold_4 22 rfl rfl
theorem dksX3_rowTold_6 : cX3_rowTold.data.toList.drop 139 = dktX3_rowTold_6 := dk_seg dksX3_rowTold_5 24 rfl rfl
theorem dksX3_rowTold_7 : cX3_rowTold.data.toList.drop 162 = dktX3_rowTold_7 := dk_seg dksX3_rowTold_6 23 rfl rfl
theorem dksX3_rowTold_8 : cX3_rowTold.data.toList.drop 186 = dktX3_rowTold_8 := dk_seg dksX3_rowTold_7 24 rfl rfl
theorem dX3_rowTold_0 : decode cX3_rowTold 0 = .ok (.aload_n 0, 1) := dk_42 (dk_at dksX3_rowTold_0 0 rfl rfl)
theorem dX3_rowTold_1 : decode cX3_rowTold 1 = .ok (.aload_n 0, 1) := dk_42 (dk_at dksX3_rowTold_0 1 rfl rfl)
theorem dX3_rowTold_2 : decode cX3_rowTold 2 = .ok (.getfield 83, 3) := dk_180 0 83 (dk_at dksX3_rowTold_0 2 rfl rfl)
theorem dX3_rowTold_5 : decode cX3_rowTold 5 = .ok (.getfield 176, 3) := dk_180 0 176 (dk_at dksX3_rowTold_0 5 rfl rfl)
theorem dX3_rowTold_8 : decode cX3_rowTold 8 = .ok (.bipush 6, 2) := dk_16 6 (dk_at dksX3_rowTold_0 8 rfl rfl)
theorem dX3_rowTold_10 : decode cX3_rowTold 10 = .ok (.invokevirtual 130, 3) := dk_182 0 130 (dk_at dksX3_rowTold_0 10 rfl rfl)
theorem dX3_rowTold_13 : decode cX3_rowTold 13 = .ok (.aload_n 0, 1) := dk_42 (dk_at dksX3_rowTold_0 13 rfl rfl)
theorem dX3_rowTold_14 : decode cX3_rowTold 14 = .ok (.iconst 0, 1) := dk_3 (dk_at dksX3_rowTold_0 14 rfl rfl)
theorem dX3_rowTold_15 : decode cX3_rowTold 15 = .ok (.invokevirtual 68, 3) := dk_182 0 68 (dk_at dksX3_rowTold_0 15 rfl rfl)
theorem dX3_rowTold_18 : decode cX3_rowTold 18 = .ok (.istore_n 1, 1) := dk_60 (dk_at dksX3_rowTold_0 18 rfl rfl)
theorem dX3_rowTold_19 : decode cX3_rowTold 19 = .ok (.aload_n 0, 1) := dk_42 (dk_at dksX3_rowTold_0 19 rfl rfl)
theorem dX3_rowTold_20 : decode cX3_rowTold 20 = .ok (.getfield 9, 3) := dk_180 0 9 (dk_at dksX3_rowTold_0 20 rfl rfl)
theorem dX3_rowTold_23 : decode cX3_rowTold 23 = .ok (.iload_n 1, 1) := dk_27 (dk_at dksX3_rowTold_0 23 rfl rfl)
theorem dX3_rowTold_24 : decode cX3_rowTold 24 = .ok (.invokevirtual 79, 3) := dk_182 0 79 (dk_at dksX3_rowTold_1 0 rfl rfl)
theorem dX3_rowTold_27 : decode cX3_rowTold 27 = .ok (.astore_n 2, 1) := dk_77 (dk_at dksX3_rowTold_1 3 rfl rfl)
theorem dX3_rowTold_28 : decode cX3_rowTold 28 = .ok (.aload_n 0, 1) := dk_42 (dk_at dksX3_rowTold_1 4 rfl rfl)
theorem dX3_rowTold_29 : decode cX3_rowTold 29 = .ok (.getfield 83, 3) := dk_180 0 83 (dk_at dksX3_rowTold_1 5 rfl rfl)
theorem dX3_rowTold_32 : decode cX3_rowTold 32 = .ok (.getfield 176, 3) := dk_180 0 176 (dk_at dksX3_rowTold_1 8 rfl rfl)
theorem dX3_rowTold_35 : decode cX3_rowTold 35 = .ok (.ifCond .ne 14, 3) := dk_154 0 14 (dk_at dksX3_rowTold_1 11 rfl rfl)
theorem dX3_rowTold_38 : decode cX3_rowTold 38 = .ok (.aload_n 0, 1) := dk_42 (dk_at dksX3_rowTold_1 14 rfl rfl)
theorem dX3_rowTold_39 : decode cX3_rowTold 39 = .ok (.getfield 83, 3) := dk_180 0 83 (dk_at dksX3_rowTold_1 15 rfl rfl)
theorem dX3_rowTold_42 : decode cX3_rowTold 42 = .ok (.aload_n 2, 1) := dk_44 (dk_at dksX3_rowTold_1 18 rfl rfl)
theorem dX3_rowTold_43 : decode cX3_rowTold 43 = .ok (.invokevirtual 179, 3) := dk_182 0 179 (dk_at dksX3_rowTold_1 19 rfl rfl)
theorem dX3_rowTold_46 : decode cX3_rowTold 46 = .ok (.putfield 184, 3) := dk_181 0 184 (dk_at dksX3_rowTold_2 0 rfl rfl)
theorem dX3_rowTold_49 : decode cX3_rowTold 49 = .ok (.aload_n 2, 1) := dk_44 (dk_at dksX3_rowTold_2 3 rfl rfl)
theorem dX3_rowTold_50 : decode cX3_rowTold 50 = .ok (.invokevirtual 179, 3) := dk_182 0 179 (dk_at dksX3_rowTold_2 4 rfl rfl)
theorem dX3_rowTold_53 : decode cX3_rowTold 53 = .ok (.aload_n 0, 1) := dk_42 (dk_at dksX3_rowTold_2 7 rfl rfl)
theorem dX3_rowTold_54 : decode cX3_rowTold 54 = .ok (.getfield 83, 3) := dk_180 0 83 (dk_at dksX3_rowTold_2 8 rfl rfl)
theorem dX3_rowTold_57 : decode cX3_rowTold 57 = .ok (.getfield 184, 3) := dk_180 0 184 (dk_at dksX3_rowTold_2 11 rfl rfl)
theorem dX3_rowTold_60 : decode cX3_rowTold 60 = .ok (.if_icmp .ne 7, 3) := dk_160 0 7 (dk_at dksX3_rowTold_2 14 rfl rfl)
theorem dX3_rowTold_63 : decode cX3_rowTold 63 = .ok (.iconst 1, 1) := dk_4 (dk_at dksX3_rowTold_2 17 rfl rfl)
theorem dX3_rowTold_64 : decode cX3_rowTold 64 = .ok (.goto 4, 3) := dk_167 0 4 (dk_at dksX3_rowTold_2 18 rfl rfl)
theorem dX3_rowTold_67 : decode cX3_rowTold 67 = .ok (.iconst 0, 1) := dk_3 (dk_at dksX3_rowTold_2 21 rfl rfl)
theorem dX3_rowTold_68 : decode cX3_rowTold 68 = .ok (.istore_n 3, 1) := dk_62 (dk_at dksX3_rowTold_2 22 rfl rfl)
theorem dX3_rowTold_69 : decode cX3_rowTold 69 = .ok (.iconst 0, 1) := dk_3 (dk_at dksX3_rowTold_2 23 rfl rfl)
theorem dX3_rowTold_70 : decode cX3_rowTold 70 = .ok (.istore 4, 2) := dk_54 4 (dk_at dksX3_rowTold_3 0 rfl rfl)
theorem dX3_rowTold_72 : decode cX3_rowTold 72 = .ok (.iload 4, 2) := dk_21 4 (dk_at dksX3_rowTold_3 2 rfl rfl)
theorem dX3_rowTold_74 : decode cX3_rowTold 74 = .ok (.aload_n 2, 1) := dk_44 (dk_at dksX3_rowTold_3 4 rfl rfl)
theorem dX3_rowTold_75 : decode cX3_rowTold 75 = .ok (.invokevirtual 179, 3) := dk_182 0 179 (dk_at dksX3_rowTold_3 5 rfl rfl)
theorem dX3_rowTold_78 : decode cX3_rowTold 78 = .ok (.if_icmp .ge 93, 3) := dk_162 0 93 (dk_at dksX3_rowTold_3 8 rfl rfl)
theorem dX3_rowTold_81 : decode cX3_rowTold 81 = .ok (.aload_n 2, 1) := dk_44 (dk_at dksX3_rowTold_3 11 rfl rfl)
theorem dX3_rowTold_82 : decode cX3_rowTold 82 = .ok (.iload 4, 2) := dk_21 4 (dk_at dksX3_rowTold_3 12 rfl rfl)
theorem dX3_rowTold_84 : decode cX3_rowTold 84 = .ok (.invokevirtual 185, 3) := dk_182 0 185 (dk_at dksX3_rowTold_3 14 rfl rfl)
theorem dX3_rowTold_87 : decode cX3_rowTold 87 = .ok (.istore 5, 2) := dk_54 5 (dk_at dksX3_rowTold_3 17 rfl rfl)
theorem dX3_rowTold_89 : decode cX3_rowTold 89 = .ok (.iload_n 3, 1) := dk_29 (dk_at dksX3_rowTold_3 19 rfl rfl)
theorem dX3_rowTold_90 : decode cX3_rowTold 90 = .ok (.ifCond .eq 28, 3) := dk_153 0 28 (dk_at dksX3_rowTold_3 20 rfl rfl)
theorem dX3_rowTold_93 : decode cX3_rowTold 93 = .ok (.iload 5, 2) := dk_21 5 (dk_at dksX3_rowTold_4 0 rfl rfl)
theorem dX3_rowTold_95 : decode cX3_rowTold 95 = .ok (.bipush 111, 2) := dk_16 111 (dk_at dksX3_rowTold_4 2 rfl rfl)
theorem dX3_rowTold_97 : decode cX3_rowTold 97 = .ok (.if_icmp .eq 17, 3) := dk_159 0 17 (dk_at dksX3_rowTold_4 4 rfl rfl)
theorem dX3_rowTold_100 : decode cX3_rowTold 100 = .ok (.iload 5, 2) := dk_21 5 (dk_at dksX3_rowTold_4 7 rfl rfl)
theorem dX3_rowTold_102 : decode cX3_rowTold 102 = .ok (.bipush 97, 2) := dk_16 97 (dk_at dksX3_rowTold_4 9 rfl rfl)
theorem dX3_rowTold_104 : decode cX3_rowTold 104 = .ok (.if_icmp .lt 14, 3) := dk_161 0 14 (dk_at dksX3_rowTold_4 11 rfl rfl)
theorem dX3_rowTold_107 : decode cX3_rowTold 107 = .ok (.iload 5, 2) := dk_21 5 (dk_at dksX3_rowTold_4 14 rfl rfl)
theorem dX3_rowTold_109 : decode cX3_rowTold 109 = .ok (.bipush 102, 2) := dk_16 102 (dk_at dksX3_rowTold_4 16 rfl rfl)
theorem dX3_rowTold_111 : decode cX3_rowTold 111 = .ok (.if_icmp .gt 7, 3) := dk_163 0 7 (dk_at dksX3_rowTold_4 18 rfl rfl)
theorem dX3_rowTold_114 : decode cX3_rowTold 114 = .ok (.iconst 1, 1) := dk_4 (dk_at dksX3_rowTold_4 21 rfl rfl)
theorem dX3_rowTold_115 : decode cX3_rowTold 115 = .ok (.goto 4, 3) := dk_167 0 4 (dk_at dksX3_rowTold_5 0 rfl rfl)
theorem dX3_rowTold_118 : decode cX3_rowTold 118 = .ok (.iconst 0, 1) := dk_3 (dk_at dksX3_rowTold_5 3 rfl rfl)
theorem dX3_rowTold_119 : decode cX3_rowTold 119 = .ok (.istore_n 3, 1) := dk_62 (dk_at dksX3_rowTold_5 4 rfl rfl)
theorem dX3_rowTold_120 : decode cX3_rowTold 120 = .ok (.aload_n 0, 1) := dk_42 (dk_at dksX3_rowTold_5 5 rfl rfl)
theorem dX3_rowTold_121 : decode cX3_rowTold 121 = .ok (.getfield 83, 3) := dk_180 0 83 (dk_at dksX3_rowTold_5 6 rfl rfl)
theorem dX3_rowTold_124 : decode cX3_rowTold 124 = .ok (.getfield 189, 3) := dk_180 0 189 (dk_at dksX3_rowTold_5 9 rfl rfl)
theorem dX3_rowTold_127 : decode cX3_rowTold 127 = .ok (.aload_n 0, 1) := dk_42 (dk_at dksX3_rowTold_5 12 rfl rfl)
theorem dX3_rowTold_128 : decode cX3_rowTold 128 = .ok (.getfield 83, 3) := dk_180 0 83 (dk_at dksX3_rowTold_5 13 rfl rfl)
theorem dX3_rowTold_131 : decode cX3_rowTold 131 = .ok (.getfield 176, 3) := dk_180 0 176 (dk_at dksX3_rowTold_5 16 rfl rfl)
theorem dX3_rowTold_134 : decode cX3_rowTold 134 = .ok (.bipush 8, 2) := dk_16 8 (dk_at dksX3_rowTold_5 19 rfl rfl)
theorem dX3_rowTold_136 : decode cX3_rowTold 136 = .ok (.imul, 1) := dk_104 (dk_at dksX3_rowTold_5 21 rfl rfl)
theorem dX3_rowTold_137 : decode cX3_rowTold 137 = .ok (.iload 4, 2) := dk_21 4 (dk_at dksX3_rowTold_5 22 rfl rfl)
theorem dX3_rowTold_139 : decode cX3_rowTold 139 = .ok (.iadd, 1) := dk_96 (dk_at dksX3_rowTold_6 0 rfl rfl)
theorem dX3_rowTold_140 : decode cX3_rowTold 140 = .ok (.iload 5, 2) := dk_21 5 (dk_at dksX3_rowTold_6 1 rfl rfl)
theorem dX3_rowTold_142 : decode cX3_rowTold 142 = .ok (.bipush 97, 2) := dk_16 97 (dk_at dksX3_rowTold_6 3 rfl rfl)
theorem dX3_rowTold_144 : decode cX3_rowTold 144 = .ok (.if_icmp .lt 18, 3) := dk_161 0 18 (dk_at dksX3_rowTold_6 5 rfl rfl)
theorem dX3_rowTold_147 : decode cX3_rowTold 147 = .ok (.iload 5, 2) := dk_21 5 (dk_at dksX3_rowTold_6 8 rfl rfl)
theorem dX3_rowTold_149 : decode cX3_rowTold 149 = .ok (.bipush 102, 2) := dk_16 102 (dk_at dksX3_rowTold_6 10 rfl rfl)
theorem dX3_rowTold_151 : decode cX3_rowTold 151 = .ok (.if_icmp .gt 11, 3) := dk_163 0 11 (dk_at dksX3_rowTold_6 12 rfl rfl)
theorem dX3_rowTold_154 : decode cX3_rowTold 154 = .ok (.iload 5, 2) := dk_21 5 (dk_at dksX3_rowTold_6 15 rfl rfl)
theorem dX3_rowTold_156 : decode cX3_rowTold 156 = .ok (.bipush 97, 2) := dk_16 97 (dk_at dksX3_rowTold_6 17 rfl rfl)
theorem dX3_rowTold_158 : decode cX3_rowTold 158 = .ok (.isub, 1) := dk_100 (dk_at dksX3_rowTold_6 19 rfl rfl)
theorem dX3_rowTold_159 : decode cX3_rowTold 159 = .ok (.goto 5, 3) := dk_167 0 5 (dk_at dksX3_rowTold_6 20 rfl rfl)
theorem dX3_rowTold_162 : decode cX3_rowTold 162 = .ok (.bipush (-2), 2) := dk_16 254 (dk_at dksX3_rowTold_7 0 rfl rfl)
theorem dX3_rowTold_164 : decode cX3_rowTold 164 = .ok (.iastore, 1) := dk_79 (dk_at dksX3_rowTold_7 2 rfl rfl)
theorem dX3_rowTold_165 : decode cX3_rowTold 165 = .ok (.iinc 4 1, 3) := dk_132 4 1 (dk_at dksX3_rowTold_7 3 rfl rfl)
theorem dX3_rowTold_168 : decode cX3_rowTold 168 = .ok (.goto (-96), 3) := dk_167 255 160 (dk_at dksX3_rowTold_7 6 rfl rfl)
theorem dX3_rowTold_171 : decode cX3_rowTold 171 = .ok (.iload_n 3, 1) := dk_29 (dk_at dksX3_rowTold_7 9 rfl rfl)
theorem dX3_rowTold_172 : decode cX3_rowTold 172 = .ok (.ifCond .ne 10, 3) := dk_154 0 10 (dk_at dksX3_rowTold_7 10 rfl rfl)
theorem dX3_rowTold_175 : decode cX3_rowTold 175 = .ok (.aload_n 0, 1) := dk_42 (dk_at dksX3_rowTold_7 13 rfl rfl)
theorem dX3_rowTold_176 : decode cX3_rowTold 176 = .ok (.bipush 6, 2) := dk_16 6 (dk_at dksX3_rowTold_7 14 rfl rfl)
theorem dX3_rowTold_178 : decode cX3_rowTold 178 = .ok (.iload_n 1, 1) := dk_27 (dk_at dksX3_rowTold_7 16 rfl rfl)
theorem dX3_rowTold_179 : decode cX3_rowTold 179 = .ok (.invokevirtual 75, 3) := dk_182 0 75 (dk_at dksX3_rowTold_7 17 rfl rfl)
theorem dX3_rowTold_182 : decode cX3_rowTold 182 = .ok (.aload_n 0, 1) := dk_42 (dk_at dksX3_rowTold_7 20 rfl rfl)
theorem dX3_rowTold_183 : decode cX3_rowTold 183 = .ok (.getfield 83, 3) := dk_180 0 83 (dk_at dksX3_rowTold_7 21 rfl rfl)
theorem dX3_rowTold_186 : decode cX3_rowTold 186 = .ok (.dup, 1) := dk_89 (dk_at dksX3_rowTold_8 0 rfl rfl)
theorem dX3_rowTold_187 : decode cX3_rowTold 187 = .ok (.getfield 176, 3) := dk_180 0 176 (dk_at dksX3_rowTold_8 1 rfl rfl)
theorem dX3_rowTold_190 : decode cX3_rowTold 190 = .ok (.iconst 1, 1) := dk_4 (dk_at dksX3_rowTold_8 4 rfl rfl)
theorem dX3_rowTold_191 : decode cX3_rowTold 191 = .ok (.iadd, 1) := dk_96 (dk_at dksX3_rowTold_8 5 rfl rfl)
theorem dX3_rowTold_192 : decode cX3_rowTold 192 = .ok (.putfield 176, 3) := dk_181 0 176 (dk_at dksX3_rowTold_8 6 rfl rfl)
theorem dX3_rowTold_195 : decode cX3_rowTold 195 = .ok (.return_, 1) := dk_177 (dk_at dksX3_rowTold_8 9 rfl rfl)
abbrev cX3_take : ByteArray := prog_15_method_11_code
def yX3_take : MethodName := ⟨RX3, "take", "(I)I"⟩
def dkwX3_take_1 : List UInt8 := [172]
abbrev dktX3_take_1 : List UInt8 := dkwX3_take_1 ++ []
def dkwX3_take_0 : List UInt8 := [42, 182, 0, 65, 27, 159, 0, 9, 42, 4, 182, 0, 48, 191, 42, 182, 0, 59, 42, 180, 0, 31, 4, 100]
abbrev dktX3_take_0 : List UInt8 := dkwX3_take_0 ++ dktX3_take_1
theorem dksX3_take_0 : cX3_take.data.toList.drop 0 = dktX3_take_0 := by decide +kernel
theorem dksX3_take_1 : cX3_take.data.toList.drop 24 = dktX3_take_1 := dk_seg dksX3_take_0 24 rfl rfl
theorem dX3_take_0 : decode cX3_take 0 = .ok (.aload_n 0, 1) := dk_42 (dk_at dksX3_take_0 0 rfl rfl)
theorem dX3_take_1 : decode cX3_take 1 = .ok (.invokevirtual 65, 3) := dk_182 0 65 (dk_at dksX3_take_0 1 rfl rfl)
theorem dX3_take_4 : decode cX3_take 4 = .ok (.iload_n 1, 1) := dk_27 (dk_at dksX3_take_0 4 rfl rfl)
theorem dX3_take_5 : decode cX3_take 5 = .ok (.if_icmp .eq 9, 3) := dk_159 0 9 (dk_at dksX3_take_0 5 rfl rfl)
theorem dX3_take_8 : decode cX3_take 8 = .ok (.aload_n 0, 1) := dk_42 (dk_at dksX3_take_0 8 rfl rfl)
theorem dX3_take_9 : decode cX3_take 9 = .ok (.iconst 1, 1) := dk_4 (dk_at dksX3_take_0 9 rfl rfl)
theorem dX3_take_10 : decode cX3_take 10 = .ok (.invokevirtual 48, 3) := dk_182 0 48 (dk_at dksX3_take_0 10 rfl rfl)
theorem dX3_take_13 : decode cX3_take 13 = .ok (.athrow, 1) := dk_191 (dk_at dksX3_take_0 13 rfl rfl)
theorem dX3_take_14 : decode cX3_take 14 = .ok (.aload_n 0, 1) := dk_42 (dk_at dksX3_take_0 14 rfl rfl)
theorem dX3_take_15 : decode cX3_take 15 = .ok (.invokevirtual 59, 3) := dk_182 0 59 (dk_at dksX3_take_0 15 rfl rfl)
theorem dX3_take_18 : decode cX3_take 18 = .ok (.aload_n 0, 1) := dk_42 (dk_at dksX3_take_0 18 rfl rfl)
theorem dX3_take_19 : decode cX3_take 19 = .ok (.getfield 31, 3) := dk_180 0 31 (dk_at dksX3_take_0 19 rfl rfl)
theorem dX3_take_22 : decode cX3_take 22 = .ok (.iconst 1, 1) := dk_4 (dk_at dksX3_take_0 22 rfl rfl)
theorem dX3_take_23 : decode cX3_take 23 = .ok (.isub, 1) := dk_100 (dk_at dksX3_take_0 23 rfl rfl)
theorem dX3_take_24 : decode cX3_take 24 = .ok (.ireturn, 1) := dk_172 (dk_at dksX3_take_1 0 rfl rfl)
abbrev cX3_tell : ByteArray := prog_15_method_4_code
def yX3_tell : MethodName := ⟨RX3, "tell", "(II)V"⟩
def dkwX3_tell_1 : List UInt8 := [42, 180, 0, 38, 161, 0, 4, 177, 42, 27, 181, 0, 38, 42, 28, 181, 0, 41, 177]
abbrev dktX3_tell_1 : List UInt8 := dkwX3_tell_1 ++ []
def dkwX3_tell_0 : List UInt8 := [42, 180, 0, 38, 153, 0, 28, 28, 42, 180, 0, 41, 163, 0, 19, 28, 42, 180, 0, 41, 160, 0, 12, 27]
abbrev dktX3_tell_0 : List UInt8 := dkwX3_tell_0 ++ dktX3_tell_1
theorem dksX3_tell_0 : cX3_tell.data.toList.drop 0 = dktX3_tell_0 := by decide +kernel
theorem dksX3_tell_1 : cX3_tell.data.toList.drop 24 = dktX3_tell_1 := dk_seg dksX3_tell_0 24 rfl rfl
theorem dX3_tell_0 : decode cX3_tell 0 = .ok (.aload_n 0, 1) := dk_42 (dk_at dksX3_tell_0 0 rfl rfl)
theorem dX3_tell_1 : decode cX3_tell 1 = .ok (.getfield 38, 3) := dk_180 0 38 (dk_at dksX3_tell_0 1 rfl rfl)
theorem dX3_tell_4 : decode cX3_tell 4 = .ok (.ifCond .eq 28, 3) := dk_153 0 28 (dk_at dksX3_tell_0 4 rfl rfl)
theorem dX3_tell_7 : decode cX3_tell 7 = .ok (.iload_n 2, 1) := dk_28 (dk_at dksX3_tell_0 7 rfl rfl)
theorem dX3_tell_8 : decode cX3_tell 8 = .ok (.aload_n 0, 1) := dk_42 (dk_at dksX3_tell_0 8 rfl rfl)
theorem dX3_tell_9 : decode cX3_tell 9 = .ok (.getfield 41, 3) := dk_180 0 41 (dk_at dksX3_tell_0 9 rfl rfl)
theorem dX3_tell_12 : decode cX3_tell 12 = .ok (.if_icmp .gt 19, 3) := dk_163 0 19 (dk_at dksX3_tell_0 12 rfl rfl)
theorem dX3_tell_15 : decode cX3_tell 15 = .ok (.iload_n 2, 1) := dk_28 (dk_at dksX3_tell_0 15 rfl rfl)
theorem dX3_tell_16 : decode cX3_tell 16 = .ok (.aload_n 0, 1) := dk_42 (dk_at dksX3_tell_0 16 rfl rfl)
theorem dX3_tell_17 : decode cX3_tell 17 = .ok (.getfield 41, 3) := dk_180 0 41 (dk_at dksX3_tell_0 17 rfl rfl)
theorem dX3_tell_20 : decode cX3_tell 20 = .ok (.if_icmp .ne 12, 3) := dk_160 0 12 (dk_at dksX3_tell_0 20 rfl rfl)
theorem dX3_tell_23 : decode cX3_tell 23 = .ok (.iload_n 1, 1) := dk_27 (dk_at dksX3_tell_0 23 rfl rfl)
theorem dX3_tell_24 : decode cX3_tell 24 = .ok (.aload_n 0, 1) := dk_42 (dk_at dksX3_tell_1 0 rfl rfl)
theorem dX3_tell_25 : decode cX3_tell 25 = .ok (.getfield 38, 3) := dk_180 0 38 (dk_at dksX3_tell_1 1 rfl rfl)
theorem dX3_tell_28 : decode cX3_tell 28 = .ok (.if_icmp .lt 4, 3) := dk_161 0 4 (dk_at dksX3_tell_1 4 rfl rfl)
theorem dX3_tell_31 : decode cX3_tell 31 = .ok (.return_, 1) := dk_177 (dk_at dksX3_tell_1 7 rfl rfl)
theorem dX3_tell_32 : decode cX3_tell 32 = .ok (.aload_n 0, 1) := dk_42 (dk_at dksX3_tell_1 8 rfl rfl)
theorem dX3_tell_33 : decode cX3_tell 33 = .ok (.iload_n 1, 1) := dk_27 (dk_at dksX3_tell_1 9 rfl rfl)
theorem dX3_tell_34 : decode cX3_tell 34 = .ok (.putfield 38, 3) := dk_181 0 38 (dk_at dksX3_tell_1 10 rfl rfl)
theorem dX3_tell_37 : decode cX3_tell 37 = .ok (.aload_n 0, 1) := dk_42 (dk_at dksX3_tell_1 13 rfl rfl)
theorem dX3_tell_38 : decode cX3_tell 38 = .ok (.iload_n 2, 1) := dk_28 (dk_at dksX3_tell_1 14 rfl rfl)
theorem dX3_tell_39 : decode cX3_tell 39 = .ok (.putfield 41, 3) := dk_181 0 41 (dk_at dksX3_tell_1 15 rfl rfl)
theorem dX3_tell_42 : decode cX3_tell 42 = .ok (.return_, 1) := dk_177 (dk_at dksX3_tell_1 18 rfl rfl)
abbrev cX3_name : ByteArray := prog_15_method_13_code
def yX3_name : MethodName := ⟨RX3, "name", "()Ljava/lang/String;"⟩
def dkwX3_name_1 : List UInt8 := [153, 0, 9, 42, 6, 27, 182, 0, 75, 44, 176]
abbrev dktX3_name_1 : List UInt8 := dkwX3_name_1 ++ []
def dkwX3_name_0 : List UInt8 := [42, 3, 182, 0, 68, 60, 42, 180, 0, 9, 27, 182, 0, 79, 77, 42, 180, 0, 83, 44, 182, 0, 86]
abbrev dktX3_name_0 : List UInt8 := dkwX3_name_0 ++ dktX3_name_1
theorem dksX3_name_0 : cX3_name.data.toList.drop 0 = dktX3_name_0 := by decide +kernel
theorem dksX3_name_1 : cX3_name.data.toList.drop 23 = dktX3_name_1 := dk_seg dksX3_name_0 23 rfl rfl
theorem dX3_name_0 : decode cX3_name 0 = .ok (.aload_n 0, 1) := dk_42 (dk_at dksX3_name_0 0 rfl rfl)
theorem dX3_name_1 : decode cX3_name 1 = .ok (.iconst 0, 1) := dk_3 (dk_at dksX3_name_0 1 rfl rfl)
theorem dX3_name_2 : decode cX3_name 2 = .ok (.invokevirtual 68, 3) := dk_182 0 68 (dk_at dksX3_name_0 2 rfl rfl)
theorem dX3_name_5 : decode cX3_name 5 = .ok (.istore_n 1, 1) := dk_60 (dk_at dksX3_name_0 5 rfl rfl)
theorem dX3_name_6 : decode cX3_name 6 = .ok (.aload_n 0, 1) := dk_42 (dk_at dksX3_name_0 6 rfl rfl)
theorem dX3_name_7 : decode cX3_name 7 = .ok (.getfield 9, 3) := dk_180 0 9 (dk_at dksX3_name_0 7 rfl rfl)
theorem dX3_name_10 : decode cX3_name 10 = .ok (.iload_n 1, 1) := dk_27 (dk_at dksX3_name_0 10 rfl rfl)
theorem dX3_name_11 : decode cX3_name 11 = .ok (.invokevirtual 79, 3) := dk_182 0 79 (dk_at dksX3_name_0 11 rfl rfl)
theorem dX3_name_14 : decode cX3_name 14 = .ok (.astore_n 2, 1) := dk_77 (dk_at dksX3_name_0 14 rfl rfl)
theorem dX3_name_15 : decode cX3_name 15 = .ok (.aload_n 0, 1) := dk_42 (dk_at dksX3_name_0 15 rfl rfl)
theorem dX3_name_16 : decode cX3_name 16 = .ok (.getfield 83, 3) := dk_180 0 83 (dk_at dksX3_name_0 16 rfl rfl)
theorem dX3_name_19 : decode cX3_name 19 = .ok (.aload_n 2, 1) := dk_44 (dk_at dksX3_name_0 19 rfl rfl)
theorem dX3_name_20 : decode cX3_name 20 = .ok (.invokevirtual 86, 3) := dk_182 0 86 (dk_at dksX3_name_0 20 rfl rfl)
theorem dX3_name_23 : decode cX3_name 23 = .ok (.ifCond .eq 9, 3) := dk_153 0 9 (dk_at dksX3_name_1 0 rfl rfl)
theorem dX3_name_26 : decode cX3_name 26 = .ok (.aload_n 0, 1) := dk_42 (dk_at dksX3_name_1 3 rfl rfl)
theorem dX3_name_27 : decode cX3_name 27 = .ok (.iconst 3, 1) := dk_6 (dk_at dksX3_name_1 4 rfl rfl)
theorem dX3_name_28 : decode cX3_name 28 = .ok (.iload_n 1, 1) := dk_27 (dk_at dksX3_name_1 5 rfl rfl)
theorem dX3_name_29 : decode cX3_name 29 = .ok (.invokevirtual 75, 3) := dk_182 0 75 (dk_at dksX3_name_1 6 rfl rfl)
theorem dX3_name_32 : decode cX3_name 32 = .ok (.aload_n 2, 1) := dk_44 (dk_at dksX3_name_1 9 rfl rfl)
theorem dX3_name_33 : decode cX3_name 33 = .ok (.areturn, 1) := dk_176 (dk_at dksX3_name_1 10 rfl rfl)
abbrev cX3_number : ByteArray := prog_15_method_12_code
def yX3_number : MethodName := ⟨RX3, "number", "(II)I"⟩
def dkwX3_number_1 : List UInt8 := [28, 164, 0, 9, 42, 8, 29, 182, 0, 75, 21, 4, 172]
abbrev dktX3_number_1 : List UInt8 := dkwX3_number_1 ++ []
def dkwX3_number_0 : List UInt8 := [42, 4, 182, 0, 68, 62, 42, 180, 0, 9, 29, 182, 0, 72, 54, 4, 21, 4, 27, 161, 0, 9, 21, 4]
abbrev dktX3_number_0 : List UInt8 := dkwX3_number_0 ++ dktX3_number_1
theorem dksX3_number_0 : cX3_number.data.toList.drop 0 = dktX3_number_0 := by decide +kernel
theorem dksX3_number_1 : cX3_number.data.toList.drop 24 = dktX3_number_1 := dk_seg dksX3_number_0 24 rfl rfl
theorem dX3_number_0 : decode cX3_number 0 = .ok (.aload_n 0, 1) := dk_42 (dk_at dksX3_number_0 0 rfl rfl)
theorem dX3_number_1 : decode cX3_number 1 = .ok (.iconst 1, 1) := dk_4 (dk_at dksX3_number_0 1 rfl rfl)
theorem dX3_number_2 : decode cX3_number 2 = .ok (.invokevirtual 68, 3) := dk_182 0 68 (dk_at dksX3_number_0 2 rfl rfl)
theorem dX3_number_5 : decode cX3_number 5 = .ok (.istore_n 3, 1) := dk_62 (dk_at dksX3_number_0 5 rfl rfl)
theorem dX3_number_6 : decode cX3_number 6 = .ok (.aload_n 0, 1) := dk_42 (dk_at dksX3_number_0 6 rfl rfl)
theorem dX3_number_7 : decode cX3_number 7 = .ok (.getfield 9, 3) := dk_180 0 9 (dk_at dksX3_number_0 7 rfl rfl)
theorem dX3_number_10 : decode cX3_number 10 = .ok (.iload_n 3, 1) := dk_29 (dk_at dksX3_number_0 10 rfl rfl)
theorem dX3_number_11 : decode cX3_number 11 = .ok (.invokevirtual 72, 3) := dk_182 0 72 (dk_at dksX3_number_0 11 rfl rfl)
theorem dX3_number_14 : decode cX3_number 14 = .ok (.istore 4, 2) := dk_54 4 (dk_at dksX3_number_0 14 rfl rfl)
theorem dX3_number_16 : decode cX3_number 16 = .ok (.iload 4, 2) := dk_21 4 (dk_at dksX3_number_0 16 rfl rfl)
theorem dX3_number_18 : decode cX3_number 18 = .ok (.iload_n 1, 1) := dk_27 (dk_at dksX3_number_0 18 rfl rfl)
theorem dX3_number_19 : decode cX3_number 19 = .ok (.if_icmp .lt 9, 3) := dk_161 0 9 (dk_at dksX3_number_0 19 rfl rfl)
theorem dX3_number_22 : decode cX3_number 22 = .ok (.iload 4, 2) := dk_21 4 (dk_at dksX3_number_0 22 rfl rfl)
theorem dX3_number_24 : decode cX3_number 24 = .ok (.iload_n 2, 1) := dk_28 (dk_at dksX3_number_1 0 rfl rfl)
theorem dX3_number_25 : decode cX3_number 25 = .ok (.if_icmp .le 9, 3) := dk_164 0 9 (dk_at dksX3_number_1 1 rfl rfl)
theorem dX3_number_28 : decode cX3_number 28 = .ok (.aload_n 0, 1) := dk_42 (dk_at dksX3_number_1 4 rfl rfl)
theorem dX3_number_29 : decode cX3_number 29 = .ok (.iconst 5, 1) := dk_8 (dk_at dksX3_number_1 5 rfl rfl)
theorem dX3_number_30 : decode cX3_number 30 = .ok (.iload_n 3, 1) := dk_29 (dk_at dksX3_number_1 6 rfl rfl)
theorem dX3_number_31 : decode cX3_number 31 = .ok (.invokevirtual 75, 3) := dk_182 0 75 (dk_at dksX3_number_1 7 rfl rfl)
theorem dX3_number_34 : decode cX3_number 34 = .ok (.iload 4, 2) := dk_21 4 (dk_at dksX3_number_1 10 rfl rfl)
theorem dX3_number_36 : decode cX3_number 36 = .ok (.ireturn, 1) := dk_172 (dk_at dksX3_number_1 12 rfl rfl)
theorem q125 : (Jvm.Cond.initialized "RainLoom$Parser") ∈ lw_all := lw_g (lw_at lw_m1 7 rfl) rfl
theorem q274 : (Jvm.Cond.fieldLink "RainLoom$Parser" (44 : Nat) "RainLoom$Tokens" "sort" "[B") ∈ lw_all := lw_g (lw_at lw_m1 156 rfl) rfl
theorem q276 : (Jvm.Cond.fieldLink "RainLoom$Parser" (19 : Nat) "RainLoom$Tokens" "from" "[S") ∈ lw_all := lw_g (lw_at lw_m1 158 rfl) rfl
theorem q279 : (Jvm.Cond.fieldLink "RainLoom$Parser" (52 : Nat) "RainLoom$Tokens" "what" "[S") ∈ lw_all := lw_g (lw_at lw_m1 161 rfl) rfl
theorem q300 : (Jvm.Cond.instantiable "RainLoom$Parser" (7 : Nat)) ∈ lw_all := lw_g (lw_at lw_m1 182 rfl) rfl
theorem q302 : (Jvm.Cond.instanceMethod ({ cls := "RainLoom$Parser", name := "<init>", desc := "(LRainLoom$Tokens;LRainLoom$Fault;)V" } : Jvm.MethodName)) ∈ lw_all := lw_g (lw_at lw_m1 184 rfl) rfl
theorem q303 : (Jvm.Cond.code ({ cls := "RainLoom$Parser", name := "<init>", desc := "(LRainLoom$Tokens;LRainLoom$Fault;)V" } : Jvm.MethodName) prog_15_method_1_code (3 : Nat) (Option.none : Option Jvm.ClassFile.FieldType)) ∈ lw_all := lw_g (lw_at lw_m1 185 rfl) rfl
theorem q304 : (Jvm.Cond.methodLink "RainLoom$Parser" (3 : Nat) ({ cls := "java/lang/Object", name := "<init>", desc := "()V" } : Jvm.MethodName)) ∈ lw_all := lw_g (lw_at lw_m1 186 rfl) rfl
theorem q305 : (Jvm.Cond.fieldLink "RainLoom$Parser" (9 : Nat) "RainLoom$Parser" "t" "LRainLoom$Tokens;") ∈ lw_all := lw_g (lw_at lw_m1 187 rfl) rfl
theorem q306 : (Jvm.Cond.fieldLink "RainLoom$Parser" (15 : Nat) "RainLoom$Parser" "fault" "LRainLoom$Fault;") ∈ lw_all := lw_g (lw_at lw_m1 188 rfl) rfl
theorem q307 : (Jvm.Cond.fieldLink "RainLoom$Parser" (83 : Nat) "RainLoom$Parser" "text" "LRainLoom$Text;") ∈ lw_all := lw_g (lw_at lw_m1 189 rfl) rfl
theorem q308 : (Jvm.Cond.fieldLink "RainLoom$Parser" (31 : Nat) "RainLoom$Parser" "at" "I") ∈ lw_all := lw_g (lw_at lw_m1 190 rfl) rfl
theorem q309 : (Jvm.Cond.fieldLink "RainLoom$Parser" (96 : Nat) "RainLoom$Parser" "open" "I") ∈ lw_all := lw_g (lw_at lw_m1 191 rfl) rfl
theorem q310 : (Jvm.Cond.fieldLink "RainLoom$Parser" (38 : Nat) "RainLoom$Parser" "worst" "I") ∈ lw_all := lw_g (lw_at lw_m1 192 rfl) rfl
theorem q311 : (Jvm.Cond.fieldLink "RainLoom$Parser" (41 : Nat) "RainLoom$Parser" "worstToken" "I") ∈ lw_all := lw_g (lw_at lw_m1 193 rfl) rfl
theorem q312 : (Jvm.Cond.laysFinal "RainLoom$Parser" "RainLoom$Parser" "t" "LRainLoom$Tokens;") ∈ lw_all := lw_g (lw_at lw_m1 194 rfl) rfl
theorem q313 : (Jvm.Cond.soleField "RainLoom$Parser" "t") ∈ lw_all := lw_g (lw_at lw_m1 195 rfl) rfl
theorem q314 : (Jvm.Cond.laysFinal "RainLoom$Parser" "RainLoom$Parser" "fault" "LRainLoom$Fault;") ∈ lw_all := lw_g (lw_at lw_m1 196 rfl) rfl
theorem q315 : (Jvm.Cond.soleField "RainLoom$Parser" "fault") ∈ lw_all := lw_g (lw_at lw_m1 197 rfl) rfl
theorem q316 : (Jvm.Cond.lays "RainLoom$Parser" "RainLoom$Parser" "text" "LRainLoom$Text;") ∈ lw_all := lw_g (lw_at lw_m1 198 rfl) rfl
theorem q317 : (Jvm.Cond.soleField "RainLoom$Parser" "text") ∈ lw_all := lw_g (lw_at lw_m1 199 rfl) rfl
theorem q318 : (Jvm.Cond.lays "RainLoom$Parser" "RainLoom$Parser" "at" "I") ∈ lw_all := lw_g (lw_at lw_m1 200 rfl) rfl
theorem q319 : (Jvm.Cond.soleField "RainLoom$Parser" "at") ∈ lw_all := lw_g (lw_at lw_m1 201 rfl) rfl
theorem q320 : (Jvm.Cond.lays "RainLoom$Parser" "RainLoom$Parser" "open" "I") ∈ lw_all := lw_g (lw_at lw_m1 202 rfl) rfl
theorem q321 : (Jvm.Cond.soleField "RainLoom$Parser" "open") ∈ lw_all := lw_g (lw_at lw_m1 203 rfl) rfl
theorem q322 : (Jvm.Cond.lays "RainLoom$Parser" "RainLoom$Parser" "worst" "I") ∈ lw_all := lw_g (lw_at lw_m1 204 rfl) rfl
theorem q323 : (Jvm.Cond.soleField "RainLoom$Parser" "worst") ∈ lw_all := lw_g (lw_at lw_m1 205 rfl) rfl
theorem q324 : (Jvm.Cond.lays "RainLoom$Parser" "RainLoom$Parser" "worstToken" "I") ∈ lw_all := lw_g (lw_at lw_m1 206 rfl) rfl
theorem q325 : (Jvm.Cond.soleField "RainLoom$Parser" "worstToken") ∈ lw_all := lw_g (lw_at lw_m1 207 rfl) rfl
theorem q326 : (Jvm.Cond.superclass "RainLoom$Parser" "java/lang/Object") ∈ lw_all := lw_g (lw_at lw_m1 208 rfl) rfl
theorem q366 : (Jvm.Cond.fieldLink "RainLoom$Parser" (189 : Nat) "RainLoom$Text" "field" "[I") ∈ lw_all := lw_g (lw_at lw_m2 8 rfl) rfl
theorem q369 : (Jvm.Cond.fieldLink "RainLoom$Parser" (121 : Nat) "RainLoom$Text" "fields" "Ljava/util/ArrayList;") ∈ lw_all := lw_g (lw_at lw_m2 11 rfl) rfl
theorem q374 : (Jvm.Cond.fieldLink "RainLoom$Parser" (155 : Nat) "RainLoom$Text" "looms" "Ljava/util/ArrayList;") ∈ lw_all := lw_g (lw_at lw_m2 16 rfl) rfl
theorem q377 : (Jvm.Cond.fieldLink "RainLoom$Parser" (110 : Nat) "RainLoom$Text" "laws" "[LRainLoom$Law;") ∈ lw_all := lw_g (lw_at lw_m2 19 rfl) rfl
theorem q379 : (Jvm.Cond.fieldLink "RainLoom$Parser" (176 : Nat) "RainLoom$Text" "rows" "I") ∈ lw_all := lw_g (lw_at lw_m2 21 rfl) rfl
theorem q382 : (Jvm.Cond.fieldLink "RainLoom$Parser" (184 : Nat) "RainLoom$Text" "wide" "I") ∈ lw_all := lw_g (lw_at lw_m2 24 rfl) rfl
theorem q386 : (Jvm.Cond.fieldLink "RainLoom$Parser" (167 : Nat) "RainLoom$Text" "store" "I") ∈ lw_all := lw_g (lw_at lw_m2 28 rfl) rfl
theorem q388 : (Jvm.Cond.fieldLink "RainLoom$Parser" (170 : Nat) "RainLoom$Text" "gusts" "I") ∈ lw_all := lw_g (lw_at lw_m2 30 rfl) rfl
theorem q390 : (Jvm.Cond.fieldLink "RainLoom$Parser" (173 : Nat) "RainLoom$Text" "seed" "I") ∈ lw_all := lw_g (lw_at lw_m2 32 rfl) rfl
theorem q657 : (Jvm.Cond.instanceMethod ({ cls := "RainLoom$Parser", name := "read", desc := "()LRainLoom$Text;" } : Jvm.MethodName)) ∈ lw_all := lw_g (lw_at lw_m3 59 rfl) rfl
theorem q658 : (Jvm.Cond.selects "RainLoom$Parser" ({ cls := "RainLoom$Parser", name := "read", desc := "()LRainLoom$Text;" } : Jvm.MethodName) ({ cls := "RainLoom$Parser", name := "read", desc := "()LRainLoom$Text;" } : Jvm.MethodName)) ∈ lw_all := lw_g (lw_at lw_m3 60 rfl) rfl
theorem q659 : (Jvm.Cond.code ({ cls := "RainLoom$Parser", name := "read", desc := "()LRainLoom$Text;" } : Jvm.MethodName) prog_15_method_15_code (1 : Nat) (Option.some (Jvm.ClassFile.FieldType.object "RainLoom$Text"))) ∈ lw_all := lw_g (lw_at lw_m3 61 rfl) rfl
theorem q660 : (Jvm.Cond.methodLink "RainLoom$Parser" (92 : Nat) ({ cls := "RainLoom$Tokens", name := "read", desc := "()V" } : Jvm.MethodName)) ∈ lw_all := lw_g (lw_at lw_m3 62 rfl) rfl
theorem q734 : (Jvm.Cond.classLink "RainLoom$Parser" (87 : Nat) "RainLoom$Text") ∈ lw_all := lw_g (lw_at lw_m3 136 rfl) rfl
theorem q735 : (Jvm.Cond.methodLinkNest "RainLoom$Parser" (95 : Nat) ({ cls := "RainLoom$Text", name := "<init>", desc := "()V" } : Jvm.MethodName) "RainLoom") ∈ lw_tbl := lw_at lw_m3 137 rfl
theorem q736 : (Jvm.Cond.methodLink "RainLoom$Parser" (65 : Nat) ({ cls := "RainLoom$Parser", name := "sort", desc := "()I" } : Jvm.MethodName)) ∈ lw_all := lw_g (lw_at lw_m3 138 rfl) rfl
theorem q737 : (Jvm.Cond.privateMethod ({ cls := "RainLoom$Parser", name := "sort", desc := "()I" } : Jvm.MethodName)) ∈ lw_tbl := lw_at lw_m3 139 rfl
theorem q738 : (Jvm.Cond.instanceMethod ({ cls := "RainLoom$Parser", name := "sort", desc := "()I" } : Jvm.MethodName)) ∈ lw_all := lw_g (lw_at lw_m3 140 rfl) rfl
theorem q739 : (Jvm.Cond.code ({ cls := "RainLoom$Parser", name := "sort", desc := "()I" } : Jvm.MethodName) prog_15_method_5_code (1 : Nat) (Option.some Jvm.ClassFile.FieldType.int)) ∈ lw_all := lw_g (lw_at lw_m3 141 rfl) rfl
theorem q740 : (Jvm.Cond.methodLink "RainLoom$Parser" (48 : Nat) ({ cls := "RainLoom$Parser", name := "wrong", desc := "(I)LRainLoom$Fault;" } : Jvm.MethodName)) ∈ lw_all := lw_g (lw_at lw_m3 142 rfl) rfl
theorem q741 : (Jvm.Cond.privateMethod ({ cls := "RainLoom$Parser", name := "wrong", desc := "(I)LRainLoom$Fault;" } : Jvm.MethodName)) ∈ lw_tbl := lw_at lw_m3 143 rfl
theorem q742 : (Jvm.Cond.instanceMethod ({ cls := "RainLoom$Parser", name := "wrong", desc := "(I)LRainLoom$Fault;" } : Jvm.MethodName)) ∈ lw_all := lw_g (lw_at lw_m3 144 rfl) rfl
theorem q743 : (Jvm.Cond.code ({ cls := "RainLoom$Parser", name := "wrong", desc := "(I)LRainLoom$Fault;" } : Jvm.MethodName) prog_15_method_3_code (2 : Nat) (Option.some (Jvm.ClassFile.FieldType.object "RainLoom$Fault"))) ∈ lw_all := lw_g (lw_at lw_m3 145 rfl) rfl
theorem q744 : (Jvm.Cond.methodLink "RainLoom$Parser" (35 : Nat) ({ cls := "RainLoom$Parser", name := "wrongAt", desc := "(II)LRainLoom$Fault;" } : Jvm.MethodName)) ∈ lw_all := lw_g (lw_at lw_m3 146 rfl) rfl
theorem q745 : (Jvm.Cond.privateMethod ({ cls := "RainLoom$Parser", name := "wrongAt", desc := "(II)LRainLoom$Fault;" } : Jvm.MethodName)) ∈ lw_tbl := lw_at lw_m3 147 rfl
theorem q746 : (Jvm.Cond.instanceMethod ({ cls := "RainLoom$Parser", name := "wrongAt", desc := "(II)LRainLoom$Fault;" } : Jvm.MethodName)) ∈ lw_all := lw_g (lw_at lw_m3 148 rfl) rfl
theorem q747 : (Jvm.Cond.code ({ cls := "RainLoom$Parser", name := "wrongAt", desc := "(II)LRainLoom$Fault;" } : Jvm.MethodName) prog_15_method_2_code (3 : Nat) (Option.some (Jvm.ClassFile.FieldType.object "RainLoom$Fault"))) ∈ lw_all := lw_g (lw_at lw_m3 149 rfl) rfl
theorem q748 : (Jvm.Cond.methodLink "RainLoom$Parser" (25 : Nat) ({ cls := "RainLoom$Fault", name := "of", desc := "(II)LRainLoom$Fault;" } : Jvm.MethodName)) ∈ lw_all := lw_g (lw_at lw_m3 150 rfl) rfl
theorem q752 : (Jvm.Cond.methodLink "RainLoom$Parser" (99 : Nat) ({ cls := "RainLoom$Parser", name := "told", desc := "()V" } : Jvm.MethodName)) ∈ lw_all := lw_g (lw_at lw_m3 154 rfl) rfl
theorem q753 : (Jvm.Cond.privateMethod ({ cls := "RainLoom$Parser", name := "told", desc := "()V" } : Jvm.MethodName)) ∈ lw_tbl := lw_at lw_m3 155 rfl
theorem q754 : (Jvm.Cond.instanceMethod ({ cls := "RainLoom$Parser", name := "told", desc := "()V" } : Jvm.MethodName)) ∈ lw_all := lw_g (lw_at lw_m3 156 rfl) rfl
theorem q755 : (Jvm.Cond.code ({ cls := "RainLoom$Parser", name := "told", desc := "()V" } : Jvm.MethodName) prog_15_method_16_code (3 : Nat) (Option.none : Option Jvm.ClassFile.FieldType)) ∈ lw_all := lw_g (lw_at lw_m3 157 rfl) rfl
theorem q756 : (Jvm.Cond.methodLink "RainLoom$Parser" (59 : Nat) ({ cls := "RainLoom$Parser", name := "pass", desc := "()V" } : Jvm.MethodName)) ∈ lw_all := lw_g (lw_at lw_m3 158 rfl) rfl
theorem q757 : (Jvm.Cond.privateMethod ({ cls := "RainLoom$Parser", name := "pass", desc := "()V" } : Jvm.MethodName)) ∈ lw_tbl := lw_at lw_m3 159 rfl
theorem q758 : (Jvm.Cond.instanceMethod ({ cls := "RainLoom$Parser", name := "pass", desc := "()V" } : Jvm.MethodName)) ∈ lw_all := lw_g (lw_at lw_m3 160 rfl) rfl
theorem q759 : (Jvm.Cond.code ({ cls := "RainLoom$Parser", name := "pass", desc := "()V" } : Jvm.MethodName) prog_15_method_6_code (1 : Nat) (Option.none : Option Jvm.ClassFile.FieldType)) ∈ lw_all := lw_g (lw_at lw_m3 161 rfl) rfl
theorem q760 : (Jvm.Cond.methodLink "RainLoom$Parser" (114 : Nat) ({ cls := "RainLoom$Parser", name := "law", desc := "()LRainLoom$Law;" } : Jvm.MethodName)) ∈ lw_all := lw_g (lw_at lw_m3 162 rfl) rfl
theorem q761 : (Jvm.Cond.privateMethod ({ cls := "RainLoom$Parser", name := "law", desc := "()LRainLoom$Law;" } : Jvm.MethodName)) ∈ lw_tbl := lw_at lw_m3 163 rfl
theorem q762 : (Jvm.Cond.instanceMethod ({ cls := "RainLoom$Parser", name := "law", desc := "()LRainLoom$Law;" } : Jvm.MethodName)) ∈ lw_all := lw_g (lw_at lw_m3 164 rfl) rfl
theorem q763 : (Jvm.Cond.code ({ cls := "RainLoom$Parser", name := "law", desc := "()LRainLoom$Law;" } : Jvm.MethodName) prog_15_method_18_code (2 : Nat) (Option.some (Jvm.ClassFile.FieldType.object "RainLoom$Law"))) ∈ lw_all := lw_g (lw_at lw_m3 165 rfl) rfl
theorem q764 : (Jvm.Cond.classLink "RainLoom$Parser" (193 : Nat) "RainLoom$Law") ∈ lw_all := lw_g (lw_at lw_m3 166 rfl) rfl
theorem q766 : (Jvm.Cond.methodLinkNest "RainLoom$Parser" (195 : Nat) ({ cls := "RainLoom$Law", name := "<init>", desc := "()V" } : Jvm.MethodName) "RainLoom") ∈ lw_tbl := lw_at lw_m3 168 rfl
theorem q773 : (Jvm.Cond.fieldLink "RainLoom$Parser" (199 : Nat) "RainLoom$Law" "less" "[LRainLoom$Sum;") ∈ lw_all := lw_g (lw_at lw_m3 175 rfl) rfl
theorem q775 : (Jvm.Cond.fieldLink "RainLoom$Parser" (207 : Nat) "RainLoom$Law" "than" "[LRainLoom$Sum;") ∈ lw_all := lw_g (lw_at lw_m3 177 rfl) rfl
theorem q777 : (Jvm.Cond.fieldLink "RainLoom$Parser" (213 : Nat) "RainLoom$Law" "then" "[LRainLoom$Sum;") ∈ lw_all := lw_g (lw_at lw_m3 179 rfl) rfl
theorem q779 : (Jvm.Cond.fieldLink "RainLoom$Parser" (196 : Nat) "RainLoom$Law" "ifs" "I") ∈ lw_all := lw_g (lw_at lw_m3 181 rfl) rfl
theorem q789 : (Jvm.Cond.methodLink "RainLoom$Parser" (102 : Nat) ({ cls := "RainLoom$Parser", name := "sign", desc := "(I)V" } : Jvm.MethodName)) ∈ lw_all := lw_g (lw_at lw_m3 191 rfl) rfl
theorem q790 : (Jvm.Cond.privateMethod ({ cls := "RainLoom$Parser", name := "sign", desc := "(I)V" } : Jvm.MethodName)) ∈ lw_tbl := lw_at lw_m3 192 rfl
theorem q791 : (Jvm.Cond.instanceMethod ({ cls := "RainLoom$Parser", name := "sign", desc := "(I)V" } : Jvm.MethodName)) ∈ lw_all := lw_g (lw_at lw_m3 193 rfl) rfl
theorem q792 : (Jvm.Cond.code ({ cls := "RainLoom$Parser", name := "sign", desc := "(I)V" } : Jvm.MethodName) prog_15_method_9_code (2 : Nat) (Option.none : Option Jvm.ClassFile.FieldType)) ∈ lw_all := lw_g (lw_at lw_m3 194 rfl) rfl
theorem q793 : (Jvm.Cond.methodLink "RainLoom$Parser" (55 : Nat) ({ cls := "RainLoom$Parser", name := "isSign", desc := "(I)Z" } : Jvm.MethodName)) ∈ lw_all := lw_g (lw_at lw_m3 195 rfl) rfl
theorem q794 : (Jvm.Cond.privateMethod ({ cls := "RainLoom$Parser", name := "isSign", desc := "(I)Z" } : Jvm.MethodName)) ∈ lw_tbl := lw_at lw_m3 196 rfl
theorem q795 : (Jvm.Cond.instanceMethod ({ cls := "RainLoom$Parser", name := "isSign", desc := "(I)Z" } : Jvm.MethodName)) ∈ lw_all := lw_g (lw_at lw_m3 197 rfl) rfl
theorem q796 : (Jvm.Cond.code ({ cls := "RainLoom$Parser", name := "isSign", desc := "(I)Z" } : Jvm.MethodName) prog_15_method_7_code (2 : Nat) (Option.some Jvm.ClassFile.FieldType.boolean)) ∈ lw_all := lw_g (lw_at lw_m3 198 rfl) rfl
theorem q797 : (Jvm.Cond.methodLink "RainLoom$Parser" (62 : Nat) ({ cls := "RainLoom$Parser", name := "isWord", desc := "(I)Z" } : Jvm.MethodName)) ∈ lw_all := lw_g (lw_at lw_m3 199 rfl) rfl
theorem q798 : (Jvm.Cond.privateMethod ({ cls := "RainLoom$Parser", name := "isWord", desc := "(I)Z" } : Jvm.MethodName)) ∈ lw_tbl := lw_at lw_m3 200 rfl
theorem q799 : (Jvm.Cond.instanceMethod ({ cls := "RainLoom$Parser", name := "isWord", desc := "(I)Z" } : Jvm.MethodName)) ∈ lw_all := lw_g (lw_at lw_m3 201 rfl) rfl
theorem q800 : (Jvm.Cond.code ({ cls := "RainLoom$Parser", name := "isWord", desc := "(I)Z" } : Jvm.MethodName) prog_15_method_8_code (2 : Nat) (Option.some Jvm.ClassFile.FieldType.boolean)) ∈ lw_all := lw_g (lw_at lw_m3 202 rfl) rfl
theorem q801 : (Jvm.Cond.methodLink "RainLoom$Parser" (130 : Nat) ({ cls := "RainLoom$Parser", name := "begins", desc := "(II)V" } : Jvm.MethodName)) ∈ lw_all := lw_g (lw_at lw_m3 203 rfl) rfl
theorem q802 : (Jvm.Cond.privateMethod ({ cls := "RainLoom$Parser", name := "begins", desc := "(II)V" } : Jvm.MethodName)) ∈ lw_tbl := lw_at lw_m3 204 rfl
theorem q803 : (Jvm.Cond.instanceMethod ({ cls := "RainLoom$Parser", name := "begins", desc := "(II)V" } : Jvm.MethodName)) ∈ lw_all := lw_g (lw_at lw_m3 205 rfl) rfl
theorem q804 : (Jvm.Cond.code ({ cls := "RainLoom$Parser", name := "begins", desc := "(II)V" } : Jvm.MethodName) prog_15_method_14_code (3 : Nat) (Option.none : Option Jvm.ClassFile.FieldType)) ∈ lw_all := lw_g (lw_at lw_m3 206 rfl) rfl
theorem q805 : (Jvm.Cond.methodLink "RainLoom$Parser" (203 : Nat) ({ cls := "RainLoom$Parser", name := "sum", desc := "()LRainLoom$Sum;" } : Jvm.MethodName)) ∈ lw_all := lw_g (lw_at lw_m3 207 rfl) rfl
theorem q806 : (Jvm.Cond.privateMethod ({ cls := "RainLoom$Parser", name := "sum", desc := "()LRainLoom$Sum;" } : Jvm.MethodName)) ∈ lw_tbl := lw_at lw_m3 208 rfl
theorem q807 : (Jvm.Cond.instanceMethod ({ cls := "RainLoom$Parser", name := "sum", desc := "()LRainLoom$Sum;" } : Jvm.MethodName)) ∈ lw_all := lw_g (lw_at lw_m3 209 rfl) rfl
theorem q808 : (Jvm.Cond.code ({ cls := "RainLoom$Parser", name := "sum", desc := "()LRainLoom$Sum;" } : Jvm.MethodName) prog_15_method_19_code (3 : Nat) (Option.some (Jvm.ClassFile.FieldType.object "RainLoom$Sum"))) ∈ lw_all := lw_g (lw_at lw_m3 210 rfl) rfl
theorem q809 : (Jvm.Cond.methodLink "RainLoom$Parser" (216 : Nat) ({ cls := "RainLoom$Parser", name := "part", desc := "()LRainLoom$Sum;" } : Jvm.MethodName)) ∈ lw_all := lw_g (lw_at lw_m3 211 rfl) rfl
theorem q810 : (Jvm.Cond.privateMethod ({ cls := "RainLoom$Parser", name := "part", desc := "()LRainLoom$Sum;" } : Jvm.MethodName)) ∈ lw_tbl := lw_at lw_m3 212 rfl
theorem q811 : (Jvm.Cond.instanceMethod ({ cls := "RainLoom$Parser", name := "part", desc := "()LRainLoom$Sum;" } : Jvm.MethodName)) ∈ lw_all := lw_g (lw_at lw_m3 213 rfl) rfl
theorem q812 : (Jvm.Cond.code ({ cls := "RainLoom$Parser", name := "part", desc := "()LRainLoom$Sum;" } : Jvm.MethodName) prog_15_method_20_code (3 : Nat) (Option.some (Jvm.ClassFile.FieldType.object "RainLoom$Sum"))) ∈ lw_all := lw_g (lw_at lw_m3 214 rfl) rfl
theorem q813 : (Jvm.Cond.methodLink "RainLoom$Parser" (224 : Nat) ({ cls := "RainLoom$Parser", name := "unit", desc := "()LRainLoom$Sum;" } : Jvm.MethodName)) ∈ lw_all := lw_g (lw_at lw_m3 215 rfl) rfl
theorem q814 : (Jvm.Cond.privateMethod ({ cls := "RainLoom$Parser", name := "unit", desc := "()LRainLoom$Sum;" } : Jvm.MethodName)) ∈ lw_tbl := lw_at lw_m3 216 rfl
theorem q815 : (Jvm.Cond.instanceMethod ({ cls := "RainLoom$Parser", name := "unit", desc := "()LRainLoom$Sum;" } : Jvm.MethodName)) ∈ lw_all := lw_g (lw_at lw_m3 217 rfl) rfl
theorem q816 : (Jvm.Cond.code ({ cls := "RainLoom$Parser", name := "unit", desc := "()LRainLoom$Sum;" } : Jvm.MethodName) prog_15_method_21_code (2 : Nat) (Option.some (Jvm.ClassFile.FieldType.object "RainLoom$Sum"))) ∈ lw_all := lw_g (lw_at lw_m3 218 rfl) rfl
theorem q817 : (Jvm.Cond.classLink "RainLoom$Parser" (227 : Nat) "RainLoom$Number") ∈ lw_all := lw_g (lw_at lw_m3 219 rfl) rfl
theorem q819 : (Jvm.Cond.methodLink "RainLoom$Parser" (72 : Nat) ({ cls := "RainLoom$Tokens", name := "number", desc := "(I)I" } : Jvm.MethodName)) ∈ lw_all := lw_g (lw_at lw_m3 221 rfl) rfl
theorem q823 : (Jvm.Cond.methodLink "RainLoom$Parser" (229 : Nat) ({ cls := "RainLoom$Number", name := "<init>", desc := "(I)V" } : Jvm.MethodName)) ∈ lw_all := lw_g (lw_at lw_m3 225 rfl) rfl
theorem q834 : (Jvm.Cond.classLink "RainLoom$Parser" (231 : Nat) "RainLoom$Var") ∈ lw_all := lw_g (lw_at lw_m3 236 rfl) rfl
theorem q836 : (Jvm.Cond.methodLink "RainLoom$Parser" (233 : Nat) ({ cls := "RainLoom$Var", name := "<init>", desc := "(I)V" } : Jvm.MethodName)) ∈ lw_all := lw_g (lw_at lw_m3 238 rfl) rfl
theorem q844 : (Jvm.Cond.classLink "RainLoom$Parser" (219 : Nat) "RainLoom$Joined") ∈ lw_all := lw_g (lw_at lw_m4 6 rfl) rfl
theorem q846 : (Jvm.Cond.methodLink "RainLoom$Parser" (221 : Nat) ({ cls := "RainLoom$Joined", name := "<init>", desc := "(ILRainLoom$Sum;LRainLoom$Sum;)V" } : Jvm.MethodName)) ∈ lw_all := lw_g (lw_at lw_m4 8 rfl) rfl
theorem q860 : (Jvm.Cond.methodLink "RainLoom$Parser" (210 : Nat) ({ cls := "RainLoom$Parser", name := "word", desc := "(I)V" } : Jvm.MethodName)) ∈ lw_all := lw_g (lw_at lw_m4 22 rfl) rfl
theorem q861 : (Jvm.Cond.privateMethod ({ cls := "RainLoom$Parser", name := "word", desc := "(I)V" } : Jvm.MethodName)) ∈ lw_tbl := lw_at lw_m4 23 rfl
theorem q862 : (Jvm.Cond.instanceMethod ({ cls := "RainLoom$Parser", name := "word", desc := "(I)V" } : Jvm.MethodName)) ∈ lw_all := lw_g (lw_at lw_m4 24 rfl) rfl
theorem q863 : (Jvm.Cond.code ({ cls := "RainLoom$Parser", name := "word", desc := "(I)V" } : Jvm.MethodName) prog_15_method_10_code (2 : Nat) (Option.none : Option Jvm.ClassFile.FieldType)) ∈ lw_all := lw_g (lw_at lw_m4 25 rfl) rfl
theorem q864 : (Jvm.Cond.methodLink "RainLoom$Parser" (118 : Nat) ({ cls := "RainLoom$Parser", name := "rowTold", desc := "()V" } : Jvm.MethodName)) ∈ lw_all := lw_g (lw_at lw_m4 26 rfl) rfl
theorem q865 : (Jvm.Cond.privateMethod ({ cls := "RainLoom$Parser", name := "rowTold", desc := "()V" } : Jvm.MethodName)) ∈ lw_tbl := lw_at lw_m4 27 rfl
theorem q866 : (Jvm.Cond.instanceMethod ({ cls := "RainLoom$Parser", name := "rowTold", desc := "()V" } : Jvm.MethodName)) ∈ lw_all := lw_g (lw_at lw_m4 28 rfl) rfl
theorem q867 : (Jvm.Cond.code ({ cls := "RainLoom$Parser", name := "rowTold", desc := "()V" } : Jvm.MethodName) prog_15_method_17_code (6 : Nat) (Option.none : Option Jvm.ClassFile.FieldType)) ∈ lw_all := lw_g (lw_at lw_m4 29 rfl) rfl
theorem q868 : (Jvm.Cond.methodLink "RainLoom$Parser" (68 : Nat) ({ cls := "RainLoom$Parser", name := "take", desc := "(I)I" } : Jvm.MethodName)) ∈ lw_all := lw_g (lw_at lw_m4 30 rfl) rfl
theorem q869 : (Jvm.Cond.privateMethod ({ cls := "RainLoom$Parser", name := "take", desc := "(I)I" } : Jvm.MethodName)) ∈ lw_tbl := lw_at lw_m4 31 rfl
theorem q870 : (Jvm.Cond.instanceMethod ({ cls := "RainLoom$Parser", name := "take", desc := "(I)I" } : Jvm.MethodName)) ∈ lw_all := lw_g (lw_at lw_m4 32 rfl) rfl
theorem q871 : (Jvm.Cond.code ({ cls := "RainLoom$Parser", name := "take", desc := "(I)I" } : Jvm.MethodName) prog_15_method_11_code (2 : Nat) (Option.some Jvm.ClassFile.FieldType.int)) ∈ lw_all := lw_g (lw_at lw_m4 33 rfl) rfl
theorem q872 : (Jvm.Cond.methodLink "RainLoom$Parser" (79 : Nat) ({ cls := "RainLoom$Tokens", name := "text", desc := "(I)Ljava/lang/String;" } : Jvm.MethodName)) ∈ lw_all := lw_g (lw_at lw_m4 34 rfl) rfl
theorem q1038 : (Jvm.Cond.methodLink "RainLoom$Parser" (179 : Nat) ({ cls := "java/lang/String", name := "length", desc := "()I" } : Jvm.MethodName)) ∈ lw_all := lw_g (lw_at lw_m4 200 rfl) rfl
theorem q1039 : (Jvm.Cond.methodLink "RainLoom$Parser" (185 : Nat) ({ cls := "java/lang/String", name := "charAt", desc := "(I)C" } : Jvm.MethodName)) ∈ lw_all := lw_g (lw_at lw_m4 201 rfl) rfl
theorem q1040 : (Jvm.Cond.methodLink "RainLoom$Parser" (75 : Nat) ({ cls := "RainLoom$Parser", name := "tell", desc := "(II)V" } : Jvm.MethodName)) ∈ lw_all := lw_g (lw_at lw_m4 202 rfl) rfl
theorem q1041 : (Jvm.Cond.privateMethod ({ cls := "RainLoom$Parser", name := "tell", desc := "(II)V" } : Jvm.MethodName)) ∈ lw_tbl := lw_at lw_m4 203 rfl
theorem q1042 : (Jvm.Cond.instanceMethod ({ cls := "RainLoom$Parser", name := "tell", desc := "(II)V" } : Jvm.MethodName)) ∈ lw_all := lw_g (lw_at lw_m4 204 rfl) rfl
theorem q1043 : (Jvm.Cond.code ({ cls := "RainLoom$Parser", name := "tell", desc := "(II)V" } : Jvm.MethodName) prog_15_method_4_code (3 : Nat) (Option.none : Option Jvm.ClassFile.FieldType)) ∈ lw_all := lw_g (lw_at lw_m4 205 rfl) rfl
theorem q1044 : (Jvm.Cond.methodLink "RainLoom$Parser" (125 : Nat) ({ cls := "java/util/ArrayList", name := "size", desc := "()I" } : Jvm.MethodName)) ∈ lw_all := lw_g (lw_at lw_m4 206 rfl) rfl
theorem q1045 : (Jvm.Cond.classLink "RainLoom$Parser" (133 : Nat) "RainLoom$Field") ∈ lw_all := lw_g (lw_at lw_m4 207 rfl) rfl
theorem q1047 : (Jvm.Cond.methodLink "RainLoom$Parser" (135 : Nat) ({ cls := "RainLoom$Parser", name := "name", desc := "()Ljava/lang/String;" } : Jvm.MethodName)) ∈ lw_all := lw_g (lw_at lw_m4 209 rfl) rfl
theorem q1048 : (Jvm.Cond.privateMethod ({ cls := "RainLoom$Parser", name := "name", desc := "()Ljava/lang/String;" } : Jvm.MethodName)) ∈ lw_tbl := lw_at lw_m4 210 rfl
theorem q1049 : (Jvm.Cond.instanceMethod ({ cls := "RainLoom$Parser", name := "name", desc := "()Ljava/lang/String;" } : Jvm.MethodName)) ∈ lw_all := lw_g (lw_at lw_m4 211 rfl) rfl
theorem q1050 : (Jvm.Cond.code ({ cls := "RainLoom$Parser", name := "name", desc := "()Ljava/lang/String;" } : Jvm.MethodName) prog_15_method_13_code (3 : Nat) (Option.some (Jvm.ClassFile.FieldType.object "java/lang/String"))) ∈ lw_all := lw_g (lw_at lw_m4 212 rfl) rfl
theorem q1051 : (Jvm.Cond.methodLink "RainLoom$Parser" (86 : Nat) ({ cls := "RainLoom$Text", name := "has", desc := "(Ljava/lang/String;)Z" } : Jvm.MethodName)) ∈ lw_all := lw_g (lw_at lw_m4 213 rfl) rfl
theorem q1069 : (Jvm.Cond.methodLink "RainLoom$Parser" (139 : Nat) ({ cls := "RainLoom$Field", name := "<init>", desc := "(Ljava/lang/String;)V" } : Jvm.MethodName)) ∈ lw_all := lw_g (lw_at lw_m4 231 rfl) rfl
theorem q1077 : (Jvm.Cond.fieldLink "RainLoom$Parser" (145 : Nat) "RainLoom$Field" "needs" "I") ∈ lw_all := lw_g (lw_at lw_m4 239 rfl) rfl
theorem q1079 : (Jvm.Cond.fieldLink "RainLoom$Parser" (148 : Nat) "RainLoom$Field" "drowns" "I") ∈ lw_all := lw_g (lw_at lw_m5 1 rfl) rfl
theorem q1089 : (Jvm.Cond.methodLink "RainLoom$Parser" (142 : Nat) ({ cls := "RainLoom$Parser", name := "number", desc := "(II)I" } : Jvm.MethodName)) ∈ lw_all := lw_g (lw_at lw_m5 11 rfl) rfl
theorem q1090 : (Jvm.Cond.privateMethod ({ cls := "RainLoom$Parser", name := "number", desc := "(II)I" } : Jvm.MethodName)) ∈ lw_tbl := lw_at lw_m5 12 rfl
theorem q1091 : (Jvm.Cond.instanceMethod ({ cls := "RainLoom$Parser", name := "number", desc := "(II)I" } : Jvm.MethodName)) ∈ lw_all := lw_g (lw_at lw_m5 13 rfl) rfl
theorem q1092 : (Jvm.Cond.code ({ cls := "RainLoom$Parser", name := "number", desc := "(II)I" } : Jvm.MethodName) prog_15_method_12_code (5 : Nat) (Option.some Jvm.ClassFile.FieldType.int)) ∈ lw_all := lw_g (lw_at lw_m5 14 rfl) rfl
theorem q1093 : (Jvm.Cond.methodLink "RainLoom$Parser" (151 : Nat) ({ cls := "java/util/ArrayList", name := "add", desc := "(Ljava/lang/Object;)Z" } : Jvm.MethodName)) ∈ lw_all := lw_g (lw_at lw_m5 15 rfl) rfl
theorem q1129 : (Jvm.Cond.selects "RainLoom$Parser" ({ cls := "java/lang/Object", name := "getClass", desc := "()Ljava/lang/Class;" } : Jvm.MethodName) ({ cls := "java/lang/Object", name := "getClass", desc := "()Ljava/lang/Class;" } : Jvm.MethodName)) ∈ lw_all := lw_g (lw_at lw_m5 51 rfl) rfl
theorem q1146 : (Jvm.Cond.classLink "RainLoom$Parser" (158 : Nat) "RainLoom$Loom") ∈ lw_all := lw_g (lw_at lw_m5 68 rfl) rfl
theorem q1148 : (Jvm.Cond.methodLink "RainLoom$Parser" (160 : Nat) ({ cls := "RainLoom$Loom", name := "<init>", desc := "(Ljava/lang/String;)V" } : Jvm.MethodName)) ∈ lw_all := lw_g (lw_at lw_m5 70 rfl) rfl
theorem q1154 : (Jvm.Cond.fieldLink "RainLoom$Parser" (161 : Nat) "RainLoom$Loom" "wide" "I") ∈ lw_all := lw_g (lw_at lw_m5 76 rfl) rfl
theorem q1156 : (Jvm.Cond.fieldLink "RainLoom$Parser" (164 : Nat) "RainLoom$Loom" "pick" "I") ∈ lw_all := lw_g (lw_at lw_m5 78 rfl) rfl
theorem q1163 : (Jvm.Cond.methodLink "RainLoom$Parser" (106 : Nat) ({ cls := "RainLoom$Text", name := "isWhole", desc := "()Z" } : Jvm.MethodName)) ∈ lw_all := lw_g (lw_at lw_m5 85 rfl) rfl
theorem q2185 : (Jvm.Cond.castable "RainLoom$Parser" "java/lang/Object") ∈ lw_tbl := lw_at lw_m9 147 rfl
theorem in_X3 : ∀ w ∈ wsX30, w ∈ lw_all := lw_in wsX30 [312, 314, 316, 318, 320, 322, 324] (by decide +kernel) (by decide +kernel)

/-! RainLoom$Text -/
set_option maxRecDepth 100000
def RX4 : String := "RainLoom$Text"
def TX4 : u_T := fun k => match k with
  | 0 => ("RainLoom$Text", "field", "[I", true)
  | 1 => ("RainLoom$Text", "fields", "Ljava/util/ArrayList;", true)
  | 2 => ("RainLoom$Text", "looms", "Ljava/util/ArrayList;", true)
  | 3 => ("RainLoom$Text", "laws", "[LRainLoom$Law;", true)
  | 4 => ("RainLoom$Text", "rows", "I", false)
  | 5 => ("RainLoom$Text", "wide", "I", false)
  | 6 => ("RainLoom$Text", "store", "I", false)
  | 7 => ("RainLoom$Text", "gusts", "I", false)
  | _ => ("RainLoom$Text", "seed", "I", false)
def tyX4 : Nat → FieldType := fun k => match k with
  | 0 => .array .int
  | 1 => .object "java/util/ArrayList"
  | 2 => .object "java/util/ArrayList"
  | 3 => .array (.object "RainLoom$Law")
  | 4 => .int
  | 5 => .int
  | 6 => .int
  | 7 => .int
  | _ => .int
abbrev wsX40 : List Cond := u_ws RX4 TX4 9
theorem nmX4 : ∀ a, a < 9 → ∀ b, b < 9 → a ≠ b → (TX4 a).2.1 ≠ (TX4 b).2.1 := by decide +kernel
theorem tyX4_ok : ∀ k, k < 9 → parseFieldDescriptor (TX4 k).2.2.1 = some (tyX4 k) := by decide +kernel
abbrev cX4_init : ByteArray := prog_18_method_1_code
def yX4_init : MethodName := ⟨RX4, "<init>", "()V"⟩
def dkwX4_init_2 : List UInt8 := [177]
abbrev dktX4_init_2 : List UInt8 := dkwX4_init_2 ++ []
def dkwX4_init_1 : List UInt8 := [187, 0, 15, 89, 183, 0, 17, 181, 0, 22, 42, 6, 189, 0, 25, 181, 0, 27, 42, 16, 100, 181, 0, 31]
abbrev dktX4_init_1 : List UInt8 := dkwX4_init_1 ++ dktX4_init_2
def dkwX4_init_0 : List UInt8 := [42, 183, 0, 3, 42, 16, 48, 188, 10, 181, 0, 9, 42, 187, 0, 15, 89, 183, 0, 17, 181, 0, 18, 42]
abbrev dktX4_init_0 : List UInt8 := dkwX4_init_0 ++ dktX4_init_1
theorem dksX4_init_0 : cX4_init.data.toList.drop 0 = dktX4_init_0 := by decide +kernel
theorem dksX4_init_1 : cX4_init.data.toList.drop 24 = dktX4_init_1 := dk_seg dksX4_init_0 24 rfl rfl
theorem dksX4_init_2 : cX4_init.data.toList.drop 48 = dktX4_init_2 := dk_seg dksX4_init_1 24 rfl rfl
theorem dX4_init_0 : decode cX4_init 0 = .ok (.aload_n 0, 1) := dk_42 (dk_at dksX4_init_0 0 rfl rfl)
theorem dX4_init_1 : decode cX4_init 1 = .ok (.invokespecial 3, 3) := dk_183 0 3 (dk_at dksX4_init_0 1 rfl rfl)
theorem dX4_init_4 : decode cX4_init 4 = .ok (.aload_n 0, 1) := dk_42 (dk_at dksX4_init_0 4 rfl rfl)
theorem dX4_init_5 : decode cX4_init 5 = .ok (.bipush 48, 2) := dk_16 48 (dk_at dksX4_init_0 5 rfl rfl)
theorem dX4_init_7 : decode cX4_init 7 = .ok (.newarray .int, 2) := dk_188_10 (dk_at dksX4_init_0 7 rfl rfl)
theorem dX4_init_9 : decode cX4_init 9 = .ok (.putfield 9, 3) := dk_181 0 9 (dk_at dksX4_init_0 9 rfl rfl)
theorem dX4_init_12 : decode cX4_init 12 = .ok (.aload_n 0, 1) := dk_42 (dk_at dksX4_init_0 12 rfl rfl)
theorem dX4_init_13 : decode cX4_init 13 = .ok (.new 15, 3) := dk_187 0 15 (dk_at dksX4_init_0 13 rfl rfl)
theorem dX4_init_16 : decode cX4_init 16 = .ok (.dup, 1) := dk_89 (dk_at dksX4_init_0 16 rfl rfl)
theorem dX4_init_17 : decode cX4_init 17 = .ok (.invokespecial 17, 3) := dk_183 0 17 (dk_at dksX4_init_0 17 rfl rfl)
theorem dX4_init_20 : decode cX4_init 20 = .ok (.putfield 18, 3) := dk_181 0 18 (dk_at dksX4_init_0 20 rfl rfl)
theorem dX4_init_23 : decode cX4_init 23 = .ok (.aload_n 0, 1) := dk_42 (dk_at dksX4_init_0 23 rfl rfl)
theorem dX4_init_24 : decode cX4_init 24 = .ok (.new 15, 3) := dk_187 0 15 (dk_at dksX4_init_1 0 rfl rfl)
theorem dX4_init_27 : decode cX4_init 27 = .ok (.dup, 1) := dk_89 (dk_at dksX4_init_1 3 rfl rfl)
theorem dX4_init_28 : decode cX4_init 28 = .ok (.invokespecial 17, 3) := dk_183 0 17 (dk_at dksX4_init_1 4 rfl rfl)
theorem dX4_init_31 : decode cX4_init 31 = .ok (.putfield 22, 3) := dk_181 0 22 (dk_at dksX4_init_1 7 rfl rfl)
theorem dX4_init_34 : decode cX4_init 34 = .ok (.aload_n 0, 1) := dk_42 (dk_at dksX4_init_1 10 rfl rfl)
theorem dX4_init_35 : decode cX4_init 35 = .ok (.iconst 3, 1) := dk_6 (dk_at dksX4_init_1 11 rfl rfl)
theorem dX4_init_36 : decode cX4_init 36 = .ok (.anewarray 25, 3) := dk_189 0 25 (dk_at dksX4_init_1 12 rfl rfl)
theorem dX4_init_39 : decode cX4_init 39 = .ok (.putfield 27, 3) := dk_181 0 27 (dk_at dksX4_init_1 15 rfl rfl)
theorem dX4_init_42 : decode cX4_init 42 = .ok (.aload_n 0, 1) := dk_42 (dk_at dksX4_init_1 18 rfl rfl)
theorem dX4_init_43 : decode cX4_init 43 = .ok (.bipush 100, 2) := dk_16 100 (dk_at dksX4_init_1 19 rfl rfl)
theorem dX4_init_45 : decode cX4_init 45 = .ok (.putfield 31, 3) := dk_181 0 31 (dk_at dksX4_init_1 21 rfl rfl)
theorem dX4_init_48 : decode cX4_init 48 = .ok (.return_, 1) := dk_177 (dk_at dksX4_init_2 0 rfl rfl)
abbrev cX4_has : ByteArray := prog_18_method_3_code
def yX4_has : MethodName := ⟨RX4, "has", "(Ljava/lang/String;)Z"⟩
def dkwX4_has_1 : List UInt8 := [167, 0, 4, 3, 172]
abbrev dktX4_has_1 : List UInt8 := dkwX4_has_1 ++ []
def dkwX4_has_0 : List UInt8 := [42, 180, 0, 18, 43, 184, 0, 55, 154, 0, 14, 42, 180, 0, 22, 43, 184, 0, 55, 153, 0, 7, 4]
abbrev dktX4_has_0 : List UInt8 := dkwX4_has_0 ++ dktX4_has_1
theorem dksX4_has_0 : cX4_has.data.toList.drop 0 = dktX4_has_0 := by decide +kernel
theorem dksX4_has_1 : cX4_has.data.toList.drop 23 = dktX4_has_1 := dk_seg dksX4_has_0 23 rfl rfl
theorem dX4_has_0 : decode cX4_has 0 = .ok (.aload_n 0, 1) := dk_42 (dk_at dksX4_has_0 0 rfl rfl)
theorem dX4_has_1 : decode cX4_has 1 = .ok (.getfield 18, 3) := dk_180 0 18 (dk_at dksX4_has_0 1 rfl rfl)
theorem dX4_has_4 : decode cX4_has 4 = .ok (.aload_n 1, 1) := dk_43 (dk_at dksX4_has_0 4 rfl rfl)
theorem dX4_has_5 : decode cX4_has 5 = .ok (.invokestatic 55, 3) := dk_184 0 55 (dk_at dksX4_has_0 5 rfl rfl)
theorem dX4_has_8 : decode cX4_has 8 = .ok (.ifCond .ne 14, 3) := dk_154 0 14 (dk_at dksX4_has_0 8 rfl rfl)
theorem dX4_has_11 : decode cX4_has 11 = .ok (.aload_n 0, 1) := dk_42 (dk_at dksX4_has_0 11 rfl rfl)
theorem dX4_has_12 : decode cX4_has 12 = .ok (.getfield 22, 3) := dk_180 0 22 (dk_at dksX4_has_0 12 rfl rfl)
theorem dX4_has_15 : decode cX4_has 15 = .ok (.aload_n 1, 1) := dk_43 (dk_at dksX4_has_0 15 rfl rfl)
theorem dX4_has_16 : decode cX4_has 16 = .ok (.invokestatic 55, 3) := dk_184 0 55 (dk_at dksX4_has_0 16 rfl rfl)
theorem dX4_has_19 : decode cX4_has 19 = .ok (.ifCond .eq 7, 3) := dk_153 0 7 (dk_at dksX4_has_0 19 rfl rfl)
theorem dX4_has_22 : decode cX4_has 22 = .ok (.iconst 1, 1) := dk_4 (dk_at dksX4_has_0 22 rfl rfl)
theorem dX4_has_23 : decode cX4_has 23 = .ok (.goto 4, 3) := dk_167 0 4 (dk_at dksX4_has_1 0 rfl rfl)
theorem dX4_has_26 : decode cX4_has 26 = .ok (.iconst 0, 1) := dk_3 (dk_at dksX4_has_1 3 rfl rfl)
theorem dX4_has_27 : decode cX4_has 27 = .ok (.ireturn, 1) := dk_172 (dk_at dksX4_has_1 4 rfl rfl)
abbrev cX4_isIn : ByteArray := prog_18_method_2_code
def yX4_isIn : MethodName := ⟨RX4, "isIn", "(Ljava/util/ArrayList;Ljava/lang/String;)Z"⟩
def dkwX4_isIn_1 : List UInt8 := [182, 0, 49, 153, 0, 5, 4, 172, 132, 2, 1, 167, 255, 225, 3, 172]
abbrev dktX4_isIn_1 : List UInt8 := dkwX4_isIn_1 ++ []
def dkwX4_isIn_0 : List UInt8 := [3, 61, 28, 42, 182, 0, 35, 162, 0, 29, 42, 28, 182, 0, 39, 192, 0, 43, 180, 0, 45, 43]
abbrev dktX4_isIn_0 : List UInt8 := dkwX4_isIn_0 ++ dktX4_isIn_1
theorem dksX4_isIn_0 : cX4_isIn.data.toList.drop 0 = dktX4_isIn_0 := by decide +kernel
theorem dksX4_isIn_1 : cX4_isIn.data.toList.drop 22 = dktX4_isIn_1 := dk_seg dksX4_isIn_0 22 rfl rfl
theorem dX4_isIn_0 : decode cX4_isIn 0 = .ok (.iconst 0, 1) := dk_3 (dk_at dksX4_isIn_0 0 rfl rfl)
theorem dX4_isIn_1 : decode cX4_isIn 1 = .ok (.istore_n 2, 1) := dk_61 (dk_at dksX4_isIn_0 1 rfl rfl)
theorem dX4_isIn_2 : decode cX4_isIn 2 = .ok (.iload_n 2, 1) := dk_28 (dk_at dksX4_isIn_0 2 rfl rfl)
theorem dX4_isIn_3 : decode cX4_isIn 3 = .ok (.aload_n 0, 1) := dk_42 (dk_at dksX4_isIn_0 3 rfl rfl)
theorem dX4_isIn_4 : decode cX4_isIn 4 = .ok (.invokevirtual 35, 3) := dk_182 0 35 (dk_at dksX4_isIn_0 4 rfl rfl)
theorem dX4_isIn_7 : decode cX4_isIn 7 = .ok (.if_icmp .ge 29, 3) := dk_162 0 29 (dk_at dksX4_isIn_0 7 rfl rfl)
theorem dX4_isIn_10 : decode cX4_isIn 10 = .ok (.aload_n 0, 1) := dk_42 (dk_at dksX4_isIn_0 10 rfl rfl)
theorem dX4_isIn_11 : decode cX4_isIn 11 = .ok (.iload_n 2, 1) := dk_28 (dk_at dksX4_isIn_0 11 rfl rfl)
theorem dX4_isIn_12 : decode cX4_isIn 12 = .ok (.invokevirtual 39, 3) := dk_182 0 39 (dk_at dksX4_isIn_0 12 rfl rfl)
theorem dX4_isIn_15 : decode cX4_isIn 15 = .ok (.checkcast 43, 3) := dk_192 0 43 (dk_at dksX4_isIn_0 15 rfl rfl)
theorem dX4_isIn_18 : decode cX4_isIn 18 = .ok (.getfield 45, 3) := dk_180 0 45 (dk_at dksX4_isIn_0 18 rfl rfl)
theorem dX4_isIn_21 : decode cX4_isIn 21 = .ok (.aload_n 1, 1) := dk_43 (dk_at dksX4_isIn_0 21 rfl rfl)
theorem dX4_isIn_22 : decode cX4_isIn 22 = .ok (.invokevirtual 49, 3) := dk_182 0 49 (dk_at dksX4_isIn_1 0 rfl rfl)
theorem dX4_isIn_25 : decode cX4_isIn 25 = .ok (.ifCond .eq 5, 3) := dk_153 0 5 (dk_at dksX4_isIn_1 3 rfl rfl)
theorem dX4_isIn_28 : decode cX4_isIn 28 = .ok (.iconst 1, 1) := dk_4 (dk_at dksX4_isIn_1 6 rfl rfl)
theorem dX4_isIn_29 : decode cX4_isIn 29 = .ok (.ireturn, 1) := dk_172 (dk_at dksX4_isIn_1 7 rfl rfl)
theorem dX4_isIn_30 : decode cX4_isIn 30 = .ok (.iinc 2 1, 3) := dk_132 2 1 (dk_at dksX4_isIn_1 8 rfl rfl)
theorem dX4_isIn_33 : decode cX4_isIn 33 = .ok (.goto (-31), 3) := dk_167 255 225 (dk_at dksX4_isIn_1 11 rfl rfl)
theorem dX4_isIn_36 : decode cX4_isIn 36 = .ok (.iconst 0, 1) := dk_3 (dk_at dksX4_isIn_1 14 rfl rfl)
theorem dX4_isIn_37 : decode cX4_isIn 37 = .ok (.ireturn, 1) := dk_172 (dk_at dksX4_isIn_1 15 rfl rfl)
abbrev cX4_isWhole : ByteArray := prog_18_method_6_code
def yX4_isWhole : MethodName := ⟨RX4, "isWhole", "()Z"⟩
def dkwX4_isWhole_1 : List UInt8 := [180, 0, 18, 182, 0, 35, 161, 0, 5, 3, 172, 132, 1, 1, 167, 255, 221, 4, 172]
abbrev dktX4_isWhole_1 : List UInt8 := dkwX4_isWhole_1 ++ []
def dkwX4_isWhole_0 : List UInt8 := [3, 60, 27, 16, 48, 162, 0, 35, 42, 27, 182, 0, 69, 153, 0, 21, 42, 180, 0, 9, 27, 46, 42]
abbrev dktX4_isWhole_0 : List UInt8 := dkwX4_isWhole_0 ++ dktX4_isWhole_1
theorem dksX4_isWhole_0 : cX4_isWhole.data.toList.drop 0 = dktX4_isWhole_0 := by decide +kernel
theorem dksX4_isWhole_1 : cX4_isWhole.data.toList.drop 23 = dktX4_isWhole_1 := dk_seg dksX4_isWhole_0 23 rfl rfl
theorem dX4_isWhole_0 : decode cX4_isWhole 0 = .ok (.iconst 0, 1) := dk_3 (dk_at dksX4_isWhole_0 0 rfl rfl)
theorem dX4_isWhole_1 : decode cX4_isWhole 1 = .ok (.istore_n 1, 1) := dk_60 (dk_at dksX4_isWhole_0 1 rfl rfl)
theorem dX4_isWhole_2 : decode cX4_isWhole 2 = .ok (.iload_n 1, 1) := dk_27 (dk_at dksX4_isWhole_0 2 rfl rfl)
theorem dX4_isWhole_3 : decode cX4_isWhole 3 = .ok (.bipush 48, 2) := dk_16 48 (dk_at dksX4_isWhole_0 3 rfl rfl)
theorem dX4_isWhole_5 : decode cX4_isWhole 5 = .ok (.if_icmp .ge 35, 3) := dk_162 0 35 (dk_at dksX4_isWhole_0 5 rfl rfl)
theorem dX4_isWhole_8 : decode cX4_isWhole 8 = .ok (.aload_n 0, 1) := dk_42 (dk_at dksX4_isWhole_0 8 rfl rfl)
theorem dX4_isWhole_9 : decode cX4_isWhole 9 = .ok (.iload_n 1, 1) := dk_27 (dk_at dksX4_isWhole_0 9 rfl rfl)
theorem dX4_isWhole_10 : decode cX4_isWhole 10 = .ok (.invokevirtual 69, 3) := dk_182 0 69 (dk_at dksX4_isWhole_0 10 rfl rfl)
theorem dX4_isWhole_13 : decode cX4_isWhole 13 = .ok (.ifCond .eq 21, 3) := dk_153 0 21 (dk_at dksX4_isWhole_0 13 rfl rfl)
theorem dX4_isWhole_16 : decode cX4_isWhole 16 = .ok (.aload_n 0, 1) := dk_42 (dk_at dksX4_isWhole_0 16 rfl rfl)
theorem dX4_isWhole_17 : decode cX4_isWhole 17 = .ok (.getfield 9, 3) := dk_180 0 9 (dk_at dksX4_isWhole_0 17 rfl rfl)
theorem dX4_isWhole_20 : decode cX4_isWhole 20 = .ok (.iload_n 1, 1) := dk_27 (dk_at dksX4_isWhole_0 20 rfl rfl)
theorem dX4_isWhole_21 : decode cX4_isWhole 21 = .ok (.iaload, 1) := dk_46 (dk_at dksX4_isWhole_0 21 rfl rfl)
theorem dX4_isWhole_22 : decode cX4_isWhole 22 = .ok (.aload_n 0, 1) := dk_42 (dk_at dksX4_isWhole_0 22 rfl rfl)
theorem dX4_isWhole_23 : decode cX4_isWhole 23 = .ok (.getfield 18, 3) := dk_180 0 18 (dk_at dksX4_isWhole_1 0 rfl rfl)
theorem dX4_isWhole_26 : decode cX4_isWhole 26 = .ok (.invokevirtual 35, 3) := dk_182 0 35 (dk_at dksX4_isWhole_1 3 rfl rfl)
theorem dX4_isWhole_29 : decode cX4_isWhole 29 = .ok (.if_icmp .lt 5, 3) := dk_161 0 5 (dk_at dksX4_isWhole_1 6 rfl rfl)
theorem dX4_isWhole_32 : decode cX4_isWhole 32 = .ok (.iconst 0, 1) := dk_3 (dk_at dksX4_isWhole_1 9 rfl rfl)
theorem dX4_isWhole_33 : decode cX4_isWhole 33 = .ok (.ireturn, 1) := dk_172 (dk_at dksX4_isWhole_1 10 rfl rfl)
theorem dX4_isWhole_34 : decode cX4_isWhole 34 = .ok (.iinc 1 1, 3) := dk_132 1 1 (dk_at dksX4_isWhole_1 11 rfl rfl)
theorem dX4_isWhole_37 : decode cX4_isWhole 37 = .ok (.goto (-35), 3) := dk_167 255 221 (dk_at dksX4_isWhole_1 14 rfl rfl)
theorem dX4_isWhole_40 : decode cX4_isWhole 40 = .ok (.iconst 1, 1) := dk_4 (dk_at dksX4_isWhole_1 17 rfl rfl)
theorem dX4_isWhole_41 : decode cX4_isWhole 41 = .ok (.ireturn, 1) := dk_172 (dk_at dksX4_isWhole_1 18 rfl rfl)
abbrev cX4_isOn : ByteArray := prog_18_method_5_code
def yX4_isOn : MethodName := ⟨RX4, "isOn", "(I)Z"⟩
def dkwX4_isOn_0 : List UInt8 := [42, 27, 16, 8, 112, 27, 16, 8, 108, 182, 0, 65, 172]
abbrev dktX4_isOn_0 : List UInt8 := dkwX4_isOn_0 ++ []
theorem dksX4_isOn_0 : cX4_isOn.data.toList.drop 0 = dktX4_isOn_0 := by decide +kernel
theorem dX4_isOn_0 : decode cX4_isOn 0 = .ok (.aload_n 0, 1) := dk_42 (dk_at dksX4_isOn_0 0 rfl rfl)
theorem dX4_isOn_1 : decode cX4_isOn 1 = .ok (.iload_n 1, 1) := dk_27 (dk_at dksX4_isOn_0 1 rfl rfl)
theorem dX4_isOn_2 : decode cX4_isOn 2 = .ok (.bipush 8, 2) := dk_16 8 (dk_at dksX4_isOn_0 2 rfl rfl)
theorem dX4_isOn_4 : decode cX4_isOn 4 = .ok (.irem, 1) := dk_112 (dk_at dksX4_isOn_0 4 rfl rfl)
theorem dX4_isOn_5 : decode cX4_isOn 5 = .ok (.iload_n 1, 1) := dk_27 (dk_at dksX4_isOn_0 5 rfl rfl)
theorem dX4_isOn_6 : decode cX4_isOn 6 = .ok (.bipush 8, 2) := dk_16 8 (dk_at dksX4_isOn_0 6 rfl rfl)
theorem dX4_isOn_8 : decode cX4_isOn 8 = .ok (.idiv, 1) := dk_108 (dk_at dksX4_isOn_0 8 rfl rfl)
theorem dX4_isOn_9 : decode cX4_isOn 9 = .ok (.invokevirtual 65, 3) := dk_182 0 65 (dk_at dksX4_isOn_0 9 rfl rfl)
theorem dX4_isOn_12 : decode cX4_isOn 12 = .ok (.ireturn, 1) := dk_172 (dk_at dksX4_isOn_0 12 rfl rfl)
abbrev cX4_isCell : ByteArray := prog_18_method_4_code
def yX4_isCell : MethodName := ⟨RX4, "isCell", "(II)Z"⟩
def dkwX4_isCell_1 : List UInt8 := [4, 167, 0, 4, 3, 172]
abbrev dktX4_isCell_1 : List UInt8 := dkwX4_isCell_1 ++ []
def dkwX4_isCell_0 : List UInt8 := [27, 155, 0, 27, 27, 42, 180, 0, 59, 162, 0, 19, 28, 155, 0, 15, 28, 42, 180, 0, 62, 162, 0, 7]
abbrev dktX4_isCell_0 : List UInt8 := dkwX4_isCell_0 ++ dktX4_isCell_1
theorem dksX4_isCell_0 : cX4_isCell.data.toList.drop 0 = dktX4_isCell_0 := by decide +kernel
theorem dksX4_isCell_1 : cX4_isCell.data.toList.drop 24 = dktX4_isCell_1 := dk_seg dksX4_isCell_0 24 rfl rfl
theorem dX4_isCell_0 : decode cX4_isCell 0 = .ok (.iload_n 1, 1) := dk_27 (dk_at dksX4_isCell_0 0 rfl rfl)
theorem dX4_isCell_1 : decode cX4_isCell 1 = .ok (.ifCond .lt 27, 3) := dk_155 0 27 (dk_at dksX4_isCell_0 1 rfl rfl)
theorem dX4_isCell_4 : decode cX4_isCell 4 = .ok (.iload_n 1, 1) := dk_27 (dk_at dksX4_isCell_0 4 rfl rfl)
theorem dX4_isCell_5 : decode cX4_isCell 5 = .ok (.aload_n 0, 1) := dk_42 (dk_at dksX4_isCell_0 5 rfl rfl)
theorem dX4_isCell_6 : decode cX4_isCell 6 = .ok (.getfield 59, 3) := dk_180 0 59 (dk_at dksX4_isCell_0 6 rfl rfl)
theorem dX4_isCell_9 : decode cX4_isCell 9 = .ok (.if_icmp .ge 19, 3) := dk_162 0 19 (dk_at dksX4_isCell_0 9 rfl rfl)
theorem dX4_isCell_12 : decode cX4_isCell 12 = .ok (.iload_n 2, 1) := dk_28 (dk_at dksX4_isCell_0 12 rfl rfl)
theorem dX4_isCell_13 : decode cX4_isCell 13 = .ok (.ifCond .lt 15, 3) := dk_155 0 15 (dk_at dksX4_isCell_0 13 rfl rfl)
theorem dX4_isCell_16 : decode cX4_isCell 16 = .ok (.iload_n 2, 1) := dk_28 (dk_at dksX4_isCell_0 16 rfl rfl)
theorem dX4_isCell_17 : decode cX4_isCell 17 = .ok (.aload_n 0, 1) := dk_42 (dk_at dksX4_isCell_0 17 rfl rfl)
theorem dX4_isCell_18 : decode cX4_isCell 18 = .ok (.getfield 62, 3) := dk_180 0 62 (dk_at dksX4_isCell_0 18 rfl rfl)
theorem dX4_isCell_21 : decode cX4_isCell 21 = .ok (.if_icmp .ge 7, 3) := dk_162 0 7 (dk_at dksX4_isCell_0 21 rfl rfl)
theorem dX4_isCell_24 : decode cX4_isCell 24 = .ok (.iconst 1, 1) := dk_4 (dk_at dksX4_isCell_1 0 rfl rfl)
theorem dX4_isCell_25 : decode cX4_isCell 25 = .ok (.goto 4, 3) := dk_167 0 4 (dk_at dksX4_isCell_1 1 rfl rfl)
theorem dX4_isCell_28 : decode cX4_isCell 28 = .ok (.iconst 0, 1) := dk_3 (dk_at dksX4_isCell_1 4 rfl rfl)
theorem dX4_isCell_29 : decode cX4_isCell 29 = .ok (.ireturn, 1) := dk_172 (dk_at dksX4_isCell_1 5 rfl rfl)
abbrev cX4_needs : ByteArray := prog_18_method_7_code
def yX4_needs : MethodName := ⟨RX4, "needs", "(I)I"⟩
def dkwX4_needs_1 : List UInt8 := [182, 0, 39, 192, 0, 73, 180, 0, 75, 172]
abbrev dktX4_needs_1 : List UInt8 := dkwX4_needs_1 ++ []
def dkwX4_needs_0 : List UInt8 := [42, 180, 0, 9, 27, 46, 156, 0, 7, 3, 167, 0, 22, 42, 180, 0, 18, 42, 180, 0, 9, 27, 46]
abbrev dktX4_needs_0 : List UInt8 := dkwX4_needs_0 ++ dktX4_needs_1
theorem dksX4_needs_0 : cX4_needs.data.toList.drop 0 = dktX4_needs_0 := by decide +kernel
theorem dksX4_needs_1 : cX4_needs.data.toList.drop 23 = dktX4_needs_1 := dk_seg dksX4_needs_0 23 rfl rfl
theorem dX4_needs_0 : decode cX4_needs 0 = .ok (.aload_n 0, 1) := dk_42 (dk_at dksX4_needs_0 0 rfl rfl)
theorem dX4_needs_1 : decode cX4_needs 1 = .ok (.getfield 9, 3) := dk_180 0 9 (dk_at dksX4_needs_0 1 rfl rfl)
theorem dX4_needs_4 : decode cX4_needs 4 = .ok (.iload_n 1, 1) := dk_27 (dk_at dksX4_needs_0 4 rfl rfl)
theorem dX4_needs_5 : decode cX4_needs 5 = .ok (.iaload, 1) := dk_46 (dk_at dksX4_needs_0 5 rfl rfl)
theorem dX4_needs_6 : decode cX4_needs 6 = .ok (.ifCond .ge 7, 3) := dk_156 0 7 (dk_at dksX4_needs_0 6 rfl rfl)
theorem dX4_needs_9 : decode cX4_needs 9 = .ok (.iconst 0, 1) := dk_3 (dk_at dksX4_needs_0 9 rfl rfl)
theorem dX4_needs_10 : decode cX4_needs 10 = .ok (.goto 22, 3) := dk_167 0 22 (dk_at dksX4_needs_0 10 rfl rfl)
theorem dX4_needs_13 : decode cX4_needs 13 = .ok (.aload_n 0, 1) := dk_42 (dk_at dksX4_needs_0 13 rfl rfl)
theorem dX4_needs_14 : decode cX4_needs 14 = .ok (.getfield 18, 3) := dk_180 0 18 (dk_at dksX4_needs_0 14 rfl rfl)
theorem dX4_needs_17 : decode cX4_needs 17 = .ok (.aload_n 0, 1) := dk_42 (dk_at dksX4_needs_0 17 rfl rfl)
theorem dX4_needs_18 : decode cX4_needs 18 = .ok (.getfield 9, 3) := dk_180 0 9 (dk_at dksX4_needs_0 18 rfl rfl)
theorem dX4_needs_21 : decode cX4_needs 21 = .ok (.iload_n 1, 1) := dk_27 (dk_at dksX4_needs_0 21 rfl rfl)
theorem dX4_needs_22 : decode cX4_needs 22 = .ok (.iaload, 1) := dk_46 (dk_at dksX4_needs_0 22 rfl rfl)
theorem dX4_needs_23 : decode cX4_needs 23 = .ok (.invokevirtual 39, 3) := dk_182 0 39 (dk_at dksX4_needs_1 0 rfl rfl)
theorem dX4_needs_26 : decode cX4_needs 26 = .ok (.checkcast 73, 3) := dk_192 0 73 (dk_at dksX4_needs_1 3 rfl rfl)
theorem dX4_needs_29 : decode cX4_needs 29 = .ok (.getfield 75, 3) := dk_180 0 75 (dk_at dksX4_needs_1 6 rfl rfl)
theorem dX4_needs_32 : decode cX4_needs 32 = .ok (.ireturn, 1) := dk_172 (dk_at dksX4_needs_1 9 rfl rfl)
abbrev cX4_drowns : ByteArray := prog_18_method_8_code
def yX4_drowns : MethodName := ⟨RX4, "drowns", "(I)I"⟩
def dkwX4_drowns_1 : List UInt8 := [182, 0, 39, 192, 0, 73, 180, 0, 78, 172]
abbrev dktX4_drowns_1 : List UInt8 := dkwX4_drowns_1 ++ []
def dkwX4_drowns_0 : List UInt8 := [42, 180, 0, 9, 27, 46, 156, 0, 7, 3, 167, 0, 22, 42, 180, 0, 18, 42, 180, 0, 9, 27, 46]
abbrev dktX4_drowns_0 : List UInt8 := dkwX4_drowns_0 ++ dktX4_drowns_1
theorem dksX4_drowns_0 : cX4_drowns.data.toList.drop 0 = dktX4_drowns_0 := by decide +kernel
theorem dksX4_drowns_1 : cX4_drowns.data.toList.drop 23 = dktX4_drowns_1 := dk_seg dksX4_drowns_0 23 rfl rfl
theorem dX4_drowns_0 : decode cX4_drowns 0 = .ok (.aload_n 0, 1) := dk_42 (dk_at dksX4_drowns_0 0 rfl rfl)
theorem dX4_drowns_1 : decode cX4_drowns 1 = .ok (.getfield 9, 3) := dk_180 0 9 (dk_at dksX4_drowns_0 1 rfl rfl)
theorem dX4_drowns_4 : decode cX4_drowns 4 = .ok (.iload_n 1, 1) := dk_27 (dk_at dksX4_drowns_0 4 rfl rfl)
theorem dX4_drowns_5 : decode cX4_drowns 5 = .ok (.iaload, 1) := dk_46 (dk_at dksX4_drowns_0 5 rfl rfl)
theorem dX4_drowns_6 : decode cX4_drowns 6 = .ok (.ifCond .ge 7, 3) := dk_156 0 7 (dk_at dksX4_drowns_0 6 rfl rfl)
theorem dX4_drowns_9 : decode cX4_drowns 9 = .ok (.iconst 0, 1) := dk_3 (dk_at dksX4_drowns_0 9 rfl rfl)
theorem dX4_drowns_10 : decode cX4_drowns 10 = .ok (.goto 22, 3) := dk_167 0 22 (dk_at dksX4_drowns_0 10 rfl rfl)
theorem dX4_drowns_13 : decode cX4_drowns 13 = .ok (.aload_n 0, 1) := dk_42 (dk_at dksX4_drowns_0 13 rfl rfl)
theorem dX4_drowns_14 : decode cX4_drowns 14 = .ok (.getfield 18, 3) := dk_180 0 18 (dk_at dksX4_drowns_0 14 rfl rfl)
theorem dX4_drowns_17 : decode cX4_drowns 17 = .ok (.aload_n 0, 1) := dk_42 (dk_at dksX4_drowns_0 17 rfl rfl)
theorem dX4_drowns_18 : decode cX4_drowns 18 = .ok (.getfield 9, 3) := dk_180 0 9 (dk_at dksX4_drowns_0 18 rfl rfl)
theorem dX4_drowns_21 : decode cX4_drowns 21 = .ok (.iload_n 1, 1) := dk_27 (dk_at dksX4_drowns_0 21 rfl rfl)
theorem dX4_drowns_22 : decode cX4_drowns 22 = .ok (.iaload, 1) := dk_46 (dk_at dksX4_drowns_0 22 rfl rfl)
theorem dX4_drowns_23 : decode cX4_drowns 23 = .ok (.invokevirtual 39, 3) := dk_182 0 39 (dk_at dksX4_drowns_1 0 rfl rfl)
theorem dX4_drowns_26 : decode cX4_drowns 26 = .ok (.checkcast 73, 3) := dk_192 0 73 (dk_at dksX4_drowns_1 3 rfl rfl)
theorem dX4_drowns_29 : decode cX4_drowns 29 = .ok (.getfield 78, 3) := dk_180 0 78 (dk_at dksX4_drowns_1 6 rfl rfl)
theorem dX4_drowns_32 : decode cX4_drowns 32 = .ok (.ireturn, 1) := dk_172 (dk_at dksX4_drowns_1 9 rfl rfl)
abbrev cX4_needsOf : ByteArray := prog_18_method_9_code
def yX4_needsOf : MethodName := ⟨RX4, "needsOf", "(I)I"⟩
def dkwX4_needsOf_1 : List UInt8 := [46, 27, 160, 0, 11, 42, 29, 182, 0, 81, 167, 0, 4, 3, 96, 61, 132, 3, 1, 167, 255, 217, 28, 172]
abbrev dktX4_needsOf_1 : List UInt8 := dkwX4_needsOf_1 ++ []
def dkwX4_needsOf_0 : List UInt8 := [3, 61, 3, 62, 29, 16, 48, 162, 0, 39, 28, 42, 29, 182, 0, 69, 153, 0, 21, 42, 180, 0, 9, 29]
abbrev dktX4_needsOf_0 : List UInt8 := dkwX4_needsOf_0 ++ dktX4_needsOf_1
theorem dksX4_needsOf_0 : cX4_needsOf.data.toList.drop 0 = dktX4_needsOf_0 := by decide +kernel
theorem dksX4_needsOf_1 : cX4_needsOf.data.toList.drop 24 = dktX4_needsOf_1 := dk_seg dksX4_needsOf_0 24 rfl rfl
theorem dX4_needsOf_0 : decode cX4_needsOf 0 = .ok (.iconst 0, 1) := dk_3 (dk_at dksX4_needsOf_0 0 rfl rfl)
theorem dX4_needsOf_1 : decode cX4_needsOf 1 = .ok (.istore_n 2, 1) := dk_61 (dk_at dksX4_needsOf_0 1 rfl rfl)
theorem dX4_needsOf_2 : decode cX4_needsOf 2 = .ok (.iconst 0, 1) := dk_3 (dk_at dksX4_needsOf_0 2 rfl rfl)
theorem dX4_needsOf_3 : decode cX4_needsOf 3 = .ok (.istore_n 3, 1) := dk_62 (dk_at dksX4_needsOf_0 3 rfl rfl)
theorem dX4_needsOf_4 : decode cX4_needsOf 4 = .ok (.iload_n 3, 1) := dk_29 (dk_at dksX4_needsOf_0 4 rfl rfl)
theorem dX4_needsOf_5 : decode cX4_needsOf 5 = .ok (.bipush 48, 2) := dk_16 48 (dk_at dksX4_needsOf_0 5 rfl rfl)
theorem dX4_needsOf_7 : decode cX4_needsOf 7 = .ok (.if_icmp .ge 39, 3) := dk_162 0 39 (dk_at dksX4_needsOf_0 7 rfl rfl)
theorem dX4_needsOf_10 : decode cX4_needsOf 10 = .ok (.iload_n 2, 1) := dk_28 (dk_at dksX4_needsOf_0 10 rfl rfl)
theorem dX4_needsOf_11 : decode cX4_needsOf 11 = .ok (.aload_n 0, 1) := dk_42 (dk_at dksX4_needsOf_0 11 rfl rfl)
theorem dX4_needsOf_12 : decode cX4_needsOf 12 = .ok (.iload_n 3, 1) := dk_29 (dk_at dksX4_needsOf_0 12 rfl rfl)
theorem dX4_needsOf_13 : decode cX4_needsOf 13 = .ok (.invokevirtual 69, 3) := dk_182 0 69 (dk_at dksX4_needsOf_0 13 rfl rfl)
theorem dX4_needsOf_16 : decode cX4_needsOf 16 = .ok (.ifCond .eq 21, 3) := dk_153 0 21 (dk_at dksX4_needsOf_0 16 rfl rfl)
theorem dX4_needsOf_19 : decode cX4_needsOf 19 = .ok (.aload_n 0, 1) := dk_42 (dk_at dksX4_needsOf_0 19 rfl rfl)
theorem dX4_needsOf_20 : decode cX4_needsOf 20 = .ok (.getfield 9, 3) := dk_180 0 9 (dk_at dksX4_needsOf_0 20 rfl rfl)
theorem dX4_needsOf_23 : decode cX4_needsOf 23 = .ok (.iload_n 3, 1) := dk_29 (dk_at dksX4_needsOf_0 23 rfl rfl)
theorem dX4_needsOf_24 : decode cX4_needsOf 24 = .ok (.iaload, 1) := dk_46 (dk_at dksX4_needsOf_1 0 rfl rfl)
theorem dX4_needsOf_25 : decode cX4_needsOf 25 = .ok (.iload_n 1, 1) := dk_27 (dk_at dksX4_needsOf_1 1 rfl rfl)
theorem dX4_needsOf_26 : decode cX4_needsOf 26 = .ok (.if_icmp .ne 11, 3) := dk_160 0 11 (dk_at dksX4_needsOf_1 2 rfl rfl)
theorem dX4_needsOf_29 : decode cX4_needsOf 29 = .ok (.aload_n 0, 1) := dk_42 (dk_at dksX4_needsOf_1 5 rfl rfl)
theorem dX4_needsOf_30 : decode cX4_needsOf 30 = .ok (.iload_n 3, 1) := dk_29 (dk_at dksX4_needsOf_1 6 rfl rfl)
theorem dX4_needsOf_31 : decode cX4_needsOf 31 = .ok (.invokevirtual 81, 3) := dk_182 0 81 (dk_at dksX4_needsOf_1 7 rfl rfl)
theorem dX4_needsOf_34 : decode cX4_needsOf 34 = .ok (.goto 4, 3) := dk_167 0 4 (dk_at dksX4_needsOf_1 10 rfl rfl)
theorem dX4_needsOf_37 : decode cX4_needsOf 37 = .ok (.iconst 0, 1) := dk_3 (dk_at dksX4_needsOf_1 13 rfl rfl)
theorem dX4_needsOf_38 : decode cX4_needsOf 38 = .ok (.iadd, 1) := dk_96 (dk_at dksX4_needsOf_1 14 rfl rfl)
theorem dX4_needsOf_39 : decode cX4_needsOf 39 = .ok (.istore_n 2, 1) := dk_61 (dk_at dksX4_needsOf_1 15 rfl rfl)
theorem dX4_needsOf_40 : decode cX4_needsOf 40 = .ok (.iinc 3 1, 3) := dk_132 3 1 (dk_at dksX4_needsOf_1 16 rfl rfl)
theorem dX4_needsOf_43 : decode cX4_needsOf 43 = .ok (.goto (-39), 3) := dk_167 255 217 (dk_at dksX4_needsOf_1 19 rfl rfl)
theorem dX4_needsOf_46 : decode cX4_needsOf 46 = .ok (.iload_n 2, 1) := dk_28 (dk_at dksX4_needsOf_1 22 rfl rfl)
theorem dX4_needsOf_47 : decode cX4_needsOf 47 = .ok (.ireturn, 1) := dk_172 (dk_at dksX4_needsOf_1 23 rfl rfl)
theorem q126 : (Jvm.Cond.initialized "RainLoom$Text") ∈ lw_all := lw_g (lw_at lw_m1 8 rfl) rfl
theorem q328 : (Jvm.Cond.instantiable "RainLoom$Text" (9 : Nat)) ∈ lw_all := lw_g (lw_at lw_m1 210 rfl) rfl
theorem q330 : (Jvm.Cond.instanceMethod ({ cls := "RainLoom$Text", name := "<init>", desc := "()V" } : Jvm.MethodName)) ∈ lw_all := lw_g (lw_at lw_m1 212 rfl) rfl
theorem q331 : (Jvm.Cond.code ({ cls := "RainLoom$Text", name := "<init>", desc := "()V" } : Jvm.MethodName) prog_18_method_1_code (1 : Nat) (Option.none : Option Jvm.ClassFile.FieldType)) ∈ lw_all := lw_g (lw_at lw_m1 213 rfl) rfl
theorem q332 : (Jvm.Cond.methodLink "RainLoom$Text" (3 : Nat) ({ cls := "java/lang/Object", name := "<init>", desc := "()V" } : Jvm.MethodName)) ∈ lw_all := lw_g (lw_at lw_m1 214 rfl) rfl
theorem q333 : (Jvm.Cond.classLink "RainLoom$Text" (15 : Nat) "java/util/ArrayList") ∈ lw_all := lw_g (lw_at lw_m1 215 rfl) rfl
theorem q335 : (Jvm.Cond.methodLink "RainLoom$Text" (17 : Nat) ({ cls := "java/util/ArrayList", name := "<init>", desc := "()V" } : Jvm.MethodName)) ∈ lw_all := lw_g (lw_at lw_m1 217 rfl) rfl
theorem q360 : (Jvm.Cond.classLink "RainLoom$Text" (25 : Nat) "RainLoom$Law") ∈ lw_all := lw_g (lw_at lw_m2 2 rfl) rfl
theorem q362 : (Jvm.Cond.fieldLink "RainLoom$Text" (9 : Nat) "RainLoom$Text" "field" "[I") ∈ lw_all := lw_g (lw_at lw_m2 4 rfl) rfl
theorem q367 : (Jvm.Cond.fieldLink "RainLoom$Text" (18 : Nat) "RainLoom$Text" "fields" "Ljava/util/ArrayList;") ∈ lw_all := lw_g (lw_at lw_m2 9 rfl) rfl
theorem q370 : (Jvm.Cond.fieldLink "RainLoom$Text" (22 : Nat) "RainLoom$Text" "looms" "Ljava/util/ArrayList;") ∈ lw_all := lw_g (lw_at lw_m2 12 rfl) rfl
theorem q375 : (Jvm.Cond.fieldLink "RainLoom$Text" (27 : Nat) "RainLoom$Text" "laws" "[LRainLoom$Law;") ∈ lw_all := lw_g (lw_at lw_m2 17 rfl) rfl
theorem q378 : (Jvm.Cond.fieldLink "RainLoom$Text" (62 : Nat) "RainLoom$Text" "rows" "I") ∈ lw_all := lw_g (lw_at lw_m2 20 rfl) rfl
theorem q381 : (Jvm.Cond.fieldLink "RainLoom$Text" (59 : Nat) "RainLoom$Text" "wide" "I") ∈ lw_all := lw_g (lw_at lw_m2 23 rfl) rfl
theorem q384 : (Jvm.Cond.fieldLink "RainLoom$Text" (31 : Nat) "RainLoom$Text" "store" "I") ∈ lw_all := lw_g (lw_at lw_m2 26 rfl) rfl
theorem q392 : (Jvm.Cond.laysFinal "RainLoom$Text" "RainLoom$Text" "field" "[I") ∈ lw_all := lw_g (lw_at lw_m2 34 rfl) rfl
theorem q393 : (Jvm.Cond.soleField "RainLoom$Text" "field") ∈ lw_all := lw_g (lw_at lw_m2 35 rfl) rfl
theorem q394 : (Jvm.Cond.laysFinal "RainLoom$Text" "RainLoom$Text" "fields" "Ljava/util/ArrayList;") ∈ lw_all := lw_g (lw_at lw_m2 36 rfl) rfl
theorem q395 : (Jvm.Cond.soleField "RainLoom$Text" "fields") ∈ lw_all := lw_g (lw_at lw_m2 37 rfl) rfl
theorem q396 : (Jvm.Cond.laysFinal "RainLoom$Text" "RainLoom$Text" "looms" "Ljava/util/ArrayList;") ∈ lw_all := lw_g (lw_at lw_m2 38 rfl) rfl
theorem q397 : (Jvm.Cond.soleField "RainLoom$Text" "looms") ∈ lw_all := lw_g (lw_at lw_m2 39 rfl) rfl
theorem q398 : (Jvm.Cond.laysFinal "RainLoom$Text" "RainLoom$Text" "laws" "[LRainLoom$Law;") ∈ lw_all := lw_g (lw_at lw_m2 40 rfl) rfl
theorem q399 : (Jvm.Cond.soleField "RainLoom$Text" "laws") ∈ lw_all := lw_g (lw_at lw_m2 41 rfl) rfl
theorem q400 : (Jvm.Cond.lays "RainLoom$Text" "RainLoom$Text" "rows" "I") ∈ lw_all := lw_g (lw_at lw_m2 42 rfl) rfl
theorem q401 : (Jvm.Cond.soleField "RainLoom$Text" "rows") ∈ lw_all := lw_g (lw_at lw_m2 43 rfl) rfl
theorem q402 : (Jvm.Cond.lays "RainLoom$Text" "RainLoom$Text" "wide" "I") ∈ lw_all := lw_g (lw_at lw_m2 44 rfl) rfl
theorem q403 : (Jvm.Cond.soleField "RainLoom$Text" "wide") ∈ lw_all := lw_g (lw_at lw_m2 45 rfl) rfl
theorem q404 : (Jvm.Cond.lays "RainLoom$Text" "RainLoom$Text" "store" "I") ∈ lw_all := lw_g (lw_at lw_m2 46 rfl) rfl
theorem q405 : (Jvm.Cond.soleField "RainLoom$Text" "store") ∈ lw_all := lw_g (lw_at lw_m2 47 rfl) rfl
theorem q406 : (Jvm.Cond.lays "RainLoom$Text" "RainLoom$Text" "gusts" "I") ∈ lw_all := lw_g (lw_at lw_m2 48 rfl) rfl
theorem q407 : (Jvm.Cond.soleField "RainLoom$Text" "gusts") ∈ lw_all := lw_g (lw_at lw_m2 49 rfl) rfl
theorem q408 : (Jvm.Cond.lays "RainLoom$Text" "RainLoom$Text" "seed" "I") ∈ lw_all := lw_g (lw_at lw_m2 50 rfl) rfl
theorem q409 : (Jvm.Cond.soleField "RainLoom$Text" "seed") ∈ lw_all := lw_g (lw_at lw_m2 51 rfl) rfl
theorem q410 : (Jvm.Cond.superclass "RainLoom$Text" "java/lang/Object") ∈ lw_all := lw_g (lw_at lw_m2 52 rfl) rfl
theorem q1052 : (Jvm.Cond.instanceMethod ({ cls := "RainLoom$Text", name := "has", desc := "(Ljava/lang/String;)Z" } : Jvm.MethodName)) ∈ lw_all := lw_g (lw_at lw_m4 214 rfl) rfl
theorem q1053 : (Jvm.Cond.selects "RainLoom$Text" ({ cls := "RainLoom$Text", name := "has", desc := "(Ljava/lang/String;)Z" } : Jvm.MethodName) ({ cls := "RainLoom$Text", name := "has", desc := "(Ljava/lang/String;)Z" } : Jvm.MethodName)) ∈ lw_all := lw_g (lw_at lw_m4 215 rfl) rfl
theorem q1054 : (Jvm.Cond.code ({ cls := "RainLoom$Text", name := "has", desc := "(Ljava/lang/String;)Z" } : Jvm.MethodName) prog_18_method_3_code (2 : Nat) (Option.some Jvm.ClassFile.FieldType.boolean)) ∈ lw_all := lw_g (lw_at lw_m4 216 rfl) rfl
theorem q1055 : (Jvm.Cond.methodLink "RainLoom$Text" (55 : Nat) ({ cls := "RainLoom$Text", name := "isIn", desc := "(Ljava/util/ArrayList;Ljava/lang/String;)Z" } : Jvm.MethodName)) ∈ lw_all := lw_g (lw_at lw_m4 217 rfl) rfl
theorem q1056 : (Jvm.Cond.static ({ cls := "RainLoom$Text", name := "isIn", desc := "(Ljava/util/ArrayList;Ljava/lang/String;)Z" } : Jvm.MethodName)) ∈ lw_all := lw_g (lw_at lw_m4 218 rfl) rfl
theorem q1057 : (Jvm.Cond.code ({ cls := "RainLoom$Text", name := "isIn", desc := "(Ljava/util/ArrayList;Ljava/lang/String;)Z" } : Jvm.MethodName) prog_18_method_2_code (3 : Nat) (Option.some Jvm.ClassFile.FieldType.boolean)) ∈ lw_all := lw_g (lw_at lw_m4 219 rfl) rfl
theorem q1058 : (Jvm.Cond.methodLink "RainLoom$Text" (35 : Nat) ({ cls := "java/util/ArrayList", name := "size", desc := "()I" } : Jvm.MethodName)) ∈ lw_all := lw_g (lw_at lw_m4 220 rfl) rfl
theorem q1059 : (Jvm.Cond.methodLink "RainLoom$Text" (39 : Nat) ({ cls := "java/util/ArrayList", name := "get", desc := "(I)Ljava/lang/Object;" } : Jvm.MethodName)) ∈ lw_all := lw_g (lw_at lw_m4 221 rfl) rfl
theorem q1060 : (Jvm.Cond.classLink "RainLoom$Text" (43 : Nat) "RainLoom$Named") ∈ lw_all := lw_g (lw_at lw_m4 222 rfl) rfl
theorem q1061 : (Jvm.Cond.methodLink "RainLoom$Text" (49 : Nat) ({ cls := "java/lang/String", name := "equals", desc := "(Ljava/lang/Object;)Z" } : Jvm.MethodName)) ∈ lw_all := lw_g (lw_at lw_m4 223 rfl) rfl
theorem q1076 : (Jvm.Cond.fieldLink "RainLoom$Text" (75 : Nat) "RainLoom$Field" "needs" "I") ∈ lw_all := lw_g (lw_at lw_m4 238 rfl) rfl
theorem q1078 : (Jvm.Cond.fieldLink "RainLoom$Text" (78 : Nat) "RainLoom$Field" "drowns" "I") ∈ lw_all := lw_g (lw_at lw_m5 0 rfl) rfl
theorem q1081 : (Jvm.Cond.fieldLink "RainLoom$Text" (45 : Nat) "RainLoom$Named" "name" "Ljava/lang/String;") ∈ lw_all := lw_g (lw_at lw_m5 3 rfl) rfl
theorem q1130 : (Jvm.Cond.selects "RainLoom$Text" ({ cls := "java/lang/Object", name := "getClass", desc := "()Ljava/lang/Class;" } : Jvm.MethodName) ({ cls := "java/lang/Object", name := "getClass", desc := "()Ljava/lang/Class;" } : Jvm.MethodName)) ∈ lw_all := lw_g (lw_at lw_m5 52 rfl) rfl
theorem q1164 : (Jvm.Cond.instanceMethod ({ cls := "RainLoom$Text", name := "isWhole", desc := "()Z" } : Jvm.MethodName)) ∈ lw_all := lw_g (lw_at lw_m5 86 rfl) rfl
theorem q1165 : (Jvm.Cond.selects "RainLoom$Text" ({ cls := "RainLoom$Text", name := "isWhole", desc := "()Z" } : Jvm.MethodName) ({ cls := "RainLoom$Text", name := "isWhole", desc := "()Z" } : Jvm.MethodName)) ∈ lw_all := lw_g (lw_at lw_m5 87 rfl) rfl
theorem q1166 : (Jvm.Cond.code ({ cls := "RainLoom$Text", name := "isWhole", desc := "()Z" } : Jvm.MethodName) prog_18_method_6_code (2 : Nat) (Option.some Jvm.ClassFile.FieldType.boolean)) ∈ lw_all := lw_g (lw_at lw_m5 88 rfl) rfl
theorem q1167 : (Jvm.Cond.methodLink "RainLoom$Text" (69 : Nat) ({ cls := "RainLoom$Text", name := "isOn", desc := "(I)Z" } : Jvm.MethodName)) ∈ lw_all := lw_g (lw_at lw_m5 89 rfl) rfl
theorem q1168 : (Jvm.Cond.instanceMethod ({ cls := "RainLoom$Text", name := "isOn", desc := "(I)Z" } : Jvm.MethodName)) ∈ lw_all := lw_g (lw_at lw_m5 90 rfl) rfl
theorem q1169 : (Jvm.Cond.selects "RainLoom$Text" ({ cls := "RainLoom$Text", name := "isOn", desc := "(I)Z" } : Jvm.MethodName) ({ cls := "RainLoom$Text", name := "isOn", desc := "(I)Z" } : Jvm.MethodName)) ∈ lw_all := lw_g (lw_at lw_m5 91 rfl) rfl
theorem q1170 : (Jvm.Cond.code ({ cls := "RainLoom$Text", name := "isOn", desc := "(I)Z" } : Jvm.MethodName) prog_18_method_5_code (2 : Nat) (Option.some Jvm.ClassFile.FieldType.boolean)) ∈ lw_all := lw_g (lw_at lw_m5 92 rfl) rfl
theorem q1171 : (Jvm.Cond.methodLink "RainLoom$Text" (65 : Nat) ({ cls := "RainLoom$Text", name := "isCell", desc := "(II)Z" } : Jvm.MethodName)) ∈ lw_all := lw_g (lw_at lw_m5 93 rfl) rfl
theorem q1172 : (Jvm.Cond.instanceMethod ({ cls := "RainLoom$Text", name := "isCell", desc := "(II)Z" } : Jvm.MethodName)) ∈ lw_all := lw_g (lw_at lw_m5 94 rfl) rfl
theorem q1173 : (Jvm.Cond.selects "RainLoom$Text" ({ cls := "RainLoom$Text", name := "isCell", desc := "(II)Z" } : Jvm.MethodName) ({ cls := "RainLoom$Text", name := "isCell", desc := "(II)Z" } : Jvm.MethodName)) ∈ lw_all := lw_g (lw_at lw_m5 95 rfl) rfl
theorem q1174 : (Jvm.Cond.code ({ cls := "RainLoom$Text", name := "isCell", desc := "(II)Z" } : Jvm.MethodName) prog_18_method_4_code (3 : Nat) (Option.some Jvm.ClassFile.FieldType.boolean)) ∈ lw_all := lw_g (lw_at lw_m5 96 rfl) rfl
theorem q1189 : (Jvm.Cond.instanceMethod ({ cls := "RainLoom$Text", name := "needs", desc := "(I)I" } : Jvm.MethodName)) ∈ lw_all := lw_g (lw_at lw_m5 111 rfl) rfl
theorem q1190 : (Jvm.Cond.selects "RainLoom$Text" ({ cls := "RainLoom$Text", name := "needs", desc := "(I)I" } : Jvm.MethodName) ({ cls := "RainLoom$Text", name := "needs", desc := "(I)I" } : Jvm.MethodName)) ∈ lw_all := lw_g (lw_at lw_m5 112 rfl) rfl
theorem q1191 : (Jvm.Cond.code ({ cls := "RainLoom$Text", name := "needs", desc := "(I)I" } : Jvm.MethodName) prog_18_method_7_code (2 : Nat) (Option.some Jvm.ClassFile.FieldType.int)) ∈ lw_all := lw_g (lw_at lw_m5 113 rfl) rfl
theorem q1192 : (Jvm.Cond.classLink "RainLoom$Text" (73 : Nat) "RainLoom$Field") ∈ lw_all := lw_g (lw_at lw_m5 114 rfl) rfl
theorem q1198 : (Jvm.Cond.instanceMethod ({ cls := "RainLoom$Text", name := "drowns", desc := "(I)I" } : Jvm.MethodName)) ∈ lw_all := lw_g (lw_at lw_m5 120 rfl) rfl
theorem q1199 : (Jvm.Cond.selects "RainLoom$Text" ({ cls := "RainLoom$Text", name := "drowns", desc := "(I)I" } : Jvm.MethodName) ({ cls := "RainLoom$Text", name := "drowns", desc := "(I)I" } : Jvm.MethodName)) ∈ lw_all := lw_g (lw_at lw_m5 121 rfl) rfl
theorem q1200 : (Jvm.Cond.code ({ cls := "RainLoom$Text", name := "drowns", desc := "(I)I" } : Jvm.MethodName) prog_18_method_8_code (2 : Nat) (Option.some Jvm.ClassFile.FieldType.int)) ∈ lw_all := lw_g (lw_at lw_m5 122 rfl) rfl
theorem q1215 : (Jvm.Cond.instanceMethod ({ cls := "RainLoom$Text", name := "needsOf", desc := "(I)I" } : Jvm.MethodName)) ∈ lw_all := lw_g (lw_at lw_m5 137 rfl) rfl
theorem q1216 : (Jvm.Cond.selects "RainLoom$Text" ({ cls := "RainLoom$Text", name := "needsOf", desc := "(I)I" } : Jvm.MethodName) ({ cls := "RainLoom$Text", name := "needsOf", desc := "(I)I" } : Jvm.MethodName)) ∈ lw_all := lw_g (lw_at lw_m5 138 rfl) rfl
theorem q1217 : (Jvm.Cond.code ({ cls := "RainLoom$Text", name := "needsOf", desc := "(I)I" } : Jvm.MethodName) prog_18_method_9_code (4 : Nat) (Option.some Jvm.ClassFile.FieldType.int)) ∈ lw_all := lw_g (lw_at lw_m5 139 rfl) rfl
theorem q1218 : (Jvm.Cond.methodLink "RainLoom$Text" (81 : Nat) ({ cls := "RainLoom$Text", name := "needs", desc := "(I)I" } : Jvm.MethodName)) ∈ lw_all := lw_g (lw_at lw_m5 140 rfl) rfl
theorem q2186 : (Jvm.Cond.castable "RainLoom$Text" "java/lang/Object") ∈ lw_tbl := lw_at lw_m9 148 rfl
theorem in_X4 : ∀ w ∈ wsX40, w ∈ lw_all := lw_in wsX40 [392, 394, 396, 398, 400, 402, 404, 406, 408] (by decide +kernel) (by decide +kernel)

/-! RainLoom$Land -/
set_option maxRecDepth 100000
def RX5 : String := "RainLoom$Land"
def TX5 : u_T := fun k => match k with
  | 0 => ("RainLoom$Land", "water", "[I", true)
  | 1 => ("RainLoom$Land", "lacked", "[I", true)
  | 2 => ("RainLoom$Land", "flooded", "[I", true)
  | 3 => ("RainLoom$Land", "pick", "[I", true)
  | 4 => ("RainLoom$Land", "wove", "[I", true)
  | 5 => ("RainLoom$Land", "torn", "[I", true)
  | 6 => ("RainLoom$Land", "wide", "[I", true)
  | 7 => ("RainLoom$Land", "high", "[I", true)
  | 8 => ("RainLoom$Land", "toX", "[I", true)
  | 9 => ("RainLoom$Land", "toY", "[I", true)
  | 10 => ("RainLoom$Land", "store", "I", false)
  | 11 => ("RainLoom$Land", "day", "I", false)
  | 12 => ("RainLoom$Land", "seed", "I", false)
  | _ => ("RainLoom$Land", "asked", "LRainLoom$Asked;", true)
def tyX5 : Nat → FieldType := fun k => match k with
  | 0 => .array .int
  | 1 => .array .int
  | 2 => .array .int
  | 3 => .array .int
  | 4 => .array .int
  | 5 => .array .int
  | 6 => .array .int
  | 7 => .array .int
  | 8 => .array .int
  | 9 => .array .int
  | 10 => .int
  | 11 => .int
  | 12 => .int
  | _ => .object "RainLoom$Asked"
abbrev wsX50 : List Cond := u_ws RX5 TX5 14
set_option maxRecDepth 100000 in
theorem nmX5 : ∀ a, a < 14 → ∀ b, b < 14 → a ≠ b → (TX5 a).2.1 ≠ (TX5 b).2.1 := by decide +kernel
set_option maxRecDepth 100000 in
theorem tyX5_ok : ∀ k, k < 14 → parseFieldDescriptor (TX5 k).2.2.1 = some (tyX5 k) := by decide +kernel
abbrev cX5_init : ByteArray := prog_10_method_1_code
def yX5_init : MethodName := ⟨RX5, "<init>", "()V"⟩
def dkwX5_init_3 : List UInt8 := [42, 7, 188, 10, 181, 0, 39, 42, 187, 0, 42, 89, 183, 0, 44, 181, 0, 45, 177]
abbrev dktX5_init_3 : List UInt8 := dkwX5_init_3 ++ []
def dkwX5_init_2 : List UInt8 := [181, 0, 27, 42, 7, 188, 10, 181, 0, 30, 42, 7, 188, 10, 181, 0, 33, 42, 7, 188, 10, 181, 0, 36]
abbrev dktX5_init_2 : List UInt8 := dkwX5_init_2 ++ dktX5_init_3
def dkwX5_init_1 : List UInt8 := [188, 10, 181, 0, 18, 42, 7, 188, 10, 181, 0, 21, 42, 7, 188, 10, 181, 0, 24, 42, 7, 188, 10]
abbrev dktX5_init_1 : List UInt8 := dkwX5_init_1 ++ dktX5_init_2
def dkwX5_init_0 : List UInt8 := [42, 183, 0, 3, 42, 16, 48, 188, 10, 181, 0, 9, 42, 16, 6, 188, 10, 181, 0, 15, 42, 16, 6]
abbrev dktX5_init_0 : List UInt8 := dkwX5_init_0 ++ dktX5_init_1
theorem dksX5_init_0 : cX5_init.data.toList.drop 0 = dktX5_init_0 := by decide +kernel
theorem dksX5_init_1 : cX5_init.data.toList.drop 23 = dktX5_init_1 := dk_seg dksX5_init_0 23 rfl rfl
theorem dksX5_init_2 : cX5_init.data.toList.drop 46 = dktX5_init_2 := dk_seg dksX5_init_1 23 rfl rfl
theorem dksX5_init_3 : cX5_init.data.toList.drop 70 = dktX5_init_3 := dk_seg dksX5_init_2 24 rfl rfl
theorem dX5_init_0 : decode cX5_init 0 = .ok (.aload_n 0, 1) := dk_42 (dk_at dksX5_init_0 0 rfl rfl)
theorem dX5_init_1 : decode cX5_init 1 = .ok (.invokespecial 3, 3) := dk_183 0 3 (dk_at dksX5_init_0 1 rfl rfl)
theorem dX5_init_4 : decode cX5_init 4 = .ok (.aload_n 0, 1) := dk_42 (dk_at dksX5_init_0 4 rfl rfl)
theorem dX5_init_5 : decode cX5_init 5 = .ok (.bipush 48, 2) := dk_16 48 (dk_at dksX5_init_0 5 rfl rfl)
theorem dX5_init_7 : decode cX5_init 7 = .ok (.newarray .int, 2) := dk_188_10 (dk_at dksX5_init_0 7 rfl rfl)
theorem dX5_init_9 : decode cX5_init 9 = .ok (.putfield 9, 3) := dk_181 0 9 (dk_at dksX5_init_0 9 rfl rfl)
theorem dX5_init_12 : decode cX5_init 12 = .ok (.aload_n 0, 1) := dk_42 (dk_at dksX5_init_0 12 rfl rfl)
theorem dX5_init_13 : decode cX5_init 13 = .ok (.bipush 6, 2) := dk_16 6 (dk_at dksX5_init_0 13 rfl rfl)
theorem dX5_init_15 : decode cX5_init 15 = .ok (.newarray .int, 2) := dk_188_10 (dk_at dksX5_init_0 15 rfl rfl)
theorem dX5_init_17 : decode cX5_init 17 = .ok (.putfield 15, 3) := dk_181 0 15 (dk_at dksX5_init_0 17 rfl rfl)
theorem dX5_init_20 : decode cX5_init 20 = .ok (.aload_n 0, 1) := dk_42 (dk_at dksX5_init_0 20 rfl rfl)
theorem dX5_init_21 : decode cX5_init 21 = .ok (.bipush 6, 2) := dk_16 6 (dk_at dksX5_init_0 21 rfl rfl)
theorem dX5_init_23 : decode cX5_init 23 = .ok (.newarray .int, 2) := dk_188_10 (dk_at dksX5_init_1 0 rfl rfl)
theorem dX5_init_25 : decode cX5_init 25 = .ok (.putfield 18, 3) := dk_181 0 18 (dk_at dksX5_init_1 2 rfl rfl)
theorem dX5_init_28 : decode cX5_init 28 = .ok (.aload_n 0, 1) := dk_42 (dk_at dksX5_init_1 5 rfl rfl)
theorem dX5_init_29 : decode cX5_init 29 = .ok (.iconst 4, 1) := dk_7 (dk_at dksX5_init_1 6 rfl rfl)
theorem dX5_init_30 : decode cX5_init 30 = .ok (.newarray .int, 2) := dk_188_10 (dk_at dksX5_init_1 7 rfl rfl)
theorem dX5_init_32 : decode cX5_init 32 = .ok (.putfield 21, 3) := dk_181 0 21 (dk_at dksX5_init_1 9 rfl rfl)
theorem dX5_init_35 : decode cX5_init 35 = .ok (.aload_n 0, 1) := dk_42 (dk_at dksX5_init_1 12 rfl rfl)
theorem dX5_init_36 : decode cX5_init 36 = .ok (.iconst 4, 1) := dk_7 (dk_at dksX5_init_1 13 rfl rfl)
theorem dX5_init_37 : decode cX5_init 37 = .ok (.newarray .int, 2) := dk_188_10 (dk_at dksX5_init_1 14 rfl rfl)
theorem dX5_init_39 : decode cX5_init 39 = .ok (.putfield 24, 3) := dk_181 0 24 (dk_at dksX5_init_1 16 rfl rfl)
theorem dX5_init_42 : decode cX5_init 42 = .ok (.aload_n 0, 1) := dk_42 (dk_at dksX5_init_1 19 rfl rfl)
theorem dX5_init_43 : decode cX5_init 43 = .ok (.iconst 4, 1) := dk_7 (dk_at dksX5_init_1 20 rfl rfl)
theorem dX5_init_44 : decode cX5_init 44 = .ok (.newarray .int, 2) := dk_188_10 (dk_at dksX5_init_1 21 rfl rfl)
theorem dX5_init_46 : decode cX5_init 46 = .ok (.putfield 27, 3) := dk_181 0 27 (dk_at dksX5_init_2 0 rfl rfl)
theorem dX5_init_49 : decode cX5_init 49 = .ok (.aload_n 0, 1) := dk_42 (dk_at dksX5_init_2 3 rfl rfl)
theorem dX5_init_50 : decode cX5_init 50 = .ok (.iconst 4, 1) := dk_7 (dk_at dksX5_init_2 4 rfl rfl)
theorem dX5_init_51 : decode cX5_init 51 = .ok (.newarray .int, 2) := dk_188_10 (dk_at dksX5_init_2 5 rfl rfl)
theorem dX5_init_53 : decode cX5_init 53 = .ok (.putfield 30, 3) := dk_181 0 30 (dk_at dksX5_init_2 7 rfl rfl)
theorem dX5_init_56 : decode cX5_init 56 = .ok (.aload_n 0, 1) := dk_42 (dk_at dksX5_init_2 10 rfl rfl)
theorem dX5_init_57 : decode cX5_init 57 = .ok (.iconst 4, 1) := dk_7 (dk_at dksX5_init_2 11 rfl rfl)
theorem dX5_init_58 : decode cX5_init 58 = .ok (.newarray .int, 2) := dk_188_10 (dk_at dksX5_init_2 12 rfl rfl)
theorem dX5_init_60 : decode cX5_init 60 = .ok (.putfield 33, 3) := dk_181 0 33 (dk_at dksX5_init_2 14 rfl rfl)
theorem dX5_init_63 : decode cX5_init 63 = .ok (.aload_n 0, 1) := dk_42 (dk_at dksX5_init_2 17 rfl rfl)
theorem dX5_init_64 : decode cX5_init 64 = .ok (.iconst 4, 1) := dk_7 (dk_at dksX5_init_2 18 rfl rfl)
theorem dX5_init_65 : decode cX5_init 65 = .ok (.newarray .int, 2) := dk_188_10 (dk_at dksX5_init_2 19 rfl rfl)
theorem dX5_init_67 : decode cX5_init 67 = .ok (.putfield 36, 3) := dk_181 0 36 (dk_at dksX5_init_2 21 rfl rfl)
theorem dX5_init_70 : decode cX5_init 70 = .ok (.aload_n 0, 1) := dk_42 (dk_at dksX5_init_3 0 rfl rfl)
theorem dX5_init_71 : decode cX5_init 71 = .ok (.iconst 4, 1) := dk_7 (dk_at dksX5_init_3 1 rfl rfl)
theorem dX5_init_72 : decode cX5_init 72 = .ok (.newarray .int, 2) := dk_188_10 (dk_at dksX5_init_3 2 rfl rfl)
theorem dX5_init_74 : decode cX5_init 74 = .ok (.putfield 39, 3) := dk_181 0 39 (dk_at dksX5_init_3 4 rfl rfl)
theorem dX5_init_77 : decode cX5_init 77 = .ok (.aload_n 0, 1) := dk_42 (dk_at dksX5_init_3 7 rfl rfl)
theorem dX5_init_78 : decode cX5_init 78 = .ok (.new 42, 3) := dk_187 0 42 (dk_at dksX5_init_3 8 rfl rfl)
theorem dX5_init_81 : decode cX5_init 81 = .ok (.dup, 1) := dk_89 (dk_at dksX5_init_3 11 rfl rfl)
theorem dX5_init_82 : decode cX5_init 82 = .ok (.invokespecial 44, 3) := dk_183 0 44 (dk_at dksX5_init_3 12 rfl rfl)
theorem dX5_init_85 : decode cX5_init 85 = .ok (.putfield 45, 3) := dk_181 0 45 (dk_at dksX5_init_3 15 rfl rfl)
theorem dX5_init_88 : decode cX5_init 88 = .ok (.return_, 1) := dk_177 (dk_at dksX5_init_3 18 rfl rfl)
abbrev cX5_begins : ByteArray := prog_10_method_2_code
def yX5_begins : MethodName := ⟨RX5, "begins", "(LRainLoom$Text;)V"⟩
def dkwX5_begins_5 : List UInt8 := [42, 43, 180, 0, 74, 181, 0, 77, 42, 3, 181, 0, 78, 42, 43, 180, 0, 81, 181, 0, 84, 177]
abbrev dktX5_begins_5 : List UInt8 := dkwX5_begins_5 ++ []
def dkwX5_begins_4 : List UInt8 := [180, 0, 24, 28, 3, 79, 42, 180, 0, 27, 28, 3, 79, 42, 28, 182, 0, 70, 132, 2, 1, 167, 255, 194]
abbrev dktX5_begins_4 : List UInt8 := dkwX5_begins_4 ++ dktX5_begins_5
def dkwX5_begins_3 : List UInt8 := [162, 0, 20, 43, 180, 0, 49, 28, 182, 0, 61, 192, 0, 65, 180, 0, 67, 167, 0, 4, 3, 79, 42]
abbrev dktX5_begins_3 : List UInt8 := dkwX5_begins_3 ++ dktX5_begins_4
def dkwX5_begins_2 : List UInt8 := [167, 255, 233, 3, 61, 28, 7, 162, 0, 63, 42, 180, 0, 21, 28, 28, 43, 180, 0, 49, 182, 0, 55]
abbrev dktX5_begins_2 : List UInt8 := dkwX5_begins_2 ++ dktX5_begins_3
def dkwX5_begins_1 : List UInt8 := [16, 6, 162, 0, 23, 42, 180, 0, 15, 28, 3, 79, 42, 180, 0, 18, 28, 3, 79, 132, 2, 1]
abbrev dktX5_begins_1 : List UInt8 := dkwX5_begins_1 ++ dktX5_begins_2
def dkwX5_begins_0 : List UInt8 := [3, 61, 28, 16, 48, 162, 0, 16, 42, 180, 0, 9, 28, 3, 79, 132, 2, 1, 167, 255, 240, 3, 61, 28]
abbrev dktX5_begins_0 : List UInt8 := dkwX5_begins_0 ++ dktX5_begins_1
theorem dksX5_begins_0 : cX5_begins.data.toList.drop 0 = dktX5_begins_0 := by decide +kernel
theorem dksX5_begins_1 : cX5_begins.data.toList.drop 24 = dktX5_begins_1 := dk_seg dksX5_begins_0 24 rfl rfl
theorem dksX5_begins_2 : cX5_begins.data.toList.drop 46 = dktX5_begins_2 := dk_seg dksX5_begins_1 22 rfl rfl
theorem dksX5_begins_3 : cX5_begins.data.toList.drop 69 = dktX5_begins_3 := dk_seg dksX5_begins_2 23 rfl rfl
theorem dksX5_begins_4 : cX5_begins.data.toList.drop 92 = dktX5_begins_4 := dk_seg dksX5_begins_3 23 rfl rfl
theorem dksX5_begins_5 : cX5_begins.data.toList.drop 116 = dktX5_begins_5 := dk_seg dksX5_begins_4 24 rfl rfl
theorem dX5_begins_0 : decode cX5_begins 0 = .ok (.iconst 0, 1) := dk_3 (dk_at dksX5_begins_0 0 rfl rfl)
theorem dX5_begins_1 : decode cX5_begins 1 = .ok (.istore_n 2, 1) := dk_61 (dk_at dksX5_begins_0 1 rfl rfl)
theorem dX5_begins_2 : decode cX5_begins 2 = .ok (.iload_n 2, 1) := dk_28 (dk_at dksX5_begins_0 2 rfl rfl)
theorem dX5_begins_3 : decode cX5_begins 3 = .ok (.bipush 48, 2) := dk_16 48 (dk_at dksX5_begins_0 3 rfl rfl)
theorem dX5_begins_5 : decode cX5_begins 5 = .ok (.if_icmp .ge 16, 3) := dk_162 0 16 (dk_at dksX5_begins_0 5 rfl rfl)
theorem dX5_begins_8 : decode cX5_begins 8 = .ok (.aload_n 0, 1) := dk_42 (dk_at dksX5_begins_0 8 rfl rfl)
theorem dX5_begins_9 : decode cX5_begins 9 = .ok (.getfield 9, 3) := dk_180 0 9 (dk_at dksX5_begins_0 9 rfl rfl)
theorem dX5_begins_12 : decode cX5_begins 12 = .ok (.iload_n 2, 1) := dk_28 (dk_at dksX5_begins_0 12 rfl rfl)
theorem dX5_begins_13 : decode cX5_begins 13 = .ok (.iconst 0, 1) := dk_3 (dk_at dksX5_begins_0 13 rfl rfl)
theorem dX5_begins_14 : decode cX5_begins 14 = .ok (.iastore, 1) := dk_79 (dk_at dksX5_begins_0 14 rfl rfl)
theorem dX5_begins_15 : decode cX5_begins 15 = .ok (.iinc 2 1, 3) := dk_132 2 1 (dk_at dksX5_begins_0 15 rfl rfl)
theorem dX5_begins_18 : decode cX5_begins 18 = .ok (.goto (-16), 3) := dk_167 255 240 (dk_at dksX5_begins_0 18 rfl rfl)
theorem dX5_begins_21 : decode cX5_begins 21 = .ok (.iconst 0, 1) := dk_3 (dk_at dksX5_begins_0 21 rfl rfl)
theorem dX5_begins_22 : decode cX5_begins 22 = .ok (.istore_n 2, 1) := dk_61 (dk_at dksX5_begins_0 22 rfl rfl)
theorem dX5_begins_23 : decode cX5_begins 23 = .ok (.iload_n 2, 1) := dk_28 (dk_at dksX5_begins_0 23 rfl rfl)
theorem dX5_begins_24 : decode cX5_begins 24 = .ok (.bipush 6, 2) := dk_16 6 (dk_at dksX5_begins_1 0 rfl rfl)
theorem dX5_begins_26 : decode cX5_begins 26 = .ok (.if_icmp .ge 23, 3) := dk_162 0 23 (dk_at dksX5_begins_1 2 rfl rfl)
theorem dX5_begins_29 : decode cX5_begins 29 = .ok (.aload_n 0, 1) := dk_42 (dk_at dksX5_begins_1 5 rfl rfl)
theorem dX5_begins_30 : decode cX5_begins 30 = .ok (.getfield 15, 3) := dk_180 0 15 (dk_at dksX5_begins_1 6 rfl rfl)
theorem dX5_begins_33 : decode cX5_begins 33 = .ok (.iload_n 2, 1) := dk_28 (dk_at dksX5_begins_1 9 rfl rfl)
theorem dX5_begins_34 : decode cX5_begins 34 = .ok (.iconst 0, 1) := dk_3 (dk_at dksX5_begins_1 10 rfl rfl)
theorem dX5_begins_35 : decode cX5_begins 35 = .ok (.iastore, 1) := dk_79 (dk_at dksX5_begins_1 11 rfl rfl)
theorem dX5_begins_36 : decode cX5_begins 36 = .ok (.aload_n 0, 1) := dk_42 (dk_at dksX5_begins_1 12 rfl rfl)
theorem dX5_begins_37 : decode cX5_begins 37 = .ok (.getfield 18, 3) := dk_180 0 18 (dk_at dksX5_begins_1 13 rfl rfl)
theorem dX5_begins_40 : decode cX5_begins 40 = .ok (.iload_n 2, 1) := dk_28 (dk_at dksX5_begins_1 16 rfl rfl)
theorem dX5_begins_41 : decode cX5_begins 41 = .ok (.iconst 0, 1) := dk_3 (dk_at dksX5_begins_1 17 rfl rfl)
theorem dX5_begins_42 : decode cX5_begins 42 = .ok (.iastore, 1) := dk_79 (dk_at dksX5_begins_1 18 rfl rfl)
theorem dX5_begins_43 : decode cX5_begins 43 = .ok (.iinc 2 1, 3) := dk_132 2 1 (dk_at dksX5_begins_1 19 rfl rfl)
theorem dX5_begins_46 : decode cX5_begins 46 = .ok (.goto (-23), 3) := dk_167 255 233 (dk_at dksX5_begins_2 0 rfl rfl)
theorem dX5_begins_49 : decode cX5_begins 49 = .ok (.iconst 0, 1) := dk_3 (dk_at dksX5_begins_2 3 rfl rfl)
theorem dX5_begins_50 : decode cX5_begins 50 = .ok (.istore_n 2, 1) := dk_61 (dk_at dksX5_begins_2 4 rfl rfl)
theorem dX5_begins_51 : decode cX5_begins 51 = .ok (.iload_n 2, 1) := dk_28 (dk_at dksX5_begins_2 5 rfl rfl)
theorem dX5_begins_52 : decode cX5_begins 52 = .ok (.iconst 4, 1) := dk_7 (dk_at dksX5_begins_2 6 rfl rfl)
theorem dX5_begins_53 : decode cX5_begins 53 = .ok (.if_icmp .ge 63, 3) := dk_162 0 63 (dk_at dksX5_begins_2 7 rfl rfl)
theorem dX5_begins_56 : decode cX5_begins 56 = .ok (.aload_n 0, 1) := dk_42 (dk_at dksX5_begins_2 10 rfl rfl)
theorem dX5_begins_57 : decode cX5_begins 57 = .ok (.getfield 21, 3) := dk_180 0 21 (dk_at dksX5_begins_2 11 rfl rfl)
theorem dX5_begins_60 : decode cX5_begins 60 = .ok (.iload_n 2, 1) := dk_28 (dk_at dksX5_begins_2 14 rfl rfl)
theorem dX5_begins_61 : decode cX5_begins 61 = .ok (.iload_n 2, 1) := dk_28 (dk_at dksX5_begins_2 15 rfl rfl)
theorem dX5_begins_62 : decode cX5_begins 62 = .ok (.aload_n 1, 1) := dk_43 (dk_at dksX5_begins_2 16 rfl rfl)
theorem dX5_begins_63 : decode cX5_begins 63 = .ok (.getfield 49, 3) := dk_180 0 49 (dk_at dksX5_begins_2 17 rfl rfl)
theorem dX5_begins_66 : decode cX5_begins 66 = .ok (.invokevirtual 55, 3) := dk_182 0 55 (dk_at dksX5_begins_2 20 rfl rfl)
theorem dX5_begins_69 : decode cX5_begins 69 = .ok (.if_icmp .ge 20, 3) := dk_162 0 20 (dk_at dksX5_begins_3 0 rfl rfl)
theorem dX5_begins_72 : decode cX5_begins 72 = .ok (.aload_n 1, 1) := dk_43 (dk_at dksX5_begins_3 3 rfl rfl)
theorem dX5_begins_73 : decode cX5_begins 73 = .ok (.getfield 49, 3) := dk_180 0 49 (dk_at dksX5_begins_3 4 rfl rfl)
theorem dX5_begins_76 : decode cX5_begins 76 = .ok (.iload_n 2, 1) := dk_28 (dk_at dksX5_begins_3 7 rfl rfl)
theorem dX5_begins_77 : decode cX5_begins 77 = .ok (.invokevirtual 61, 3) := dk_182 0 61 (dk_at dksX5_begins_3 8 rfl rfl)
theorem dX5_begins_80 : decode cX5_begins 80 = .ok (.checkcast 65, 3) := dk_192 0 65 (dk_at dksX5_begins_3 11 rfl rfl)
theorem dX5_begins_83 : decode cX5_begins 83 = .ok (.getfield 67, 3) := dk_180 0 67 (dk_at dksX5_begins_3 14 rfl rfl)
theorem dX5_begins_86 : decode cX5_begins 86 = .ok (.goto 4, 3) := dk_167 0 4 (dk_at dksX5_begins_3 17 rfl rfl)
theorem dX5_begins_89 : decode cX5_begins 89 = .ok (.iconst 0, 1) := dk_3 (dk_at dksX5_begins_3 20 rfl rfl)
theorem dX5_begins_90 : decode cX5_begins 90 = .ok (.iastore, 1) := dk_79 (dk_at dksX5_begins_3 21 rfl rfl)
theorem dX5_begins_91 : decode cX5_begins 91 = .ok (.aload_n 0, 1) := dk_42 (dk_at dksX5_begins_3 22 rfl rfl)
theorem dX5_begins_92 : decode cX5_begins 92 = .ok (.getfield 24, 3) := dk_180 0 24 (dk_at dksX5_begins_4 0 rfl rfl)
theorem dX5_begins_95 : decode cX5_begins 95 = .ok (.iload_n 2, 1) := dk_28 (dk_at dksX5_begins_4 3 rfl rfl)
theorem dX5_begins_96 : decode cX5_begins 96 = .ok (.iconst 0, 1) := dk_3 (dk_at dksX5_begins_4 4 rfl rfl)
theorem dX5_begins_97 : decode cX5_begins 97 = .ok (.iastore, 1) := dk_79 (dk_at dksX5_begins_4 5 rfl rfl)
theorem dX5_begins_98 : decode cX5_begins 98 = .ok (.aload_n 0, 1) := dk_42 (dk_at dksX5_begins_4 6 rfl rfl)
theorem dX5_begins_99 : decode cX5_begins 99 = .ok (.getfield 27, 3) := dk_180 0 27 (dk_at dksX5_begins_4 7 rfl rfl)
theorem dX5_begins_102 : decode cX5_begins 102 = .ok (.iload_n 2, 1) := dk_28 (dk_at dksX5_begins_4 10 rfl rfl)
theorem dX5_begins_103 : decode cX5_begins 103 = .ok (.iconst 0, 1) := dk_3 (dk_at dksX5_begins_4 11 rfl rfl)
theorem dX5_begins_104 : decode cX5_begins 104 = .ok (.iastore, 1) := dk_79 (dk_at dksX5_begins_4 12 rfl rfl)
theorem dX5_begins_105 : decode cX5_begins 105 = .ok (.aload_n 0, 1) := dk_42 (dk_at dksX5_begins_4 13 rfl rfl)
theorem dX5_begins_106 : decode cX5_begins 106 = .ok (.iload_n 2, 1) := dk_28 (dk_at dksX5_begins_4 14 rfl rfl)
theorem dX5_begins_107 : decode cX5_begins 107 = .ok (.invokevirtual 70, 3) := dk_182 0 70 (dk_at dksX5_begins_4 15 rfl rfl)
theorem dX5_begins_110 : decode cX5_begins 110 = .ok (.iinc 2 1, 3) := dk_132 2 1 (dk_at dksX5_begins_4 18 rfl rfl)
theorem dX5_begins_113 : decode cX5_begins 113 = .ok (.goto (-62), 3) := dk_167 255 194 (dk_at dksX5_begins_4 21 rfl rfl)
theorem dX5_begins_116 : decode cX5_begins 116 = .ok (.aload_n 0, 1) := dk_42 (dk_at dksX5_begins_5 0 rfl rfl)
theorem dX5_begins_117 : decode cX5_begins 117 = .ok (.aload_n 1, 1) := dk_43 (dk_at dksX5_begins_5 1 rfl rfl)
theorem dX5_begins_118 : decode cX5_begins 118 = .ok (.getfield 74, 3) := dk_180 0 74 (dk_at dksX5_begins_5 2 rfl rfl)
theorem dX5_begins_121 : decode cX5_begins 121 = .ok (.putfield 77, 3) := dk_181 0 77 (dk_at dksX5_begins_5 5 rfl rfl)
theorem dX5_begins_124 : decode cX5_begins 124 = .ok (.aload_n 0, 1) := dk_42 (dk_at dksX5_begins_5 8 rfl rfl)
theorem dX5_begins_125 : decode cX5_begins 125 = .ok (.iconst 0, 1) := dk_3 (dk_at dksX5_begins_5 9 rfl rfl)
theorem dX5_begins_126 : decode cX5_begins 126 = .ok (.putfield 78, 3) := dk_181 0 78 (dk_at dksX5_begins_5 10 rfl rfl)
theorem dX5_begins_129 : decode cX5_begins 129 = .ok (.aload_n 0, 1) := dk_42 (dk_at dksX5_begins_5 13 rfl rfl)
theorem dX5_begins_130 : decode cX5_begins 130 = .ok (.aload_n 1, 1) := dk_43 (dk_at dksX5_begins_5 14 rfl rfl)
theorem dX5_begins_131 : decode cX5_begins 131 = .ok (.getfield 81, 3) := dk_180 0 81 (dk_at dksX5_begins_5 15 rfl rfl)
theorem dX5_begins_134 : decode cX5_begins 134 = .ok (.putfield 84, 3) := dk_181 0 84 (dk_at dksX5_begins_5 18 rfl rfl)
theorem dX5_begins_137 : decode cX5_begins 137 = .ok (.return_, 1) := dk_177 (dk_at dksX5_begins_5 21 rfl rfl)
abbrev cX5_stops : ByteArray := prog_10_method_3_code
def yX5_stops : MethodName := ⟨RX5, "stops", "(I)V"⟩
def dkwX5_stops_1 : List UInt8 := [42, 180, 0, 39, 27, 16, 254, 79, 177]
abbrev dktX5_stops_1 : List UInt8 := dkwX5_stops_1 ++ []
def dkwX5_stops_0 : List UInt8 := [42, 180, 0, 30, 27, 16, 254, 79, 42, 180, 0, 33, 27, 16, 254, 79, 42, 180, 0, 36, 27, 16, 254, 79]
abbrev dktX5_stops_0 : List UInt8 := dkwX5_stops_0 ++ dktX5_stops_1
theorem dksX5_stops_0 : cX5_stops.data.toList.drop 0 = dktX5_stops_0 := by decide +kernel
theorem dksX5_stops_1 : cX5_stops.data.toList.drop 24 = dktX5_stops_1 := dk_seg dksX5_stops_0 24 rfl rfl
theorem dX5_stops_0 : decode cX5_stops 0 = .ok (.aload_n 0, 1) := dk_42 (dk_at dksX5_stops_0 0 rfl rfl)
theorem dX5_stops_1 : decode cX5_stops 1 = .ok (.getfield 30, 3) := dk_180 0 30 (dk_at dksX5_stops_0 1 rfl rfl)
theorem dX5_stops_4 : decode cX5_stops 4 = .ok (.iload_n 1, 1) := dk_27 (dk_at dksX5_stops_0 4 rfl rfl)
theorem dX5_stops_5 : decode cX5_stops 5 = .ok (.bipush (-2), 2) := dk_16 254 (dk_at dksX5_stops_0 5 rfl rfl)
theorem dX5_stops_7 : decode cX5_stops 7 = .ok (.iastore, 1) := dk_79 (dk_at dksX5_stops_0 7 rfl rfl)
theorem dX5_stops_8 : decode cX5_stops 8 = .ok (.aload_n 0, 1) := dk_42 (dk_at dksX5_stops_0 8 rfl rfl)
theorem dX5_stops_9 : decode cX5_stops 9 = .ok (.getfield 33, 3) := dk_180 0 33 (dk_at dksX5_stops_0 9 rfl rfl)
theorem dX5_stops_12 : decode cX5_stops 12 = .ok (.iload_n 1, 1) := dk_27 (dk_at dksX5_stops_0 12 rfl rfl)
theorem dX5_stops_13 : decode cX5_stops 13 = .ok (.bipush (-2), 2) := dk_16 254 (dk_at dksX5_stops_0 13 rfl rfl)
theorem dX5_stops_15 : decode cX5_stops 15 = .ok (.iastore, 1) := dk_79 (dk_at dksX5_stops_0 15 rfl rfl)
theorem dX5_stops_16 : decode cX5_stops 16 = .ok (.aload_n 0, 1) := dk_42 (dk_at dksX5_stops_0 16 rfl rfl)
theorem dX5_stops_17 : decode cX5_stops 17 = .ok (.getfield 36, 3) := dk_180 0 36 (dk_at dksX5_stops_0 17 rfl rfl)
theorem dX5_stops_20 : decode cX5_stops 20 = .ok (.iload_n 1, 1) := dk_27 (dk_at dksX5_stops_0 20 rfl rfl)
theorem dX5_stops_21 : decode cX5_stops 21 = .ok (.bipush (-2), 2) := dk_16 254 (dk_at dksX5_stops_0 21 rfl rfl)
theorem dX5_stops_23 : decode cX5_stops 23 = .ok (.iastore, 1) := dk_79 (dk_at dksX5_stops_0 23 rfl rfl)
theorem dX5_stops_24 : decode cX5_stops 24 = .ok (.aload_n 0, 1) := dk_42 (dk_at dksX5_stops_1 0 rfl rfl)
theorem dX5_stops_25 : decode cX5_stops 25 = .ok (.getfield 39, 3) := dk_180 0 39 (dk_at dksX5_stops_1 1 rfl rfl)
theorem dX5_stops_28 : decode cX5_stops 28 = .ok (.iload_n 1, 1) := dk_27 (dk_at dksX5_stops_1 4 rfl rfl)
theorem dX5_stops_29 : decode cX5_stops 29 = .ok (.bipush (-2), 2) := dk_16 254 (dk_at dksX5_stops_1 5 rfl rfl)
theorem dX5_stops_31 : decode cX5_stops 31 = .ok (.iastore, 1) := dk_79 (dk_at dksX5_stops_1 7 rfl rfl)
theorem dX5_stops_32 : decode cX5_stops 32 = .ok (.return_, 1) := dk_177 (dk_at dksX5_stops_1 8 rfl rfl)
abbrev cX5_isLacking : ByteArray := prog_10_method_11_code
def yX5_isLacking : MethodName := ⟨RX5, "isLacking", "(LRainLoom$Text;I)Z"⟩
def dkwX5_isLacking_1 : List UInt8 := [167, 0, 4, 3, 172]
abbrev dktX5_isLacking_1 : List UInt8 := dkwX5_isLacking_1 ++ []
def dkwX5_isLacking_0 : List UInt8 := [43, 180, 0, 135, 28, 46, 155, 0, 21, 42, 180, 0, 9, 28, 46, 43, 28, 182, 0, 120, 162, 0, 7, 4]
abbrev dktX5_isLacking_0 : List UInt8 := dkwX5_isLacking_0 ++ dktX5_isLacking_1
theorem dksX5_isLacking_0 : cX5_isLacking.data.toList.drop 0 = dktX5_isLacking_0 := by decide +kernel
theorem dksX5_isLacking_1 : cX5_isLacking.data.toList.drop 24 = dktX5_isLacking_1 := dk_seg dksX5_isLacking_0 24 rfl rfl
theorem dX5_isLacking_0 : decode cX5_isLacking 0 = .ok (.aload_n 1, 1) := dk_43 (dk_at dksX5_isLacking_0 0 rfl rfl)
theorem dX5_isLacking_1 : decode cX5_isLacking 1 = .ok (.getfield 135, 3) := dk_180 0 135 (dk_at dksX5_isLacking_0 1 rfl rfl)
theorem dX5_isLacking_4 : decode cX5_isLacking 4 = .ok (.iload_n 2, 1) := dk_28 (dk_at dksX5_isLacking_0 4 rfl rfl)
theorem dX5_isLacking_5 : decode cX5_isLacking 5 = .ok (.iaload, 1) := dk_46 (dk_at dksX5_isLacking_0 5 rfl rfl)
theorem dX5_isLacking_6 : decode cX5_isLacking 6 = .ok (.ifCond .lt 21, 3) := dk_155 0 21 (dk_at dksX5_isLacking_0 6 rfl rfl)
theorem dX5_isLacking_9 : decode cX5_isLacking 9 = .ok (.aload_n 0, 1) := dk_42 (dk_at dksX5_isLacking_0 9 rfl rfl)
theorem dX5_isLacking_10 : decode cX5_isLacking 10 = .ok (.getfield 9, 3) := dk_180 0 9 (dk_at dksX5_isLacking_0 10 rfl rfl)
theorem dX5_isLacking_13 : decode cX5_isLacking 13 = .ok (.iload_n 2, 1) := dk_28 (dk_at dksX5_isLacking_0 13 rfl rfl)
theorem dX5_isLacking_14 : decode cX5_isLacking 14 = .ok (.iaload, 1) := dk_46 (dk_at dksX5_isLacking_0 14 rfl rfl)
theorem dX5_isLacking_15 : decode cX5_isLacking 15 = .ok (.aload_n 1, 1) := dk_43 (dk_at dksX5_isLacking_0 15 rfl rfl)
theorem dX5_isLacking_16 : decode cX5_isLacking 16 = .ok (.iload_n 2, 1) := dk_28 (dk_at dksX5_isLacking_0 16 rfl rfl)
theorem dX5_isLacking_17 : decode cX5_isLacking 17 = .ok (.invokevirtual 120, 3) := dk_182 0 120 (dk_at dksX5_isLacking_0 17 rfl rfl)
theorem dX5_isLacking_20 : decode cX5_isLacking 20 = .ok (.if_icmp .ge 7, 3) := dk_162 0 7 (dk_at dksX5_isLacking_0 20 rfl rfl)
theorem dX5_isLacking_23 : decode cX5_isLacking 23 = .ok (.iconst 1, 1) := dk_4 (dk_at dksX5_isLacking_0 23 rfl rfl)
theorem dX5_isLacking_24 : decode cX5_isLacking 24 = .ok (.goto 4, 3) := dk_167 0 4 (dk_at dksX5_isLacking_1 0 rfl rfl)
theorem dX5_isLacking_27 : decode cX5_isLacking 27 = .ok (.iconst 0, 1) := dk_3 (dk_at dksX5_isLacking_1 3 rfl rfl)
theorem dX5_isLacking_28 : decode cX5_isLacking 28 = .ok (.ireturn, 1) := dk_172 (dk_at dksX5_isLacking_1 4 rfl rfl)
abbrev cX5_isFlooded : ByteArray := prog_10_method_12_code
def yX5_isFlooded : MethodName := ⟨RX5, "isFlooded", "(LRainLoom$Text;I)Z"⟩
def dkwX5_isFlooded_1 : List UInt8 := [167, 0, 4, 3, 172]
abbrev dktX5_isFlooded_1 : List UInt8 := dkwX5_isFlooded_1 ++ []
def dkwX5_isFlooded_0 : List UInt8 := [43, 180, 0, 135, 28, 46, 155, 0, 21, 42, 180, 0, 9, 28, 46, 43, 28, 182, 0, 124, 164, 0, 7, 4]
abbrev dktX5_isFlooded_0 : List UInt8 := dkwX5_isFlooded_0 ++ dktX5_isFlooded_1
theorem dksX5_isFlooded_0 : cX5_isFlooded.data.toList.drop 0 = dktX5_isFlooded_0 := by decide +kernel
theorem dksX5_isFlooded_1 : cX5_isFlooded.data.toList.drop 24 = dktX5_isFlooded_1 := dk_seg dksX5_isFlooded_0 24 rfl rfl
theorem dX5_isFlooded_0 : decode cX5_isFlooded 0 = .ok (.aload_n 1, 1) := dk_43 (dk_at dksX5_isFlooded_0 0 rfl rfl)
theorem dX5_isFlooded_1 : decode cX5_isFlooded 1 = .ok (.getfield 135, 3) := dk_180 0 135 (dk_at dksX5_isFlooded_0 1 rfl rfl)
theorem dX5_isFlooded_4 : decode cX5_isFlooded 4 = .ok (.iload_n 2, 1) := dk_28 (dk_at dksX5_isFlooded_0 4 rfl rfl)
theorem dX5_isFlooded_5 : decode cX5_isFlooded 5 = .ok (.iaload, 1) := dk_46 (dk_at dksX5_isFlooded_0 5 rfl rfl)
theorem dX5_isFlooded_6 : decode cX5_isFlooded 6 = .ok (.ifCond .lt 21, 3) := dk_155 0 21 (dk_at dksX5_isFlooded_0 6 rfl rfl)
theorem dX5_isFlooded_9 : decode cX5_isFlooded 9 = .ok (.aload_n 0, 1) := dk_42 (dk_at dksX5_isFlooded_0 9 rfl rfl)
theorem dX5_isFlooded_10 : decode cX5_isFlooded 10 = .ok (.getfield 9, 3) := dk_180 0 9 (dk_at dksX5_isFlooded_0 10 rfl rfl)
theorem dX5_isFlooded_13 : decode cX5_isFlooded 13 = .ok (.iload_n 2, 1) := dk_28 (dk_at dksX5_isFlooded_0 13 rfl rfl)
theorem dX5_isFlooded_14 : decode cX5_isFlooded 14 = .ok (.iaload, 1) := dk_46 (dk_at dksX5_isFlooded_0 14 rfl rfl)
theorem dX5_isFlooded_15 : decode cX5_isFlooded 15 = .ok (.aload_n 1, 1) := dk_43 (dk_at dksX5_isFlooded_0 15 rfl rfl)
theorem dX5_isFlooded_16 : decode cX5_isFlooded 16 = .ok (.iload_n 2, 1) := dk_28 (dk_at dksX5_isFlooded_0 16 rfl rfl)
theorem dX5_isFlooded_17 : decode cX5_isFlooded 17 = .ok (.invokevirtual 124, 3) := dk_182 0 124 (dk_at dksX5_isFlooded_0 17 rfl rfl)
theorem dX5_isFlooded_20 : decode cX5_isFlooded 20 = .ok (.if_icmp .le 7, 3) := dk_164 0 7 (dk_at dksX5_isFlooded_0 20 rfl rfl)
theorem dX5_isFlooded_23 : decode cX5_isFlooded 23 = .ok (.iconst 1, 1) := dk_4 (dk_at dksX5_isFlooded_0 23 rfl rfl)
theorem dX5_isFlooded_24 : decode cX5_isFlooded 24 = .ok (.goto 4, 3) := dk_167 0 4 (dk_at dksX5_isFlooded_1 0 rfl rfl)
theorem dX5_isFlooded_27 : decode cX5_isFlooded 27 = .ok (.iconst 0, 1) := dk_3 (dk_at dksX5_isFlooded_1 3 rfl rfl)
theorem dX5_isFlooded_28 : decode cX5_isFlooded 28 = .ok (.ireturn, 1) := dk_172 (dk_at dksX5_isFlooded_1 4 rfl rfl)
abbrev cX5_thread : ByteArray := prog_10_method_7_code
def yX5_thread : MethodName := ⟨RX5, "thread", "(LRainLoom$Text;III)I"⟩
def dkwX5_thread_4 : List UInt8 := [42, 180, 0, 45, 182, 0, 108, 184, 0, 114, 172]
abbrev dktX5_thread_4 : List UInt8 := dkwX5_thread_4 ++ []
def dkwX5_thread_3 : List UInt8 := [180, 0, 95, 16, 8, 43, 180, 0, 49, 28, 182, 0, 61, 192, 0, 65, 180, 0, 106, 79, 16, 9, 25, 5]
abbrev dktX5_thread_3 : List UInt8 := dkwX5_thread_3 ++ dktX5_thread_4
def dkwX5_thread_2 : List UInt8 := [180, 0, 95, 5, 21, 4, 79, 42, 180, 0, 45, 180, 0, 95, 16, 7, 28, 79, 42, 180, 0, 45]
abbrev dktX5_thread_2 : List UInt8 := dkwX5_thread_2 ++ dktX5_thread_3
def dkwX5_thread_1 : List UInt8 := [180, 0, 95, 3, 21, 4, 7, 112, 79, 42, 180, 0, 45, 180, 0, 95, 4, 29, 79, 42, 180, 0, 45]
abbrev dktX5_thread_1 : List UInt8 := dkwX5_thread_1 ++ dktX5_thread_2
def dkwX5_thread_0 : List UInt8 := [43, 180, 0, 98, 3, 50, 58, 5, 25, 5, 199, 0, 5, 4, 172, 42, 182, 0, 102, 87, 42, 180, 0, 45]
abbrev dktX5_thread_0 : List UInt8 := dkwX5_thread_0 ++ dktX5_thread_1
theorem dksX5_thread_0 : cX5_thread.data.toList.drop 0 = dktX5_thread_0 := by decide +kernel
theorem dksX5_thread_1 : cX5_thread.data.toList.drop 24 = dktX5_thread_1 := dk_seg dksX5_thread_0 24 rfl rfl
theorem dksX5_thread_2 : cX5_thread.data.toList.drop 47 = dktX5_thread_2 := dk_seg dksX5_thread_1 23 rfl rfl
theorem dksX5_thread_3 : cX5_thread.data.toList.drop 69 = dktX5_thread_3 := dk_seg dksX5_thread_2 22 rfl rfl
theorem dksX5_thread_4 : cX5_thread.data.toList.drop 93 = dktX5_thread_4 := dk_seg dksX5_thread_3 24 rfl rfl
theorem dX5_thread_0 : decode cX5_thread 0 = .ok (.aload_n 1, 1) := dk_43 (dk_at dksX5_thread_0 0 rfl rfl)
theorem dX5_thread_1 : decode cX5_thread 1 = .ok (.getfield 98, 3) := dk_180 0 98 (dk_at dksX5_thread_0 1 rfl rfl)
theorem dX5_thread_4 : decode cX5_thread 4 = .ok (.iconst 0, 1) := dk_3 (dk_at dksX5_thread_0 4 rfl rfl)
theorem dX5_thread_5 : decode cX5_thread 5 = .ok (.aaload, 1) := dk_50 (dk_at dksX5_thread_0 5 rfl rfl)
theorem dX5_thread_6 : decode cX5_thread 6 = .ok (.astore 5, 2) := dk_58 5 (dk_at dksX5_thread_0 6 rfl rfl)
theorem dX5_thread_8 : decode cX5_thread 8 = .ok (.aload 5, 2) := dk_25 5 (dk_at dksX5_thread_0 8 rfl rfl)
theorem dX5_thread_10 : decode cX5_thread 10 = .ok (.ifnonnull 5, 3) := dk_199 0 5 (dk_at dksX5_thread_0 10 rfl rfl)
theorem dX5_thread_13 : decode cX5_thread 13 = .ok (.iconst 1, 1) := dk_4 (dk_at dksX5_thread_0 13 rfl rfl)
theorem dX5_thread_14 : decode cX5_thread 14 = .ok (.ireturn, 1) := dk_172 (dk_at dksX5_thread_0 14 rfl rfl)
theorem dX5_thread_15 : decode cX5_thread 15 = .ok (.aload_n 0, 1) := dk_42 (dk_at dksX5_thread_0 15 rfl rfl)
theorem dX5_thread_16 : decode cX5_thread 16 = .ok (.invokevirtual 102, 3) := dk_182 0 102 (dk_at dksX5_thread_0 16 rfl rfl)
theorem dX5_thread_19 : decode cX5_thread 19 = .ok (.pop, 1) := dk_87 (dk_at dksX5_thread_0 19 rfl rfl)
theorem dX5_thread_20 : decode cX5_thread 20 = .ok (.aload_n 0, 1) := dk_42 (dk_at dksX5_thread_0 20 rfl rfl)
theorem dX5_thread_21 : decode cX5_thread 21 = .ok (.getfield 45, 3) := dk_180 0 45 (dk_at dksX5_thread_0 21 rfl rfl)
theorem dX5_thread_24 : decode cX5_thread 24 = .ok (.getfield 95, 3) := dk_180 0 95 (dk_at dksX5_thread_1 0 rfl rfl)
theorem dX5_thread_27 : decode cX5_thread 27 = .ok (.iconst 0, 1) := dk_3 (dk_at dksX5_thread_1 3 rfl rfl)
theorem dX5_thread_28 : decode cX5_thread 28 = .ok (.iload 4, 2) := dk_21 4 (dk_at dksX5_thread_1 4 rfl rfl)
theorem dX5_thread_30 : decode cX5_thread 30 = .ok (.iconst 4, 1) := dk_7 (dk_at dksX5_thread_1 6 rfl rfl)
theorem dX5_thread_31 : decode cX5_thread 31 = .ok (.irem, 1) := dk_112 (dk_at dksX5_thread_1 7 rfl rfl)
theorem dX5_thread_32 : decode cX5_thread 32 = .ok (.iastore, 1) := dk_79 (dk_at dksX5_thread_1 8 rfl rfl)
theorem dX5_thread_33 : decode cX5_thread 33 = .ok (.aload_n 0, 1) := dk_42 (dk_at dksX5_thread_1 9 rfl rfl)
theorem dX5_thread_34 : decode cX5_thread 34 = .ok (.getfield 45, 3) := dk_180 0 45 (dk_at dksX5_thread_1 10 rfl rfl)
theorem dX5_thread_37 : decode cX5_thread 37 = .ok (.getfield 95, 3) := dk_180 0 95 (dk_at dksX5_thread_1 13 rfl rfl)
theorem dX5_thread_40 : decode cX5_thread 40 = .ok (.iconst 1, 1) := dk_4 (dk_at dksX5_thread_1 16 rfl rfl)
theorem dX5_thread_41 : decode cX5_thread 41 = .ok (.iload_n 3, 1) := dk_29 (dk_at dksX5_thread_1 17 rfl rfl)
theorem dX5_thread_42 : decode cX5_thread 42 = .ok (.iastore, 1) := dk_79 (dk_at dksX5_thread_1 18 rfl rfl)
theorem dX5_thread_43 : decode cX5_thread 43 = .ok (.aload_n 0, 1) := dk_42 (dk_at dksX5_thread_1 19 rfl rfl)
theorem dX5_thread_44 : decode cX5_thread 44 = .ok (.getfield 45, 3) := dk_180 0 45 (dk_at dksX5_thread_1 20 rfl rfl)
theorem dX5_thread_47 : decode cX5_thread 47 = .ok (.getfield 95, 3) := dk_180 0 95 (dk_at dksX5_thread_2 0 rfl rfl)
theorem dX5_thread_50 : decode cX5_thread 50 = .ok (.iconst 2, 1) := dk_5 (dk_at dksX5_thread_2 3 rfl rfl)
theorem dX5_thread_51 : decode cX5_thread 51 = .ok (.iload 4, 2) := dk_21 4 (dk_at dksX5_thread_2 4 rfl rfl)
theorem dX5_thread_53 : decode cX5_thread 53 = .ok (.iastore, 1) := dk_79 (dk_at dksX5_thread_2 6 rfl rfl)
theorem dX5_thread_54 : decode cX5_thread 54 = .ok (.aload_n 0, 1) := dk_42 (dk_at dksX5_thread_2 7 rfl rfl)
theorem dX5_thread_55 : decode cX5_thread 55 = .ok (.getfield 45, 3) := dk_180 0 45 (dk_at dksX5_thread_2 8 rfl rfl)
theorem dX5_thread_58 : decode cX5_thread 58 = .ok (.getfield 95, 3) := dk_180 0 95 (dk_at dksX5_thread_2 11 rfl rfl)
theorem dX5_thread_61 : decode cX5_thread 61 = .ok (.bipush 7, 2) := dk_16 7 (dk_at dksX5_thread_2 14 rfl rfl)
theorem dX5_thread_63 : decode cX5_thread 63 = .ok (.iload_n 2, 1) := dk_28 (dk_at dksX5_thread_2 16 rfl rfl)
theorem dX5_thread_64 : decode cX5_thread 64 = .ok (.iastore, 1) := dk_79 (dk_at dksX5_thread_2 17 rfl rfl)
theorem dX5_thread_65 : decode cX5_thread 65 = .ok (.aload_n 0, 1) := dk_42 (dk_at dksX5_thread_2 18 rfl rfl)
theorem dX5_thread_66 : decode cX5_thread 66 = .ok (.getfield 45, 3) := dk_180 0 45 (dk_at dksX5_thread_2 19 rfl rfl)
theorem dX5_thread_69 : decode cX5_thread 69 = .ok (.getfield 95, 3) := dk_180 0 95 (dk_at dksX5_thread_3 0 rfl rfl)
theorem dX5_thread_72 : decode cX5_thread 72 = .ok (.bipush 8, 2) := dk_16 8 (dk_at dksX5_thread_3 3 rfl rfl)
theorem dX5_thread_74 : decode cX5_thread 74 = .ok (.aload_n 1, 1) := dk_43 (dk_at dksX5_thread_3 5 rfl rfl)
theorem dX5_thread_75 : decode cX5_thread 75 = .ok (.getfield 49, 3) := dk_180 0 49 (dk_at dksX5_thread_3 6 rfl rfl)
theorem dX5_thread_78 : decode cX5_thread 78 = .ok (.iload_n 2, 1) := dk_28 (dk_at dksX5_thread_3 9 rfl rfl)
theorem dX5_thread_79 : decode cX5_thread 79 = .ok (.invokevirtual 61, 3) := dk_182 0 61 (dk_at dksX5_thread_3 10 rfl rfl)
theorem dX5_thread_82 : decode cX5_thread 82 = .ok (.checkcast 65, 3) := dk_192 0 65 (dk_at dksX5_thread_3 13 rfl rfl)
theorem dX5_thread_85 : decode cX5_thread 85 = .ok (.getfield 106, 3) := dk_180 0 106 (dk_at dksX5_thread_3 16 rfl rfl)
theorem dX5_thread_88 : decode cX5_thread 88 = .ok (.iastore, 1) := dk_79 (dk_at dksX5_thread_3 19 rfl rfl)
theorem dX5_thread_89 : decode cX5_thread 89 = .ok (.bipush 9, 2) := dk_16 9 (dk_at dksX5_thread_3 20 rfl rfl)
theorem dX5_thread_91 : decode cX5_thread 91 = .ok (.aload 5, 2) := dk_25 5 (dk_at dksX5_thread_3 22 rfl rfl)
theorem dX5_thread_93 : decode cX5_thread 93 = .ok (.aload_n 0, 1) := dk_42 (dk_at dksX5_thread_4 0 rfl rfl)
theorem dX5_thread_94 : decode cX5_thread 94 = .ok (.getfield 45, 3) := dk_180 0 45 (dk_at dksX5_thread_4 1 rfl rfl)
theorem dX5_thread_97 : decode cX5_thread 97 = .ok (.invokevirtual 108, 3) := dk_182 0 108 (dk_at dksX5_thread_4 4 rfl rfl)
theorem dX5_thread_100 : decode cX5_thread 100 = .ok (.invokestatic 114, 3) := dk_184 0 114 (dk_at dksX5_thread_4 7 rfl rfl)
theorem dX5_thread_103 : decode cX5_thread 103 = .ok (.ireturn, 1) := dk_172 (dk_at dksX5_thread_4 10 rfl rfl)
abbrev cX5_begun : ByteArray := prog_10_method_6_code
def yX5_begun : MethodName := ⟨RX5, "begun", "()LRainLoom$Asked;"⟩
def dkwX5_begun_1 : List UInt8 := [42, 180, 0, 45, 176]
abbrev dktX5_begun_1 : List UInt8 := dkwX5_begun_1 ++ []
def dkwX5_begun_0 : List UInt8 := [3, 60, 27, 16, 9, 162, 0, 19, 42, 180, 0, 45, 180, 0, 95, 27, 3, 79, 132, 1, 1, 167, 255, 237]
abbrev dktX5_begun_0 : List UInt8 := dkwX5_begun_0 ++ dktX5_begun_1
theorem dksX5_begun_0 : cX5_begun.data.toList.drop 0 = dktX5_begun_0 := by decide +kernel
theorem dksX5_begun_1 : cX5_begun.data.toList.drop 24 = dktX5_begun_1 := dk_seg dksX5_begun_0 24 rfl rfl
theorem dX5_begun_0 : decode cX5_begun 0 = .ok (.iconst 0, 1) := dk_3 (dk_at dksX5_begun_0 0 rfl rfl)
theorem dX5_begun_1 : decode cX5_begun 1 = .ok (.istore_n 1, 1) := dk_60 (dk_at dksX5_begun_0 1 rfl rfl)
theorem dX5_begun_2 : decode cX5_begun 2 = .ok (.iload_n 1, 1) := dk_27 (dk_at dksX5_begun_0 2 rfl rfl)
theorem dX5_begun_3 : decode cX5_begun 3 = .ok (.bipush 9, 2) := dk_16 9 (dk_at dksX5_begun_0 3 rfl rfl)
theorem dX5_begun_5 : decode cX5_begun 5 = .ok (.if_icmp .ge 19, 3) := dk_162 0 19 (dk_at dksX5_begun_0 5 rfl rfl)
theorem dX5_begun_8 : decode cX5_begun 8 = .ok (.aload_n 0, 1) := dk_42 (dk_at dksX5_begun_0 8 rfl rfl)
theorem dX5_begun_9 : decode cX5_begun 9 = .ok (.getfield 45, 3) := dk_180 0 45 (dk_at dksX5_begun_0 9 rfl rfl)
theorem dX5_begun_12 : decode cX5_begun 12 = .ok (.getfield 95, 3) := dk_180 0 95 (dk_at dksX5_begun_0 12 rfl rfl)
theorem dX5_begun_15 : decode cX5_begun 15 = .ok (.iload_n 1, 1) := dk_27 (dk_at dksX5_begun_0 15 rfl rfl)
theorem dX5_begun_16 : decode cX5_begun 16 = .ok (.iconst 0, 1) := dk_3 (dk_at dksX5_begun_0 16 rfl rfl)
theorem dX5_begun_17 : decode cX5_begun 17 = .ok (.iastore, 1) := dk_79 (dk_at dksX5_begun_0 17 rfl rfl)
theorem dX5_begun_18 : decode cX5_begun 18 = .ok (.iinc 1 1, 3) := dk_132 1 1 (dk_at dksX5_begun_0 18 rfl rfl)
theorem dX5_begun_21 : decode cX5_begun 21 = .ok (.goto (-19), 3) := dk_167 255 237 (dk_at dksX5_begun_0 21 rfl rfl)
theorem dX5_begun_24 : decode cX5_begun 24 = .ok (.aload_n 0, 1) := dk_42 (dk_at dksX5_begun_1 0 rfl rfl)
theorem dX5_begun_25 : decode cX5_begun 25 = .ok (.getfield 45, 3) := dk_180 0 45 (dk_at dksX5_begun_1 1 rfl rfl)
theorem dX5_begun_28 : decode cX5_begun 28 = .ok (.areturn, 1) := dk_176 (dk_at dksX5_begun_1 4 rfl rfl)
abbrev cX5_takes : ByteArray := prog_10_method_5_code
def yX5_takes : MethodName := ⟨RX5, "takes", "(LRainLoom$Land;)V"⟩
def dkwX5_takes_5 : List UInt8 := [180, 0, 77, 181, 0, 77, 42, 43, 180, 0, 78, 181, 0, 78, 42, 43, 180, 0, 84, 181, 0, 84, 177]
abbrev dktX5_takes_5 : List UInt8 := dkwX5_takes_5 ++ []
def dkwX5_takes_4 : List UInt8 := [180, 0, 36, 42, 180, 0, 36, 184, 0, 91, 43, 180, 0, 39, 42, 180, 0, 39, 184, 0, 91, 42, 43]
abbrev dktX5_takes_4 : List UInt8 := dkwX5_takes_4 ++ dktX5_takes_5
def dkwX5_takes_3 : List UInt8 := [180, 0, 30, 42, 180, 0, 30, 184, 0, 91, 43, 180, 0, 33, 42, 180, 0, 33, 184, 0, 91, 43]
abbrev dktX5_takes_3 : List UInt8 := dkwX5_takes_3 ++ dktX5_takes_4
def dkwX5_takes_2 : List UInt8 := [180, 0, 24, 42, 180, 0, 24, 184, 0, 91, 43, 180, 0, 27, 42, 180, 0, 27, 184, 0, 91, 43]
abbrev dktX5_takes_2 : List UInt8 := dkwX5_takes_2 ++ dktX5_takes_3
def dkwX5_takes_1 : List UInt8 := [180, 0, 18, 42, 180, 0, 18, 184, 0, 91, 43, 180, 0, 21, 42, 180, 0, 21, 184, 0, 91, 43]
abbrev dktX5_takes_1 : List UInt8 := dkwX5_takes_1 ++ dktX5_takes_2
def dkwX5_takes_0 : List UInt8 := [43, 180, 0, 9, 42, 180, 0, 9, 184, 0, 91, 43, 180, 0, 15, 42, 180, 0, 15, 184, 0, 91, 43]
abbrev dktX5_takes_0 : List UInt8 := dkwX5_takes_0 ++ dktX5_takes_1
theorem dksX5_takes_0 : cX5_takes.data.toList.drop 0 = dktX5_takes_0 := by decide +kernel
theorem dksX5_takes_1 : cX5_takes.data.toList.drop 23 = dktX5_takes_1 := dk_seg dksX5_takes_0 23 rfl rfl
theorem dksX5_takes_2 : cX5_takes.data.toList.drop 45 = dktX5_takes_2 := dk_seg dksX5_takes_1 22 rfl rfl
theorem dksX5_takes_3 : cX5_takes.data.toList.drop 67 = dktX5_takes_3 := dk_seg dksX5_takes_2 22 rfl rfl
theorem dksX5_takes_4 : cX5_takes.data.toList.drop 89 = dktX5_takes_4 := dk_seg dksX5_takes_3 22 rfl rfl
theorem dksX5_takes_5 : cX5_takes.data.toList.drop 112 = dktX5_takes_5 := dk_seg dksX5_takes_4 23 rfl rfl
theorem dX5_takes_0 : decode cX5_takes 0 = .ok (.aload_n 1, 1) := dk_43 (dk_at dksX5_takes_0 0 rfl rfl)
theorem dX5_takes_1 : decode cX5_takes 1 = .ok (.getfield 9, 3) := dk_180 0 9 (dk_at dksX5_takes_0 1 rfl rfl)
theorem dX5_takes_4 : decode cX5_takes 4 = .ok (.aload_n 0, 1) := dk_42 (dk_at dksX5_takes_0 4 rfl rfl)
theorem dX5_takes_5 : decode cX5_takes 5 = .ok (.getfield 9, 3) := dk_180 0 9 (dk_at dksX5_takes_0 5 rfl rfl)
theorem dX5_takes_8 : decode cX5_takes 8 = .ok (.invokestatic 91, 3) := dk_184 0 91 (dk_at dksX5_takes_0 8 rfl rfl)
theorem dX5_takes_11 : decode cX5_takes 11 = .ok (.aload_n 1, 1) := dk_43 (dk_at dksX5_takes_0 11 rfl rfl)
theorem dX5_takes_12 : decode cX5_takes 12 = .ok (.getfield 15, 3) := dk_180 0 15 (dk_at dksX5_takes_0 12 rfl rfl)
theorem dX5_takes_15 : decode cX5_takes 15 = .ok (.aload_n 0, 1) := dk_42 (dk_at dksX5_takes_0 15 rfl rfl)
theorem dX5_takes_16 : decode cX5_takes 16 = .ok (.getfield 15, 3) := dk_180 0 15 (dk_at dksX5_takes_0 16 rfl rfl)
theorem dX5_takes_19 : decode cX5_takes 19 = .ok (.invokestatic 91, 3) := dk_184 0 91 (dk_at dksX5_takes_0 19 rfl rfl)
theorem dX5_takes_22 : decode cX5_takes 22 = .ok (.aload_n 1, 1) := dk_43 (dk_at dksX5_takes_0 22 rfl rfl)
theorem dX5_takes_23 : decode cX5_takes 23 = .ok (.getfield 18, 3) := dk_180 0 18 (dk_at dksX5_takes_1 0 rfl rfl)
theorem dX5_takes_26 : decode cX5_takes 26 = .ok (.aload_n 0, 1) := dk_42 (dk_at dksX5_takes_1 3 rfl rfl)
theorem dX5_takes_27 : decode cX5_takes 27 = .ok (.getfield 18, 3) := dk_180 0 18 (dk_at dksX5_takes_1 4 rfl rfl)
theorem dX5_takes_30 : decode cX5_takes 30 = .ok (.invokestatic 91, 3) := dk_184 0 91 (dk_at dksX5_takes_1 7 rfl rfl)
theorem dX5_takes_33 : decode cX5_takes 33 = .ok (.aload_n 1, 1) := dk_43 (dk_at dksX5_takes_1 10 rfl rfl)
theorem dX5_takes_34 : decode cX5_takes 34 = .ok (.getfield 21, 3) := dk_180 0 21 (dk_at dksX5_takes_1 11 rfl rfl)
theorem dX5_takes_37 : decode cX5_takes 37 = .ok (.aload_n 0, 1) := dk_42 (dk_at dksX5_takes_1 14 rfl rfl)
theorem dX5_takes_38 : decode cX5_takes 38 = .ok (.getfield 21, 3) := dk_180 0 21 (dk_at dksX5_takes_1 15 rfl rfl)
theorem dX5_takes_41 : decode cX5_takes 41 = .ok (.invokestatic 91, 3) := dk_184 0 91 (dk_at dksX5_takes_1 18 rfl rfl)
theorem dX5_takes_44 : decode cX5_takes 44 = .ok (.aload_n 1, 1) := dk_43 (dk_at dksX5_takes_1 21 rfl rfl)
theorem dX5_takes_45 : decode cX5_takes 45 = .ok (.getfield 24, 3) := dk_180 0 24 (dk_at dksX5_takes_2 0 rfl rfl)
theorem dX5_takes_48 : decode cX5_takes 48 = .ok (.aload_n 0, 1) := dk_42 (dk_at dksX5_takes_2 3 rfl rfl)
theorem dX5_takes_49 : decode cX5_takes 49 = .ok (.getfield 24, 3) := dk_180 0 24 (dk_at dksX5_takes_2 4 rfl rfl)
theorem dX5_takes_52 : decode cX5_takes 52 = .ok (.invokestatic 91, 3) := dk_184 0 91 (dk_at dksX5_takes_2 7 rfl rfl)
theorem dX5_takes_55 : decode cX5_takes 55 = .ok (.aload_n 1, 1) := dk_43 (dk_at dksX5_takes_2 10 rfl rfl)
theorem dX5_takes_56 : decode cX5_takes 56 = .ok (.getfield 27, 3) := dk_180 0 27 (dk_at dksX5_takes_2 11 rfl rfl)
theorem dX5_takes_59 : decode cX5_takes 59 = .ok (.aload_n 0, 1) := dk_42 (dk_at dksX5_takes_2 14 rfl rfl)
theorem dX5_takes_60 : decode cX5_takes 60 = .ok (.getfield 27, 3) := dk_180 0 27 (dk_at dksX5_takes_2 15 rfl rfl)
theorem dX5_takes_63 : decode cX5_takes 63 = .ok (.invokestatic 91, 3) := dk_184 0 91 (dk_at dksX5_takes_2 18 rfl rfl)
theorem dX5_takes_66 : decode cX5_takes 66 = .ok (.aload_n 1, 1) := dk_43 (dk_at dksX5_takes_2 21 rfl rfl)
theorem dX5_takes_67 : decode cX5_takes 67 = .ok (.getfield 30, 3) := dk_180 0 30 (dk_at dksX5_takes_3 0 rfl rfl)
theorem dX5_takes_70 : decode cX5_takes 70 = .ok (.aload_n 0, 1) := dk_42 (dk_at dksX5_takes_3 3 rfl rfl)
theorem dX5_takes_71 : decode cX5_takes 71 = .ok (.getfield 30, 3) := dk_180 0 30 (dk_at dksX5_takes_3 4 rfl rfl)
theorem dX5_takes_74 : decode cX5_takes 74 = .ok (.invokestatic 91, 3) := dk_184 0 91 (dk_at dksX5_takes_3 7 rfl rfl)
theorem dX5_takes_77 : decode cX5_takes 77 = .ok (.aload_n 1, 1) := dk_43 (dk_at dksX5_takes_3 10 rfl rfl)
theorem dX5_takes_78 : decode cX5_takes 78 = .ok (.getfield 33, 3) := dk_180 0 33 (dk_at dksX5_takes_3 11 rfl rfl)
theorem dX5_takes_81 : decode cX5_takes 81 = .ok (.aload_n 0, 1) := dk_42 (dk_at dksX5_takes_3 14 rfl rfl)
theorem dX5_takes_82 : decode cX5_takes 82 = .ok (.getfield 33, 3) := dk_180 0 33 (dk_at dksX5_takes_3 15 rfl rfl)
theorem dX5_takes_85 : decode cX5_takes 85 = .ok (.invokestatic 91, 3) := dk_184 0 91 (dk_at dksX5_takes_3 18 rfl rfl)
theorem dX5_takes_88 : decode cX5_takes 88 = .ok (.aload_n 1, 1) := dk_43 (dk_at dksX5_takes_3 21 rfl rfl)
theorem dX5_takes_89 : decode cX5_takes 89 = .ok (.getfield 36, 3) := dk_180 0 36 (dk_at dksX5_takes_4 0 rfl rfl)
theorem dX5_takes_92 : decode cX5_takes 92 = .ok (.aload_n 0, 1) := dk_42 (dk_at dksX5_takes_4 3 rfl rfl)
theorem dX5_takes_93 : decode cX5_takes 93 = .ok (.getfield 36, 3) := dk_180 0 36 (dk_at dksX5_takes_4 4 rfl rfl)
theorem dX5_takes_96 : decode cX5_takes 96 = .ok (.invokestatic 91, 3) := dk_184 0 91 (dk_at dksX5_takes_4 7 rfl rfl)
theorem dX5_takes_99 : decode cX5_takes 99 = .ok (.aload_n 1, 1) := dk_43 (dk_at dksX5_takes_4 10 rfl rfl)
theorem dX5_takes_100 : decode cX5_takes 100 = .ok (.getfield 39, 3) := dk_180 0 39 (dk_at dksX5_takes_4 11 rfl rfl)
theorem dX5_takes_103 : decode cX5_takes 103 = .ok (.aload_n 0, 1) := dk_42 (dk_at dksX5_takes_4 14 rfl rfl)
theorem dX5_takes_104 : decode cX5_takes 104 = .ok (.getfield 39, 3) := dk_180 0 39 (dk_at dksX5_takes_4 15 rfl rfl)
theorem dX5_takes_107 : decode cX5_takes 107 = .ok (.invokestatic 91, 3) := dk_184 0 91 (dk_at dksX5_takes_4 18 rfl rfl)
theorem dX5_takes_110 : decode cX5_takes 110 = .ok (.aload_n 0, 1) := dk_42 (dk_at dksX5_takes_4 21 rfl rfl)
theorem dX5_takes_111 : decode cX5_takes 111 = .ok (.aload_n 1, 1) := dk_43 (dk_at dksX5_takes_4 22 rfl rfl)
theorem dX5_takes_112 : decode cX5_takes 112 = .ok (.getfield 77, 3) := dk_180 0 77 (dk_at dksX5_takes_5 0 rfl rfl)
theorem dX5_takes_115 : decode cX5_takes 115 = .ok (.putfield 77, 3) := dk_181 0 77 (dk_at dksX5_takes_5 3 rfl rfl)
theorem dX5_takes_118 : decode cX5_takes 118 = .ok (.aload_n 0, 1) := dk_42 (dk_at dksX5_takes_5 6 rfl rfl)
theorem dX5_takes_119 : decode cX5_takes 119 = .ok (.aload_n 1, 1) := dk_43 (dk_at dksX5_takes_5 7 rfl rfl)
theorem dX5_takes_120 : decode cX5_takes 120 = .ok (.getfield 78, 3) := dk_180 0 78 (dk_at dksX5_takes_5 8 rfl rfl)
theorem dX5_takes_123 : decode cX5_takes 123 = .ok (.putfield 78, 3) := dk_181 0 78 (dk_at dksX5_takes_5 11 rfl rfl)
theorem dX5_takes_126 : decode cX5_takes 126 = .ok (.aload_n 0, 1) := dk_42 (dk_at dksX5_takes_5 14 rfl rfl)
theorem dX5_takes_127 : decode cX5_takes 127 = .ok (.aload_n 1, 1) := dk_43 (dk_at dksX5_takes_5 15 rfl rfl)
theorem dX5_takes_128 : decode cX5_takes 128 = .ok (.getfield 84, 3) := dk_180 0 84 (dk_at dksX5_takes_5 16 rfl rfl)
theorem dX5_takes_131 : decode cX5_takes 131 = .ok (.putfield 84, 3) := dk_181 0 84 (dk_at dksX5_takes_5 19 rfl rfl)
theorem dX5_takes_134 : decode cX5_takes 134 = .ok (.return_, 1) := dk_177 (dk_at dksX5_takes_5 22 rfl rfl)
abbrev cX5_copies : ByteArray := prog_10_method_4_code
def yX5_copies : MethodName := ⟨RX5, "copies", "([I[I)V"⟩
def dkwX5_copies_0 : List UInt8 := [42, 3, 43, 3, 42, 190, 184, 0, 85, 177]
abbrev dktX5_copies_0 : List UInt8 := dkwX5_copies_0 ++ []
theorem dksX5_copies_0 : cX5_copies.data.toList.drop 0 = dktX5_copies_0 := by decide +kernel
theorem dX5_copies_0 : decode cX5_copies 0 = .ok (.aload_n 0, 1) := dk_42 (dk_at dksX5_copies_0 0 rfl rfl)
theorem dX5_copies_1 : decode cX5_copies 1 = .ok (.iconst 0, 1) := dk_3 (dk_at dksX5_copies_0 1 rfl rfl)
theorem dX5_copies_2 : decode cX5_copies 2 = .ok (.aload_n 1, 1) := dk_43 (dk_at dksX5_copies_0 2 rfl rfl)
theorem dX5_copies_3 : decode cX5_copies 3 = .ok (.iconst 0, 1) := dk_3 (dk_at dksX5_copies_0 3 rfl rfl)
theorem dX5_copies_4 : decode cX5_copies 4 = .ok (.aload_n 0, 1) := dk_42 (dk_at dksX5_copies_0 4 rfl rfl)
theorem dX5_copies_5 : decode cX5_copies 5 = .ok (.arraylength, 1) := dk_190 (dk_at dksX5_copies_0 5 rfl rfl)
theorem dX5_copies_6 : decode cX5_copies 6 = .ok (.invokestatic 85, 3) := dk_184 0 85 (dk_at dksX5_copies_0 6 rfl rfl)
theorem dX5_copies_9 : decode cX5_copies 9 = .ok (.return_, 1) := dk_177 (dk_at dksX5_copies_0 9 rfl rfl)
abbrev cX5_falls : ByteArray := prog_10_method_10_code
def yX5_falls : MethodName := ⟨RX5, "falls", "(LRainLoom$Text;IIIII)I"⟩
def dkwX5_falls_8 : List UInt8 := [79, 42, 180, 0, 21, 28, 92, 46, 21, 4, 96, 79, 21, 7, 172]
abbrev dktX5_falls_8 : List UInt8 := dkwX5_falls_8 ++ []
def dkwX5_falls_7 : List UInt8 := [92, 46, 21, 7, 96, 79, 42, 180, 0, 27, 28, 92, 46, 21, 8, 153, 0, 7, 3, 167, 0, 4, 4, 96]
abbrev dktX5_falls_7 : List UInt8 := dkwX5_falls_7 ++ dktX5_falls_8
def dkwX5_falls_6 : List UInt8 := [180, 0, 9, 21, 13, 46, 21, 12, 96, 184, 0, 114, 79, 132, 9, 1, 167, 255, 107, 42, 180, 0, 24, 28]
abbrev dktX5_falls_6 : List UInt8 := dkwX5_falls_6 ++ dktX5_falls_7
def dkwX5_falls_5 : List UInt8 := [21, 11, 96, 16, 8, 104, 21, 5, 96, 21, 10, 96, 54, 13, 42, 180, 0, 9, 21, 13, 17, 3, 231, 42]
abbrev dktX5_falls_5 : List UInt8 := dkwX5_falls_5 ++ dktX5_falls_6
def dkwX5_falls_4 : List UInt8 := [54, 7, 43, 21, 5, 21, 10, 96, 21, 6, 21, 11, 96, 182, 0, 131, 154, 0, 6, 167, 0, 42, 21, 6]
abbrev dktX5_falls_4 : List UInt8 := dkwX5_falls_4 ++ dktX5_falls_5
def dkwX5_falls_3 : List UInt8 := [21, 8, 154, 0, 6, 167, 0, 80, 42, 89, 180, 0, 77, 21, 12, 100, 181, 0, 77, 21, 7, 21, 12, 96]
abbrev dktX5_falls_3 : List UInt8 := dkwX5_falls_3 ++ dktX5_falls_4
def dkwX5_falls_2 : List UInt8 := [21, 11, 96, 182, 0, 127, 54, 12, 21, 12, 42, 180, 0, 77, 163, 0, 7, 4, 167, 0, 4, 3, 54, 8]
abbrev dktX5_falls_2 : List UInt8 := dkwX5_falls_2 ++ dktX5_falls_3
def dkwX5_falls_1 : List UInt8 := [21, 9, 29, 112, 54, 10, 21, 9, 29, 108, 54, 11, 42, 43, 28, 21, 10, 42, 180, 0, 21, 28, 46]
abbrev dktX5_falls_1 : List UInt8 := dkwX5_falls_1 ++ dktX5_falls_2
def dkwX5_falls_0 : List UInt8 := [3, 54, 7, 4, 54, 8, 3, 54, 9, 21, 9, 29, 21, 4, 104, 162, 0, 146, 21, 8, 153, 0, 141]
abbrev dktX5_falls_0 : List UInt8 := dkwX5_falls_0 ++ dktX5_falls_1
theorem dksX5_falls_0 : cX5_falls.data.toList.drop 0 = dktX5_falls_0 := by decide +kernel
theorem dksX5_falls_1 : cX5_falls.data.toList.drop 23 = dktX5_falls_1 := dk_seg dksX5_falls_0 23 rfl rfl
theorem dksX5_falls_2 : cX5_falls.data.toList.drop 46 = dktX5_falls_2 := dk_seg dksX5_falls_1 23 rfl rfl
theorem dksX5_falls_3 : cX5_falls.data.toList.drop 70 = dktX5_falls_3 := dk_seg dksX5_falls_2 24 rfl rfl
theorem dksX5_falls_4 : cX5_falls.data.toList.drop 94 = dktX5_falls_4 := dk_seg dksX5_falls_3 24 rfl rfl
theorem dksX5_falls_5 : cX5_falls.data.toList.drop 118 = dktX5_falls_5 := dk_seg dksX5_falls_4 24 rfl rfl
theorem dksX5_falls_6 : cX5_falls.data.toList.drop 142 = dktX5_falls_6 := dk_seg dksX5_falls_5 24 rfl rfl
theorem dksX5_falls_7 : cX5_falls.data.toList.drop 166 = dktX5_falls_7 := dk_seg dksX5_falls_6 24 rfl rfl
theorem dksX5_falls_8 : cX5_falls.data.toList.drop 190 = dktX5_falls_8 := dk_seg dksX5_falls_7 24 rfl rfl
theorem dX5_falls_0 : decode cX5_falls 0 = .ok (.iconst 0, 1) := dk_3 (dk_at dksX5_falls_0 0 rfl rfl)
theorem dX5_falls_1 : decode cX5_falls 1 = .ok (.istore 7, 2) := dk_54 7 (dk_at dksX5_falls_0 1 rfl rfl)
theorem dX5_falls_3 : decode cX5_falls 3 = .ok (.iconst 1, 1) := dk_4 (dk_at dksX5_falls_0 3 rfl rfl)
theorem dX5_falls_4 : decode cX5_falls 4 = .ok (.istore 8, 2) := dk_54 8 (dk_at dksX5_falls_0 4 rfl rfl)
theorem dX5_falls_6 : decode cX5_falls 6 = .ok (.iconst 0, 1) := dk_3 (dk_at dksX5_falls_0 6 rfl rfl)
theorem dX5_falls_7 : decode cX5_falls 7 = .ok (.istore 9, 2) := dk_54 9 (dk_at dksX5_falls_0 7 rfl rfl)
theorem dX5_falls_9 : decode cX5_falls 9 = .ok (.iload 9, 2) := dk_21 9 (dk_at dksX5_falls_0 9 rfl rfl)
theorem dX5_falls_11 : decode cX5_falls 11 = .ok (.iload_n 3, 1) := dk_29 (dk_at dksX5_falls_0 11 rfl rfl)
theorem dX5_falls_12 : decode cX5_falls 12 = .ok (.iload 4, 2) := dk_21 4 (dk_at dksX5_falls_0 12 rfl rfl)
theorem dX5_falls_14 : decode cX5_falls 14 = .ok (.imul, 1) := dk_104 (dk_at dksX5_falls_0 14 rfl rfl)
theorem dX5_falls_15 : decode cX5_falls 15 = .ok (.if_icmp .ge 146, 3) := dk_162 0 146 (dk_at dksX5_falls_0 15 rfl rfl)
theorem dX5_falls_18 : decode cX5_falls 18 = .ok (.iload 8, 2) := dk_21 8 (dk_at dksX5_falls_0 18 rfl rfl)
theorem dX5_falls_20 : decode cX5_falls 20 = .ok (.ifCond .eq 141, 3) := dk_153 0 141 (dk_at dksX5_falls_0 20 rfl rfl)
theorem dX5_falls_23 : decode cX5_falls 23 = .ok (.iload 9, 2) := dk_21 9 (dk_at dksX5_falls_1 0 rfl rfl)
theorem dX5_falls_25 : decode cX5_falls 25 = .ok (.iload_n 3, 1) := dk_29 (dk_at dksX5_falls_1 2 rfl rfl)
theorem dX5_falls_26 : decode cX5_falls 26 = .ok (.irem, 1) := dk_112 (dk_at dksX5_falls_1 3 rfl rfl)
theorem dX5_falls_27 : decode cX5_falls 27 = .ok (.istore 10, 2) := dk_54 10 (dk_at dksX5_falls_1 4 rfl rfl)
theorem dX5_falls_29 : decode cX5_falls 29 = .ok (.iload 9, 2) := dk_21 9 (dk_at dksX5_falls_1 6 rfl rfl)
theorem dX5_falls_31 : decode cX5_falls 31 = .ok (.iload_n 3, 1) := dk_29 (dk_at dksX5_falls_1 8 rfl rfl)
theorem dX5_falls_32 : decode cX5_falls 32 = .ok (.idiv, 1) := dk_108 (dk_at dksX5_falls_1 9 rfl rfl)
theorem dX5_falls_33 : decode cX5_falls 33 = .ok (.istore 11, 2) := dk_54 11 (dk_at dksX5_falls_1 10 rfl rfl)
theorem dX5_falls_35 : decode cX5_falls 35 = .ok (.aload_n 0, 1) := dk_42 (dk_at dksX5_falls_1 12 rfl rfl)
theorem dX5_falls_36 : decode cX5_falls 36 = .ok (.aload_n 1, 1) := dk_43 (dk_at dksX5_falls_1 13 rfl rfl)
theorem dX5_falls_37 : decode cX5_falls 37 = .ok (.iload_n 2, 1) := dk_28 (dk_at dksX5_falls_1 14 rfl rfl)
theorem dX5_falls_38 : decode cX5_falls 38 = .ok (.iload 10, 2) := dk_21 10 (dk_at dksX5_falls_1 15 rfl rfl)
theorem dX5_falls_40 : decode cX5_falls 40 = .ok (.aload_n 0, 1) := dk_42 (dk_at dksX5_falls_1 17 rfl rfl)
theorem dX5_falls_41 : decode cX5_falls 41 = .ok (.getfield 21, 3) := dk_180 0 21 (dk_at dksX5_falls_1 18 rfl rfl)
theorem dX5_falls_44 : decode cX5_falls 44 = .ok (.iload_n 2, 1) := dk_28 (dk_at dksX5_falls_1 21 rfl rfl)
theorem dX5_falls_45 : decode cX5_falls 45 = .ok (.iaload, 1) := dk_46 (dk_at dksX5_falls_1 22 rfl rfl)
theorem dX5_falls_46 : decode cX5_falls 46 = .ok (.iload 11, 2) := dk_21 11 (dk_at dksX5_falls_2 0 rfl rfl)
theorem dX5_falls_48 : decode cX5_falls 48 = .ok (.iadd, 1) := dk_96 (dk_at dksX5_falls_2 2 rfl rfl)
theorem dX5_falls_49 : decode cX5_falls 49 = .ok (.invokevirtual 127, 3) := dk_182 0 127 (dk_at dksX5_falls_2 3 rfl rfl)
theorem dX5_falls_52 : decode cX5_falls 52 = .ok (.istore 12, 2) := dk_54 12 (dk_at dksX5_falls_2 6 rfl rfl)
theorem dX5_falls_54 : decode cX5_falls 54 = .ok (.iload 12, 2) := dk_21 12 (dk_at dksX5_falls_2 8 rfl rfl)
theorem dX5_falls_56 : decode cX5_falls 56 = .ok (.aload_n 0, 1) := dk_42 (dk_at dksX5_falls_2 10 rfl rfl)
theorem dX5_falls_57 : decode cX5_falls 57 = .ok (.getfield 77, 3) := dk_180 0 77 (dk_at dksX5_falls_2 11 rfl rfl)
theorem dX5_falls_60 : decode cX5_falls 60 = .ok (.if_icmp .gt 7, 3) := dk_163 0 7 (dk_at dksX5_falls_2 14 rfl rfl)
theorem dX5_falls_63 : decode cX5_falls 63 = .ok (.iconst 1, 1) := dk_4 (dk_at dksX5_falls_2 17 rfl rfl)
theorem dX5_falls_64 : decode cX5_falls 64 = .ok (.goto 4, 3) := dk_167 0 4 (dk_at dksX5_falls_2 18 rfl rfl)
theorem dX5_falls_67 : decode cX5_falls 67 = .ok (.iconst 0, 1) := dk_3 (dk_at dksX5_falls_2 21 rfl rfl)
theorem dX5_falls_68 : decode cX5_falls 68 = .ok (.istore 8, 2) := dk_54 8 (dk_at dksX5_falls_2 22 rfl rfl)
theorem dX5_falls_70 : decode cX5_falls 70 = .ok (.iload 8, 2) := dk_21 8 (dk_at dksX5_falls_3 0 rfl rfl)
theorem dX5_falls_72 : decode cX5_falls 72 = .ok (.ifCond .ne 6, 3) := dk_154 0 6 (dk_at dksX5_falls_3 2 rfl rfl)
theorem dX5_falls_75 : decode cX5_falls 75 = .ok (.goto 80, 3) := dk_167 0 80 (dk_at dksX5_falls_3 5 rfl rfl)
theorem dX5_falls_78 : decode cX5_falls 78 = .ok (.aload_n 0, 1) := dk_42 (dk_at dksX5_falls_3 8 rfl rfl)
theorem dX5_falls_79 : decode cX5_falls 79 = .ok (.dup, 1) := dk_89 (dk_at dksX5_falls_3 9 rfl rfl)
theorem dX5_falls_80 : decode cX5_falls 80 = .ok (.getfield 77, 3) := dk_180 0 77 (dk_at dksX5_falls_3 10 rfl rfl)
theorem dX5_falls_83 : decode cX5_falls 83 = .ok (.iload 12, 2) := dk_21 12 (dk_at dksX5_falls_3 13 rfl rfl)
theorem dX5_falls_85 : decode cX5_falls 85 = .ok (.isub, 1) := dk_100 (dk_at dksX5_falls_3 15 rfl rfl)
theorem dX5_falls_86 : decode cX5_falls 86 = .ok (.putfield 77, 3) := dk_181 0 77 (dk_at dksX5_falls_3 16 rfl rfl)
theorem dX5_falls_89 : decode cX5_falls 89 = .ok (.iload 7, 2) := dk_21 7 (dk_at dksX5_falls_3 19 rfl rfl)
theorem dX5_falls_91 : decode cX5_falls 91 = .ok (.iload 12, 2) := dk_21 12 (dk_at dksX5_falls_3 21 rfl rfl)
theorem dX5_falls_93 : decode cX5_falls 93 = .ok (.iadd, 1) := dk_96 (dk_at dksX5_falls_3 23 rfl rfl)
theorem dX5_falls_94 : decode cX5_falls 94 = .ok (.istore 7, 2) := dk_54 7 (dk_at dksX5_falls_4 0 rfl rfl)
theorem dX5_falls_96 : decode cX5_falls 96 = .ok (.aload_n 1, 1) := dk_43 (dk_at dksX5_falls_4 2 rfl rfl)
theorem dX5_falls_97 : decode cX5_falls 97 = .ok (.iload 5, 2) := dk_21 5 (dk_at dksX5_falls_4 3 rfl rfl)
theorem dX5_falls_99 : decode cX5_falls 99 = .ok (.iload 10, 2) := dk_21 10 (dk_at dksX5_falls_4 5 rfl rfl)
theorem dX5_falls_101 : decode cX5_falls 101 = .ok (.iadd, 1) := dk_96 (dk_at dksX5_falls_4 7 rfl rfl)
theorem dX5_falls_102 : decode cX5_falls 102 = .ok (.iload 6, 2) := dk_21 6 (dk_at dksX5_falls_4 8 rfl rfl)
theorem dX5_falls_104 : decode cX5_falls 104 = .ok (.iload 11, 2) := dk_21 11 (dk_at dksX5_falls_4 10 rfl rfl)
theorem dX5_falls_106 : decode cX5_falls 106 = .ok (.iadd, 1) := dk_96 (dk_at dksX5_falls_4 12 rfl rfl)
theorem dX5_falls_107 : decode cX5_falls 107 = .ok (.invokevirtual 131, 3) := dk_182 0 131 (dk_at dksX5_falls_4 13 rfl rfl)
theorem dX5_falls_110 : decode cX5_falls 110 = .ok (.ifCond .ne 6, 3) := dk_154 0 6 (dk_at dksX5_falls_4 16 rfl rfl)
theorem dX5_falls_113 : decode cX5_falls 113 = .ok (.goto 42, 3) := dk_167 0 42 (dk_at dksX5_falls_4 19 rfl rfl)
theorem dX5_falls_116 : decode cX5_falls 116 = .ok (.iload 6, 2) := dk_21 6 (dk_at dksX5_falls_4 22 rfl rfl)
theorem dX5_falls_118 : decode cX5_falls 118 = .ok (.iload 11, 2) := dk_21 11 (dk_at dksX5_falls_5 0 rfl rfl)
theorem dX5_falls_120 : decode cX5_falls 120 = .ok (.iadd, 1) := dk_96 (dk_at dksX5_falls_5 2 rfl rfl)
theorem dX5_falls_121 : decode cX5_falls 121 = .ok (.bipush 8, 2) := dk_16 8 (dk_at dksX5_falls_5 3 rfl rfl)
theorem dX5_falls_123 : decode cX5_falls 123 = .ok (.imul, 1) := dk_104 (dk_at dksX5_falls_5 5 rfl rfl)
theorem dX5_falls_124 : decode cX5_falls 124 = .ok (.iload 5, 2) := dk_21 5 (dk_at dksX5_falls_5 6 rfl rfl)
theorem dX5_falls_126 : decode cX5_falls 126 = .ok (.iadd, 1) := dk_96 (dk_at dksX5_falls_5 8 rfl rfl)
theorem dX5_falls_127 : decode cX5_falls 127 = .ok (.iload 10, 2) := dk_21 10 (dk_at dksX5_falls_5 9 rfl rfl)
theorem dX5_falls_129 : decode cX5_falls 129 = .ok (.iadd, 1) := dk_96 (dk_at dksX5_falls_5 11 rfl rfl)
theorem dX5_falls_130 : decode cX5_falls 130 = .ok (.istore 13, 2) := dk_54 13 (dk_at dksX5_falls_5 12 rfl rfl)
theorem dX5_falls_132 : decode cX5_falls 132 = .ok (.aload_n 0, 1) := dk_42 (dk_at dksX5_falls_5 14 rfl rfl)
theorem dX5_falls_133 : decode cX5_falls 133 = .ok (.getfield 9, 3) := dk_180 0 9 (dk_at dksX5_falls_5 15 rfl rfl)
theorem dX5_falls_136 : decode cX5_falls 136 = .ok (.iload 13, 2) := dk_21 13 (dk_at dksX5_falls_5 18 rfl rfl)
theorem dX5_falls_138 : decode cX5_falls 138 = .ok (.sipush 999, 3) := dk_17 3 231 (dk_at dksX5_falls_5 20 rfl rfl)
theorem dX5_falls_141 : decode cX5_falls 141 = .ok (.aload_n 0, 1) := dk_42 (dk_at dksX5_falls_5 23 rfl rfl)
theorem dX5_falls_142 : decode cX5_falls 142 = .ok (.getfield 9, 3) := dk_180 0 9 (dk_at dksX5_falls_6 0 rfl rfl)
theorem dX5_falls_145 : decode cX5_falls 145 = .ok (.iload 13, 2) := dk_21 13 (dk_at dksX5_falls_6 3 rfl rfl)
theorem dX5_falls_147 : decode cX5_falls 147 = .ok (.iaload, 1) := dk_46 (dk_at dksX5_falls_6 5 rfl rfl)
theorem dX5_falls_148 : decode cX5_falls 148 = .ok (.iload 12, 2) := dk_21 12 (dk_at dksX5_falls_6 6 rfl rfl)
theorem dX5_falls_150 : decode cX5_falls 150 = .ok (.iadd, 1) := dk_96 (dk_at dksX5_falls_6 8 rfl rfl)
theorem dX5_falls_151 : decode cX5_falls 151 = .ok (.invokestatic 114, 3) := dk_184 0 114 (dk_at dksX5_falls_6 9 rfl rfl)
theorem dX5_falls_154 : decode cX5_falls 154 = .ok (.iastore, 1) := dk_79 (dk_at dksX5_falls_6 12 rfl rfl)
theorem dX5_falls_155 : decode cX5_falls 155 = .ok (.iinc 9 1, 3) := dk_132 9 1 (dk_at dksX5_falls_6 13 rfl rfl)
theorem dX5_falls_158 : decode cX5_falls 158 = .ok (.goto (-149), 3) := dk_167 255 107 (dk_at dksX5_falls_6 16 rfl rfl)
theorem dX5_falls_161 : decode cX5_falls 161 = .ok (.aload_n 0, 1) := dk_42 (dk_at dksX5_falls_6 19 rfl rfl)
theorem dX5_falls_162 : decode cX5_falls 162 = .ok (.getfield 24, 3) := dk_180 0 24 (dk_at dksX5_falls_6 20 rfl rfl)
theorem dX5_falls_165 : decode cX5_falls 165 = .ok (.iload_n 2, 1) := dk_28 (dk_at dksX5_falls_6 23 rfl rfl)
theorem dX5_falls_166 : decode cX5_falls 166 = .ok (.dup2, 1) := dk_92 (dk_at dksX5_falls_7 0 rfl rfl)
theorem dX5_falls_167 : decode cX5_falls 167 = .ok (.iaload, 1) := dk_46 (dk_at dksX5_falls_7 1 rfl rfl)
theorem dX5_falls_168 : decode cX5_falls 168 = .ok (.iload 7, 2) := dk_21 7 (dk_at dksX5_falls_7 2 rfl rfl)
theorem dX5_falls_170 : decode cX5_falls 170 = .ok (.iadd, 1) := dk_96 (dk_at dksX5_falls_7 4 rfl rfl)
theorem dX5_falls_171 : decode cX5_falls 171 = .ok (.iastore, 1) := dk_79 (dk_at dksX5_falls_7 5 rfl rfl)
theorem dX5_falls_172 : decode cX5_falls 172 = .ok (.aload_n 0, 1) := dk_42 (dk_at dksX5_falls_7 6 rfl rfl)
theorem dX5_falls_173 : decode cX5_falls 173 = .ok (.getfield 27, 3) := dk_180 0 27 (dk_at dksX5_falls_7 7 rfl rfl)
theorem dX5_falls_176 : decode cX5_falls 176 = .ok (.iload_n 2, 1) := dk_28 (dk_at dksX5_falls_7 10 rfl rfl)
theorem dX5_falls_177 : decode cX5_falls 177 = .ok (.dup2, 1) := dk_92 (dk_at dksX5_falls_7 11 rfl rfl)
theorem dX5_falls_178 : decode cX5_falls 178 = .ok (.iaload, 1) := dk_46 (dk_at dksX5_falls_7 12 rfl rfl)
theorem dX5_falls_179 : decode cX5_falls 179 = .ok (.iload 8, 2) := dk_21 8 (dk_at dksX5_falls_7 13 rfl rfl)
theorem dX5_falls_181 : decode cX5_falls 181 = .ok (.ifCond .eq 7, 3) := dk_153 0 7 (dk_at dksX5_falls_7 15 rfl rfl)
theorem dX5_falls_184 : decode cX5_falls 184 = .ok (.iconst 0, 1) := dk_3 (dk_at dksX5_falls_7 18 rfl rfl)
theorem dX5_falls_185 : decode cX5_falls 185 = .ok (.goto 4, 3) := dk_167 0 4 (dk_at dksX5_falls_7 19 rfl rfl)
theorem dX5_falls_188 : decode cX5_falls 188 = .ok (.iconst 1, 1) := dk_4 (dk_at dksX5_falls_7 22 rfl rfl)
theorem dX5_falls_189 : decode cX5_falls 189 = .ok (.iadd, 1) := dk_96 (dk_at dksX5_falls_7 23 rfl rfl)
theorem dX5_falls_190 : decode cX5_falls 190 = .ok (.iastore, 1) := dk_79 (dk_at dksX5_falls_8 0 rfl rfl)
theorem dX5_falls_191 : decode cX5_falls 191 = .ok (.aload_n 0, 1) := dk_42 (dk_at dksX5_falls_8 1 rfl rfl)
theorem dX5_falls_192 : decode cX5_falls 192 = .ok (.getfield 21, 3) := dk_180 0 21 (dk_at dksX5_falls_8 2 rfl rfl)
theorem dX5_falls_195 : decode cX5_falls 195 = .ok (.iload_n 2, 1) := dk_28 (dk_at dksX5_falls_8 5 rfl rfl)
theorem dX5_falls_196 : decode cX5_falls 196 = .ok (.dup2, 1) := dk_92 (dk_at dksX5_falls_8 6 rfl rfl)
theorem dX5_falls_197 : decode cX5_falls 197 = .ok (.iaload, 1) := dk_46 (dk_at dksX5_falls_8 7 rfl rfl)
theorem dX5_falls_198 : decode cX5_falls 198 = .ok (.iload 4, 2) := dk_21 4 (dk_at dksX5_falls_8 8 rfl rfl)
theorem dX5_falls_200 : decode cX5_falls 200 = .ok (.iadd, 1) := dk_96 (dk_at dksX5_falls_8 10 rfl rfl)
theorem dX5_falls_201 : decode cX5_falls 201 = .ok (.iastore, 1) := dk_79 (dk_at dksX5_falls_8 11 rfl rfl)
theorem dX5_falls_202 : decode cX5_falls 202 = .ok (.iload 7, 2) := dk_21 7 (dk_at dksX5_falls_8 12 rfl rfl)
theorem dX5_falls_204 : decode cX5_falls 204 = .ok (.ireturn, 1) := dk_172 (dk_at dksX5_falls_8 14 rfl rfl)
abbrev cX5_dries : ByteArray := prog_10_method_8_code
def yX5_dries : MethodName := ⟨RX5, "dries", "(LRainLoom$Text;I)I"⟩
def dkwX5_dries_3 : List UInt8 := [42, 180, 0, 78, 79, 16, 99, 45, 42, 180, 0, 45, 182, 0, 108, 184, 0, 114, 172]
abbrev dktX5_dries_3 : List UInt8 := dkwX5_dries_3 ++ []
def dkwX5_dries_2 : List UInt8 := [79, 42, 180, 0, 45, 180, 0, 95, 8, 43, 28, 182, 0, 124, 79, 42, 180, 0, 45, 180, 0, 95, 16, 6]
abbrev dktX5_dries_2 : List UInt8 := dkwX5_dries_2 ++ dktX5_dries_3
def dkwX5_dries_1 : List UInt8 := [180, 0, 95, 6, 42, 180, 0, 9, 28, 46, 79, 42, 180, 0, 45, 180, 0, 95, 7, 43, 28, 182, 0, 120]
abbrev dktX5_dries_1 : List UInt8 := dkwX5_dries_1 ++ dktX5_dries_2
def dkwX5_dries_0 : List UInt8 := [43, 180, 0, 98, 4, 50, 78, 45, 199, 0, 5, 4, 172, 42, 182, 0, 102, 87, 42, 180, 0, 45]
abbrev dktX5_dries_0 : List UInt8 := dkwX5_dries_0 ++ dktX5_dries_1
theorem dksX5_dries_0 : cX5_dries.data.toList.drop 0 = dktX5_dries_0 := by decide +kernel
theorem dksX5_dries_1 : cX5_dries.data.toList.drop 22 = dktX5_dries_1 := dk_seg dksX5_dries_0 22 rfl rfl
theorem dksX5_dries_2 : cX5_dries.data.toList.drop 46 = dktX5_dries_2 := dk_seg dksX5_dries_1 24 rfl rfl
theorem dksX5_dries_3 : cX5_dries.data.toList.drop 70 = dktX5_dries_3 := dk_seg dksX5_dries_2 24 rfl rfl
theorem dX5_dries_0 : decode cX5_dries 0 = .ok (.aload_n 1, 1) := dk_43 (dk_at dksX5_dries_0 0 rfl rfl)
theorem dX5_dries_1 : decode cX5_dries 1 = .ok (.getfield 98, 3) := dk_180 0 98 (dk_at dksX5_dries_0 1 rfl rfl)
theorem dX5_dries_4 : decode cX5_dries 4 = .ok (.iconst 1, 1) := dk_4 (dk_at dksX5_dries_0 4 rfl rfl)
theorem dX5_dries_5 : decode cX5_dries 5 = .ok (.aaload, 1) := dk_50 (dk_at dksX5_dries_0 5 rfl rfl)
theorem dX5_dries_6 : decode cX5_dries 6 = .ok (.astore_n 3, 1) := dk_78 (dk_at dksX5_dries_0 6 rfl rfl)
theorem dX5_dries_7 : decode cX5_dries 7 = .ok (.aload_n 3, 1) := dk_45 (dk_at dksX5_dries_0 7 rfl rfl)
theorem dX5_dries_8 : decode cX5_dries 8 = .ok (.ifnonnull 5, 3) := dk_199 0 5 (dk_at dksX5_dries_0 8 rfl rfl)
theorem dX5_dries_11 : decode cX5_dries 11 = .ok (.iconst 1, 1) := dk_4 (dk_at dksX5_dries_0 11 rfl rfl)
theorem dX5_dries_12 : decode cX5_dries 12 = .ok (.ireturn, 1) := dk_172 (dk_at dksX5_dries_0 12 rfl rfl)
theorem dX5_dries_13 : decode cX5_dries 13 = .ok (.aload_n 0, 1) := dk_42 (dk_at dksX5_dries_0 13 rfl rfl)
theorem dX5_dries_14 : decode cX5_dries 14 = .ok (.invokevirtual 102, 3) := dk_182 0 102 (dk_at dksX5_dries_0 14 rfl rfl)
theorem dX5_dries_17 : decode cX5_dries 17 = .ok (.pop, 1) := dk_87 (dk_at dksX5_dries_0 17 rfl rfl)
theorem dX5_dries_18 : decode cX5_dries 18 = .ok (.aload_n 0, 1) := dk_42 (dk_at dksX5_dries_0 18 rfl rfl)
theorem dX5_dries_19 : decode cX5_dries 19 = .ok (.getfield 45, 3) := dk_180 0 45 (dk_at dksX5_dries_0 19 rfl rfl)
theorem dX5_dries_22 : decode cX5_dries 22 = .ok (.getfield 95, 3) := dk_180 0 95 (dk_at dksX5_dries_1 0 rfl rfl)
theorem dX5_dries_25 : decode cX5_dries 25 = .ok (.iconst 3, 1) := dk_6 (dk_at dksX5_dries_1 3 rfl rfl)
theorem dX5_dries_26 : decode cX5_dries 26 = .ok (.aload_n 0, 1) := dk_42 (dk_at dksX5_dries_1 4 rfl rfl)
theorem dX5_dries_27 : decode cX5_dries 27 = .ok (.getfield 9, 3) := dk_180 0 9 (dk_at dksX5_dries_1 5 rfl rfl)
theorem dX5_dries_30 : decode cX5_dries 30 = .ok (.iload_n 2, 1) := dk_28 (dk_at dksX5_dries_1 8 rfl rfl)
theorem dX5_dries_31 : decode cX5_dries 31 = .ok (.iaload, 1) := dk_46 (dk_at dksX5_dries_1 9 rfl rfl)
theorem dX5_dries_32 : decode cX5_dries 32 = .ok (.iastore, 1) := dk_79 (dk_at dksX5_dries_1 10 rfl rfl)
theorem dX5_dries_33 : decode cX5_dries 33 = .ok (.aload_n 0, 1) := dk_42 (dk_at dksX5_dries_1 11 rfl rfl)
theorem dX5_dries_34 : decode cX5_dries 34 = .ok (.getfield 45, 3) := dk_180 0 45 (dk_at dksX5_dries_1 12 rfl rfl)
theorem dX5_dries_37 : decode cX5_dries 37 = .ok (.getfield 95, 3) := dk_180 0 95 (dk_at dksX5_dries_1 15 rfl rfl)
theorem dX5_dries_40 : decode cX5_dries 40 = .ok (.iconst 4, 1) := dk_7 (dk_at dksX5_dries_1 18 rfl rfl)
theorem dX5_dries_41 : decode cX5_dries 41 = .ok (.aload_n 1, 1) := dk_43 (dk_at dksX5_dries_1 19 rfl rfl)
theorem dX5_dries_42 : decode cX5_dries 42 = .ok (.iload_n 2, 1) := dk_28 (dk_at dksX5_dries_1 20 rfl rfl)
theorem dX5_dries_43 : decode cX5_dries 43 = .ok (.invokevirtual 120, 3) := dk_182 0 120 (dk_at dksX5_dries_1 21 rfl rfl)
theorem dX5_dries_46 : decode cX5_dries 46 = .ok (.iastore, 1) := dk_79 (dk_at dksX5_dries_2 0 rfl rfl)
theorem dX5_dries_47 : decode cX5_dries 47 = .ok (.aload_n 0, 1) := dk_42 (dk_at dksX5_dries_2 1 rfl rfl)
theorem dX5_dries_48 : decode cX5_dries 48 = .ok (.getfield 45, 3) := dk_180 0 45 (dk_at dksX5_dries_2 2 rfl rfl)
theorem dX5_dries_51 : decode cX5_dries 51 = .ok (.getfield 95, 3) := dk_180 0 95 (dk_at dksX5_dries_2 5 rfl rfl)
theorem dX5_dries_54 : decode cX5_dries 54 = .ok (.iconst 5, 1) := dk_8 (dk_at dksX5_dries_2 8 rfl rfl)
theorem dX5_dries_55 : decode cX5_dries 55 = .ok (.aload_n 1, 1) := dk_43 (dk_at dksX5_dries_2 9 rfl rfl)
theorem dX5_dries_56 : decode cX5_dries 56 = .ok (.iload_n 2, 1) := dk_28 (dk_at dksX5_dries_2 10 rfl rfl)
theorem dX5_dries_57 : decode cX5_dries 57 = .ok (.invokevirtual 124, 3) := dk_182 0 124 (dk_at dksX5_dries_2 11 rfl rfl)
theorem dX5_dries_60 : decode cX5_dries 60 = .ok (.iastore, 1) := dk_79 (dk_at dksX5_dries_2 14 rfl rfl)
theorem dX5_dries_61 : decode cX5_dries 61 = .ok (.aload_n 0, 1) := dk_42 (dk_at dksX5_dries_2 15 rfl rfl)
theorem dX5_dries_62 : decode cX5_dries 62 = .ok (.getfield 45, 3) := dk_180 0 45 (dk_at dksX5_dries_2 16 rfl rfl)
theorem dX5_dries_65 : decode cX5_dries 65 = .ok (.getfield 95, 3) := dk_180 0 95 (dk_at dksX5_dries_2 19 rfl rfl)
theorem dX5_dries_68 : decode cX5_dries 68 = .ok (.bipush 6, 2) := dk_16 6 (dk_at dksX5_dries_2 22 rfl rfl)
theorem dX5_dries_70 : decode cX5_dries 70 = .ok (.aload_n 0, 1) := dk_42 (dk_at dksX5_dries_3 0 rfl rfl)
theorem dX5_dries_71 : decode cX5_dries 71 = .ok (.getfield 78, 3) := dk_180 0 78 (dk_at dksX5_dries_3 1 rfl rfl)
theorem dX5_dries_74 : decode cX5_dries 74 = .ok (.iastore, 1) := dk_79 (dk_at dksX5_dries_3 4 rfl rfl)
theorem dX5_dries_75 : decode cX5_dries 75 = .ok (.bipush 99, 2) := dk_16 99 (dk_at dksX5_dries_3 5 rfl rfl)
theorem dX5_dries_77 : decode cX5_dries 77 = .ok (.aload_n 3, 1) := dk_45 (dk_at dksX5_dries_3 7 rfl rfl)
theorem dX5_dries_78 : decode cX5_dries 78 = .ok (.aload_n 0, 1) := dk_42 (dk_at dksX5_dries_3 8 rfl rfl)
theorem dX5_dries_79 : decode cX5_dries 79 = .ok (.getfield 45, 3) := dk_180 0 45 (dk_at dksX5_dries_3 9 rfl rfl)
theorem dX5_dries_82 : decode cX5_dries 82 = .ok (.invokevirtual 108, 3) := dk_182 0 108 (dk_at dksX5_dries_3 12 rfl rfl)
theorem dX5_dries_85 : decode cX5_dries 85 = .ok (.invokestatic 114, 3) := dk_184 0 114 (dk_at dksX5_dries_3 15 rfl rfl)
theorem dX5_dries_88 : decode cX5_dries 88 = .ok (.ireturn, 1) := dk_172 (dk_at dksX5_dries_3 18 rfl rfl)
abbrev cX5_gathers : ByteArray := prog_10_method_9_code
def yX5_gathers : MethodName := ⟨RX5, "gathers", "(LRainLoom$Text;)I"⟩
def dkwX5_gathers_2 : List UInt8 := [172]
abbrev dktX5_gathers_2 : List UInt8 := dkwX5_gathers_2 ++ []
def dkwX5_gathers_1 : List UInt8 := [180, 0, 95, 16, 6, 42, 180, 0, 78, 79, 17, 3, 231, 44, 42, 180, 0, 45, 182, 0, 108, 184, 0, 114]
abbrev dktX5_gathers_1 : List UInt8 := dkwX5_gathers_1 ++ dktX5_gathers_2
def dkwX5_gathers_0 : List UInt8 := [43, 180, 0, 98, 5, 50, 77, 44, 199, 0, 5, 3, 172, 42, 182, 0, 102, 87, 42, 180, 0, 45]
abbrev dktX5_gathers_0 : List UInt8 := dkwX5_gathers_0 ++ dktX5_gathers_1
theorem dksX5_gathers_0 : cX5_gathers.data.toList.drop 0 = dktX5_gathers_0 := by decide +kernel
theorem dksX5_gathers_1 : cX5_gathers.data.toList.drop 22 = dktX5_gathers_1 := dk_seg dksX5_gathers_0 22 rfl rfl
theorem dksX5_gathers_2 : cX5_gathers.data.toList.drop 46 = dktX5_gathers_2 := dk_seg dksX5_gathers_1 24 rfl rfl
theorem dX5_gathers_0 : decode cX5_gathers 0 = .ok (.aload_n 1, 1) := dk_43 (dk_at dksX5_gathers_0 0 rfl rfl)
theorem dX5_gathers_1 : decode cX5_gathers 1 = .ok (.getfield 98, 3) := dk_180 0 98 (dk_at dksX5_gathers_0 1 rfl rfl)
theorem dX5_gathers_4 : decode cX5_gathers 4 = .ok (.iconst 2, 1) := dk_5 (dk_at dksX5_gathers_0 4 rfl rfl)
theorem dX5_gathers_5 : decode cX5_gathers 5 = .ok (.aaload, 1) := dk_50 (dk_at dksX5_gathers_0 5 rfl rfl)
theorem dX5_gathers_6 : decode cX5_gathers 6 = .ok (.astore_n 2, 1) := dk_77 (dk_at dksX5_gathers_0 6 rfl rfl)
theorem dX5_gathers_7 : decode cX5_gathers 7 = .ok (.aload_n 2, 1) := dk_44 (dk_at dksX5_gathers_0 7 rfl rfl)
theorem dX5_gathers_8 : decode cX5_gathers 8 = .ok (.ifnonnull 5, 3) := dk_199 0 5 (dk_at dksX5_gathers_0 8 rfl rfl)
theorem dX5_gathers_11 : decode cX5_gathers 11 = .ok (.iconst 0, 1) := dk_3 (dk_at dksX5_gathers_0 11 rfl rfl)
theorem dX5_gathers_12 : decode cX5_gathers 12 = .ok (.ireturn, 1) := dk_172 (dk_at dksX5_gathers_0 12 rfl rfl)
theorem dX5_gathers_13 : decode cX5_gathers 13 = .ok (.aload_n 0, 1) := dk_42 (dk_at dksX5_gathers_0 13 rfl rfl)
theorem dX5_gathers_14 : decode cX5_gathers 14 = .ok (.invokevirtual 102, 3) := dk_182 0 102 (dk_at dksX5_gathers_0 14 rfl rfl)
theorem dX5_gathers_17 : decode cX5_gathers 17 = .ok (.pop, 1) := dk_87 (dk_at dksX5_gathers_0 17 rfl rfl)
theorem dX5_gathers_18 : decode cX5_gathers 18 = .ok (.aload_n 0, 1) := dk_42 (dk_at dksX5_gathers_0 18 rfl rfl)
theorem dX5_gathers_19 : decode cX5_gathers 19 = .ok (.getfield 45, 3) := dk_180 0 45 (dk_at dksX5_gathers_0 19 rfl rfl)
theorem dX5_gathers_22 : decode cX5_gathers 22 = .ok (.getfield 95, 3) := dk_180 0 95 (dk_at dksX5_gathers_1 0 rfl rfl)
theorem dX5_gathers_25 : decode cX5_gathers 25 = .ok (.bipush 6, 2) := dk_16 6 (dk_at dksX5_gathers_1 3 rfl rfl)
theorem dX5_gathers_27 : decode cX5_gathers 27 = .ok (.aload_n 0, 1) := dk_42 (dk_at dksX5_gathers_1 5 rfl rfl)
theorem dX5_gathers_28 : decode cX5_gathers 28 = .ok (.getfield 78, 3) := dk_180 0 78 (dk_at dksX5_gathers_1 6 rfl rfl)
theorem dX5_gathers_31 : decode cX5_gathers 31 = .ok (.iastore, 1) := dk_79 (dk_at dksX5_gathers_1 9 rfl rfl)
theorem dX5_gathers_32 : decode cX5_gathers 32 = .ok (.sipush 999, 3) := dk_17 3 231 (dk_at dksX5_gathers_1 10 rfl rfl)
theorem dX5_gathers_35 : decode cX5_gathers 35 = .ok (.aload_n 2, 1) := dk_44 (dk_at dksX5_gathers_1 13 rfl rfl)
theorem dX5_gathers_36 : decode cX5_gathers 36 = .ok (.aload_n 0, 1) := dk_42 (dk_at dksX5_gathers_1 14 rfl rfl)
theorem dX5_gathers_37 : decode cX5_gathers 37 = .ok (.getfield 45, 3) := dk_180 0 45 (dk_at dksX5_gathers_1 15 rfl rfl)
theorem dX5_gathers_40 : decode cX5_gathers 40 = .ok (.invokevirtual 108, 3) := dk_182 0 108 (dk_at dksX5_gathers_1 18 rfl rfl)
theorem dX5_gathers_43 : decode cX5_gathers 43 = .ok (.invokestatic 114, 3) := dk_184 0 114 (dk_at dksX5_gathers_1 21 rfl rfl)
theorem dX5_gathers_46 : decode cX5_gathers 46 = .ok (.ireturn, 1) := dk_172 (dk_at dksX5_gathers_2 0 rfl rfl)
abbrev cX5_sum : ByteArray := prog_10_method_13_code
def yX5_sum : MethodName := ⟨RX5, "sum", "([I)I"⟩
def dkwX5_sum_0 : List UInt8 := [3, 60, 3, 61, 28, 42, 190, 162, 0, 15, 27, 42, 28, 46, 96, 60, 132, 2, 1, 167, 255, 241, 27, 172]
abbrev dktX5_sum_0 : List UInt8 := dkwX5_sum_0 ++ []
theorem dksX5_sum_0 : cX5_sum.data.toList.drop 0 = dktX5_sum_0 := by decide +kernel
theorem dX5_sum_0 : decode cX5_sum 0 = .ok (.iconst 0, 1) := dk_3 (dk_at dksX5_sum_0 0 rfl rfl)
theorem dX5_sum_1 : decode cX5_sum 1 = .ok (.istore_n 1, 1) := dk_60 (dk_at dksX5_sum_0 1 rfl rfl)
theorem dX5_sum_2 : decode cX5_sum 2 = .ok (.iconst 0, 1) := dk_3 (dk_at dksX5_sum_0 2 rfl rfl)
theorem dX5_sum_3 : decode cX5_sum 3 = .ok (.istore_n 2, 1) := dk_61 (dk_at dksX5_sum_0 3 rfl rfl)
theorem dX5_sum_4 : decode cX5_sum 4 = .ok (.iload_n 2, 1) := dk_28 (dk_at dksX5_sum_0 4 rfl rfl)
theorem dX5_sum_5 : decode cX5_sum 5 = .ok (.aload_n 0, 1) := dk_42 (dk_at dksX5_sum_0 5 rfl rfl)
theorem dX5_sum_6 : decode cX5_sum 6 = .ok (.arraylength, 1) := dk_190 (dk_at dksX5_sum_0 6 rfl rfl)
theorem dX5_sum_7 : decode cX5_sum 7 = .ok (.if_icmp .ge 15, 3) := dk_162 0 15 (dk_at dksX5_sum_0 7 rfl rfl)
theorem dX5_sum_10 : decode cX5_sum 10 = .ok (.iload_n 1, 1) := dk_27 (dk_at dksX5_sum_0 10 rfl rfl)
theorem dX5_sum_11 : decode cX5_sum 11 = .ok (.aload_n 0, 1) := dk_42 (dk_at dksX5_sum_0 11 rfl rfl)
theorem dX5_sum_12 : decode cX5_sum 12 = .ok (.iload_n 2, 1) := dk_28 (dk_at dksX5_sum_0 12 rfl rfl)
theorem dX5_sum_13 : decode cX5_sum 13 = .ok (.iaload, 1) := dk_46 (dk_at dksX5_sum_0 13 rfl rfl)
theorem dX5_sum_14 : decode cX5_sum 14 = .ok (.iadd, 1) := dk_96 (dk_at dksX5_sum_0 14 rfl rfl)
theorem dX5_sum_15 : decode cX5_sum 15 = .ok (.istore_n 1, 1) := dk_60 (dk_at dksX5_sum_0 15 rfl rfl)
theorem dX5_sum_16 : decode cX5_sum 16 = .ok (.iinc 2 1, 3) := dk_132 2 1 (dk_at dksX5_sum_0 16 rfl rfl)
theorem dX5_sum_19 : decode cX5_sum 19 = .ok (.goto (-15), 3) := dk_167 255 241 (dk_at dksX5_sum_0 19 rfl rfl)
theorem dX5_sum_22 : decode cX5_sum 22 = .ok (.iload_n 1, 1) := dk_27 (dk_at dksX5_sum_0 22 rfl rfl)
theorem dX5_sum_23 : decode cX5_sum 23 = .ok (.ireturn, 1) := dk_172 (dk_at dksX5_sum_0 23 rfl rfl)
theorem q130 : (Jvm.Cond.initialized "RainLoom$Land") ∈ lw_all := lw_g (lw_at lw_m1 12 rfl) rfl
theorem q364 : (Jvm.Cond.fieldLink "RainLoom$Land" (135 : Nat) "RainLoom$Text" "field" "[I") ∈ lw_all := lw_g (lw_at lw_m2 6 rfl) rfl
theorem q372 : (Jvm.Cond.fieldLink "RainLoom$Land" (49 : Nat) "RainLoom$Text" "looms" "Ljava/util/ArrayList;") ∈ lw_all := lw_g (lw_at lw_m2 14 rfl) rfl
theorem q376 : (Jvm.Cond.fieldLink "RainLoom$Land" (98 : Nat) "RainLoom$Text" "laws" "[LRainLoom$Law;") ∈ lw_all := lw_g (lw_at lw_m2 18 rfl) rfl
theorem q385 : (Jvm.Cond.fieldLink "RainLoom$Land" (74 : Nat) "RainLoom$Text" "store" "I") ∈ lw_all := lw_g (lw_at lw_m2 27 rfl) rfl
theorem q389 : (Jvm.Cond.fieldLink "RainLoom$Land" (81 : Nat) "RainLoom$Text" "seed" "I") ∈ lw_all := lw_g (lw_at lw_m2 31 rfl) rfl
theorem q412 : (Jvm.Cond.instantiable "RainLoom$Land" (14 : Nat)) ∈ lw_all := lw_g (lw_at lw_m2 54 rfl) rfl
theorem q414 : (Jvm.Cond.instanceMethod ({ cls := "RainLoom$Land", name := "<init>", desc := "()V" } : Jvm.MethodName)) ∈ lw_all := lw_g (lw_at lw_m2 56 rfl) rfl
theorem q415 : (Jvm.Cond.code ({ cls := "RainLoom$Land", name := "<init>", desc := "()V" } : Jvm.MethodName) prog_10_method_1_code (1 : Nat) (Option.none : Option Jvm.ClassFile.FieldType)) ∈ lw_all := lw_g (lw_at lw_m2 57 rfl) rfl
theorem q416 : (Jvm.Cond.methodLink "RainLoom$Land" (3 : Nat) ({ cls := "java/lang/Object", name := "<init>", desc := "()V" } : Jvm.MethodName)) ∈ lw_all := lw_g (lw_at lw_m2 58 rfl) rfl
theorem q417 : (Jvm.Cond.classLink "RainLoom$Land" (42 : Nat) "RainLoom$Asked") ∈ lw_all := lw_g (lw_at lw_m2 59 rfl) rfl
theorem q419 : (Jvm.Cond.methodLinkNest "RainLoom$Land" (44 : Nat) ({ cls := "RainLoom$Asked", name := "<init>", desc := "()V" } : Jvm.MethodName) "RainLoom") ∈ lw_tbl := lw_at lw_m2 61 rfl
theorem q425 : (Jvm.Cond.fieldLink "RainLoom$Land" (95 : Nat) "RainLoom$Asked" "v" "[I") ∈ lw_all := lw_g (lw_at lw_m2 67 rfl) rfl
theorem q433 : (Jvm.Cond.fieldLink "RainLoom$Land" (9 : Nat) "RainLoom$Land" "water" "[I") ∈ lw_all := lw_g (lw_at lw_m2 75 rfl) rfl
theorem q436 : (Jvm.Cond.fieldLink "RainLoom$Land" (15 : Nat) "RainLoom$Land" "lacked" "[I") ∈ lw_all := lw_g (lw_at lw_m2 78 rfl) rfl
theorem q439 : (Jvm.Cond.fieldLink "RainLoom$Land" (18 : Nat) "RainLoom$Land" "flooded" "[I") ∈ lw_all := lw_g (lw_at lw_m2 81 rfl) rfl
theorem q442 : (Jvm.Cond.fieldLink "RainLoom$Land" (21 : Nat) "RainLoom$Land" "pick" "[I") ∈ lw_all := lw_g (lw_at lw_m2 84 rfl) rfl
theorem q444 : (Jvm.Cond.fieldLink "RainLoom$Land" (24 : Nat) "RainLoom$Land" "wove" "[I") ∈ lw_all := lw_g (lw_at lw_m2 86 rfl) rfl
theorem q446 : (Jvm.Cond.fieldLink "RainLoom$Land" (27 : Nat) "RainLoom$Land" "torn" "[I") ∈ lw_all := lw_g (lw_at lw_m2 88 rfl) rfl
theorem q448 : (Jvm.Cond.fieldLink "RainLoom$Land" (30 : Nat) "RainLoom$Land" "wide" "[I") ∈ lw_all := lw_g (lw_at lw_m2 90 rfl) rfl
theorem q451 : (Jvm.Cond.fieldLink "RainLoom$Land" (33 : Nat) "RainLoom$Land" "high" "[I") ∈ lw_all := lw_g (lw_at lw_m2 93 rfl) rfl
theorem q454 : (Jvm.Cond.fieldLink "RainLoom$Land" (36 : Nat) "RainLoom$Land" "toX" "[I") ∈ lw_all := lw_g (lw_at lw_m2 96 rfl) rfl
theorem q457 : (Jvm.Cond.fieldLink "RainLoom$Land" (39 : Nat) "RainLoom$Land" "toY" "[I") ∈ lw_all := lw_g (lw_at lw_m2 99 rfl) rfl
theorem q461 : (Jvm.Cond.fieldLink "RainLoom$Land" (77 : Nat) "RainLoom$Land" "store" "I") ∈ lw_all := lw_g (lw_at lw_m2 103 rfl) rfl
theorem q465 : (Jvm.Cond.fieldLink "RainLoom$Land" (78 : Nat) "RainLoom$Land" "day" "I") ∈ lw_all := lw_g (lw_at lw_m2 107 rfl) rfl
theorem q468 : (Jvm.Cond.fieldLink "RainLoom$Land" (84 : Nat) "RainLoom$Land" "seed" "I") ∈ lw_all := lw_g (lw_at lw_m2 110 rfl) rfl
theorem q470 : (Jvm.Cond.fieldLink "RainLoom$Land" (45 : Nat) "RainLoom$Land" "asked" "LRainLoom$Asked;") ∈ lw_all := lw_g (lw_at lw_m2 112 rfl) rfl
theorem q471 : (Jvm.Cond.laysFinal "RainLoom$Land" "RainLoom$Land" "water" "[I") ∈ lw_all := lw_g (lw_at lw_m2 113 rfl) rfl
theorem q472 : (Jvm.Cond.soleField "RainLoom$Land" "water") ∈ lw_all := lw_g (lw_at lw_m2 114 rfl) rfl
theorem q473 : (Jvm.Cond.laysFinal "RainLoom$Land" "RainLoom$Land" "lacked" "[I") ∈ lw_all := lw_g (lw_at lw_m2 115 rfl) rfl
theorem q474 : (Jvm.Cond.soleField "RainLoom$Land" "lacked") ∈ lw_all := lw_g (lw_at lw_m2 116 rfl) rfl
theorem q475 : (Jvm.Cond.laysFinal "RainLoom$Land" "RainLoom$Land" "flooded" "[I") ∈ lw_all := lw_g (lw_at lw_m2 117 rfl) rfl
theorem q476 : (Jvm.Cond.soleField "RainLoom$Land" "flooded") ∈ lw_all := lw_g (lw_at lw_m2 118 rfl) rfl
theorem q477 : (Jvm.Cond.laysFinal "RainLoom$Land" "RainLoom$Land" "pick" "[I") ∈ lw_all := lw_g (lw_at lw_m2 119 rfl) rfl
theorem q478 : (Jvm.Cond.soleField "RainLoom$Land" "pick") ∈ lw_all := lw_g (lw_at lw_m2 120 rfl) rfl
theorem q479 : (Jvm.Cond.laysFinal "RainLoom$Land" "RainLoom$Land" "wove" "[I") ∈ lw_all := lw_g (lw_at lw_m2 121 rfl) rfl
theorem q480 : (Jvm.Cond.soleField "RainLoom$Land" "wove") ∈ lw_all := lw_g (lw_at lw_m2 122 rfl) rfl
theorem q481 : (Jvm.Cond.laysFinal "RainLoom$Land" "RainLoom$Land" "torn" "[I") ∈ lw_all := lw_g (lw_at lw_m2 123 rfl) rfl
theorem q482 : (Jvm.Cond.soleField "RainLoom$Land" "torn") ∈ lw_all := lw_g (lw_at lw_m2 124 rfl) rfl
theorem q483 : (Jvm.Cond.laysFinal "RainLoom$Land" "RainLoom$Land" "wide" "[I") ∈ lw_all := lw_g (lw_at lw_m2 125 rfl) rfl
theorem q484 : (Jvm.Cond.soleField "RainLoom$Land" "wide") ∈ lw_all := lw_g (lw_at lw_m2 126 rfl) rfl
theorem q485 : (Jvm.Cond.laysFinal "RainLoom$Land" "RainLoom$Land" "high" "[I") ∈ lw_all := lw_g (lw_at lw_m2 127 rfl) rfl
theorem q486 : (Jvm.Cond.soleField "RainLoom$Land" "high") ∈ lw_all := lw_g (lw_at lw_m2 128 rfl) rfl
theorem q487 : (Jvm.Cond.laysFinal "RainLoom$Land" "RainLoom$Land" "toX" "[I") ∈ lw_all := lw_g (lw_at lw_m2 129 rfl) rfl
theorem q488 : (Jvm.Cond.soleField "RainLoom$Land" "toX") ∈ lw_all := lw_g (lw_at lw_m2 130 rfl) rfl
theorem q489 : (Jvm.Cond.laysFinal "RainLoom$Land" "RainLoom$Land" "toY" "[I") ∈ lw_all := lw_g (lw_at lw_m2 131 rfl) rfl
theorem q490 : (Jvm.Cond.soleField "RainLoom$Land" "toY") ∈ lw_all := lw_g (lw_at lw_m2 132 rfl) rfl
theorem q491 : (Jvm.Cond.lays "RainLoom$Land" "RainLoom$Land" "store" "I") ∈ lw_all := lw_g (lw_at lw_m2 133 rfl) rfl
theorem q492 : (Jvm.Cond.soleField "RainLoom$Land" "store") ∈ lw_all := lw_g (lw_at lw_m2 134 rfl) rfl
theorem q493 : (Jvm.Cond.lays "RainLoom$Land" "RainLoom$Land" "day" "I") ∈ lw_all := lw_g (lw_at lw_m2 135 rfl) rfl
theorem q494 : (Jvm.Cond.soleField "RainLoom$Land" "day") ∈ lw_all := lw_g (lw_at lw_m2 136 rfl) rfl
theorem q495 : (Jvm.Cond.lays "RainLoom$Land" "RainLoom$Land" "seed" "I") ∈ lw_all := lw_g (lw_at lw_m2 137 rfl) rfl
theorem q496 : (Jvm.Cond.soleField "RainLoom$Land" "seed") ∈ lw_all := lw_g (lw_at lw_m2 138 rfl) rfl
theorem q497 : (Jvm.Cond.laysFinal "RainLoom$Land" "RainLoom$Land" "asked" "LRainLoom$Asked;") ∈ lw_all := lw_g (lw_at lw_m2 139 rfl) rfl
theorem q498 : (Jvm.Cond.soleField "RainLoom$Land" "asked") ∈ lw_all := lw_g (lw_at lw_m2 140 rfl) rfl
theorem q499 : (Jvm.Cond.superclass "RainLoom$Land" "java/lang/Object") ∈ lw_all := lw_g (lw_at lw_m2 141 rfl) rfl
theorem q537 : (Jvm.Cond.instanceMethod ({ cls := "RainLoom$Land", name := "begins", desc := "(LRainLoom$Text;)V" } : Jvm.MethodName)) ∈ lw_all := lw_g (lw_at lw_m2 179 rfl) rfl
theorem q538 : (Jvm.Cond.selects "RainLoom$Land" ({ cls := "RainLoom$Land", name := "begins", desc := "(LRainLoom$Text;)V" } : Jvm.MethodName) ({ cls := "RainLoom$Land", name := "begins", desc := "(LRainLoom$Text;)V" } : Jvm.MethodName)) ∈ lw_all := lw_g (lw_at lw_m2 180 rfl) rfl
theorem q539 : (Jvm.Cond.code ({ cls := "RainLoom$Land", name := "begins", desc := "(LRainLoom$Text;)V" } : Jvm.MethodName) prog_10_method_2_code (3 : Nat) (Option.none : Option Jvm.ClassFile.FieldType)) ∈ lw_all := lw_g (lw_at lw_m2 181 rfl) rfl
theorem q540 : (Jvm.Cond.methodLink "RainLoom$Land" (55 : Nat) ({ cls := "java/util/ArrayList", name := "size", desc := "()I" } : Jvm.MethodName)) ∈ lw_all := lw_g (lw_at lw_m2 182 rfl) rfl
theorem q544 : (Jvm.Cond.methodLink "RainLoom$Land" (61 : Nat) ({ cls := "java/util/ArrayList", name := "get", desc := "(I)Ljava/lang/Object;" } : Jvm.MethodName)) ∈ lw_all := lw_g (lw_at lw_m2 186 rfl) rfl
theorem q558 : (Jvm.Cond.classLink "RainLoom$Land" (65 : Nat) "RainLoom$Loom") ∈ lw_all := lw_g (lw_at lw_m2 200 rfl) rfl
theorem q559 : (Jvm.Cond.methodLink "RainLoom$Land" (70 : Nat) ({ cls := "RainLoom$Land", name := "stops", desc := "(I)V" } : Jvm.MethodName)) ∈ lw_all := lw_g (lw_at lw_m2 201 rfl) rfl
theorem q560 : (Jvm.Cond.instanceMethod ({ cls := "RainLoom$Land", name := "stops", desc := "(I)V" } : Jvm.MethodName)) ∈ lw_all := lw_g (lw_at lw_m2 202 rfl) rfl
theorem q561 : (Jvm.Cond.selects "RainLoom$Land" ({ cls := "RainLoom$Land", name := "stops", desc := "(I)V" } : Jvm.MethodName) ({ cls := "RainLoom$Land", name := "stops", desc := "(I)V" } : Jvm.MethodName)) ∈ lw_all := lw_g (lw_at lw_m2 203 rfl) rfl
theorem q562 : (Jvm.Cond.code ({ cls := "RainLoom$Land", name := "stops", desc := "(I)V" } : Jvm.MethodName) prog_10_method_3_code (2 : Nat) (Option.none : Option Jvm.ClassFile.FieldType)) ∈ lw_all := lw_g (lw_at lw_m2 204 rfl) rfl
theorem q1125 : (Jvm.Cond.selects "RainLoom$Land" ({ cls := "java/lang/Object", name := "getClass", desc := "()Ljava/lang/Class;" } : Jvm.MethodName) ({ cls := "java/lang/Object", name := "getClass", desc := "()Ljava/lang/Class;" } : Jvm.MethodName)) ∈ lw_all := lw_g (lw_at lw_m5 47 rfl) rfl
theorem q1152 : (Jvm.Cond.fieldLink "RainLoom$Land" (106 : Nat) "RainLoom$Loom" "wide" "I") ∈ lw_all := lw_g (lw_at lw_m5 74 rfl) rfl
theorem q1155 : (Jvm.Cond.fieldLink "RainLoom$Land" (67 : Nat) "RainLoom$Loom" "pick" "I") ∈ lw_all := lw_g (lw_at lw_m5 77 rfl) rfl
theorem q1185 : (Jvm.Cond.instanceMethod ({ cls := "RainLoom$Land", name := "isLacking", desc := "(LRainLoom$Text;I)Z" } : Jvm.MethodName)) ∈ lw_all := lw_g (lw_at lw_m5 107 rfl) rfl
theorem q1186 : (Jvm.Cond.selects "RainLoom$Land" ({ cls := "RainLoom$Land", name := "isLacking", desc := "(LRainLoom$Text;I)Z" } : Jvm.MethodName) ({ cls := "RainLoom$Land", name := "isLacking", desc := "(LRainLoom$Text;I)Z" } : Jvm.MethodName)) ∈ lw_all := lw_g (lw_at lw_m5 108 rfl) rfl
theorem q1187 : (Jvm.Cond.code ({ cls := "RainLoom$Land", name := "isLacking", desc := "(LRainLoom$Text;I)Z" } : Jvm.MethodName) prog_10_method_11_code (3 : Nat) (Option.some Jvm.ClassFile.FieldType.boolean)) ∈ lw_all := lw_g (lw_at lw_m5 109 rfl) rfl
theorem q1188 : (Jvm.Cond.methodLink "RainLoom$Land" (120 : Nat) ({ cls := "RainLoom$Text", name := "needs", desc := "(I)I" } : Jvm.MethodName)) ∈ lw_all := lw_g (lw_at lw_m5 110 rfl) rfl
theorem q1194 : (Jvm.Cond.instanceMethod ({ cls := "RainLoom$Land", name := "isFlooded", desc := "(LRainLoom$Text;I)Z" } : Jvm.MethodName)) ∈ lw_all := lw_g (lw_at lw_m5 116 rfl) rfl
theorem q1195 : (Jvm.Cond.selects "RainLoom$Land" ({ cls := "RainLoom$Land", name := "isFlooded", desc := "(LRainLoom$Text;I)Z" } : Jvm.MethodName) ({ cls := "RainLoom$Land", name := "isFlooded", desc := "(LRainLoom$Text;I)Z" } : Jvm.MethodName)) ∈ lw_all := lw_g (lw_at lw_m5 117 rfl) rfl
theorem q1196 : (Jvm.Cond.code ({ cls := "RainLoom$Land", name := "isFlooded", desc := "(LRainLoom$Text;I)Z" } : Jvm.MethodName) prog_10_method_12_code (3 : Nat) (Option.some Jvm.ClassFile.FieldType.boolean)) ∈ lw_all := lw_g (lw_at lw_m5 118 rfl) rfl
theorem q1197 : (Jvm.Cond.methodLink "RainLoom$Land" (124 : Nat) ({ cls := "RainLoom$Text", name := "drowns", desc := "(I)I" } : Jvm.MethodName)) ∈ lw_all := lw_g (lw_at lw_m5 119 rfl) rfl
theorem q1242 : (Jvm.Cond.instanceMethod ({ cls := "RainLoom$Land", name := "thread", desc := "(LRainLoom$Text;III)I" } : Jvm.MethodName)) ∈ lw_all := lw_g (lw_at lw_m5 164 rfl) rfl
theorem q1243 : (Jvm.Cond.selects "RainLoom$Land" ({ cls := "RainLoom$Land", name := "thread", desc := "(LRainLoom$Text;III)I" } : Jvm.MethodName) ({ cls := "RainLoom$Land", name := "thread", desc := "(LRainLoom$Text;III)I" } : Jvm.MethodName)) ∈ lw_all := lw_g (lw_at lw_m5 165 rfl) rfl
theorem q1244 : (Jvm.Cond.code ({ cls := "RainLoom$Land", name := "thread", desc := "(LRainLoom$Text;III)I" } : Jvm.MethodName) prog_10_method_7_code (6 : Nat) (Option.some Jvm.ClassFile.FieldType.int)) ∈ lw_all := lw_g (lw_at lw_m5 166 rfl) rfl
theorem q1245 : (Jvm.Cond.methodLink "RainLoom$Land" (102 : Nat) ({ cls := "RainLoom$Land", name := "begun", desc := "()LRainLoom$Asked;" } : Jvm.MethodName)) ∈ lw_all := lw_g (lw_at lw_m5 167 rfl) rfl
theorem q1246 : (Jvm.Cond.privateMethod ({ cls := "RainLoom$Land", name := "begun", desc := "()LRainLoom$Asked;" } : Jvm.MethodName)) ∈ lw_tbl := lw_at lw_m5 168 rfl
theorem q1247 : (Jvm.Cond.instanceMethod ({ cls := "RainLoom$Land", name := "begun", desc := "()LRainLoom$Asked;" } : Jvm.MethodName)) ∈ lw_all := lw_g (lw_at lw_m5 169 rfl) rfl
theorem q1248 : (Jvm.Cond.code ({ cls := "RainLoom$Land", name := "begun", desc := "()LRainLoom$Asked;" } : Jvm.MethodName) prog_10_method_6_code (2 : Nat) (Option.some (Jvm.ClassFile.FieldType.object "RainLoom$Asked"))) ∈ lw_all := lw_g (lw_at lw_m5 170 rfl) rfl
theorem q1249 : (Jvm.Cond.methodLink "RainLoom$Land" (108 : Nat) ({ cls := "RainLoom$Law", name := "of", desc := "(LRainLoom$Asked;)I" } : Jvm.MethodName)) ∈ lw_all := lw_g (lw_at lw_m5 171 rfl) rfl
theorem q1267 : (Jvm.Cond.methodLink "RainLoom$Land" (114 : Nat) ({ cls := "java/lang/Math", name := "min", desc := "(II)I" } : Jvm.MethodName)) ∈ lw_all := lw_g (lw_at lw_m5 189 rfl) rfl
theorem q1281 : (Jvm.Cond.instanceMethod ({ cls := "RainLoom$Land", name := "takes", desc := "(LRainLoom$Land;)V" } : Jvm.MethodName)) ∈ lw_all := lw_g (lw_at lw_m5 203 rfl) rfl
theorem q1282 : (Jvm.Cond.selects "RainLoom$Land" ({ cls := "RainLoom$Land", name := "takes", desc := "(LRainLoom$Land;)V" } : Jvm.MethodName) ({ cls := "RainLoom$Land", name := "takes", desc := "(LRainLoom$Land;)V" } : Jvm.MethodName)) ∈ lw_all := lw_g (lw_at lw_m5 204 rfl) rfl
theorem q1283 : (Jvm.Cond.code ({ cls := "RainLoom$Land", name := "takes", desc := "(LRainLoom$Land;)V" } : Jvm.MethodName) prog_10_method_5_code (2 : Nat) (Option.none : Option Jvm.ClassFile.FieldType)) ∈ lw_all := lw_g (lw_at lw_m5 205 rfl) rfl
theorem q1284 : (Jvm.Cond.methodLink "RainLoom$Land" (91 : Nat) ({ cls := "RainLoom$Land", name := "copies", desc := "([I[I)V" } : Jvm.MethodName)) ∈ lw_all := lw_g (lw_at lw_m5 206 rfl) rfl
theorem q1285 : (Jvm.Cond.static ({ cls := "RainLoom$Land", name := "copies", desc := "([I[I)V" } : Jvm.MethodName)) ∈ lw_all := lw_g (lw_at lw_m5 207 rfl) rfl
theorem q1286 : (Jvm.Cond.code ({ cls := "RainLoom$Land", name := "copies", desc := "([I[I)V" } : Jvm.MethodName) prog_10_method_4_code (2 : Nat) (Option.none : Option Jvm.ClassFile.FieldType)) ∈ lw_all := lw_g (lw_at lw_m5 208 rfl) rfl
theorem q1287 : (Jvm.Cond.methodLink "RainLoom$Land" (85 : Nat) ({ cls := "java/lang/System", name := "arraycopy", desc := "(Ljava/lang/Object;ILjava/lang/Object;II)V" } : Jvm.MethodName)) ∈ lw_all := lw_g (lw_at lw_m5 209 rfl) rfl
theorem q1299 : (Jvm.Cond.instanceMethod ({ cls := "RainLoom$Land", name := "falls", desc := "(LRainLoom$Text;IIIII)I" } : Jvm.MethodName)) ∈ lw_all := lw_g (lw_at lw_m5 221 rfl) rfl
theorem q1300 : (Jvm.Cond.selects "RainLoom$Land" ({ cls := "RainLoom$Land", name := "falls", desc := "(LRainLoom$Text;IIIII)I" } : Jvm.MethodName) ({ cls := "RainLoom$Land", name := "falls", desc := "(LRainLoom$Text;IIIII)I" } : Jvm.MethodName)) ∈ lw_all := lw_g (lw_at lw_m5 222 rfl) rfl
theorem q1301 : (Jvm.Cond.code ({ cls := "RainLoom$Land", name := "falls", desc := "(LRainLoom$Text;IIIII)I" } : Jvm.MethodName) prog_10_method_10_code (14 : Nat) (Option.some Jvm.ClassFile.FieldType.int)) ∈ lw_all := lw_g (lw_at lw_m5 223 rfl) rfl
theorem q1302 : (Jvm.Cond.methodLink "RainLoom$Land" (127 : Nat) ({ cls := "RainLoom$Land", name := "thread", desc := "(LRainLoom$Text;III)I" } : Jvm.MethodName)) ∈ lw_all := lw_g (lw_at lw_m5 224 rfl) rfl
theorem q1303 : (Jvm.Cond.methodLink "RainLoom$Land" (131 : Nat) ({ cls := "RainLoom$Text", name := "isCell", desc := "(II)Z" } : Jvm.MethodName)) ∈ lw_all := lw_g (lw_at lw_m5 225 rfl) rfl
theorem q1334 : (Jvm.Cond.instanceMethod ({ cls := "RainLoom$Land", name := "dries", desc := "(LRainLoom$Text;I)I" } : Jvm.MethodName)) ∈ lw_all := lw_g (lw_at lw_m6 16 rfl) rfl
theorem q1335 : (Jvm.Cond.selects "RainLoom$Land" ({ cls := "RainLoom$Land", name := "dries", desc := "(LRainLoom$Text;I)I" } : Jvm.MethodName) ({ cls := "RainLoom$Land", name := "dries", desc := "(LRainLoom$Text;I)I" } : Jvm.MethodName)) ∈ lw_all := lw_g (lw_at lw_m6 17 rfl) rfl
theorem q1336 : (Jvm.Cond.code ({ cls := "RainLoom$Land", name := "dries", desc := "(LRainLoom$Text;I)I" } : Jvm.MethodName) prog_10_method_8_code (4 : Nat) (Option.some Jvm.ClassFile.FieldType.int)) ∈ lw_all := lw_g (lw_at lw_m6 18 rfl) rfl
theorem q1354 : (Jvm.Cond.instanceMethod ({ cls := "RainLoom$Land", name := "gathers", desc := "(LRainLoom$Text;)I" } : Jvm.MethodName)) ∈ lw_all := lw_g (lw_at lw_m6 36 rfl) rfl
theorem q1355 : (Jvm.Cond.selects "RainLoom$Land" ({ cls := "RainLoom$Land", name := "gathers", desc := "(LRainLoom$Text;)I" } : Jvm.MethodName) ({ cls := "RainLoom$Land", name := "gathers", desc := "(LRainLoom$Text;)I" } : Jvm.MethodName)) ∈ lw_all := lw_g (lw_at lw_m6 37 rfl) rfl
theorem q1356 : (Jvm.Cond.code ({ cls := "RainLoom$Land", name := "gathers", desc := "(LRainLoom$Text;)I" } : Jvm.MethodName) prog_10_method_9_code (3 : Nat) (Option.some Jvm.ClassFile.FieldType.int)) ∈ lw_all := lw_g (lw_at lw_m6 38 rfl) rfl
theorem q1425 : (Jvm.Cond.static ({ cls := "RainLoom$Land", name := "sum", desc := "([I)I" } : Jvm.MethodName)) ∈ lw_all := lw_g (lw_at lw_m6 107 rfl) rfl
theorem q1426 : (Jvm.Cond.code ({ cls := "RainLoom$Land", name := "sum", desc := "([I)I" } : Jvm.MethodName) prog_10_method_13_code (3 : Nat) (Option.some Jvm.ClassFile.FieldType.int)) ∈ lw_all := lw_g (lw_at lw_m6 108 rfl) rfl
theorem q2179 : (Jvm.Cond.castable "RainLoom$Land" "java/lang/Object") ∈ lw_tbl := lw_at lw_m9 141 rfl
theorem in_X5 : ∀ w ∈ wsX50, w ∈ lw_all := lw_in wsX50 [471, 473, 475, 477, 479, 481, 483, 485, 487, 489, 491, 493, 495, 497] (by decide +kernel) (by decide +kernel)

/-! RainLoom$Asked -/
set_option maxRecDepth 100000
def RX6 : String := "RainLoom$Asked"
def TX6 : u_T := fun k => match k with
  | 0 => ("RainLoom$Asked", "v", "[I", true)
  | _ => ("RainLoom$Asked", "nought", "Z", false)
def tyX6 : Nat → FieldType := fun k => match k with
  | 0 => .array .int
  | _ => .boolean
abbrev wsX60 : List Cond := u_ws RX6 TX6 2
theorem nmX6 : ∀ a, a < 2 → ∀ b, b < 2 → a ≠ b → (TX6 a).2.1 ≠ (TX6 b).2.1 := by decide +kernel
theorem tyX6_ok : ∀ k, k < 2 → parseFieldDescriptor (TX6 k).2.2.1 = some (tyX6 k) := by decide +kernel
abbrev cX6_init : ByteArray := prog_2_method_1_code
def yX6_init : MethodName := ⟨RX6, "<init>", "()V"⟩
def dkwX6_init_0 : List UInt8 := [42, 183, 0, 1, 42, 16, 9, 188, 10, 181, 0, 7, 177]
abbrev dktX6_init_0 : List UInt8 := dkwX6_init_0 ++ []
theorem dksX6_init_0 : cX6_init.data.toList.drop 0 = dktX6_init_0 := by decide +kernel
theorem dX6_init_0 : decode cX6_init 0 = .ok (.aload_n 0, 1) := dk_42 (dk_at dksX6_init_0 0 rfl rfl)
theorem dX6_init_1 : decode cX6_init 1 = .ok (.invokespecial 1, 3) := dk_183 0 1 (dk_at dksX6_init_0 1 rfl rfl)
theorem dX6_init_4 : decode cX6_init 4 = .ok (.aload_n 0, 1) := dk_42 (dk_at dksX6_init_0 4 rfl rfl)
theorem dX6_init_5 : decode cX6_init 5 = .ok (.bipush 9, 2) := dk_16 9 (dk_at dksX6_init_0 5 rfl rfl)
theorem dX6_init_7 : decode cX6_init 7 = .ok (.newarray .int, 2) := dk_188_10 (dk_at dksX6_init_0 7 rfl rfl)
theorem dX6_init_9 : decode cX6_init 9 = .ok (.putfield 7, 3) := dk_181 0 7 (dk_at dksX6_init_0 9 rfl rfl)
theorem dX6_init_12 : decode cX6_init 12 = .ok (.return_, 1) := dk_177 (dk_at dksX6_init_0 12 rfl rfl)
theorem q131 : (Jvm.Cond.initialized "RainLoom$Asked") ∈ lw_all := lw_g (lw_at lw_m1 13 rfl) rfl
theorem q418 : (Jvm.Cond.instantiable "RainLoom$Asked" (2 : Nat)) ∈ lw_all := lw_g (lw_at lw_m2 60 rfl) rfl
theorem q420 : (Jvm.Cond.instanceMethod ({ cls := "RainLoom$Asked", name := "<init>", desc := "()V" } : Jvm.MethodName)) ∈ lw_all := lw_g (lw_at lw_m2 62 rfl) rfl
theorem q421 : (Jvm.Cond.code ({ cls := "RainLoom$Asked", name := "<init>", desc := "()V" } : Jvm.MethodName) prog_2_method_1_code (1 : Nat) (Option.none : Option Jvm.ClassFile.FieldType)) ∈ lw_all := lw_g (lw_at lw_m2 63 rfl) rfl
theorem q422 : (Jvm.Cond.methodLink "RainLoom$Asked" (1 : Nat) ({ cls := "java/lang/Object", name := "<init>", desc := "()V" } : Jvm.MethodName)) ∈ lw_all := lw_g (lw_at lw_m2 64 rfl) rfl
theorem q423 : (Jvm.Cond.fieldLink "RainLoom$Asked" (7 : Nat) "RainLoom$Asked" "v" "[I") ∈ lw_all := lw_g (lw_at lw_m2 65 rfl) rfl
theorem q428 : (Jvm.Cond.laysFinal "RainLoom$Asked" "RainLoom$Asked" "v" "[I") ∈ lw_all := lw_g (lw_at lw_m2 70 rfl) rfl
theorem q429 : (Jvm.Cond.soleField "RainLoom$Asked" "v") ∈ lw_all := lw_g (lw_at lw_m2 71 rfl) rfl
theorem q430 : (Jvm.Cond.lays "RainLoom$Asked" "RainLoom$Asked" "nought" "Z") ∈ lw_all := lw_g (lw_at lw_m2 72 rfl) rfl
theorem q431 : (Jvm.Cond.soleField "RainLoom$Asked" "nought") ∈ lw_all := lw_g (lw_at lw_m2 73 rfl) rfl
theorem q432 : (Jvm.Cond.superclass "RainLoom$Asked" "java/lang/Object") ∈ lw_all := lw_g (lw_at lw_m2 74 rfl) rfl
theorem q1117 : (Jvm.Cond.selects "RainLoom$Asked" ({ cls := "java/lang/Object", name := "getClass", desc := "()Ljava/lang/Class;" } : Jvm.MethodName) ({ cls := "java/lang/Object", name := "getClass", desc := "()Ljava/lang/Class;" } : Jvm.MethodName)) ∈ lw_all := lw_g (lw_at lw_m5 39 rfl) rfl
theorem q2188 : (Jvm.Cond.castable "RainLoom$Asked" "java/lang/Object") ∈ lw_tbl := lw_at lw_m9 150 rfl
theorem in_X6 : ∀ w ∈ wsX60, w ∈ lw_all := lw_in wsX60 [428, 430] (by decide +kernel) (by decide +kernel)

/-! RainLoom$Part -/
set_option maxRecDepth 100000
def RX7 : String := "RainLoom$Part"
abbrev cX7_init : ByteArray := prog_16_method_1_code
def yX7_init : MethodName := ⟨RX7, "<init>", "()V"⟩
theorem dX7_init_0 : decode cX7_init 0 = .ok (.aload_n 0, 1) := by decide +kernel
theorem dX7_init_1 : decode cX7_init 1 = .ok (.invokespecial 1, 3) := by decide +kernel
theorem dX7_init_4 : decode cX7_init 4 = .ok (.return_, 1) := by decide +kernel
theorem q132 : (Jvm.Cond.initialized "RainLoom$Part") ∈ lw_all := lw_g (lw_at lw_m1 14 rfl) rfl
theorem q509 : (Jvm.Cond.instanceMethod ({ cls := "RainLoom$Part", name := "<init>", desc := "()V" } : Jvm.MethodName)) ∈ lw_all := lw_g (lw_at lw_m2 151 rfl) rfl
theorem q510 : (Jvm.Cond.code ({ cls := "RainLoom$Part", name := "<init>", desc := "()V" } : Jvm.MethodName) prog_16_method_1_code (1 : Nat) (Option.none : Option Jvm.ClassFile.FieldType)) ∈ lw_all := lw_g (lw_at lw_m2 152 rfl) rfl
theorem q511 : (Jvm.Cond.methodLink "RainLoom$Part" (1 : Nat) ({ cls := "java/lang/Object", name := "<init>", desc := "()V" } : Jvm.MethodName)) ∈ lw_all := lw_g (lw_at lw_m2 153 rfl) rfl
theorem q1321 : (Jvm.Cond.declares ({ cls := "RainLoom$Part", name := "goes", desc := "(LRainLoom$Land;LRainLoom$Text;)V" } : Jvm.MethodName)) ∈ lw_tbl := lw_at lw_m6 3 rfl
theorem q1322 : (Jvm.Cond.sameMethod "RainLoom$Part" "RainLoom$Part" "goes" "(LRainLoom$Land;LRainLoom$Text;)V") ∈ lw_all := lw_g (lw_at lw_m6 4 rfl) rfl
theorem q2180 : (Jvm.Cond.castable "RainLoom$Part" "java/lang/Object") ∈ lw_tbl := lw_at lw_m9 142 rfl

/-! RainLoom$Falling -/
set_option maxRecDepth 100000
def RX8 : String := "RainLoom$Falling"
abbrev cX8_init : ByteArray := prog_5_method_1_code
def yX8_init : MethodName := ⟨RX8, "<init>", "()V"⟩
theorem dX8_init_0 : decode cX8_init 0 = .ok (.aload_n 0, 1) := by decide +kernel
theorem dX8_init_1 : decode cX8_init 1 = .ok (.invokespecial 1, 3) := by decide +kernel
theorem dX8_init_4 : decode cX8_init 4 = .ok (.return_, 1) := by decide +kernel
abbrev cX8_goes : ByteArray := prog_5_method_2_code
def yX8_goes : MethodName := ⟨RX8, "goes", "(LRainLoom$Land;LRainLoom$Text;)V"⟩
def dkwX8_goes_4 : List UInt8 := [54, 5, 132, 3, 1, 167, 255, 163, 177]
abbrev dktX8_goes_4 : List UInt8 := dkwX8_goes_4 ++ []
def dkwX8_goes_3 : List UInt8 := [180, 0, 41, 29, 46, 43, 180, 0, 44, 29, 46, 21, 4, 96, 43, 180, 0, 47, 29, 46, 182, 0, 50]
abbrev dktX8_goes_3 : List UInt8 := dkwX8_goes_3 ++ dktX8_goes_4
def dkwX8_goes_2 : List UInt8 := [180, 0, 38, 162, 0, 7, 4, 167, 0, 4, 3, 54, 4, 43, 44, 29, 43, 180, 0, 19, 29, 46, 43]
abbrev dktX8_goes_2 : List UInt8 := dkwX8_goes_2 ++ dktX8_goes_3
def dkwX8_goes_1 : List UInt8 := [167, 0, 70, 43, 180, 0, 25, 16, 8, 43, 180, 0, 29, 104, 29, 96, 16, 100, 184, 0, 32, 44]
abbrev dktX8_goes_1 : List UInt8 := dkwX8_goes_1 ++ dktX8_goes_2
def dkwX8_goes_0 : List UInt8 := [3, 62, 29, 44, 180, 0, 7, 182, 0, 13, 162, 0, 88, 43, 180, 0, 19, 29, 46, 156, 0, 6]
abbrev dktX8_goes_0 : List UInt8 := dkwX8_goes_0 ++ dktX8_goes_1
theorem dksX8_goes_0 : cX8_goes.data.toList.drop 0 = dktX8_goes_0 := by decide +kernel
theorem dksX8_goes_1 : cX8_goes.data.toList.drop 22 = dktX8_goes_1 := dk_seg dksX8_goes_0 22 rfl rfl
theorem dksX8_goes_2 : cX8_goes.data.toList.drop 44 = dktX8_goes_2 := dk_seg dksX8_goes_1 22 rfl rfl
theorem dksX8_goes_3 : cX8_goes.data.toList.drop 67 = dktX8_goes_3 := dk_seg dksX8_goes_2 23 rfl rfl
theorem dksX8_goes_4 : cX8_goes.data.toList.drop 90 = dktX8_goes_4 := dk_seg dksX8_goes_3 23 rfl rfl
theorem dX8_goes_0 : decode cX8_goes 0 = .ok (.iconst 0, 1) := dk_3 (dk_at dksX8_goes_0 0 rfl rfl)
theorem dX8_goes_1 : decode cX8_goes 1 = .ok (.istore_n 3, 1) := dk_62 (dk_at dksX8_goes_0 1 rfl rfl)
theorem dX8_goes_2 : decode cX8_goes 2 = .ok (.iload_n 3, 1) := dk_29 (dk_at dksX8_goes_0 2 rfl rfl)
theorem dX8_goes_3 : decode cX8_goes 3 = .ok (.aload_n 2, 1) := dk_44 (dk_at dksX8_goes_0 3 rfl rfl)
theorem dX8_goes_4 : decode cX8_goes 4 = .ok (.getfield 7, 3) := dk_180 0 7 (dk_at dksX8_goes_0 4 rfl rfl)
theorem dX8_goes_7 : decode cX8_goes 7 = .ok (.invokevirtual 13, 3) := dk_182 0 13 (dk_at dksX8_goes_0 7 rfl rfl)
theorem dX8_goes_10 : decode cX8_goes 10 = .ok (.if_icmp .ge 88, 3) := dk_162 0 88 (dk_at dksX8_goes_0 10 rfl rfl)
theorem dX8_goes_13 : decode cX8_goes 13 = .ok (.aload_n 1, 1) := dk_43 (dk_at dksX8_goes_0 13 rfl rfl)
theorem dX8_goes_14 : decode cX8_goes 14 = .ok (.getfield 19, 3) := dk_180 0 19 (dk_at dksX8_goes_0 14 rfl rfl)
theorem dX8_goes_17 : decode cX8_goes 17 = .ok (.iload_n 3, 1) := dk_29 (dk_at dksX8_goes_0 17 rfl rfl)
theorem dX8_goes_18 : decode cX8_goes 18 = .ok (.iaload, 1) := dk_46 (dk_at dksX8_goes_0 18 rfl rfl)
theorem dX8_goes_19 : decode cX8_goes 19 = .ok (.ifCond .ge 6, 3) := dk_156 0 6 (dk_at dksX8_goes_0 19 rfl rfl)
theorem dX8_goes_22 : decode cX8_goes 22 = .ok (.goto 70, 3) := dk_167 0 70 (dk_at dksX8_goes_1 0 rfl rfl)
theorem dX8_goes_25 : decode cX8_goes 25 = .ok (.aload_n 1, 1) := dk_43 (dk_at dksX8_goes_1 3 rfl rfl)
theorem dX8_goes_26 : decode cX8_goes 26 = .ok (.getfield 25, 3) := dk_180 0 25 (dk_at dksX8_goes_1 4 rfl rfl)
theorem dX8_goes_29 : decode cX8_goes 29 = .ok (.bipush 8, 2) := dk_16 8 (dk_at dksX8_goes_1 7 rfl rfl)
theorem dX8_goes_31 : decode cX8_goes 31 = .ok (.aload_n 1, 1) := dk_43 (dk_at dksX8_goes_1 9 rfl rfl)
theorem dX8_goes_32 : decode cX8_goes 32 = .ok (.getfield 29, 3) := dk_180 0 29 (dk_at dksX8_goes_1 10 rfl rfl)
theorem dX8_goes_35 : decode cX8_goes 35 = .ok (.imul, 1) := dk_104 (dk_at dksX8_goes_1 13 rfl rfl)
theorem dX8_goes_36 : decode cX8_goes 36 = .ok (.iload_n 3, 1) := dk_29 (dk_at dksX8_goes_1 14 rfl rfl)
theorem dX8_goes_37 : decode cX8_goes 37 = .ok (.iadd, 1) := dk_96 (dk_at dksX8_goes_1 15 rfl rfl)
theorem dX8_goes_38 : decode cX8_goes 38 = .ok (.bipush 100, 2) := dk_16 100 (dk_at dksX8_goes_1 16 rfl rfl)
theorem dX8_goes_40 : decode cX8_goes 40 = .ok (.invokestatic 32, 3) := dk_184 0 32 (dk_at dksX8_goes_1 18 rfl rfl)
theorem dX8_goes_43 : decode cX8_goes 43 = .ok (.aload_n 2, 1) := dk_44 (dk_at dksX8_goes_1 21 rfl rfl)
theorem dX8_goes_44 : decode cX8_goes 44 = .ok (.getfield 38, 3) := dk_180 0 38 (dk_at dksX8_goes_2 0 rfl rfl)
theorem dX8_goes_47 : decode cX8_goes 47 = .ok (.if_icmp .ge 7, 3) := dk_162 0 7 (dk_at dksX8_goes_2 3 rfl rfl)
theorem dX8_goes_50 : decode cX8_goes 50 = .ok (.iconst 1, 1) := dk_4 (dk_at dksX8_goes_2 6 rfl rfl)
theorem dX8_goes_51 : decode cX8_goes 51 = .ok (.goto 4, 3) := dk_167 0 4 (dk_at dksX8_goes_2 7 rfl rfl)
theorem dX8_goes_54 : decode cX8_goes 54 = .ok (.iconst 0, 1) := dk_3 (dk_at dksX8_goes_2 10 rfl rfl)
theorem dX8_goes_55 : decode cX8_goes 55 = .ok (.istore 4, 2) := dk_54 4 (dk_at dksX8_goes_2 11 rfl rfl)
theorem dX8_goes_57 : decode cX8_goes 57 = .ok (.aload_n 1, 1) := dk_43 (dk_at dksX8_goes_2 13 rfl rfl)
theorem dX8_goes_58 : decode cX8_goes 58 = .ok (.aload_n 2, 1) := dk_44 (dk_at dksX8_goes_2 14 rfl rfl)
theorem dX8_goes_59 : decode cX8_goes 59 = .ok (.iload_n 3, 1) := dk_29 (dk_at dksX8_goes_2 15 rfl rfl)
theorem dX8_goes_60 : decode cX8_goes 60 = .ok (.aload_n 1, 1) := dk_43 (dk_at dksX8_goes_2 16 rfl rfl)
theorem dX8_goes_61 : decode cX8_goes 61 = .ok (.getfield 19, 3) := dk_180 0 19 (dk_at dksX8_goes_2 17 rfl rfl)
theorem dX8_goes_64 : decode cX8_goes 64 = .ok (.iload_n 3, 1) := dk_29 (dk_at dksX8_goes_2 20 rfl rfl)
theorem dX8_goes_65 : decode cX8_goes 65 = .ok (.iaload, 1) := dk_46 (dk_at dksX8_goes_2 21 rfl rfl)
theorem dX8_goes_66 : decode cX8_goes 66 = .ok (.aload_n 1, 1) := dk_43 (dk_at dksX8_goes_2 22 rfl rfl)
theorem dX8_goes_67 : decode cX8_goes 67 = .ok (.getfield 41, 3) := dk_180 0 41 (dk_at dksX8_goes_3 0 rfl rfl)
theorem dX8_goes_70 : decode cX8_goes 70 = .ok (.iload_n 3, 1) := dk_29 (dk_at dksX8_goes_3 3 rfl rfl)
theorem dX8_goes_71 : decode cX8_goes 71 = .ok (.iaload, 1) := dk_46 (dk_at dksX8_goes_3 4 rfl rfl)
theorem dX8_goes_72 : decode cX8_goes 72 = .ok (.aload_n 1, 1) := dk_43 (dk_at dksX8_goes_3 5 rfl rfl)
theorem dX8_goes_73 : decode cX8_goes 73 = .ok (.getfield 44, 3) := dk_180 0 44 (dk_at dksX8_goes_3 6 rfl rfl)
theorem dX8_goes_76 : decode cX8_goes 76 = .ok (.iload_n 3, 1) := dk_29 (dk_at dksX8_goes_3 9 rfl rfl)
theorem dX8_goes_77 : decode cX8_goes 77 = .ok (.iaload, 1) := dk_46 (dk_at dksX8_goes_3 10 rfl rfl)
theorem dX8_goes_78 : decode cX8_goes 78 = .ok (.iload 4, 2) := dk_21 4 (dk_at dksX8_goes_3 11 rfl rfl)
theorem dX8_goes_80 : decode cX8_goes 80 = .ok (.iadd, 1) := dk_96 (dk_at dksX8_goes_3 13 rfl rfl)
theorem dX8_goes_81 : decode cX8_goes 81 = .ok (.aload_n 1, 1) := dk_43 (dk_at dksX8_goes_3 14 rfl rfl)
theorem dX8_goes_82 : decode cX8_goes 82 = .ok (.getfield 47, 3) := dk_180 0 47 (dk_at dksX8_goes_3 15 rfl rfl)
theorem dX8_goes_85 : decode cX8_goes 85 = .ok (.iload_n 3, 1) := dk_29 (dk_at dksX8_goes_3 18 rfl rfl)
theorem dX8_goes_86 : decode cX8_goes 86 = .ok (.iaload, 1) := dk_46 (dk_at dksX8_goes_3 19 rfl rfl)
theorem dX8_goes_87 : decode cX8_goes 87 = .ok (.invokevirtual 50, 3) := dk_182 0 50 (dk_at dksX8_goes_3 20 rfl rfl)
theorem dX8_goes_90 : decode cX8_goes 90 = .ok (.istore 5, 2) := dk_54 5 (dk_at dksX8_goes_4 0 rfl rfl)
theorem dX8_goes_92 : decode cX8_goes 92 = .ok (.iinc 3 1, 3) := dk_132 3 1 (dk_at dksX8_goes_4 2 rfl rfl)
theorem dX8_goes_95 : decode cX8_goes 95 = .ok (.goto (-93), 3) := dk_167 255 163 (dk_at dksX8_goes_4 5 rfl rfl)
theorem dX8_goes_98 : decode cX8_goes 98 = .ok (.return_, 1) := dk_177 (dk_at dksX8_goes_4 8 rfl rfl)
theorem q133 : (Jvm.Cond.initialized "RainLoom$Falling") ∈ lw_all := lw_g (lw_at lw_m1 15 rfl) rfl
theorem q371 : (Jvm.Cond.fieldLink "RainLoom$Falling" (7 : Nat) "RainLoom$Text" "looms" "Ljava/util/ArrayList;") ∈ lw_all := lw_g (lw_at lw_m2 13 rfl) rfl
theorem q387 : (Jvm.Cond.fieldLink "RainLoom$Falling" (38 : Nat) "RainLoom$Text" "gusts" "I") ∈ lw_all := lw_g (lw_at lw_m2 29 rfl) rfl
theorem q449 : (Jvm.Cond.fieldLink "RainLoom$Falling" (19 : Nat) "RainLoom$Land" "wide" "[I") ∈ lw_all := lw_g (lw_at lw_m2 91 rfl) rfl
theorem q452 : (Jvm.Cond.fieldLink "RainLoom$Falling" (41 : Nat) "RainLoom$Land" "high" "[I") ∈ lw_all := lw_g (lw_at lw_m2 94 rfl) rfl
theorem q455 : (Jvm.Cond.fieldLink "RainLoom$Falling" (44 : Nat) "RainLoom$Land" "toX" "[I") ∈ lw_all := lw_g (lw_at lw_m2 97 rfl) rfl
theorem q458 : (Jvm.Cond.fieldLink "RainLoom$Falling" (47 : Nat) "RainLoom$Land" "toY" "[I") ∈ lw_all := lw_g (lw_at lw_m2 100 rfl) rfl
theorem q464 : (Jvm.Cond.fieldLink "RainLoom$Falling" (29 : Nat) "RainLoom$Land" "day" "I") ∈ lw_all := lw_g (lw_at lw_m2 106 rfl) rfl
theorem q467 : (Jvm.Cond.fieldLink "RainLoom$Falling" (25 : Nat) "RainLoom$Land" "seed" "I") ∈ lw_all := lw_g (lw_at lw_m2 109 rfl) rfl
theorem q504 : (Jvm.Cond.instantiable "RainLoom$Falling" (0 : Nat)) ∈ lw_all := lw_g (lw_at lw_m2 146 rfl) rfl
theorem q506 : (Jvm.Cond.instanceMethod ({ cls := "RainLoom$Falling", name := "<init>", desc := "()V" } : Jvm.MethodName)) ∈ lw_all := lw_g (lw_at lw_m2 148 rfl) rfl
theorem q507 : (Jvm.Cond.code ({ cls := "RainLoom$Falling", name := "<init>", desc := "()V" } : Jvm.MethodName) prog_5_method_1_code (1 : Nat) (Option.none : Option Jvm.ClassFile.FieldType)) ∈ lw_all := lw_g (lw_at lw_m2 149 rfl) rfl
theorem q508 : (Jvm.Cond.methodLinkNest "RainLoom$Falling" (1 : Nat) ({ cls := "RainLoom$Part", name := "<init>", desc := "()V" } : Jvm.MethodName) "RainLoom") ∈ lw_tbl := lw_at lw_m2 150 rfl
theorem q512 : (Jvm.Cond.superclass "RainLoom$Falling" "RainLoom$Part") ∈ lw_all := lw_g (lw_at lw_m2 154 rfl) rfl
theorem q1120 : (Jvm.Cond.selects "RainLoom$Falling" ({ cls := "java/lang/Object", name := "getClass", desc := "()Ljava/lang/Class;" } : Jvm.MethodName) ({ cls := "java/lang/Object", name := "getClass", desc := "()Ljava/lang/Class;" } : Jvm.MethodName)) ∈ lw_all := lw_g (lw_at lw_m5 42 rfl) rfl
theorem q1338 : (Jvm.Cond.selects "RainLoom$Falling" ({ cls := "RainLoom$Part", name := "goes", desc := "(LRainLoom$Land;LRainLoom$Text;)V" } : Jvm.MethodName) ({ cls := "RainLoom$Falling", name := "goes", desc := "(LRainLoom$Land;LRainLoom$Text;)V" } : Jvm.MethodName)) ∈ lw_all := lw_g (lw_at lw_m6 20 rfl) rfl
theorem q1339 : (Jvm.Cond.instanceMethod ({ cls := "RainLoom$Falling", name := "goes", desc := "(LRainLoom$Land;LRainLoom$Text;)V" } : Jvm.MethodName)) ∈ lw_all := lw_g (lw_at lw_m6 21 rfl) rfl
theorem q1340 : (Jvm.Cond.code ({ cls := "RainLoom$Falling", name := "goes", desc := "(LRainLoom$Land;LRainLoom$Text;)V" } : Jvm.MethodName) prog_5_method_2_code (6 : Nat) (Option.none : Option Jvm.ClassFile.FieldType)) ∈ lw_all := lw_g (lw_at lw_m6 22 rfl) rfl
theorem q1341 : (Jvm.Cond.methodLink "RainLoom$Falling" (13 : Nat) ({ cls := "java/util/ArrayList", name := "size", desc := "()I" } : Jvm.MethodName)) ∈ lw_all := lw_g (lw_at lw_m6 23 rfl) rfl
theorem q1342 : (Jvm.Cond.methodLinkNest "RainLoom$Falling" (32 : Nat) ({ cls := "RainLoom", name := "lot", desc := "(III)I" } : Jvm.MethodName) "RainLoom") ∈ lw_tbl := lw_at lw_m6 24 rfl
theorem q1349 : (Jvm.Cond.methodLink "RainLoom$Falling" (50 : Nat) ({ cls := "RainLoom$Land", name := "falls", desc := "(LRainLoom$Text;IIIII)I" } : Jvm.MethodName)) ∈ lw_all := lw_g (lw_at lw_m6 31 rfl) rfl
theorem q2189 : (Jvm.Cond.castable "RainLoom$Falling" "java/lang/Object") ∈ lw_tbl := lw_at lw_m9 151 rfl
theorem q2201 : (Jvm.Cond.castable "RainLoom$Falling" "RainLoom$Part") ∈ lw_tbl := lw_at lw_m9 163 rfl

/-! RainLoom$Counting -/
set_option maxRecDepth 100000
def RX9 : String := "RainLoom$Counting"
abbrev cX9_init : ByteArray := prog_3_method_1_code
def yX9_init : MethodName := ⟨RX9, "<init>", "()V"⟩
theorem dX9_init_0 : decode cX9_init 0 = .ok (.aload_n 0, 1) := by decide +kernel
theorem dX9_init_1 : decode cX9_init 1 = .ok (.invokespecial 3, 3) := by decide +kernel
theorem dX9_init_4 : decode cX9_init 4 = .ok (.return_, 1) := by decide +kernel
abbrev cX9_goes : ByteArray := prog_3_method_2_code
def yX9_goes : MethodName := ⟨RX9, "goes", "(LRainLoom$Land;LRainLoom$Text;)V"⟩
def dkwX9_goes_3 : List UInt8 := [167, 255, 188, 177]
abbrev dktX9_goes_3 : List UInt8 := dkwX9_goes_3 ++ []
def dkwX9_goes_2 : List UInt8 := [182, 0, 28, 153, 0, 18, 43, 180, 0, 31, 44, 180, 0, 25, 29, 46, 92, 46, 4, 96, 79, 132, 3, 1]
abbrev dktX9_goes_2 : List UInt8 := dkwX9_goes_2 ++ dktX9_goes_3
def dkwX9_goes_1 : List UInt8 := [182, 0, 15, 153, 0, 18, 43, 180, 0, 21, 44, 180, 0, 25, 29, 46, 92, 46, 4, 96, 79, 43, 44, 29]
abbrev dktX9_goes_1 : List UInt8 := dkwX9_goes_1 ++ dktX9_goes_2
def dkwX9_goes_0 : List UInt8 := [3, 62, 29, 16, 48, 162, 0, 68, 44, 29, 182, 0, 9, 154, 0, 6, 167, 0, 51, 43, 44, 29]
abbrev dktX9_goes_0 : List UInt8 := dkwX9_goes_0 ++ dktX9_goes_1
theorem dksX9_goes_0 : cX9_goes.data.toList.drop 0 = dktX9_goes_0 := by decide +kernel
theorem dksX9_goes_1 : cX9_goes.data.toList.drop 22 = dktX9_goes_1 := dk_seg dksX9_goes_0 22 rfl rfl
theorem dksX9_goes_2 : cX9_goes.data.toList.drop 46 = dktX9_goes_2 := dk_seg dksX9_goes_1 24 rfl rfl
theorem dksX9_goes_3 : cX9_goes.data.toList.drop 70 = dktX9_goes_3 := dk_seg dksX9_goes_2 24 rfl rfl
theorem dX9_goes_0 : decode cX9_goes 0 = .ok (.iconst 0, 1) := dk_3 (dk_at dksX9_goes_0 0 rfl rfl)
theorem dX9_goes_1 : decode cX9_goes 1 = .ok (.istore_n 3, 1) := dk_62 (dk_at dksX9_goes_0 1 rfl rfl)
theorem dX9_goes_2 : decode cX9_goes 2 = .ok (.iload_n 3, 1) := dk_29 (dk_at dksX9_goes_0 2 rfl rfl)
theorem dX9_goes_3 : decode cX9_goes 3 = .ok (.bipush 48, 2) := dk_16 48 (dk_at dksX9_goes_0 3 rfl rfl)
theorem dX9_goes_5 : decode cX9_goes 5 = .ok (.if_icmp .ge 68, 3) := dk_162 0 68 (dk_at dksX9_goes_0 5 rfl rfl)
theorem dX9_goes_8 : decode cX9_goes 8 = .ok (.aload_n 2, 1) := dk_44 (dk_at dksX9_goes_0 8 rfl rfl)
theorem dX9_goes_9 : decode cX9_goes 9 = .ok (.iload_n 3, 1) := dk_29 (dk_at dksX9_goes_0 9 rfl rfl)
theorem dX9_goes_10 : decode cX9_goes 10 = .ok (.invokevirtual 9, 3) := dk_182 0 9 (dk_at dksX9_goes_0 10 rfl rfl)
theorem dX9_goes_13 : decode cX9_goes 13 = .ok (.ifCond .ne 6, 3) := dk_154 0 6 (dk_at dksX9_goes_0 13 rfl rfl)
theorem dX9_goes_16 : decode cX9_goes 16 = .ok (.goto 51, 3) := dk_167 0 51 (dk_at dksX9_goes_0 16 rfl rfl)
theorem dX9_goes_19 : decode cX9_goes 19 = .ok (.aload_n 1, 1) := dk_43 (dk_at dksX9_goes_0 19 rfl rfl)
theorem dX9_goes_20 : decode cX9_goes 20 = .ok (.aload_n 2, 1) := dk_44 (dk_at dksX9_goes_0 20 rfl rfl)
theorem dX9_goes_21 : decode cX9_goes 21 = .ok (.iload_n 3, 1) := dk_29 (dk_at dksX9_goes_0 21 rfl rfl)
theorem dX9_goes_22 : decode cX9_goes 22 = .ok (.invokevirtual 15, 3) := dk_182 0 15 (dk_at dksX9_goes_1 0 rfl rfl)
theorem dX9_goes_25 : decode cX9_goes 25 = .ok (.ifCond .eq 18, 3) := dk_153 0 18 (dk_at dksX9_goes_1 3 rfl rfl)
theorem dX9_goes_28 : decode cX9_goes 28 = .ok (.aload_n 1, 1) := dk_43 (dk_at dksX9_goes_1 6 rfl rfl)
theorem dX9_goes_29 : decode cX9_goes 29 = .ok (.getfield 21, 3) := dk_180 0 21 (dk_at dksX9_goes_1 7 rfl rfl)
theorem dX9_goes_32 : decode cX9_goes 32 = .ok (.aload_n 2, 1) := dk_44 (dk_at dksX9_goes_1 10 rfl rfl)
theorem dX9_goes_33 : decode cX9_goes 33 = .ok (.getfield 25, 3) := dk_180 0 25 (dk_at dksX9_goes_1 11 rfl rfl)
theorem dX9_goes_36 : decode cX9_goes 36 = .ok (.iload_n 3, 1) := dk_29 (dk_at dksX9_goes_1 14 rfl rfl)
theorem dX9_goes_37 : decode cX9_goes 37 = .ok (.iaload, 1) := dk_46 (dk_at dksX9_goes_1 15 rfl rfl)
theorem dX9_goes_38 : decode cX9_goes 38 = .ok (.dup2, 1) := dk_92 (dk_at dksX9_goes_1 16 rfl rfl)
theorem dX9_goes_39 : decode cX9_goes 39 = .ok (.iaload, 1) := dk_46 (dk_at dksX9_goes_1 17 rfl rfl)
theorem dX9_goes_40 : decode cX9_goes 40 = .ok (.iconst 1, 1) := dk_4 (dk_at dksX9_goes_1 18 rfl rfl)
theorem dX9_goes_41 : decode cX9_goes 41 = .ok (.iadd, 1) := dk_96 (dk_at dksX9_goes_1 19 rfl rfl)
theorem dX9_goes_42 : decode cX9_goes 42 = .ok (.iastore, 1) := dk_79 (dk_at dksX9_goes_1 20 rfl rfl)
theorem dX9_goes_43 : decode cX9_goes 43 = .ok (.aload_n 1, 1) := dk_43 (dk_at dksX9_goes_1 21 rfl rfl)
theorem dX9_goes_44 : decode cX9_goes 44 = .ok (.aload_n 2, 1) := dk_44 (dk_at dksX9_goes_1 22 rfl rfl)
theorem dX9_goes_45 : decode cX9_goes 45 = .ok (.iload_n 3, 1) := dk_29 (dk_at dksX9_goes_1 23 rfl rfl)
theorem dX9_goes_46 : decode cX9_goes 46 = .ok (.invokevirtual 28, 3) := dk_182 0 28 (dk_at dksX9_goes_2 0 rfl rfl)
theorem dX9_goes_49 : decode cX9_goes 49 = .ok (.ifCond .eq 18, 3) := dk_153 0 18 (dk_at dksX9_goes_2 3 rfl rfl)
theorem dX9_goes_52 : decode cX9_goes 52 = .ok (.aload_n 1, 1) := dk_43 (dk_at dksX9_goes_2 6 rfl rfl)
theorem dX9_goes_53 : decode cX9_goes 53 = .ok (.getfield 31, 3) := dk_180 0 31 (dk_at dksX9_goes_2 7 rfl rfl)
theorem dX9_goes_56 : decode cX9_goes 56 = .ok (.aload_n 2, 1) := dk_44 (dk_at dksX9_goes_2 10 rfl rfl)
theorem dX9_goes_57 : decode cX9_goes 57 = .ok (.getfield 25, 3) := dk_180 0 25 (dk_at dksX9_goes_2 11 rfl rfl)
theorem dX9_goes_60 : decode cX9_goes 60 = .ok (.iload_n 3, 1) := dk_29 (dk_at dksX9_goes_2 14 rfl rfl)
theorem dX9_goes_61 : decode cX9_goes 61 = .ok (.iaload, 1) := dk_46 (dk_at dksX9_goes_2 15 rfl rfl)
theorem dX9_goes_62 : decode cX9_goes 62 = .ok (.dup2, 1) := dk_92 (dk_at dksX9_goes_2 16 rfl rfl)
theorem dX9_goes_63 : decode cX9_goes 63 = .ok (.iaload, 1) := dk_46 (dk_at dksX9_goes_2 17 rfl rfl)
theorem dX9_goes_64 : decode cX9_goes 64 = .ok (.iconst 1, 1) := dk_4 (dk_at dksX9_goes_2 18 rfl rfl)
theorem dX9_goes_65 : decode cX9_goes 65 = .ok (.iadd, 1) := dk_96 (dk_at dksX9_goes_2 19 rfl rfl)
theorem dX9_goes_66 : decode cX9_goes 66 = .ok (.iastore, 1) := dk_79 (dk_at dksX9_goes_2 20 rfl rfl)
theorem dX9_goes_67 : decode cX9_goes 67 = .ok (.iinc 3 1, 3) := dk_132 3 1 (dk_at dksX9_goes_2 21 rfl rfl)
theorem dX9_goes_70 : decode cX9_goes 70 = .ok (.goto (-68), 3) := dk_167 255 188 (dk_at dksX9_goes_3 0 rfl rfl)
theorem dX9_goes_73 : decode cX9_goes 73 = .ok (.return_, 1) := dk_177 (dk_at dksX9_goes_3 3 rfl rfl)
theorem q134 : (Jvm.Cond.initialized "RainLoom$Counting") ∈ lw_all := lw_g (lw_at lw_m1 16 rfl) rfl
theorem q363 : (Jvm.Cond.fieldLink "RainLoom$Counting" (25 : Nat) "RainLoom$Text" "field" "[I") ∈ lw_all := lw_g (lw_at lw_m2 5 rfl) rfl
theorem q437 : (Jvm.Cond.fieldLink "RainLoom$Counting" (21 : Nat) "RainLoom$Land" "lacked" "[I") ∈ lw_all := lw_g (lw_at lw_m2 79 rfl) rfl
theorem q440 : (Jvm.Cond.fieldLink "RainLoom$Counting" (31 : Nat) "RainLoom$Land" "flooded" "[I") ∈ lw_all := lw_g (lw_at lw_m2 82 rfl) rfl
theorem q514 : (Jvm.Cond.instantiable "RainLoom$Counting" (0 : Nat)) ∈ lw_all := lw_g (lw_at lw_m2 156 rfl) rfl
theorem q516 : (Jvm.Cond.instanceMethod ({ cls := "RainLoom$Counting", name := "<init>", desc := "()V" } : Jvm.MethodName)) ∈ lw_all := lw_g (lw_at lw_m2 158 rfl) rfl
theorem q517 : (Jvm.Cond.code ({ cls := "RainLoom$Counting", name := "<init>", desc := "()V" } : Jvm.MethodName) prog_3_method_1_code (1 : Nat) (Option.none : Option Jvm.ClassFile.FieldType)) ∈ lw_all := lw_g (lw_at lw_m2 159 rfl) rfl
theorem q518 : (Jvm.Cond.methodLinkNest "RainLoom$Counting" (3 : Nat) ({ cls := "RainLoom$Part", name := "<init>", desc := "()V" } : Jvm.MethodName) "RainLoom") ∈ lw_tbl := lw_at lw_m2 160 rfl
theorem q519 : (Jvm.Cond.superclass "RainLoom$Counting" "RainLoom$Part") ∈ lw_all := lw_g (lw_at lw_m2 161 rfl) rfl
theorem q1118 : (Jvm.Cond.selects "RainLoom$Counting" ({ cls := "java/lang/Object", name := "getClass", desc := "()Ljava/lang/Class;" } : Jvm.MethodName) ({ cls := "java/lang/Object", name := "getClass", desc := "()Ljava/lang/Class;" } : Jvm.MethodName)) ∈ lw_all := lw_g (lw_at lw_m5 40 rfl) rfl
theorem q1323 : (Jvm.Cond.selects "RainLoom$Counting" ({ cls := "RainLoom$Part", name := "goes", desc := "(LRainLoom$Land;LRainLoom$Text;)V" } : Jvm.MethodName) ({ cls := "RainLoom$Counting", name := "goes", desc := "(LRainLoom$Land;LRainLoom$Text;)V" } : Jvm.MethodName)) ∈ lw_all := lw_g (lw_at lw_m6 5 rfl) rfl
theorem q1324 : (Jvm.Cond.instanceMethod ({ cls := "RainLoom$Counting", name := "goes", desc := "(LRainLoom$Land;LRainLoom$Text;)V" } : Jvm.MethodName)) ∈ lw_all := lw_g (lw_at lw_m6 6 rfl) rfl
theorem q1325 : (Jvm.Cond.code ({ cls := "RainLoom$Counting", name := "goes", desc := "(LRainLoom$Land;LRainLoom$Text;)V" } : Jvm.MethodName) prog_3_method_2_code (4 : Nat) (Option.none : Option Jvm.ClassFile.FieldType)) ∈ lw_all := lw_g (lw_at lw_m6 7 rfl) rfl
theorem q1326 : (Jvm.Cond.methodLink "RainLoom$Counting" (9 : Nat) ({ cls := "RainLoom$Text", name := "isOn", desc := "(I)Z" } : Jvm.MethodName)) ∈ lw_all := lw_g (lw_at lw_m6 8 rfl) rfl
theorem q1327 : (Jvm.Cond.methodLink "RainLoom$Counting" (15 : Nat) ({ cls := "RainLoom$Land", name := "isLacking", desc := "(LRainLoom$Text;I)Z" } : Jvm.MethodName)) ∈ lw_all := lw_g (lw_at lw_m6 9 rfl) rfl
theorem q1328 : (Jvm.Cond.methodLink "RainLoom$Counting" (28 : Nat) ({ cls := "RainLoom$Land", name := "isFlooded", desc := "(LRainLoom$Text;I)Z" } : Jvm.MethodName)) ∈ lw_all := lw_g (lw_at lw_m6 10 rfl) rfl
theorem q2190 : (Jvm.Cond.castable "RainLoom$Counting" "java/lang/Object") ∈ lw_tbl := lw_at lw_m9 152 rfl
theorem q2202 : (Jvm.Cond.castable "RainLoom$Counting" "RainLoom$Part") ∈ lw_tbl := lw_at lw_m9 164 rfl
