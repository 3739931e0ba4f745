/-! RainLoom -/
set_option maxRecDepth 100000
def RX0 : String := "RainLoom"
def TX0 : u_T := fun k => match k with
  | 0 => ("RainLoom", "fault", "LRainLoom$Fault;", true)
  | 1 => ("RainLoom", "tokens", "LRainLoom$Tokens;", true)
  | 2 => ("RainLoom", "parser", "LRainLoom$Parser;", true)
  | 3 => ("RainLoom", "text", "LRainLoom$Text;", false)
  | 4 => ("RainLoom", "place", "I", false)
  | 5 => ("RainLoom", "undos", "I", false)
  | 6 => ("RainLoom", "undoAt", "I", false)
  | 7 => ("RainLoom", "land", "LRainLoom$Land;", true)
  | 8 => ("RainLoom", "trial", "LRainLoom$Land;", true)
  | 9 => ("RainLoom", "past", "[LRainLoom$Land;", true)
  | 10 => ("RainLoom", "slots", "[LRainLoom$Land;", true)
  | 11 => ("RainLoom", "parts", "[LRainLoom$Part;", true)
  | 12 => ("RainLoom", "held", "[Z", true)
  | 13 => ("RainLoom", "pieceWide", "[I", true)
  | 14 => ("RainLoom", "pieceLong", "[I", true)
  | 15 => ("RainLoom", "used", "[[I", true)
  | 16 => ("RainLoom", "pieces", "I", false)
  | 17 => ("RainLoom", "least", "I", false)
  | 18 => ("RainLoom", "serves", "[I", true)
  | 19 => ("RainLoom", "bestServes", "[I", true)
  | 20 => ("RainLoom", "bestSum", "I", false)
  | 21 => ("RainLoom", "tolds", "I", false)
  | 22 => ("RainLoom", "toldCell", "[I", true)
  | 23 => ("RainLoom", "toldWater", "[I", true)
  | _ => ("RainLoom", "waysWet", "[[I", true)
def tyX0 : Nat → FieldType := fun k => match k with
  | 0 => .object "RainLoom$Fault"
  | 1 => .object "RainLoom$Tokens"
  | 2 => .object "RainLoom$Parser"
  | 3 => .object "RainLoom$Text"
  | 4 => .int
  | 5 => .int
  | 6 => .int
  | 7 => .object "RainLoom$Land"
  | 8 => .object "RainLoom$Land"
  | 9 => .array (.object "RainLoom$Land")
  | 10 => .array (.object "RainLoom$Land")
  | 11 => .array (.object "RainLoom$Part")
  | 12 => .array .boolean
  | 13 => .array .int
  | 14 => .array .int
  | 15 => .array (.array .int)
  | 16 => .int
  | 17 => .int
  | 18 => .array .int
  | 19 => .array .int
  | 20 => .int
  | 21 => .int
  | 22 => .array .int
  | 23 => .array .int
  | _ => .array (.array .int)
abbrev wsX00 : List Cond := u_ws RX0 TX0 25
set_option maxRecDepth 100000 in
theorem nmX0 : ∀ a, a < 25 → ∀ b, b < 25 → a ≠ b → (TX0 a).2.1 ≠ (TX0 b).2.1 := by decide +kernel
set_option maxRecDepth 100000 in
theorem tyX0_ok : ∀ k, k < 25 → parseFieldDescriptor (TX0 k).2.2.1 = some (tyX0 k) := by decide +kernel
abbrev cX0_init : ByteArray := prog_1_method_3_code
def yX0_init : MethodName := ⟨RX0, "<init>", "()V"⟩
def dkwX0_init_12 : List UInt8 := [180, 0, 51, 42, 180, 0, 40, 182, 0, 114, 177]
abbrev dktX0_init_12 : List UInt8 := dkwX0_init_12 ++ []
def dkwX0_init_11 : List UInt8 := [162, 0, 22, 42, 180, 0, 58, 27, 187, 0, 48, 89, 183, 0, 50, 83, 132, 1, 1, 167, 255, 234, 42]
abbrev dktX0_init_11 : List UInt8 := dkwX0_init_11 ++ dktX0_init_12
def dkwX0_init_10 : List UInt8 := [188, 10, 181, 0, 108, 42, 16, 48, 16, 10, 197, 0, 94, 2, 181, 0, 111, 3, 60, 27, 16, 30]
abbrev dktX0_init_10 : List UInt8 := dkwX0_init_10 ++ dktX0_init_11
def dkwX0_init_9 : List UInt8 := [188, 10, 181, 0, 99, 42, 7, 188, 10, 181, 0, 102, 42, 16, 20, 188, 10, 181, 0, 105, 42, 16, 20]
abbrev dktX0_init_9 : List UInt8 := dkwX0_init_9 ++ dktX0_init_10
def dkwX0_init_8 : List UInt8 := [181, 0, 87, 42, 7, 188, 10, 181, 0, 91, 42, 8, 16, 8, 197, 0, 94, 2, 181, 0, 96, 42, 7]
abbrev dktX0_init_8 : List UInt8 := dkwX0_init_8 ++ dktX0_init_9
def dkwX0_init_7 : List UInt8 := [89, 6, 187, 0, 76, 89, 183, 0, 78, 83, 181, 0, 79, 42, 6, 188, 4, 181, 0, 83, 42, 7, 188, 10]
abbrev dktX0_init_7 : List UInt8 := dkwX0_init_7 ++ dktX0_init_8
def dkwX0_init_6 : List UInt8 := [183, 0, 69, 83, 89, 4, 187, 0, 70, 89, 183, 0, 72, 83, 89, 5, 187, 0, 73, 89, 183, 0, 75, 83]
abbrev dktX0_init_6 : List UInt8 := dkwX0_init_6 ++ dktX0_init_7
def dkwX0_init_5 : List UInt8 := [89, 5, 187, 0, 48, 89, 183, 0, 50, 83, 181, 0, 62, 42, 7, 189, 0, 65, 89, 3, 187, 0, 67, 89]
abbrev dktX0_init_5 : List UInt8 := dkwX0_init_5 ++ dktX0_init_6
def dkwX0_init_4 : List UInt8 := [6, 189, 0, 48, 89, 3, 187, 0, 48, 89, 183, 0, 50, 83, 89, 4, 187, 0, 48, 89, 183, 0, 50, 83]
abbrev dktX0_init_4 : List UInt8 := dkwX0_init_4 ++ dktX0_init_5
def dkwX0_init_3 : List UInt8 := [181, 0, 51, 42, 187, 0, 48, 89, 183, 0, 50, 181, 0, 55, 42, 16, 30, 189, 0, 48, 181, 0, 58, 42]
abbrev dktX0_init_3 : List UInt8 := dkwX0_init_3 ++ dktX0_init_4
def dkwX0_init_2 : List UInt8 := [187, 0, 37, 89, 183, 0, 39, 181, 0, 40, 42, 2, 181, 0, 44, 42, 187, 0, 48, 89, 183, 0, 50]
abbrev dktX0_init_2 : List UInt8 := dkwX0_init_2 ++ dktX0_init_3
def dkwX0_init_1 : List UInt8 := [181, 0, 24, 42, 187, 0, 28, 89, 42, 180, 0, 24, 42, 180, 0, 17, 183, 0, 30, 181, 0, 33, 42]
abbrev dktX0_init_1 : List UInt8 := dkwX0_init_1 ++ dktX0_init_2
def dkwX0_init_0 : List UInt8 := [42, 183, 0, 8, 42, 187, 0, 14, 89, 183, 0, 16, 181, 0, 17, 42, 187, 0, 21, 89, 183, 0, 23]
abbrev dktX0_init_0 : List UInt8 := dkwX0_init_0 ++ dktX0_init_1
theorem dksX0_init_0 : cX0_init.data.toList.drop 0 = dktX0_init_0 := by decide +kernel
theorem dksX0_init_1 : cX0_init.data.toList.drop 23 = dktX0_init_1 := dk_seg dksX0_init_0 23 rfl rfl
theorem dksX0_init_2 : cX0_init.data.toList.drop 46 = dktX0_init_2 := dk_seg dksX0_init_1 23 rfl rfl
theorem dksX0_init_3 : cX0_init.data.toList.drop 69 = dktX0_init_3 := dk_seg dksX0_init_2 23 rfl rfl
theorem dksX0_init_4 : cX0_init.data.toList.drop 93 = dktX0_init_4 := dk_seg dksX0_init_3 24 rfl rfl
theorem dksX0_init_5 : cX0_init.data.toList.drop 117 = dktX0_init_5 := dk_seg dksX0_init_4 24 rfl rfl
theorem dksX0_init_6 : cX0_init.data.toList.drop 141 = dktX0_init_6 := dk_seg dksX0_init_5 24 rfl rfl
theorem dksX0_init_7 : cX0_init.data.toList.drop 165 = dktX0_init_7 := dk_seg dksX0_init_6 24 rfl rfl
theorem dksX0_init_8 : cX0_init.data.toList.drop 189 = dktX0_init_8 := dk_seg dksX0_init_7 24 rfl rfl
theorem dksX0_init_9 : cX0_init.data.toList.drop 212 = dktX0_init_9 := dk_seg dksX0_init_8 23 rfl rfl
theorem dksX0_init_10 : cX0_init.data.toList.drop 235 = dktX0_init_10 := dk_seg dksX0_init_9 23 rfl rfl
theorem dksX0_init_11 : cX0_init.data.toList.drop 257 = dktX0_init_11 := dk_seg dksX0_init_10 22 rfl rfl
theorem dksX0_init_12 : cX0_init.data.toList.drop 280 = dktX0_init_12 := dk_seg dksX0_init_11 23 rfl rfl
theorem dX0_init_0 : decode cX0_init 0 = .ok (.aload_n 0, 1) := dk_42 (dk_at dksX0_init_0 0 rfl rfl)
theorem dX0_init_1 : decode cX0_init 1 = .ok (.invokespecial 8, 3) := dk_183 0 8 (dk_at dksX0_init_0 1 rfl rfl)
theorem dX0_init_4 : decode cX0_init 4 = .ok (.aload_n 0, 1) := dk_42 (dk_at dksX0_init_0 4 rfl rfl)
theorem dX0_init_5 : decode cX0_init 5 = .ok (.new 14, 3) := dk_187 0 14 (dk_at dksX0_init_0 5 rfl rfl)
theorem dX0_init_8 : decode cX0_init 8 = .ok (.dup, 1) := dk_89 (dk_at dksX0_init_0 8 rfl rfl)
theorem dX0_init_9 : decode cX0_init 9 = .ok (.invokespecial 16, 3) := dk_183 0 16 (dk_at dksX0_init_0 9 rfl rfl)
theorem dX0_init_12 : decode cX0_init 12 = .ok (.putfield 17, 3) := dk_181 0 17 (dk_at dksX0_init_0 12 rfl rfl)
theorem dX0_init_15 : decode cX0_init 15 = .ok (.aload_n 0, 1) := dk_42 (dk_at dksX0_init_0 15 rfl rfl)
theorem dX0_init_16 : decode cX0_init 16 = .ok (.new 21, 3) := dk_187 0 21 (dk_at dksX0_init_0 16 rfl rfl)
theorem dX0_init_19 : decode cX0_init 19 = .ok (.dup, 1) := dk_89 (dk_at dksX0_init_0 19 rfl rfl)
theorem dX0_init_20 : decode cX0_init 20 = .ok (.invokespecial 23, 3) := dk_183 0 23 (dk_at dksX0_init_0 20 rfl rfl)
theorem dX0_init_23 : decode cX0_init 23 = .ok (.putfield 24, 3) := dk_181 0 24 (dk_at dksX0_init_1 0 rfl rfl)
theorem dX0_init_26 : decode cX0_init 26 = .ok (.aload_n 0, 1) := dk_42 (dk_at dksX0_init_1 3 rfl rfl)
theorem dX0_init_27 : decode cX0_init 27 = .ok (.new 28, 3) := dk_187 0 28 (dk_at dksX0_init_1 4 rfl rfl)
theorem dX0_init_30 : decode cX0_init 30 = .ok (.dup, 1) := dk_89 (dk_at dksX0_init_1 7 rfl rfl)
theorem dX0_init_31 : decode cX0_init 31 = .ok (.aload_n 0, 1) := dk_42 (dk_at dksX0_init_1 8 rfl rfl)
theorem dX0_init_32 : decode cX0_init 32 = .ok (.getfield 24, 3) := dk_180 0 24 (dk_at dksX0_init_1 9 rfl rfl)
theorem dX0_init_35 : decode cX0_init 35 = .ok (.aload_n 0, 1) := dk_42 (dk_at dksX0_init_1 12 rfl rfl)
theorem dX0_init_36 : decode cX0_init 36 = .ok (.getfield 17, 3) := dk_180 0 17 (dk_at dksX0_init_1 13 rfl rfl)
theorem dX0_init_39 : decode cX0_init 39 = .ok (.invokespecial 30, 3) := dk_183 0 30 (dk_at dksX0_init_1 16 rfl rfl)
theorem dX0_init_42 : decode cX0_init 42 = .ok (.putfield 33, 3) := dk_181 0 33 (dk_at dksX0_init_1 19 rfl rfl)
theorem dX0_init_45 : decode cX0_init 45 = .ok (.aload_n 0, 1) := dk_42 (dk_at dksX0_init_1 22 rfl rfl)
theorem dX0_init_46 : decode cX0_init 46 = .ok (.new 37, 3) := dk_187 0 37 (dk_at dksX0_init_2 0 rfl rfl)
theorem dX0_init_49 : decode cX0_init 49 = .ok (.dup, 1) := dk_89 (dk_at dksX0_init_2 3 rfl rfl)
theorem dX0_init_50 : decode cX0_init 50 = .ok (.invokespecial 39, 3) := dk_183 0 39 (dk_at dksX0_init_2 4 rfl rfl)
theorem dX0_init_53 : decode cX0_init 53 = .ok (.putfield 40, 3) := dk_181 0 40 (dk_at dksX0_init_2 7 rfl rfl)
theorem dX0_init_56 : decode cX0_init 56 = .ok (.aload_n 0, 1) := dk_42 (dk_at dksX0_init_2 10 rfl rfl)
theorem dX0_init_57 : decode cX0_init 57 = .ok (.iconst (-1), 1) := dk_2 (dk_at dksX0_init_2 11 rfl rfl)
theorem dX0_init_58 : decode cX0_init 58 = .ok (.putfield 44, 3) := dk_181 0 44 (dk_at dksX0_init_2 12 rfl rfl)
theorem dX0_init_61 : decode cX0_init 61 = .ok (.aload_n 0, 1) := dk_42 (dk_at dksX0_init_2 15 rfl rfl)
theorem dX0_init_62 : decode cX0_init 62 = .ok (.new 48, 3) := dk_187 0 48 (dk_at dksX0_init_2 16 rfl rfl)
theorem dX0_init_65 : decode cX0_init 65 = .ok (.dup, 1) := dk_89 (dk_at dksX0_init_2 19 rfl rfl)
theorem dX0_init_66 : decode cX0_init 66 = .ok (.invokespecial 50, 3) := dk_183 0 50 (dk_at dksX0_init_2 20 rfl rfl)
theorem dX0_init_69 : decode cX0_init 69 = .ok (.putfield 51, 3) := dk_181 0 51 (dk_at dksX0_init_3 0 rfl rfl)
theorem dX0_init_72 : decode cX0_init 72 = .ok (.aload_n 0, 1) := dk_42 (dk_at dksX0_init_3 3 rfl rfl)
theorem dX0_init_73 : decode cX0_init 73 = .ok (.new 48, 3) := dk_187 0 48 (dk_at dksX0_init_3 4 rfl rfl)
theorem dX0_init_76 : decode cX0_init 76 = .ok (.dup, 1) := dk_89 (dk_at dksX0_init_3 7 rfl rfl)
theorem dX0_init_77 : decode cX0_init 77 = .ok (.invokespecial 50, 3) := dk_183 0 50 (dk_at dksX0_init_3 8 rfl rfl)
theorem dX0_init_80 : decode cX0_init 80 = .ok (.putfield 55, 3) := dk_181 0 55 (dk_at dksX0_init_3 11 rfl rfl)
theorem dX0_init_83 : decode cX0_init 83 = .ok (.aload_n 0, 1) := dk_42 (dk_at dksX0_init_3 14 rfl rfl)
theorem dX0_init_84 : decode cX0_init 84 = .ok (.bipush 30, 2) := dk_16 30 (dk_at dksX0_init_3 15 rfl rfl)
theorem dX0_init_86 : decode cX0_init 86 = .ok (.anewarray 48, 3) := dk_189 0 48 (dk_at dksX0_init_3 17 rfl rfl)
theorem dX0_init_89 : decode cX0_init 89 = .ok (.putfield 58, 3) := dk_181 0 58 (dk_at dksX0_init_3 20 rfl rfl)
theorem dX0_init_92 : decode cX0_init 92 = .ok (.aload_n 0, 1) := dk_42 (dk_at dksX0_init_3 23 rfl rfl)
theorem dX0_init_93 : decode cX0_init 93 = .ok (.iconst 3, 1) := dk_6 (dk_at dksX0_init_4 0 rfl rfl)
theorem dX0_init_94 : decode cX0_init 94 = .ok (.anewarray 48, 3) := dk_189 0 48 (dk_at dksX0_init_4 1 rfl rfl)
theorem dX0_init_97 : decode cX0_init 97 = .ok (.dup, 1) := dk_89 (dk_at dksX0_init_4 4 rfl rfl)
theorem dX0_init_98 : decode cX0_init 98 = .ok (.iconst 0, 1) := dk_3 (dk_at dksX0_init_4 5 rfl rfl)
theorem dX0_init_99 : decode cX0_init 99 = .ok (.new 48, 3) := dk_187 0 48 (dk_at dksX0_init_4 6 rfl rfl)
theorem dX0_init_102 : decode cX0_init 102 = .ok (.dup, 1) := dk_89 (dk_at dksX0_init_4 9 rfl rfl)
theorem dX0_init_103 : decode cX0_init 103 = .ok (.invokespecial 50, 3) := dk_183 0 50 (dk_at dksX0_init_4 10 rfl rfl)
theorem dX0_init_106 : decode cX0_init 106 = .ok (.aastore, 1) := dk_83 (dk_at dksX0_init_4 13 rfl rfl)
theorem dX0_init_107 : decode cX0_init 107 = .ok (.dup, 1) := dk_89 (dk_at dksX0_init_4 14 rfl rfl)
theorem dX0_init_108 : decode cX0_init 108 = .ok (.iconst 1, 1) := dk_4 (dk_at dksX0_init_4 15 rfl rfl)
theorem dX0_init_109 : decode cX0_init 109 = .ok (.new 48, 3) := dk_187 0 48 (dk_at dksX0_init_4 16 rfl rfl)
theorem dX0_init_112 : decode cX0_init 112 = .ok (.dup, 1) := dk_89 (dk_at dksX0_init_4 19 rfl rfl)
theorem dX0_init_113 : decode cX0_init 113 = .ok (.invokespecial 50, 3) := dk_183 0 50 (dk_at dksX0_init_4 20 rfl rfl)
theorem dX0_init_116 : decode cX0_init 116 = .ok (.aastore, 1) := dk_83 (dk_at dksX0_init_4 23 rfl rfl)
theorem dX0_init_117 : decode cX0_init 117 = .ok (.dup, 1) := dk_89 (dk_at dksX0_init_5 0 rfl rfl)
theorem dX0_init_118 : decode cX0_init 118 = .ok (.iconst 2, 1) := dk_5 (dk_at dksX0_init_5 1 rfl rfl)
theorem dX0_init_119 : decode cX0_init 119 = .ok (.new 48, 3) := dk_187 0 48 (dk_at dksX0_init_5 2 rfl rfl)
theorem dX0_init_122 : decode cX0_init 122 = .ok (.dup, 1) := dk_89 (dk_at dksX0_init_5 5 rfl rfl)
theorem dX0_init_123 : decode cX0_init 123 = .ok (.invokespecial 50, 3) := dk_183 0 50 (dk_at dksX0_init_5 6 rfl rfl)
theorem dX0_init_126 : decode cX0_init 126 = .ok (.aastore, 1) := dk_83 (dk_at dksX0_init_5 9 rfl rfl)
theorem dX0_init_127 : decode cX0_init 127 = .ok (.putfield 62, 3) := dk_181 0 62 (dk_at dksX0_init_5 10 rfl rfl)
theorem dX0_init_130 : decode cX0_init 130 = .ok (.aload_n 0, 1) := dk_42 (dk_at dksX0_init_5 13 rfl rfl)
theorem dX0_init_131 : decode cX0_init 131 = .ok (.iconst 4, 1) := dk_7 (dk_at dksX0_init_5 14 rfl rfl)
theorem dX0_init_132 : decode cX0_init 132 = .ok (.anewarray 65, 3) := dk_189 0 65 (dk_at dksX0_init_5 15 rfl rfl)
theorem dX0_init_135 : decode cX0_init 135 = .ok (.dup, 1) := dk_89 (dk_at dksX0_init_5 18 rfl rfl)
theorem dX0_init_136 : decode cX0_init 136 = .ok (.iconst 0, 1) := dk_3 (dk_at dksX0_init_5 19 rfl rfl)
theorem dX0_init_137 : decode cX0_init 137 = .ok (.new 67, 3) := dk_187 0 67 (dk_at dksX0_init_5 20 rfl rfl)
theorem dX0_init_140 : decode cX0_init 140 = .ok (.dup, 1) := dk_89 (dk_at dksX0_init_5 23 rfl rfl)
theorem dX0_init_141 : decode cX0_init 141 = .ok (.invokespecial 69, 3) := dk_183 0 69 (dk_at dksX0_init_6 0 rfl rfl)
theorem dX0_init_144 : decode cX0_init 144 = .ok (.aastore, 1) := dk_83 (dk_at dksX0_init_6 3 rfl rfl)
theorem dX0_init_145 : decode cX0_init 145 = .ok (.dup, 1) := dk_89 (dk_at dksX0_init_6 4 rfl rfl)
theorem dX0_init_146 : decode cX0_init 146 = .ok (.iconst 1, 1) := dk_4 (dk_at dksX0_init_6 5 rfl rfl)
theorem dX0_init_147 : decode cX0_init 147 = .ok (.new 70, 3) := dk_187 0 70 (dk_at dksX0_init_6 6 rfl rfl)
theorem dX0_init_150 : decode cX0_init 150 = .ok (.dup, 1) := dk_89 (dk_at dksX0_init_6 9 rfl rfl)
theorem dX0_init_151 : decode cX0_init 151 = .ok (.invokespecial 72, 3) := dk_183 0 72 (dk_at dksX0_init_6 10 rfl rfl)
theorem dX0_init_154 : decode cX0_init 154 = .ok (.aastore, 1) := dk_83 (dk_at dksX0_init_6 13 rfl rfl)
theorem dX0_init_155 : decode cX0_init 155 = .ok (.dup, 1) := dk_89 (dk_at dksX0_init_6 14 rfl rfl)
theorem dX0_init_156 : decode cX0_init 156 = .ok (.iconst 2, 1) := dk_5 (dk_at dksX0_init_6 15 rfl rfl)
theorem dX0_init_157 : decode cX0_init 157 = .ok (.new 73, 3) := dk_187 0 73 (dk_at dksX0_init_6 16 rfl rfl)
theorem dX0_init_160 : decode cX0_init 160 = .ok (.dup, 1) := dk_89 (dk_at dksX0_init_6 19 rfl rfl)
theorem dX0_init_161 : decode cX0_init 161 = .ok (.invokespecial 75, 3) := dk_183 0 75 (dk_at dksX0_init_6 20 rfl rfl)
theorem dX0_init_164 : decode cX0_init 164 = .ok (.aastore, 1) := dk_83 (dk_at dksX0_init_6 23 rfl rfl)
theorem dX0_init_165 : decode cX0_init 165 = .ok (.dup, 1) := dk_89 (dk_at dksX0_init_7 0 rfl rfl)
theorem dX0_init_166 : decode cX0_init 166 = .ok (.iconst 3, 1) := dk_6 (dk_at dksX0_init_7 1 rfl rfl)
theorem dX0_init_167 : decode cX0_init 167 = .ok (.new 76, 3) := dk_187 0 76 (dk_at dksX0_init_7 2 rfl rfl)
theorem dX0_init_170 : decode cX0_init 170 = .ok (.dup, 1) := dk_89 (dk_at dksX0_init_7 5 rfl rfl)
theorem dX0_init_171 : decode cX0_init 171 = .ok (.invokespecial 78, 3) := dk_183 0 78 (dk_at dksX0_init_7 6 rfl rfl)
theorem dX0_init_174 : decode cX0_init 174 = .ok (.aastore, 1) := dk_83 (dk_at dksX0_init_7 9 rfl rfl)
theorem dX0_init_175 : decode cX0_init 175 = .ok (.putfield 79, 3) := dk_181 0 79 (dk_at dksX0_init_7 10 rfl rfl)
theorem dX0_init_178 : decode cX0_init 178 = .ok (.aload_n 0, 1) := dk_42 (dk_at dksX0_init_7 13 rfl rfl)
theorem dX0_init_179 : decode cX0_init 179 = .ok (.iconst 3, 1) := dk_6 (dk_at dksX0_init_7 14 rfl rfl)
theorem dX0_init_180 : decode cX0_init 180 = .ok (.newarray .boolean, 2) := dk_188_4 (dk_at dksX0_init_7 15 rfl rfl)
theorem dX0_init_182 : decode cX0_init 182 = .ok (.putfield 83, 3) := dk_181 0 83 (dk_at dksX0_init_7 17 rfl rfl)
theorem dX0_init_185 : decode cX0_init 185 = .ok (.aload_n 0, 1) := dk_42 (dk_at dksX0_init_7 20 rfl rfl)
theorem dX0_init_186 : decode cX0_init 186 = .ok (.iconst 4, 1) := dk_7 (dk_at dksX0_init_7 21 rfl rfl)
theorem dX0_init_187 : decode cX0_init 187 = .ok (.newarray .int, 2) := dk_188_10 (dk_at dksX0_init_7 22 rfl rfl)
theorem dX0_init_189 : decode cX0_init 189 = .ok (.putfield 87, 3) := dk_181 0 87 (dk_at dksX0_init_8 0 rfl rfl)
theorem dX0_init_192 : decode cX0_init 192 = .ok (.aload_n 0, 1) := dk_42 (dk_at dksX0_init_8 3 rfl rfl)
theorem dX0_init_193 : decode cX0_init 193 = .ok (.iconst 4, 1) := dk_7 (dk_at dksX0_init_8 4 rfl rfl)
theorem dX0_init_194 : decode cX0_init 194 = .ok (.newarray .int, 2) := dk_188_10 (dk_at dksX0_init_8 5 rfl rfl)
theorem dX0_init_196 : decode cX0_init 196 = .ok (.putfield 91, 3) := dk_181 0 91 (dk_at dksX0_init_8 7 rfl rfl)
theorem dX0_init_199 : decode cX0_init 199 = .ok (.aload_n 0, 1) := dk_42 (dk_at dksX0_init_8 10 rfl rfl)
theorem dX0_init_200 : decode cX0_init 200 = .ok (.iconst 5, 1) := dk_8 (dk_at dksX0_init_8 11 rfl rfl)
theorem dX0_init_201 : decode cX0_init 201 = .ok (.bipush 8, 2) := dk_16 8 (dk_at dksX0_init_8 12 rfl rfl)
theorem dX0_init_203 : decode cX0_init 203 = .ok (.multianewarray 94 2, 4) := by decide +kernel
theorem dX0_init_207 : decode cX0_init 207 = .ok (.putfield 96, 3) := dk_181 0 96 (dk_at dksX0_init_8 18 rfl rfl)
theorem dX0_init_210 : decode cX0_init 210 = .ok (.aload_n 0, 1) := dk_42 (dk_at dksX0_init_8 21 rfl rfl)
theorem dX0_init_211 : decode cX0_init 211 = .ok (.iconst 4, 1) := dk_7 (dk_at dksX0_init_8 22 rfl rfl)
theorem dX0_init_212 : decode cX0_init 212 = .ok (.newarray .int, 2) := dk_188_10 (dk_at dksX0_init_9 0 rfl rfl)
theorem dX0_init_214 : decode cX0_init 214 = .ok (.putfield 99, 3) := dk_181 0 99 (dk_at dksX0_init_9 2 rfl rfl)
theorem dX0_init_217 : decode cX0_init 217 = .ok (.aload_n 0, 1) := dk_42 (dk_at dksX0_init_9 5 rfl rfl)
theorem dX0_init_218 : decode cX0_init 218 = .ok (.iconst 4, 1) := dk_7 (dk_at dksX0_init_9 6 rfl rfl)
theorem dX0_init_219 : decode cX0_init 219 = .ok (.newarray .int, 2) := dk_188_10 (dk_at dksX0_init_9 7 rfl rfl)
theorem dX0_init_221 : decode cX0_init 221 = .ok (.putfield 102, 3) := dk_181 0 102 (dk_at dksX0_init_9 9 rfl rfl)
theorem dX0_init_224 : decode cX0_init 224 = .ok (.aload_n 0, 1) := dk_42 (dk_at dksX0_init_9 12 rfl rfl)
theorem dX0_init_225 : decode cX0_init 225 = .ok (.bipush 20, 2) := dk_16 20 (dk_at dksX0_init_9 13 rfl rfl)
theorem dX0_init_227 : decode cX0_init 227 = .ok (.newarray .int, 2) := dk_188_10 (dk_at dksX0_init_9 15 rfl rfl)
theorem dX0_init_229 : decode cX0_init 229 = .ok (.putfield 105, 3) := dk_181 0 105 (dk_at dksX0_init_9 17 rfl rfl)
theorem dX0_init_232 : decode cX0_init 232 = .ok (.aload_n 0, 1) := dk_42 (dk_at dksX0_init_9 20 rfl rfl)
theorem dX0_init_233 : decode cX0_init 233 = .ok (.bipush 20, 2) := dk_16 20 (dk_at dksX0_init_9 21 rfl rfl)
theorem dX0_init_235 : decode cX0_init 235 = .ok (.newarray .int, 2) := dk_188_10 (dk_at dksX0_init_10 0 rfl rfl)
theorem dX0_init_237 : decode cX0_init 237 = .ok (.putfield 108, 3) := dk_181 0 108 (dk_at dksX0_init_10 2 rfl rfl)
theorem dX0_init_240 : decode cX0_init 240 = .ok (.aload_n 0, 1) := dk_42 (dk_at dksX0_init_10 5 rfl rfl)
theorem dX0_init_241 : decode cX0_init 241 = .ok (.bipush 48, 2) := dk_16 48 (dk_at dksX0_init_10 6 rfl rfl)
theorem dX0_init_243 : decode cX0_init 243 = .ok (.bipush 10, 2) := dk_16 10 (dk_at dksX0_init_10 8 rfl rfl)
theorem dX0_init_245 : decode cX0_init 245 = .ok (.multianewarray 94 2, 4) := by decide +kernel
theorem dX0_init_249 : decode cX0_init 249 = .ok (.putfield 111, 3) := dk_181 0 111 (dk_at dksX0_init_10 14 rfl rfl)
theorem dX0_init_252 : decode cX0_init 252 = .ok (.iconst 0, 1) := dk_3 (dk_at dksX0_init_10 17 rfl rfl)
theorem dX0_init_253 : decode cX0_init 253 = .ok (.istore_n 1, 1) := dk_60 (dk_at dksX0_init_10 18 rfl rfl)
theorem dX0_init_254 : decode cX0_init 254 = .ok (.iload_n 1, 1) := dk_27 (dk_at dksX0_init_10 19 rfl rfl)
theorem dX0_init_255 : decode cX0_init 255 = .ok (.bipush 30, 2) := dk_16 30 (dk_at dksX0_init_10 20 rfl rfl)
theorem dX0_init_257 : decode cX0_init 257 = .ok (.if_icmp .ge 22, 3) := dk_162 0 22 (dk_at dksX0_init_11 0 rfl rfl)
theorem dX0_init_260 : decode cX0_init 260 = .ok (.aload_n 0, 1) := dk_42 (dk_at dksX0_init_11 3 rfl rfl)
theorem dX0_init_261 : decode cX0_init 261 = .ok (.getfield 58, 3) := dk_180 0 58 (dk_at dksX0_init_11 4 rfl rfl)
theorem dX0_init_264 : decode cX0_init 264 = .ok (.iload_n 1, 1) := dk_27 (dk_at dksX0_init_11 7 rfl rfl)
theorem dX0_init_265 : decode cX0_init 265 = .ok (.new 48, 3) := dk_187 0 48 (dk_at dksX0_init_11 8 rfl rfl)
theorem dX0_init_268 : decode cX0_init 268 = .ok (.dup, 1) := dk_89 (dk_at dksX0_init_11 11 rfl rfl)
theorem dX0_init_269 : decode cX0_init 269 = .ok (.invokespecial 50, 3) := dk_183 0 50 (dk_at dksX0_init_11 12 rfl rfl)
theorem dX0_init_272 : decode cX0_init 272 = .ok (.aastore, 1) := dk_83 (dk_at dksX0_init_11 15 rfl rfl)
theorem dX0_init_273 : decode cX0_init 273 = .ok (.iinc 1 1, 3) := dk_132 1 1 (dk_at dksX0_init_11 16 rfl rfl)
theorem dX0_init_276 : decode cX0_init 276 = .ok (.goto (-22), 3) := dk_167 255 234 (dk_at dksX0_init_11 19 rfl rfl)
theorem dX0_init_279 : decode cX0_init 279 = .ok (.aload_n 0, 1) := dk_42 (dk_at dksX0_init_11 22 rfl rfl)
theorem dX0_init_280 : decode cX0_init 280 = .ok (.getfield 51, 3) := dk_180 0 51 (dk_at dksX0_init_12 0 rfl rfl)
theorem dX0_init_283 : decode cX0_init 283 = .ok (.aload_n 0, 1) := dk_42 (dk_at dksX0_init_12 3 rfl rfl)
theorem dX0_init_284 : decode cX0_init 284 = .ok (.getfield 40, 3) := dk_180 0 40 (dk_at dksX0_init_12 4 rfl rfl)
theorem dX0_init_287 : decode cX0_init 287 = .ok (.invokevirtual 114, 3) := dk_182 0 114 (dk_at dksX0_init_12 7 rfl rfl)
theorem dX0_init_290 : decode cX0_init 290 = .ok (.return_, 1) := dk_177 (dk_at dksX0_init_12 10 rfl rfl)
abbrev cX0_feed : ByteArray := prog_1_method_4_code
def yX0_feed : MethodName := ⟨RX0, "feed", "(IIIII)I"⟩
def dkwX0_feed_2 : List UInt8 := [180, 0, 24, 180, 0, 118, 172]
abbrev dktX0_feed_2 : List UInt8 := dkwX0_feed_2 ++ []
def dkwX0_feed_1 : List UInt8 := [28, 182, 0, 121, 42, 29, 182, 0, 121, 42, 21, 4, 182, 0, 121, 42, 21, 5, 182, 0, 121, 42]
abbrev dktX0_feed_1 : List UInt8 := dkwX0_feed_1 ++ dktX0_feed_2
def dkwX0_feed_0 : List UInt8 := [42, 180, 0, 24, 180, 0, 118, 16, 20, 96, 17, 7, 208, 164, 0, 5, 2, 172, 42, 27, 182, 0, 121, 42]
abbrev dktX0_feed_0 : List UInt8 := dkwX0_feed_0 ++ dktX0_feed_1
theorem dksX0_feed_0 : cX0_feed.data.toList.drop 0 = dktX0_feed_0 := by decide +kernel
theorem dksX0_feed_1 : cX0_feed.data.toList.drop 24 = dktX0_feed_1 := dk_seg dksX0_feed_0 24 rfl rfl
theorem dksX0_feed_2 : cX0_feed.data.toList.drop 46 = dktX0_feed_2 := dk_seg dksX0_feed_1 22 rfl rfl
theorem dX0_feed_0 : decode cX0_feed 0 = .ok (.aload_n 0, 1) := dk_42 (dk_at dksX0_feed_0 0 rfl rfl)
theorem dX0_feed_1 : decode cX0_feed 1 = .ok (.getfield 24, 3) := dk_180 0 24 (dk_at dksX0_feed_0 1 rfl rfl)
theorem dX0_feed_4 : decode cX0_feed 4 = .ok (.getfield 118, 3) := dk_180 0 118 (dk_at dksX0_feed_0 4 rfl rfl)
theorem dX0_feed_7 : decode cX0_feed 7 = .ok (.bipush 20, 2) := dk_16 20 (dk_at dksX0_feed_0 7 rfl rfl)
theorem dX0_feed_9 : decode cX0_feed 9 = .ok (.iadd, 1) := dk_96 (dk_at dksX0_feed_0 9 rfl rfl)
theorem dX0_feed_10 : decode cX0_feed 10 = .ok (.sipush 2000, 3) := dk_17 7 208 (dk_at dksX0_feed_0 10 rfl rfl)
theorem dX0_feed_13 : decode cX0_feed 13 = .ok (.if_icmp .le 5, 3) := dk_164 0 5 (dk_at dksX0_feed_0 13 rfl rfl)
theorem dX0_feed_16 : decode cX0_feed 16 = .ok (.iconst (-1), 1) := dk_2 (dk_at dksX0_feed_0 16 rfl rfl)
theorem dX0_feed_17 : decode cX0_feed 17 = .ok (.ireturn, 1) := dk_172 (dk_at dksX0_feed_0 17 rfl rfl)
theorem dX0_feed_18 : decode cX0_feed 18 = .ok (.aload_n 0, 1) := dk_42 (dk_at dksX0_feed_0 18 rfl rfl)
theorem dX0_feed_19 : decode cX0_feed 19 = .ok (.iload_n 1, 1) := dk_27 (dk_at dksX0_feed_0 19 rfl rfl)
theorem dX0_feed_20 : decode cX0_feed 20 = .ok (.invokevirtual 121, 3) := dk_182 0 121 (dk_at dksX0_feed_0 20 rfl rfl)
theorem dX0_feed_23 : decode cX0_feed 23 = .ok (.aload_n 0, 1) := dk_42 (dk_at dksX0_feed_0 23 rfl rfl)
theorem dX0_feed_24 : decode cX0_feed 24 = .ok (.iload_n 2, 1) := dk_28 (dk_at dksX0_feed_1 0 rfl rfl)
theorem dX0_feed_25 : decode cX0_feed 25 = .ok (.invokevirtual 121, 3) := dk_182 0 121 (dk_at dksX0_feed_1 1 rfl rfl)
theorem dX0_feed_28 : decode cX0_feed 28 = .ok (.aload_n 0, 1) := dk_42 (dk_at dksX0_feed_1 4 rfl rfl)
theorem dX0_feed_29 : decode cX0_feed 29 = .ok (.iload_n 3, 1) := dk_29 (dk_at dksX0_feed_1 5 rfl rfl)
theorem dX0_feed_30 : decode cX0_feed 30 = .ok (.invokevirtual 121, 3) := dk_182 0 121 (dk_at dksX0_feed_1 6 rfl rfl)
theorem dX0_feed_33 : decode cX0_feed 33 = .ok (.aload_n 0, 1) := dk_42 (dk_at dksX0_feed_1 9 rfl rfl)
theorem dX0_feed_34 : decode cX0_feed 34 = .ok (.iload 4, 2) := dk_21 4 (dk_at dksX0_feed_1 10 rfl rfl)
theorem dX0_feed_36 : decode cX0_feed 36 = .ok (.invokevirtual 121, 3) := dk_182 0 121 (dk_at dksX0_feed_1 12 rfl rfl)
theorem dX0_feed_39 : decode cX0_feed 39 = .ok (.aload_n 0, 1) := dk_42 (dk_at dksX0_feed_1 15 rfl rfl)
theorem dX0_feed_40 : decode cX0_feed 40 = .ok (.iload 5, 2) := dk_21 5 (dk_at dksX0_feed_1 16 rfl rfl)
theorem dX0_feed_42 : decode cX0_feed 42 = .ok (.invokevirtual 121, 3) := dk_182 0 121 (dk_at dksX0_feed_1 18 rfl rfl)
theorem dX0_feed_45 : decode cX0_feed 45 = .ok (.aload_n 0, 1) := dk_42 (dk_at dksX0_feed_1 21 rfl rfl)
theorem dX0_feed_46 : decode cX0_feed 46 = .ok (.getfield 24, 3) := dk_180 0 24 (dk_at dksX0_feed_2 0 rfl rfl)
theorem dX0_feed_49 : decode cX0_feed 49 = .ok (.getfield 118, 3) := dk_180 0 118 (dk_at dksX0_feed_2 3 rfl rfl)
theorem dX0_feed_52 : decode cX0_feed 52 = .ok (.ireturn, 1) := dk_172 (dk_at dksX0_feed_2 6 rfl rfl)
abbrev cX0_typed : ByteArray := prog_1_method_5_code
def yX0_typed : MethodName := ⟨RX0, "typed", "(I)V"⟩
def dkwX0_typed_1 : List UInt8 := [145, 84, 42, 180, 0, 24, 89, 180, 0, 118, 4, 96, 181, 0, 118, 132, 2, 248, 167, 255, 217, 177]
abbrev dktX0_typed_1 : List UInt8 := dkwX0_typed_1 ++ []
def dkwX0_typed_0 : List UInt8 := [16, 24, 61, 28, 155, 0, 41, 42, 180, 0, 24, 180, 0, 125, 42, 180, 0, 24, 180, 0, 118, 27, 28, 122]
abbrev dktX0_typed_0 : List UInt8 := dkwX0_typed_0 ++ dktX0_typed_1
theorem dksX0_typed_0 : cX0_typed.data.toList.drop 0 = dktX0_typed_0 := by decide +kernel
theorem dksX0_typed_1 : cX0_typed.data.toList.drop 24 = dktX0_typed_1 := dk_seg dksX0_typed_0 24 rfl rfl
theorem dX0_typed_0 : decode cX0_typed 0 = .ok (.bipush 24, 2) := dk_16 24 (dk_at dksX0_typed_0 0 rfl rfl)
theorem dX0_typed_2 : decode cX0_typed 2 = .ok (.istore_n 2, 1) := dk_61 (dk_at dksX0_typed_0 2 rfl rfl)
theorem dX0_typed_3 : decode cX0_typed 3 = .ok (.iload_n 2, 1) := dk_28 (dk_at dksX0_typed_0 3 rfl rfl)
theorem dX0_typed_4 : decode cX0_typed 4 = .ok (.ifCond .lt 41, 3) := dk_155 0 41 (dk_at dksX0_typed_0 4 rfl rfl)
theorem dX0_typed_7 : decode cX0_typed 7 = .ok (.aload_n 0, 1) := dk_42 (dk_at dksX0_typed_0 7 rfl rfl)
theorem dX0_typed_8 : decode cX0_typed 8 = .ok (.getfield 24, 3) := dk_180 0 24 (dk_at dksX0_typed_0 8 rfl rfl)
theorem dX0_typed_11 : decode cX0_typed 11 = .ok (.getfield 125, 3) := dk_180 0 125 (dk_at dksX0_typed_0 11 rfl rfl)
theorem dX0_typed_14 : decode cX0_typed 14 = .ok (.aload_n 0, 1) := dk_42 (dk_at dksX0_typed_0 14 rfl rfl)
theorem dX0_typed_15 : decode cX0_typed 15 = .ok (.getfield 24, 3) := dk_180 0 24 (dk_at dksX0_typed_0 15 rfl rfl)
theorem dX0_typed_18 : decode cX0_typed 18 = .ok (.getfield 118, 3) := dk_180 0 118 (dk_at dksX0_typed_0 18 rfl rfl)
theorem dX0_typed_21 : decode cX0_typed 21 = .ok (.iload_n 1, 1) := dk_27 (dk_at dksX0_typed_0 21 rfl rfl)
theorem dX0_typed_22 : decode cX0_typed 22 = .ok (.iload_n 2, 1) := dk_28 (dk_at dksX0_typed_0 22 rfl rfl)
theorem dX0_typed_23 : decode cX0_typed 23 = .ok (.ishr, 1) := dk_122 (dk_at dksX0_typed_0 23 rfl rfl)
theorem dX0_typed_24 : decode cX0_typed 24 = .ok (.i2b, 1) := dk_145 (dk_at dksX0_typed_1 0 rfl rfl)
theorem dX0_typed_25 : decode cX0_typed 25 = .ok (.bastore, 1) := dk_84 (dk_at dksX0_typed_1 1 rfl rfl)
theorem dX0_typed_26 : decode cX0_typed 26 = .ok (.aload_n 0, 1) := dk_42 (dk_at dksX0_typed_1 2 rfl rfl)
theorem dX0_typed_27 : decode cX0_typed 27 = .ok (.getfield 24, 3) := dk_180 0 24 (dk_at dksX0_typed_1 3 rfl rfl)
theorem dX0_typed_30 : decode cX0_typed 30 = .ok (.dup, 1) := dk_89 (dk_at dksX0_typed_1 6 rfl rfl)
theorem dX0_typed_31 : decode cX0_typed 31 = .ok (.getfield 118, 3) := dk_180 0 118 (dk_at dksX0_typed_1 7 rfl rfl)
theorem dX0_typed_34 : decode cX0_typed 34 = .ok (.iconst 1, 1) := dk_4 (dk_at dksX0_typed_1 10 rfl rfl)
theorem dX0_typed_35 : decode cX0_typed 35 = .ok (.iadd, 1) := dk_96 (dk_at dksX0_typed_1 11 rfl rfl)
theorem dX0_typed_36 : decode cX0_typed 36 = .ok (.putfield 118, 3) := dk_181 0 118 (dk_at dksX0_typed_1 12 rfl rfl)
theorem dX0_typed_39 : decode cX0_typed 39 = .ok (.iinc 2 (-8), 3) := dk_132 2 248 (dk_at dksX0_typed_1 15 rfl rfl)
theorem dX0_typed_42 : decode cX0_typed 42 = .ok (.goto (-39), 3) := dk_167 255 217 (dk_at dksX0_typed_1 18 rfl rfl)
theorem dX0_typed_45 : decode cX0_typed 45 = .ok (.return_, 1) := dk_177 (dk_at dksX0_typed_1 21 rfl rfl)
abbrev cX0_back : ByteArray := prog_1_method_6_code
def yX0_back : MethodName := ⟨RX0, "back", "(I)I"⟩
def dkwX0_back_1 : List UInt8 := [180, 0, 118, 27, 100, 181, 0, 118, 42, 180, 0, 24, 180, 0, 118, 172]
abbrev dktX0_back_1 : List UInt8 := dkwX0_back_1 ++ []
def dkwX0_back_0 : List UInt8 := [27, 155, 0, 14, 27, 42, 180, 0, 24, 180, 0, 118, 164, 0, 5, 2, 172, 42, 180, 0, 24, 89]
abbrev dktX0_back_0 : List UInt8 := dkwX0_back_0 ++ dktX0_back_1
theorem dksX0_back_0 : cX0_back.data.toList.drop 0 = dktX0_back_0 := by decide +kernel
theorem dksX0_back_1 : cX0_back.data.toList.drop 22 = dktX0_back_1 := dk_seg dksX0_back_0 22 rfl rfl
theorem dX0_back_0 : decode cX0_back 0 = .ok (.iload_n 1, 1) := dk_27 (dk_at dksX0_back_0 0 rfl rfl)
theorem dX0_back_1 : decode cX0_back 1 = .ok (.ifCond .lt 14, 3) := dk_155 0 14 (dk_at dksX0_back_0 1 rfl rfl)
theorem dX0_back_4 : decode cX0_back 4 = .ok (.iload_n 1, 1) := dk_27 (dk_at dksX0_back_0 4 rfl rfl)
theorem dX0_back_5 : decode cX0_back 5 = .ok (.aload_n 0, 1) := dk_42 (dk_at dksX0_back_0 5 rfl rfl)
theorem dX0_back_6 : decode cX0_back 6 = .ok (.getfield 24, 3) := dk_180 0 24 (dk_at dksX0_back_0 6 rfl rfl)
theorem dX0_back_9 : decode cX0_back 9 = .ok (.getfield 118, 3) := dk_180 0 118 (dk_at dksX0_back_0 9 rfl rfl)
theorem dX0_back_12 : decode cX0_back 12 = .ok (.if_icmp .le 5, 3) := dk_164 0 5 (dk_at dksX0_back_0 12 rfl rfl)
theorem dX0_back_15 : decode cX0_back 15 = .ok (.iconst (-1), 1) := dk_2 (dk_at dksX0_back_0 15 rfl rfl)
theorem dX0_back_16 : decode cX0_back 16 = .ok (.ireturn, 1) := dk_172 (dk_at dksX0_back_0 16 rfl rfl)
theorem dX0_back_17 : decode cX0_back 17 = .ok (.aload_n 0, 1) := dk_42 (dk_at dksX0_back_0 17 rfl rfl)
theorem dX0_back_18 : decode cX0_back 18 = .ok (.getfield 24, 3) := dk_180 0 24 (dk_at dksX0_back_0 18 rfl rfl)
theorem dX0_back_21 : decode cX0_back 21 = .ok (.dup, 1) := dk_89 (dk_at dksX0_back_0 21 rfl rfl)
theorem dX0_back_22 : decode cX0_back 22 = .ok (.getfield 118, 3) := dk_180 0 118 (dk_at dksX0_back_1 0 rfl rfl)
theorem dX0_back_25 : decode cX0_back 25 = .ok (.iload_n 1, 1) := dk_27 (dk_at dksX0_back_1 3 rfl rfl)
theorem dX0_back_26 : decode cX0_back 26 = .ok (.isub, 1) := dk_100 (dk_at dksX0_back_1 4 rfl rfl)
theorem dX0_back_27 : decode cX0_back 27 = .ok (.putfield 118, 3) := dk_181 0 118 (dk_at dksX0_back_1 5 rfl rfl)
theorem dX0_back_30 : decode cX0_back 30 = .ok (.aload_n 0, 1) := dk_42 (dk_at dksX0_back_1 8 rfl rfl)
theorem dX0_back_31 : decode cX0_back 31 = .ok (.getfield 24, 3) := dk_180 0 24 (dk_at dksX0_back_1 9 rfl rfl)
theorem dX0_back_34 : decode cX0_back 34 = .ok (.getfield 118, 3) := dk_180 0 118 (dk_at dksX0_back_1 12 rfl rfl)
theorem dX0_back_37 : decode cX0_back 37 = .ok (.ireturn, 1) := dk_172 (dk_at dksX0_back_1 15 rfl rfl)
abbrev cX0_read : ByteArray := prog_1_method_7_code
def yX0_read : MethodName := ⟨RX0, "read", "()I"⟩
def dkwX0_read_3 : List UInt8 := [180, 0, 142, 181, 0, 44, 42, 180, 0, 24, 3, 181, 0, 118, 27, 172]
abbrev dktX0_read_3 : List UInt8 := dkwX0_read_3 ++ []
def dkwX0_read_2 : List UInt8 := [180, 0, 83, 28, 3, 84, 132, 2, 1, 167, 255, 241, 167, 0, 17, 77, 44, 180, 0, 139, 60, 42, 44]
abbrev dktX0_read_2 : List UInt8 := dkwX0_read_2 ++ dktX0_read_3
def dkwX0_read_1 : List UInt8 := [180, 0, 40, 182, 0, 114, 42, 3, 181, 0, 133, 42, 3, 181, 0, 136, 3, 61, 28, 6, 162, 0, 16, 42]
abbrev dktX0_read_1 : List UInt8 := dkwX0_read_1 ++ dktX0_read_2
def dkwX0_read_0 : List UInt8 := [3, 60, 42, 2, 181, 0, 44, 42, 42, 180, 0, 33, 182, 0, 129, 181, 0, 40, 42, 180, 0, 51, 42]
abbrev dktX0_read_0 : List UInt8 := dkwX0_read_0 ++ dktX0_read_1
theorem dksX0_read_0 : cX0_read.data.toList.drop 0 = dktX0_read_0 := by decide +kernel
theorem dksX0_read_1 : cX0_read.data.toList.drop 23 = dktX0_read_1 := dk_seg dksX0_read_0 23 rfl rfl
theorem dksX0_read_2 : cX0_read.data.toList.drop 47 = dktX0_read_2 := dk_seg dksX0_read_1 24 rfl rfl
theorem dksX0_read_3 : cX0_read.data.toList.drop 70 = dktX0_read_3 := dk_seg dksX0_read_2 23 rfl rfl
theorem dX0_read_0 : decode cX0_read 0 = .ok (.iconst 0, 1) := dk_3 (dk_at dksX0_read_0 0 rfl rfl)
theorem dX0_read_1 : decode cX0_read 1 = .ok (.istore_n 1, 1) := dk_60 (dk_at dksX0_read_0 1 rfl rfl)
theorem dX0_read_2 : decode cX0_read 2 = .ok (.aload_n 0, 1) := dk_42 (dk_at dksX0_read_0 2 rfl rfl)
theorem dX0_read_3 : decode cX0_read 3 = .ok (.iconst (-1), 1) := dk_2 (dk_at dksX0_read_0 3 rfl rfl)
theorem dX0_read_4 : decode cX0_read 4 = .ok (.putfield 44, 3) := dk_181 0 44 (dk_at dksX0_read_0 4 rfl rfl)
theorem dX0_read_7 : decode cX0_read 7 = .ok (.aload_n 0, 1) := dk_42 (dk_at dksX0_read_0 7 rfl rfl)
theorem dX0_read_8 : decode cX0_read 8 = .ok (.aload_n 0, 1) := dk_42 (dk_at dksX0_read_0 8 rfl rfl)
theorem dX0_read_9 : decode cX0_read 9 = .ok (.getfield 33, 3) := dk_180 0 33 (dk_at dksX0_read_0 9 rfl rfl)
theorem dX0_read_12 : decode cX0_read 12 = .ok (.invokevirtual 129, 3) := dk_182 0 129 (dk_at dksX0_read_0 12 rfl rfl)
theorem dX0_read_15 : decode cX0_read 15 = .ok (.putfield 40, 3) := dk_181 0 40 (dk_at dksX0_read_0 15 rfl rfl)
theorem dX0_read_18 : decode cX0_read 18 = .ok (.aload_n 0, 1) := dk_42 (dk_at dksX0_read_0 18 rfl rfl)
theorem dX0_read_19 : decode cX0_read 19 = .ok (.getfield 51, 3) := dk_180 0 51 (dk_at dksX0_read_0 19 rfl rfl)
theorem dX0_read_22 : decode cX0_read 22 = .ok (.aload_n 0, 1) := dk_42 (dk_at dksX0_read_0 22 rfl rfl)
theorem dX0_read_23 : decode cX0_read 23 = .ok (.getfield 40, 3) := dk_180 0 40 (dk_at dksX0_read_1 0 rfl rfl)
theorem dX0_read_26 : decode cX0_read 26 = .ok (.invokevirtual 114, 3) := dk_182 0 114 (dk_at dksX0_read_1 3 rfl rfl)
theorem dX0_read_29 : decode cX0_read 29 = .ok (.aload_n 0, 1) := dk_42 (dk_at dksX0_read_1 6 rfl rfl)
theorem dX0_read_30 : decode cX0_read 30 = .ok (.iconst 0, 1) := dk_3 (dk_at dksX0_read_1 7 rfl rfl)
theorem dX0_read_31 : decode cX0_read 31 = .ok (.putfield 133, 3) := dk_181 0 133 (dk_at dksX0_read_1 8 rfl rfl)
theorem dX0_read_34 : decode cX0_read 34 = .ok (.aload_n 0, 1) := dk_42 (dk_at dksX0_read_1 11 rfl rfl)
theorem dX0_read_35 : decode cX0_read 35 = .ok (.iconst 0, 1) := dk_3 (dk_at dksX0_read_1 12 rfl rfl)
theorem dX0_read_36 : decode cX0_read 36 = .ok (.putfield 136, 3) := dk_181 0 136 (dk_at dksX0_read_1 13 rfl rfl)
theorem dX0_read_39 : decode cX0_read 39 = .ok (.iconst 0, 1) := dk_3 (dk_at dksX0_read_1 16 rfl rfl)
theorem dX0_read_40 : decode cX0_read 40 = .ok (.istore_n 2, 1) := dk_61 (dk_at dksX0_read_1 17 rfl rfl)
theorem dX0_read_41 : decode cX0_read 41 = .ok (.iload_n 2, 1) := dk_28 (dk_at dksX0_read_1 18 rfl rfl)
theorem dX0_read_42 : decode cX0_read 42 = .ok (.iconst 3, 1) := dk_6 (dk_at dksX0_read_1 19 rfl rfl)
theorem dX0_read_43 : decode cX0_read 43 = .ok (.if_icmp .ge 16, 3) := dk_162 0 16 (dk_at dksX0_read_1 20 rfl rfl)
theorem dX0_read_46 : decode cX0_read 46 = .ok (.aload_n 0, 1) := dk_42 (dk_at dksX0_read_1 23 rfl rfl)
theorem dX0_read_47 : decode cX0_read 47 = .ok (.getfield 83, 3) := dk_180 0 83 (dk_at dksX0_read_2 0 rfl rfl)
theorem dX0_read_50 : decode cX0_read 50 = .ok (.iload_n 2, 1) := dk_28 (dk_at dksX0_read_2 3 rfl rfl)
theorem dX0_read_51 : decode cX0_read 51 = .ok (.iconst 0, 1) := dk_3 (dk_at dksX0_read_2 4 rfl rfl)
theorem dX0_read_52 : decode cX0_read 52 = .ok (.bastore, 1) := dk_84 (dk_at dksX0_read_2 5 rfl rfl)
theorem dX0_read_53 : decode cX0_read 53 = .ok (.iinc 2 1, 3) := dk_132 2 1 (dk_at dksX0_read_2 6 rfl rfl)
theorem dX0_read_56 : decode cX0_read 56 = .ok (.goto (-15), 3) := dk_167 255 241 (dk_at dksX0_read_2 9 rfl rfl)
theorem dX0_read_59 : decode cX0_read 59 = .ok (.goto 17, 3) := dk_167 0 17 (dk_at dksX0_read_2 12 rfl rfl)
theorem dX0_read_62 : decode cX0_read 62 = .ok (.astore_n 2, 1) := dk_77 (dk_at dksX0_read_2 15 rfl rfl)
theorem dX0_read_63 : decode cX0_read 63 = .ok (.aload_n 2, 1) := dk_44 (dk_at dksX0_read_2 16 rfl rfl)
theorem dX0_read_64 : decode cX0_read 64 = .ok (.getfield 139, 3) := dk_180 0 139 (dk_at dksX0_read_2 17 rfl rfl)
theorem dX0_read_67 : decode cX0_read 67 = .ok (.istore_n 1, 1) := dk_60 (dk_at dksX0_read_2 20 rfl rfl)
theorem dX0_read_68 : decode cX0_read 68 = .ok (.aload_n 0, 1) := dk_42 (dk_at dksX0_read_2 21 rfl rfl)
theorem dX0_read_69 : decode cX0_read 69 = .ok (.aload_n 2, 1) := dk_44 (dk_at dksX0_read_2 22 rfl rfl)
theorem dX0_read_70 : decode cX0_read 70 = .ok (.getfield 142, 3) := dk_180 0 142 (dk_at dksX0_read_3 0 rfl rfl)
theorem dX0_read_73 : decode cX0_read 73 = .ok (.putfield 44, 3) := dk_181 0 44 (dk_at dksX0_read_3 3 rfl rfl)
theorem dX0_read_76 : decode cX0_read 76 = .ok (.aload_n 0, 1) := dk_42 (dk_at dksX0_read_3 6 rfl rfl)
theorem dX0_read_77 : decode cX0_read 77 = .ok (.getfield 24, 3) := dk_180 0 24 (dk_at dksX0_read_3 7 rfl rfl)
theorem dX0_read_80 : decode cX0_read 80 = .ok (.iconst 0, 1) := dk_3 (dk_at dksX0_read_3 10 rfl rfl)
theorem dX0_read_81 : decode cX0_read 81 = .ok (.putfield 118, 3) := dk_181 0 118 (dk_at dksX0_read_3 11 rfl rfl)
theorem dX0_read_84 : decode cX0_read 84 = .ok (.iload_n 1, 1) := dk_27 (dk_at dksX0_read_3 14 rfl rfl)
theorem dX0_read_85 : decode cX0_read 85 = .ok (.ireturn, 1) := dk_172 (dk_at dksX0_read_3 15 rfl rfl)
abbrev cX0_place : ByteArray := prog_1_method_8_code
def yX0_place : MethodName := ⟨RX0, "place", "()I"⟩
theorem dX0_place_0 : decode cX0_place 0 = .ok (.aload_n 0, 1) := by decide +kernel
theorem dX0_place_1 : decode cX0_place 1 = .ok (.getfield 44, 3) := by decide +kernel
theorem dX0_place_4 : decode cX0_place 4 = .ok (.ireturn, 1) := by decide +kernel
abbrev cX0_cell : ByteArray := prog_1_method_15_code
def yX0_cell : MethodName := ⟨RX0, "cell", "(III)I"⟩
def dkwX0_cell_4 : List UInt8 := [180, 0, 51, 42, 180, 0, 40, 21, 4, 182, 0, 193, 153, 0, 7, 4, 167, 0, 4, 3, 172, 2, 172]
abbrev dktX0_cell_4 : List UInt8 := dkwX0_cell_4 ++ []
def dkwX0_cell_3 : List UInt8 := [180, 0, 51, 42, 180, 0, 40, 21, 4, 182, 0, 189, 153, 0, 7, 4, 167, 0, 4, 3, 172, 42]
abbrev dktX0_cell_3 : List UInt8 := dkwX0_cell_3 ++ dktX0_cell_4
def dkwX0_cell_2 : List UInt8 := [42, 180, 0, 40, 180, 0, 183, 21, 4, 46, 172, 42, 180, 0, 51, 180, 0, 186, 21, 4, 46, 172, 42]
abbrev dktX0_cell_2 : List UInt8 := dkwX0_cell_2 ++ dktX0_cell_3
def dkwX0_cell_1 : List UInt8 := [170, 0, 0, 0, 95, 0, 0, 0, 0, 0, 0, 0, 3, 0, 0, 0, 29, 0, 0, 0, 40, 0, 0, 0, 51, 0, 0, 0, 73]
abbrev dktX0_cell_1 : List UInt8 := dkwX0_cell_1 ++ dktX0_cell_2
def dkwX0_cell_0 : List UInt8 := [42, 180, 0, 40, 27, 28, 182, 0, 179, 154, 0, 5, 2, 172, 28, 16, 8, 104, 27, 96, 54, 4, 29]
abbrev dktX0_cell_0 : List UInt8 := dkwX0_cell_0 ++ dktX0_cell_1
theorem dksX0_cell_0 : cX0_cell.data.toList.drop 0 = dktX0_cell_0 := by decide +kernel
theorem dksX0_cell_1 : cX0_cell.data.toList.drop 23 = dktX0_cell_1 := dk_seg dksX0_cell_0 23 rfl rfl
theorem dksX0_cell_2 : cX0_cell.data.toList.drop 52 = dktX0_cell_2 := dk_seg dksX0_cell_1 29 rfl rfl
theorem dksX0_cell_3 : cX0_cell.data.toList.drop 75 = dktX0_cell_3 := dk_seg dksX0_cell_2 23 rfl rfl
theorem dksX0_cell_4 : cX0_cell.data.toList.drop 97 = dktX0_cell_4 := dk_seg dksX0_cell_3 22 rfl rfl
theorem dX0_cell_0 : decode cX0_cell 0 = .ok (.aload_n 0, 1) := dk_42 (dk_at dksX0_cell_0 0 rfl rfl)
theorem dX0_cell_1 : decode cX0_cell 1 = .ok (.getfield 40, 3) := dk_180 0 40 (dk_at dksX0_cell_0 1 rfl rfl)
theorem dX0_cell_4 : decode cX0_cell 4 = .ok (.iload_n 1, 1) := dk_27 (dk_at dksX0_cell_0 4 rfl rfl)
theorem dX0_cell_5 : decode cX0_cell 5 = .ok (.iload_n 2, 1) := dk_28 (dk_at dksX0_cell_0 5 rfl rfl)
theorem dX0_cell_6 : decode cX0_cell 6 = .ok (.invokevirtual 179, 3) := dk_182 0 179 (dk_at dksX0_cell_0 6 rfl rfl)
theorem dX0_cell_9 : decode cX0_cell 9 = .ok (.ifCond .ne 5, 3) := dk_154 0 5 (dk_at dksX0_cell_0 9 rfl rfl)
theorem dX0_cell_12 : decode cX0_cell 12 = .ok (.iconst (-1), 1) := dk_2 (dk_at dksX0_cell_0 12 rfl rfl)
theorem dX0_cell_13 : decode cX0_cell 13 = .ok (.ireturn, 1) := dk_172 (dk_at dksX0_cell_0 13 rfl rfl)
theorem dX0_cell_14 : decode cX0_cell 14 = .ok (.iload_n 2, 1) := dk_28 (dk_at dksX0_cell_0 14 rfl rfl)
theorem dX0_cell_15 : decode cX0_cell 15 = .ok (.bipush 8, 2) := dk_16 8 (dk_at dksX0_cell_0 15 rfl rfl)
theorem dX0_cell_17 : decode cX0_cell 17 = .ok (.imul, 1) := dk_104 (dk_at dksX0_cell_0 17 rfl rfl)
theorem dX0_cell_18 : decode cX0_cell 18 = .ok (.iload_n 1, 1) := dk_27 (dk_at dksX0_cell_0 18 rfl rfl)
theorem dX0_cell_19 : decode cX0_cell 19 = .ok (.iadd, 1) := dk_96 (dk_at dksX0_cell_0 19 rfl rfl)
theorem dX0_cell_20 : decode cX0_cell 20 = .ok (.istore 4, 2) := dk_54 4 (dk_at dksX0_cell_0 20 rfl rfl)
theorem dX0_cell_22 : decode cX0_cell 22 = .ok (.iload_n 3, 1) := dk_29 (dk_at dksX0_cell_0 22 rfl rfl)
theorem dX0_cell_23 : decode cX0_cell 23 = .ok (.tableswitch 95 0 3 #[29, 40, 51, 73], 29) := by decide +kernel
theorem dX0_cell_52 : decode cX0_cell 52 = .ok (.aload_n 0, 1) := dk_42 (dk_at dksX0_cell_2 0 rfl rfl)
theorem dX0_cell_53 : decode cX0_cell 53 = .ok (.getfield 40, 3) := dk_180 0 40 (dk_at dksX0_cell_2 1 rfl rfl)
theorem dX0_cell_56 : decode cX0_cell 56 = .ok (.getfield 183, 3) := dk_180 0 183 (dk_at dksX0_cell_2 4 rfl rfl)
theorem dX0_cell_59 : decode cX0_cell 59 = .ok (.iload 4, 2) := dk_21 4 (dk_at dksX0_cell_2 7 rfl rfl)
theorem dX0_cell_61 : decode cX0_cell 61 = .ok (.iaload, 1) := dk_46 (dk_at dksX0_cell_2 9 rfl rfl)
theorem dX0_cell_62 : decode cX0_cell 62 = .ok (.ireturn, 1) := dk_172 (dk_at dksX0_cell_2 10 rfl rfl)
theorem dX0_cell_63 : decode cX0_cell 63 = .ok (.aload_n 0, 1) := dk_42 (dk_at dksX0_cell_2 11 rfl rfl)
theorem dX0_cell_64 : decode cX0_cell 64 = .ok (.getfield 51, 3) := dk_180 0 51 (dk_at dksX0_cell_2 12 rfl rfl)
theorem dX0_cell_67 : decode cX0_cell 67 = .ok (.getfield 186, 3) := dk_180 0 186 (dk_at dksX0_cell_2 15 rfl rfl)
theorem dX0_cell_70 : decode cX0_cell 70 = .ok (.iload 4, 2) := dk_21 4 (dk_at dksX0_cell_2 18 rfl rfl)
theorem dX0_cell_72 : decode cX0_cell 72 = .ok (.iaload, 1) := dk_46 (dk_at dksX0_cell_2 20 rfl rfl)
theorem dX0_cell_73 : decode cX0_cell 73 = .ok (.ireturn, 1) := dk_172 (dk_at dksX0_cell_2 21 rfl rfl)
theorem dX0_cell_74 : decode cX0_cell 74 = .ok (.aload_n 0, 1) := dk_42 (dk_at dksX0_cell_2 22 rfl rfl)
theorem dX0_cell_75 : decode cX0_cell 75 = .ok (.getfield 51, 3) := dk_180 0 51 (dk_at dksX0_cell_3 0 rfl rfl)
theorem dX0_cell_78 : decode cX0_cell 78 = .ok (.aload_n 0, 1) := dk_42 (dk_at dksX0_cell_3 3 rfl rfl)
theorem dX0_cell_79 : decode cX0_cell 79 = .ok (.getfield 40, 3) := dk_180 0 40 (dk_at dksX0_cell_3 4 rfl rfl)
theorem dX0_cell_82 : decode cX0_cell 82 = .ok (.iload 4, 2) := dk_21 4 (dk_at dksX0_cell_3 7 rfl rfl)
theorem dX0_cell_84 : decode cX0_cell 84 = .ok (.invokevirtual 189, 3) := dk_182 0 189 (dk_at dksX0_cell_3 9 rfl rfl)
theorem dX0_cell_87 : decode cX0_cell 87 = .ok (.ifCond .eq 7, 3) := dk_153 0 7 (dk_at dksX0_cell_3 12 rfl rfl)
theorem dX0_cell_90 : decode cX0_cell 90 = .ok (.iconst 1, 1) := dk_4 (dk_at dksX0_cell_3 15 rfl rfl)
theorem dX0_cell_91 : decode cX0_cell 91 = .ok (.goto 4, 3) := dk_167 0 4 (dk_at dksX0_cell_3 16 rfl rfl)
theorem dX0_cell_94 : decode cX0_cell 94 = .ok (.iconst 0, 1) := dk_3 (dk_at dksX0_cell_3 19 rfl rfl)
theorem dX0_cell_95 : decode cX0_cell 95 = .ok (.ireturn, 1) := dk_172 (dk_at dksX0_cell_3 20 rfl rfl)
theorem dX0_cell_96 : decode cX0_cell 96 = .ok (.aload_n 0, 1) := dk_42 (dk_at dksX0_cell_3 21 rfl rfl)
theorem dX0_cell_97 : decode cX0_cell 97 = .ok (.getfield 51, 3) := dk_180 0 51 (dk_at dksX0_cell_4 0 rfl rfl)
theorem dX0_cell_100 : decode cX0_cell 100 = .ok (.aload_n 0, 1) := dk_42 (dk_at dksX0_cell_4 3 rfl rfl)
theorem dX0_cell_101 : decode cX0_cell 101 = .ok (.getfield 40, 3) := dk_180 0 40 (dk_at dksX0_cell_4 4 rfl rfl)
theorem dX0_cell_104 : decode cX0_cell 104 = .ok (.iload 4, 2) := dk_21 4 (dk_at dksX0_cell_4 7 rfl rfl)
theorem dX0_cell_106 : decode cX0_cell 106 = .ok (.invokevirtual 193, 3) := dk_182 0 193 (dk_at dksX0_cell_4 9 rfl rfl)
theorem dX0_cell_109 : decode cX0_cell 109 = .ok (.ifCond .eq 7, 3) := dk_153 0 7 (dk_at dksX0_cell_4 12 rfl rfl)
theorem dX0_cell_112 : decode cX0_cell 112 = .ok (.iconst 1, 1) := dk_4 (dk_at dksX0_cell_4 15 rfl rfl)
theorem dX0_cell_113 : decode cX0_cell 113 = .ok (.goto 4, 3) := dk_167 0 4 (dk_at dksX0_cell_4 16 rfl rfl)
theorem dX0_cell_116 : decode cX0_cell 116 = .ok (.iconst 0, 1) := dk_3 (dk_at dksX0_cell_4 19 rfl rfl)
theorem dX0_cell_117 : decode cX0_cell 117 = .ok (.ireturn, 1) := dk_172 (dk_at dksX0_cell_4 20 rfl rfl)
theorem dX0_cell_118 : decode cX0_cell 118 = .ok (.iconst (-1), 1) := dk_2 (dk_at dksX0_cell_4 21 rfl rfl)
theorem dX0_cell_119 : decode cX0_cell 119 = .ok (.ireturn, 1) := dk_172 (dk_at dksX0_cell_4 22 rfl rfl)
abbrev cX0_field : ByteArray := prog_1_method_16_code
def yX0_field : MethodName := ⟨RX0, "field", "(II)I"⟩
def dkwX0_field_6 : List UInt8 := [172, 42, 180, 0, 40, 27, 182, 0, 207, 172, 2, 172]
abbrev dktX0_field_6 : List UInt8 := dkwX0_field_6 ++ []
def dkwX0_field_5 : List UInt8 := [29, 172, 21, 4, 172, 42, 180, 0, 51, 180, 0, 201, 27, 46, 172, 42, 180, 0, 51, 180, 0, 204, 27, 46]
abbrev dktX0_field_5 : List UInt8 := dkwX0_field_5 ++ dktX0_field_6
def dkwX0_field_4 : List UInt8 := [170, 0, 0, 0, 0, 0, 69, 0, 0, 0, 0, 0, 0, 0, 4, 0, 0, 0, 35, 0, 0, 0, 37, 0, 0, 0, 40, 0, 0, 0, 50, 0, 0, 0, 60]
abbrev dktX0_field_4 : List UInt8 := dkwX0_field_4 ++ dktX0_field_5
def dkwX0_field_3 : List UInt8 := [180, 0, 186, 21, 5, 46, 96, 54, 4, 132, 5, 1, 167, 255, 199, 28]
abbrev dktX0_field_3 : List UInt8 := dkwX0_field_3 ++ dktX0_field_4
def dkwX0_field_2 : List UInt8 := [180, 0, 183, 21, 5, 46, 27, 159, 0, 6, 167, 0, 21, 132, 3, 1, 21, 4, 42, 180, 0, 51]
abbrev dktX0_field_2 : List UInt8 := dkwX0_field_2 ++ dktX0_field_3
def dkwX0_field_1 : List UInt8 := [21, 5, 16, 48, 162, 0, 56, 42, 180, 0, 40, 21, 5, 182, 0, 198, 153, 0, 38, 42, 180, 0, 40]
abbrev dktX0_field_1 : List UInt8 := dkwX0_field_1 ++ dktX0_field_2
def dkwX0_field_0 : List UInt8 := [27, 3, 42, 182, 0, 196, 4, 100, 184, 0, 158, 154, 0, 5, 2, 172, 3, 62, 3, 54, 4, 3, 54, 5]
abbrev dktX0_field_0 : List UInt8 := dkwX0_field_0 ++ dktX0_field_1
theorem dksX0_field_0 : cX0_field.data.toList.drop 0 = dktX0_field_0 := by decide +kernel
theorem dksX0_field_1 : cX0_field.data.toList.drop 24 = dktX0_field_1 := dk_seg dksX0_field_0 24 rfl rfl
theorem dksX0_field_2 : cX0_field.data.toList.drop 47 = dktX0_field_2 := dk_seg dksX0_field_1 23 rfl rfl
theorem dksX0_field_3 : cX0_field.data.toList.drop 69 = dktX0_field_3 := dk_seg dksX0_field_2 22 rfl rfl
theorem dksX0_field_4 : cX0_field.data.toList.drop 85 = dktX0_field_4 := dk_seg dksX0_field_3 16 rfl rfl
theorem dksX0_field_5 : cX0_field.data.toList.drop 120 = dktX0_field_5 := dk_seg dksX0_field_4 35 rfl rfl
theorem dksX0_field_6 : cX0_field.data.toList.drop 144 = dktX0_field_6 := dk_seg dksX0_field_5 24 rfl rfl
theorem dX0_field_0 : decode cX0_field 0 = .ok (.iload_n 1, 1) := dk_27 (dk_at dksX0_field_0 0 rfl rfl)
theorem dX0_field_1 : decode cX0_field 1 = .ok (.iconst 0, 1) := dk_3 (dk_at dksX0_field_0 1 rfl rfl)
theorem dX0_field_2 : decode cX0_field 2 = .ok (.aload_n 0, 1) := dk_42 (dk_at dksX0_field_0 2 rfl rfl)
theorem dX0_field_3 : decode cX0_field 3 = .ok (.invokevirtual 196, 3) := dk_182 0 196 (dk_at dksX0_field_0 3 rfl rfl)
theorem dX0_field_6 : decode cX0_field 6 = .ok (.iconst 1, 1) := dk_4 (dk_at dksX0_field_0 6 rfl rfl)
theorem dX0_field_7 : decode cX0_field 7 = .ok (.isub, 1) := dk_100 (dk_at dksX0_field_0 7 rfl rfl)
theorem dX0_field_8 : decode cX0_field 8 = .ok (.invokestatic 158, 3) := dk_184 0 158 (dk_at dksX0_field_0 8 rfl rfl)
theorem dX0_field_11 : decode cX0_field 11 = .ok (.ifCond .ne 5, 3) := dk_154 0 5 (dk_at dksX0_field_0 11 rfl rfl)
theorem dX0_field_14 : decode cX0_field 14 = .ok (.iconst (-1), 1) := dk_2 (dk_at dksX0_field_0 14 rfl rfl)
theorem dX0_field_15 : decode cX0_field 15 = .ok (.ireturn, 1) := dk_172 (dk_at dksX0_field_0 15 rfl rfl)
theorem dX0_field_16 : decode cX0_field 16 = .ok (.iconst 0, 1) := dk_3 (dk_at dksX0_field_0 16 rfl rfl)
theorem dX0_field_17 : decode cX0_field 17 = .ok (.istore_n 3, 1) := dk_62 (dk_at dksX0_field_0 17 rfl rfl)
theorem dX0_field_18 : decode cX0_field 18 = .ok (.iconst 0, 1) := dk_3 (dk_at dksX0_field_0 18 rfl rfl)
theorem dX0_field_19 : decode cX0_field 19 = .ok (.istore 4, 2) := dk_54 4 (dk_at dksX0_field_0 19 rfl rfl)
theorem dX0_field_21 : decode cX0_field 21 = .ok (.iconst 0, 1) := dk_3 (dk_at dksX0_field_0 21 rfl rfl)
theorem dX0_field_22 : decode cX0_field 22 = .ok (.istore 5, 2) := dk_54 5 (dk_at dksX0_field_0 22 rfl rfl)
theorem dX0_field_24 : decode cX0_field 24 = .ok (.iload 5, 2) := dk_21 5 (dk_at dksX0_field_1 0 rfl rfl)
theorem dX0_field_26 : decode cX0_field 26 = .ok (.bipush 48, 2) := dk_16 48 (dk_at dksX0_field_1 2 rfl rfl)
theorem dX0_field_28 : decode cX0_field 28 = .ok (.if_icmp .ge 56, 3) := dk_162 0 56 (dk_at dksX0_field_1 4 rfl rfl)
theorem dX0_field_31 : decode cX0_field 31 = .ok (.aload_n 0, 1) := dk_42 (dk_at dksX0_field_1 7 rfl rfl)
theorem dX0_field_32 : decode cX0_field 32 = .ok (.getfield 40, 3) := dk_180 0 40 (dk_at dksX0_field_1 8 rfl rfl)
theorem dX0_field_35 : decode cX0_field 35 = .ok (.iload 5, 2) := dk_21 5 (dk_at dksX0_field_1 11 rfl rfl)
theorem dX0_field_37 : decode cX0_field 37 = .ok (.invokevirtual 198, 3) := dk_182 0 198 (dk_at dksX0_field_1 13 rfl rfl)
theorem dX0_field_40 : decode cX0_field 40 = .ok (.ifCond .eq 38, 3) := dk_153 0 38 (dk_at dksX0_field_1 16 rfl rfl)
theorem dX0_field_43 : decode cX0_field 43 = .ok (.aload_n 0, 1) := dk_42 (dk_at dksX0_field_1 19 rfl rfl)
theorem dX0_field_44 : decode cX0_field 44 = .ok (.getfield 40, 3) := dk_180 0 40 (dk_at dksX0_field_1 20 rfl rfl)
theorem dX0_field_47 : decode cX0_field 47 = .ok (.getfield 183, 3) := dk_180 0 183 (dk_at dksX0_field_2 0 rfl rfl)
theorem dX0_field_50 : decode cX0_field 50 = .ok (.iload 5, 2) := dk_21 5 (dk_at dksX0_field_2 3 rfl rfl)
theorem dX0_field_52 : decode cX0_field 52 = .ok (.iaload, 1) := dk_46 (dk_at dksX0_field_2 5 rfl rfl)
theorem dX0_field_53 : decode cX0_field 53 = .ok (.iload_n 1, 1) := dk_27 (dk_at dksX0_field_2 6 rfl rfl)
theorem dX0_field_54 : decode cX0_field 54 = .ok (.if_icmp .eq 6, 3) := dk_159 0 6 (dk_at dksX0_field_2 7 rfl rfl)
theorem dX0_field_57 : decode cX0_field 57 = .ok (.goto 21, 3) := dk_167 0 21 (dk_at dksX0_field_2 10 rfl rfl)
theorem dX0_field_60 : decode cX0_field 60 = .ok (.iinc 3 1, 3) := dk_132 3 1 (dk_at dksX0_field_2 13 rfl rfl)
theorem dX0_field_63 : decode cX0_field 63 = .ok (.iload 4, 2) := dk_21 4 (dk_at dksX0_field_2 16 rfl rfl)
theorem dX0_field_65 : decode cX0_field 65 = .ok (.aload_n 0, 1) := dk_42 (dk_at dksX0_field_2 18 rfl rfl)
theorem dX0_field_66 : decode cX0_field 66 = .ok (.getfield 51, 3) := dk_180 0 51 (dk_at dksX0_field_2 19 rfl rfl)
theorem dX0_field_69 : decode cX0_field 69 = .ok (.getfield 186, 3) := dk_180 0 186 (dk_at dksX0_field_3 0 rfl rfl)
theorem dX0_field_72 : decode cX0_field 72 = .ok (.iload 5, 2) := dk_21 5 (dk_at dksX0_field_3 3 rfl rfl)
theorem dX0_field_74 : decode cX0_field 74 = .ok (.iaload, 1) := dk_46 (dk_at dksX0_field_3 5 rfl rfl)
theorem dX0_field_75 : decode cX0_field 75 = .ok (.iadd, 1) := dk_96 (dk_at dksX0_field_3 6 rfl rfl)
theorem dX0_field_76 : decode cX0_field 76 = .ok (.istore 4, 2) := dk_54 4 (dk_at dksX0_field_3 7 rfl rfl)
theorem dX0_field_78 : decode cX0_field 78 = .ok (.iinc 5 1, 3) := dk_132 5 1 (dk_at dksX0_field_3 9 rfl rfl)
theorem dX0_field_81 : decode cX0_field 81 = .ok (.goto (-57), 3) := dk_167 255 199 (dk_at dksX0_field_3 12 rfl rfl)
theorem dX0_field_84 : decode cX0_field 84 = .ok (.iload_n 2, 1) := dk_28 (dk_at dksX0_field_3 15 rfl rfl)
theorem dX0_field_85 : decode cX0_field 85 = .ok (.tableswitch 69 0 4 #[35, 37, 40, 50, 60], 35) := by decide +kernel
theorem dX0_field_120 : decode cX0_field 120 = .ok (.iload_n 3, 1) := dk_29 (dk_at dksX0_field_5 0 rfl rfl)
theorem dX0_field_121 : decode cX0_field 121 = .ok (.ireturn, 1) := dk_172 (dk_at dksX0_field_5 1 rfl rfl)
theorem dX0_field_122 : decode cX0_field 122 = .ok (.iload 4, 2) := dk_21 4 (dk_at dksX0_field_5 2 rfl rfl)
theorem dX0_field_124 : decode cX0_field 124 = .ok (.ireturn, 1) := dk_172 (dk_at dksX0_field_5 4 rfl rfl)
theorem dX0_field_125 : decode cX0_field 125 = .ok (.aload_n 0, 1) := dk_42 (dk_at dksX0_field_5 5 rfl rfl)
theorem dX0_field_126 : decode cX0_field 126 = .ok (.getfield 51, 3) := dk_180 0 51 (dk_at dksX0_field_5 6 rfl rfl)
theorem dX0_field_129 : decode cX0_field 129 = .ok (.getfield 201, 3) := dk_180 0 201 (dk_at dksX0_field_5 9 rfl rfl)
theorem dX0_field_132 : decode cX0_field 132 = .ok (.iload_n 1, 1) := dk_27 (dk_at dksX0_field_5 12 rfl rfl)
theorem dX0_field_133 : decode cX0_field 133 = .ok (.iaload, 1) := dk_46 (dk_at dksX0_field_5 13 rfl rfl)
theorem dX0_field_134 : decode cX0_field 134 = .ok (.ireturn, 1) := dk_172 (dk_at dksX0_field_5 14 rfl rfl)
theorem dX0_field_135 : decode cX0_field 135 = .ok (.aload_n 0, 1) := dk_42 (dk_at dksX0_field_5 15 rfl rfl)
theorem dX0_field_136 : decode cX0_field 136 = .ok (.getfield 51, 3) := dk_180 0 51 (dk_at dksX0_field_5 16 rfl rfl)
theorem dX0_field_139 : decode cX0_field 139 = .ok (.getfield 204, 3) := dk_180 0 204 (dk_at dksX0_field_5 19 rfl rfl)
theorem dX0_field_142 : decode cX0_field 142 = .ok (.iload_n 1, 1) := dk_27 (dk_at dksX0_field_5 22 rfl rfl)
theorem dX0_field_143 : decode cX0_field 143 = .ok (.iaload, 1) := dk_46 (dk_at dksX0_field_5 23 rfl rfl)
theorem dX0_field_144 : decode cX0_field 144 = .ok (.ireturn, 1) := dk_172 (dk_at dksX0_field_6 0 rfl rfl)
theorem dX0_field_145 : decode cX0_field 145 = .ok (.aload_n 0, 1) := dk_42 (dk_at dksX0_field_6 1 rfl rfl)
theorem dX0_field_146 : decode cX0_field 146 = .ok (.getfield 40, 3) := dk_180 0 40 (dk_at dksX0_field_6 2 rfl rfl)
theorem dX0_field_149 : decode cX0_field 149 = .ok (.iload_n 1, 1) := dk_27 (dk_at dksX0_field_6 5 rfl rfl)
theorem dX0_field_150 : decode cX0_field 150 = .ok (.invokevirtual 207, 3) := dk_182 0 207 (dk_at dksX0_field_6 6 rfl rfl)
theorem dX0_field_153 : decode cX0_field 153 = .ok (.ireturn, 1) := dk_172 (dk_at dksX0_field_6 9 rfl rfl)
theorem dX0_field_154 : decode cX0_field 154 = .ok (.iconst (-1), 1) := dk_2 (dk_at dksX0_field_6 10 rfl rfl)
theorem dX0_field_155 : decode cX0_field 155 = .ok (.ireturn, 1) := dk_172 (dk_at dksX0_field_6 11 rfl rfl)
abbrev cX0_fields : ByteArray := prog_1_method_10_code
def yX0_fields : MethodName := ⟨RX0, "fields", "()I"⟩
def dkwX0_fields_0 : List UInt8 := [42, 180, 0, 40, 180, 0, 143, 182, 0, 147, 172]
abbrev dktX0_fields_0 : List UInt8 := dkwX0_fields_0 ++ []
theorem dksX0_fields_0 : cX0_fields.data.toList.drop 0 = dktX0_fields_0 := by decide +kernel
theorem dX0_fields_0 : decode cX0_fields 0 = .ok (.aload_n 0, 1) := dk_42 (dk_at dksX0_fields_0 0 rfl rfl)
theorem dX0_fields_1 : decode cX0_fields 1 = .ok (.getfield 40, 3) := dk_180 0 40 (dk_at dksX0_fields_0 1 rfl rfl)
theorem dX0_fields_4 : decode cX0_fields 4 = .ok (.getfield 143, 3) := dk_180 0 143 (dk_at dksX0_fields_0 4 rfl rfl)
theorem dX0_fields_7 : decode cX0_fields 7 = .ok (.invokevirtual 147, 3) := dk_182 0 147 (dk_at dksX0_fields_0 7 rfl rfl)
theorem dX0_fields_10 : decode cX0_fields 10 = .ok (.ireturn, 1) := dk_172 (dk_at dksX0_fields_0 10 rfl rfl)
abbrev cX0_isIn : ByteArray := prog_1_method_9_code
def yX0_isIn : MethodName := ⟨RX0, "isIn", "(III)Z"⟩
def dkwX0_isIn_0 : List UInt8 := [26, 27, 161, 0, 12, 26, 28, 163, 0, 7, 4, 167, 0, 4, 3, 172]
abbrev dktX0_isIn_0 : List UInt8 := dkwX0_isIn_0 ++ []
theorem dksX0_isIn_0 : cX0_isIn.data.toList.drop 0 = dktX0_isIn_0 := by decide +kernel
theorem dX0_isIn_0 : decode cX0_isIn 0 = .ok (.iload_n 0, 1) := dk_26 (dk_at dksX0_isIn_0 0 rfl rfl)
theorem dX0_isIn_1 : decode cX0_isIn 1 = .ok (.iload_n 1, 1) := dk_27 (dk_at dksX0_isIn_0 1 rfl rfl)
theorem dX0_isIn_2 : decode cX0_isIn 2 = .ok (.if_icmp .lt 12, 3) := dk_161 0 12 (dk_at dksX0_isIn_0 2 rfl rfl)
theorem dX0_isIn_5 : decode cX0_isIn 5 = .ok (.iload_n 0, 1) := dk_26 (dk_at dksX0_isIn_0 5 rfl rfl)
theorem dX0_isIn_6 : decode cX0_isIn 6 = .ok (.iload_n 2, 1) := dk_28 (dk_at dksX0_isIn_0 6 rfl rfl)
theorem dX0_isIn_7 : decode cX0_isIn 7 = .ok (.if_icmp .gt 7, 3) := dk_163 0 7 (dk_at dksX0_isIn_0 7 rfl rfl)
theorem dX0_isIn_10 : decode cX0_isIn 10 = .ok (.iconst 1, 1) := dk_4 (dk_at dksX0_isIn_0 10 rfl rfl)
theorem dX0_isIn_11 : decode cX0_isIn 11 = .ok (.goto 4, 3) := dk_167 0 4 (dk_at dksX0_isIn_0 11 rfl rfl)
theorem dX0_isIn_14 : decode cX0_isIn 14 = .ok (.iconst 0, 1) := dk_3 (dk_at dksX0_isIn_0 14 rfl rfl)
theorem dX0_isIn_15 : decode cX0_isIn 15 = .ok (.ireturn, 1) := dk_172 (dk_at dksX0_isIn_0 15 rfl rfl)
abbrev cX0_loom : ByteArray := prog_1_method_17_code
def yX0_loom : MethodName := ⟨RX0, "loom", "(II)I"⟩
def dkwX0_loom_5 : List UInt8 := [180, 0, 227, 27, 46, 172, 2, 172]
abbrev dktX0_loom_5 : List UInt8 := dkwX0_loom_5 ++ []
def dkwX0_loom_4 : List UInt8 := [180, 0, 51, 180, 0, 221, 27, 46, 172, 42, 180, 0, 51, 180, 0, 224, 27, 46, 172, 42, 180, 0, 51]
abbrev dktX0_loom_4 : List UInt8 := dkwX0_loom_4 ++ dktX0_loom_5
def dkwX0_loom_3 : List UInt8 := [46, 172, 42, 180, 0, 51, 180, 0, 215, 27, 46, 172, 42, 180, 0, 51, 180, 0, 218, 27, 46, 172, 42]
abbrev dktX0_loom_3 : List UInt8 := dkwX0_loom_3 ++ dktX0_loom_4
def dkwX0_loom_2 : List UInt8 := [42, 27, 182, 0, 175, 172, 42, 180, 0, 51, 180, 0, 210, 27, 46, 172, 42, 180, 0, 51, 180, 0, 213, 27]
abbrev dktX0_loom_2 : List UInt8 := dkwX0_loom_2 ++ dktX0_loom_3
def dkwX0_loom_1 : List UInt8 := [170, 0, 0, 0, 121, 0, 0, 0, 0, 0, 0, 0, 7, 0, 0, 0, 45, 0, 0, 0, 51, 0, 0, 0, 61, 0, 0, 0, 71, 0, 0, 0, 81, 0, 0, 0, 91, 0, 0, 0, 101, 0, 0, 0, 111]
abbrev dktX0_loom_1 : List UInt8 := dkwX0_loom_1 ++ dktX0_loom_2
def dkwX0_loom_0 : List UInt8 := [42, 27, 182, 0, 171, 154, 0, 5, 2, 172, 28]
abbrev dktX0_loom_0 : List UInt8 := dkwX0_loom_0 ++ dktX0_loom_1
theorem dksX0_loom_0 : cX0_loom.data.toList.drop 0 = dktX0_loom_0 := by decide +kernel
theorem dksX0_loom_1 : cX0_loom.data.toList.drop 11 = dktX0_loom_1 := dk_seg dksX0_loom_0 11 rfl rfl
theorem dksX0_loom_2 : cX0_loom.data.toList.drop 56 = dktX0_loom_2 := dk_seg dksX0_loom_1 45 rfl rfl
theorem dksX0_loom_3 : cX0_loom.data.toList.drop 80 = dktX0_loom_3 := dk_seg dksX0_loom_2 24 rfl rfl
theorem dksX0_loom_4 : cX0_loom.data.toList.drop 103 = dktX0_loom_4 := dk_seg dksX0_loom_3 23 rfl rfl
theorem dksX0_loom_5 : cX0_loom.data.toList.drop 126 = dktX0_loom_5 := dk_seg dksX0_loom_4 23 rfl rfl
theorem dX0_loom_0 : decode cX0_loom 0 = .ok (.aload_n 0, 1) := dk_42 (dk_at dksX0_loom_0 0 rfl rfl)
theorem dX0_loom_1 : decode cX0_loom 1 = .ok (.iload_n 1, 1) := dk_27 (dk_at dksX0_loom_0 1 rfl rfl)
theorem dX0_loom_2 : decode cX0_loom 2 = .ok (.invokevirtual 171, 3) := dk_182 0 171 (dk_at dksX0_loom_0 2 rfl rfl)
theorem dX0_loom_5 : decode cX0_loom 5 = .ok (.ifCond .ne 5, 3) := dk_154 0 5 (dk_at dksX0_loom_0 5 rfl rfl)
theorem dX0_loom_8 : decode cX0_loom 8 = .ok (.iconst (-1), 1) := dk_2 (dk_at dksX0_loom_0 8 rfl rfl)
theorem dX0_loom_9 : decode cX0_loom 9 = .ok (.ireturn, 1) := dk_172 (dk_at dksX0_loom_0 9 rfl rfl)
theorem dX0_loom_10 : decode cX0_loom 10 = .ok (.iload_n 2, 1) := dk_28 (dk_at dksX0_loom_0 10 rfl rfl)
theorem dX0_loom_11 : decode cX0_loom 11 = .ok (.tableswitch 121 0 7 #[45, 51, 61, 71, 81, 91, 101, 111], 45) := by decide +kernel
theorem dX0_loom_56 : decode cX0_loom 56 = .ok (.aload_n 0, 1) := dk_42 (dk_at dksX0_loom_2 0 rfl rfl)
theorem dX0_loom_57 : decode cX0_loom 57 = .ok (.iload_n 1, 1) := dk_27 (dk_at dksX0_loom_2 1 rfl rfl)
theorem dX0_loom_58 : decode cX0_loom 58 = .ok (.invokevirtual 175, 3) := dk_182 0 175 (dk_at dksX0_loom_2 2 rfl rfl)
theorem dX0_loom_61 : decode cX0_loom 61 = .ok (.ireturn, 1) := dk_172 (dk_at dksX0_loom_2 5 rfl rfl)
theorem dX0_loom_62 : decode cX0_loom 62 = .ok (.aload_n 0, 1) := dk_42 (dk_at dksX0_loom_2 6 rfl rfl)
theorem dX0_loom_63 : decode cX0_loom 63 = .ok (.getfield 51, 3) := dk_180 0 51 (dk_at dksX0_loom_2 7 rfl rfl)
theorem dX0_loom_66 : decode cX0_loom 66 = .ok (.getfield 210, 3) := dk_180 0 210 (dk_at dksX0_loom_2 10 rfl rfl)
theorem dX0_loom_69 : decode cX0_loom 69 = .ok (.iload_n 1, 1) := dk_27 (dk_at dksX0_loom_2 13 rfl rfl)
theorem dX0_loom_70 : decode cX0_loom 70 = .ok (.iaload, 1) := dk_46 (dk_at dksX0_loom_2 14 rfl rfl)
theorem dX0_loom_71 : decode cX0_loom 71 = .ok (.ireturn, 1) := dk_172 (dk_at dksX0_loom_2 15 rfl rfl)
theorem dX0_loom_72 : decode cX0_loom 72 = .ok (.aload_n 0, 1) := dk_42 (dk_at dksX0_loom_2 16 rfl rfl)
theorem dX0_loom_73 : decode cX0_loom 73 = .ok (.getfield 51, 3) := dk_180 0 51 (dk_at dksX0_loom_2 17 rfl rfl)
theorem dX0_loom_76 : decode cX0_loom 76 = .ok (.getfield 213, 3) := dk_180 0 213 (dk_at dksX0_loom_2 20 rfl rfl)
theorem dX0_loom_79 : decode cX0_loom 79 = .ok (.iload_n 1, 1) := dk_27 (dk_at dksX0_loom_2 23 rfl rfl)
theorem dX0_loom_80 : decode cX0_loom 80 = .ok (.iaload, 1) := dk_46 (dk_at dksX0_loom_3 0 rfl rfl)
theorem dX0_loom_81 : decode cX0_loom 81 = .ok (.ireturn, 1) := dk_172 (dk_at dksX0_loom_3 1 rfl rfl)
theorem dX0_loom_82 : decode cX0_loom 82 = .ok (.aload_n 0, 1) := dk_42 (dk_at dksX0_loom_3 2 rfl rfl)
theorem dX0_loom_83 : decode cX0_loom 83 = .ok (.getfield 51, 3) := dk_180 0 51 (dk_at dksX0_loom_3 3 rfl rfl)
theorem dX0_loom_86 : decode cX0_loom 86 = .ok (.getfield 215, 3) := dk_180 0 215 (dk_at dksX0_loom_3 6 rfl rfl)
theorem dX0_loom_89 : decode cX0_loom 89 = .ok (.iload_n 1, 1) := dk_27 (dk_at dksX0_loom_3 9 rfl rfl)
theorem dX0_loom_90 : decode cX0_loom 90 = .ok (.iaload, 1) := dk_46 (dk_at dksX0_loom_3 10 rfl rfl)
theorem dX0_loom_91 : decode cX0_loom 91 = .ok (.ireturn, 1) := dk_172 (dk_at dksX0_loom_3 11 rfl rfl)
theorem dX0_loom_92 : decode cX0_loom 92 = .ok (.aload_n 0, 1) := dk_42 (dk_at dksX0_loom_3 12 rfl rfl)
theorem dX0_loom_93 : decode cX0_loom 93 = .ok (.getfield 51, 3) := dk_180 0 51 (dk_at dksX0_loom_3 13 rfl rfl)
theorem dX0_loom_96 : decode cX0_loom 96 = .ok (.getfield 218, 3) := dk_180 0 218 (dk_at dksX0_loom_3 16 rfl rfl)
theorem dX0_loom_99 : decode cX0_loom 99 = .ok (.iload_n 1, 1) := dk_27 (dk_at dksX0_loom_3 19 rfl rfl)
theorem dX0_loom_100 : decode cX0_loom 100 = .ok (.iaload, 1) := dk_46 (dk_at dksX0_loom_3 20 rfl rfl)
theorem dX0_loom_101 : decode cX0_loom 101 = .ok (.ireturn, 1) := dk_172 (dk_at dksX0_loom_3 21 rfl rfl)
theorem dX0_loom_102 : decode cX0_loom 102 = .ok (.aload_n 0, 1) := dk_42 (dk_at dksX0_loom_3 22 rfl rfl)
theorem dX0_loom_103 : decode cX0_loom 103 = .ok (.getfield 51, 3) := dk_180 0 51 (dk_at dksX0_loom_4 0 rfl rfl)
theorem dX0_loom_106 : decode cX0_loom 106 = .ok (.getfield 221, 3) := dk_180 0 221 (dk_at dksX0_loom_4 3 rfl rfl)
theorem dX0_loom_109 : decode cX0_loom 109 = .ok (.iload_n 1, 1) := dk_27 (dk_at dksX0_loom_4 6 rfl rfl)
theorem dX0_loom_110 : decode cX0_loom 110 = .ok (.iaload, 1) := dk_46 (dk_at dksX0_loom_4 7 rfl rfl)
theorem dX0_loom_111 : decode cX0_loom 111 = .ok (.ireturn, 1) := dk_172 (dk_at dksX0_loom_4 8 rfl rfl)
theorem dX0_loom_112 : decode cX0_loom 112 = .ok (.aload_n 0, 1) := dk_42 (dk_at dksX0_loom_4 9 rfl rfl)
theorem dX0_loom_113 : decode cX0_loom 113 = .ok (.getfield 51, 3) := dk_180 0 51 (dk_at dksX0_loom_4 10 rfl rfl)
theorem dX0_loom_116 : decode cX0_loom 116 = .ok (.getfield 224, 3) := dk_180 0 224 (dk_at dksX0_loom_4 13 rfl rfl)
theorem dX0_loom_119 : decode cX0_loom 119 = .ok (.iload_n 1, 1) := dk_27 (dk_at dksX0_loom_4 16 rfl rfl)
theorem dX0_loom_120 : decode cX0_loom 120 = .ok (.iaload, 1) := dk_46 (dk_at dksX0_loom_4 17 rfl rfl)
theorem dX0_loom_121 : decode cX0_loom 121 = .ok (.ireturn, 1) := dk_172 (dk_at dksX0_loom_4 18 rfl rfl)
theorem dX0_loom_122 : decode cX0_loom 122 = .ok (.aload_n 0, 1) := dk_42 (dk_at dksX0_loom_4 19 rfl rfl)
theorem dX0_loom_123 : decode cX0_loom 123 = .ok (.getfield 51, 3) := dk_180 0 51 (dk_at dksX0_loom_4 20 rfl rfl)
theorem dX0_loom_126 : decode cX0_loom 126 = .ok (.getfield 227, 3) := dk_180 0 227 (dk_at dksX0_loom_5 0 rfl rfl)
theorem dX0_loom_129 : decode cX0_loom 129 = .ok (.iload_n 1, 1) := dk_27 (dk_at dksX0_loom_5 3 rfl rfl)
theorem dX0_loom_130 : decode cX0_loom 130 = .ok (.iaload, 1) := dk_46 (dk_at dksX0_loom_5 4 rfl rfl)
theorem dX0_loom_131 : decode cX0_loom 131 = .ok (.ireturn, 1) := dk_172 (dk_at dksX0_loom_5 5 rfl rfl)
theorem dX0_loom_132 : decode cX0_loom 132 = .ok (.iconst (-1), 1) := dk_2 (dk_at dksX0_loom_5 6 rfl rfl)
theorem dX0_loom_133 : decode cX0_loom 133 = .ok (.ireturn, 1) := dk_172 (dk_at dksX0_loom_5 7 rfl rfl)
abbrev cX0_isLoom : ByteArray := prog_1_method_12_code
def yX0_isLoom : MethodName := ⟨RX0, "isLoom", "(I)Z"⟩
def dkwX0_isLoom_0 : List UInt8 := [27, 3, 42, 182, 0, 156, 4, 100, 184, 0, 158, 172]
abbrev dktX0_isLoom_0 : List UInt8 := dkwX0_isLoom_0 ++ []
theorem dksX0_isLoom_0 : cX0_isLoom.data.toList.drop 0 = dktX0_isLoom_0 := by decide +kernel
theorem dX0_isLoom_0 : decode cX0_isLoom 0 = .ok (.iload_n 1, 1) := dk_27 (dk_at dksX0_isLoom_0 0 rfl rfl)
theorem dX0_isLoom_1 : decode cX0_isLoom 1 = .ok (.iconst 0, 1) := dk_3 (dk_at dksX0_isLoom_0 1 rfl rfl)
theorem dX0_isLoom_2 : decode cX0_isLoom 2 = .ok (.aload_n 0, 1) := dk_42 (dk_at dksX0_isLoom_0 2 rfl rfl)
theorem dX0_isLoom_3 : decode cX0_isLoom 3 = .ok (.invokevirtual 156, 3) := dk_182 0 156 (dk_at dksX0_isLoom_0 3 rfl rfl)
theorem dX0_isLoom_6 : decode cX0_isLoom 6 = .ok (.iconst 1, 1) := dk_4 (dk_at dksX0_isLoom_0 6 rfl rfl)
theorem dX0_isLoom_7 : decode cX0_isLoom 7 = .ok (.isub, 1) := dk_100 (dk_at dksX0_isLoom_0 7 rfl rfl)
theorem dX0_isLoom_8 : decode cX0_isLoom 8 = .ok (.invokestatic 158, 3) := dk_184 0 158 (dk_at dksX0_isLoom_0 8 rfl rfl)
theorem dX0_isLoom_11 : decode cX0_isLoom 11 = .ok (.ireturn, 1) := dk_172 (dk_at dksX0_isLoom_0 11 rfl rfl)
abbrev cX0_looms : ByteArray := prog_1_method_11_code
def yX0_looms : MethodName := ⟨RX0, "looms", "()I"⟩
def dkwX0_looms_0 : List UInt8 := [42, 180, 0, 40, 180, 0, 153, 182, 0, 147, 172]
abbrev dktX0_looms_0 : List UInt8 := dkwX0_looms_0 ++ []
theorem dksX0_looms_0 : cX0_looms.data.toList.drop 0 = dktX0_looms_0 := by decide +kernel
theorem dX0_looms_0 : decode cX0_looms 0 = .ok (.aload_n 0, 1) := dk_42 (dk_at dksX0_looms_0 0 rfl rfl)
theorem dX0_looms_1 : decode cX0_looms 1 = .ok (.getfield 40, 3) := dk_180 0 40 (dk_at dksX0_looms_0 1 rfl rfl)
theorem dX0_looms_4 : decode cX0_looms 4 = .ok (.getfield 153, 3) := dk_180 0 153 (dk_at dksX0_looms_0 4 rfl rfl)
theorem dX0_looms_7 : decode cX0_looms 7 = .ok (.invokevirtual 147, 3) := dk_182 0 147 (dk_at dksX0_looms_0 7 rfl rfl)
theorem dX0_looms_10 : decode cX0_looms 10 = .ok (.ireturn, 1) := dk_172 (dk_at dksX0_looms_0 10 rfl rfl)
abbrev cX0_wideOf : ByteArray := prog_1_method_13_code
def yX0_wideOf : MethodName := ⟨RX0, "wideOf", "(I)I"⟩
def dkwX0_wideOf_0 : List UInt8 := [42, 180, 0, 40, 180, 0, 153, 27, 182, 0, 162, 192, 0, 166, 180, 0, 168, 172]
abbrev dktX0_wideOf_0 : List UInt8 := dkwX0_wideOf_0 ++ []
theorem dksX0_wideOf_0 : cX0_wideOf.data.toList.drop 0 = dktX0_wideOf_0 := by decide +kernel
theorem dX0_wideOf_0 : decode cX0_wideOf 0 = .ok (.aload_n 0, 1) := dk_42 (dk_at dksX0_wideOf_0 0 rfl rfl)
theorem dX0_wideOf_1 : decode cX0_wideOf 1 = .ok (.getfield 40, 3) := dk_180 0 40 (dk_at dksX0_wideOf_0 1 rfl rfl)
theorem dX0_wideOf_4 : decode cX0_wideOf 4 = .ok (.getfield 153, 3) := dk_180 0 153 (dk_at dksX0_wideOf_0 4 rfl rfl)
theorem dX0_wideOf_7 : decode cX0_wideOf 7 = .ok (.iload_n 1, 1) := dk_27 (dk_at dksX0_wideOf_0 7 rfl rfl)
theorem dX0_wideOf_8 : decode cX0_wideOf 8 = .ok (.invokevirtual 162, 3) := dk_182 0 162 (dk_at dksX0_wideOf_0 8 rfl rfl)
theorem dX0_wideOf_11 : decode cX0_wideOf 11 = .ok (.checkcast 166, 3) := dk_192 0 166 (dk_at dksX0_wideOf_0 11 rfl rfl)
theorem dX0_wideOf_14 : decode cX0_wideOf 14 = .ok (.getfield 168, 3) := dk_180 0 168 (dk_at dksX0_wideOf_0 14 rfl rfl)
theorem dX0_wideOf_17 : decode cX0_wideOf 17 = .ok (.ireturn, 1) := dk_172 (dk_at dksX0_wideOf_0 17 rfl rfl)
abbrev cX0_thread : ByteArray := prog_1_method_18_code
def yX0_thread : MethodName := ⟨RX0, "thread", "(III)I"⟩
def dkwX0_thread_2 : List UInt8 := [167, 0, 4, 2, 172]
abbrev dktX0_thread_2 : List UInt8 := dkwX0_thread_2 ++ []
def dkwX0_thread_1 : List UInt8 := [3, 17, 39, 15, 184, 0, 158, 153, 0, 20, 42, 180, 0, 51, 42, 180, 0, 40, 27, 28, 29, 182, 0, 230]
abbrev dktX0_thread_1 : List UInt8 := dkwX0_thread_1 ++ dktX0_thread_2
def dkwX0_thread_0 : List UInt8 := [42, 27, 182, 0, 171, 153, 0, 46, 28, 3, 42, 27, 182, 0, 175, 4, 100, 184, 0, 158, 153, 0, 31, 29]
abbrev dktX0_thread_0 : List UInt8 := dkwX0_thread_0 ++ dktX0_thread_1
theorem dksX0_thread_0 : cX0_thread.data.toList.drop 0 = dktX0_thread_0 := by decide +kernel
theorem dksX0_thread_1 : cX0_thread.data.toList.drop 24 = dktX0_thread_1 := dk_seg dksX0_thread_0 24 rfl rfl
theorem dksX0_thread_2 : cX0_thread.data.toList.drop 48 = dktX0_thread_2 := dk_seg dksX0_thread_1 24 rfl rfl
theorem dX0_thread_0 : decode cX0_thread 0 = .ok (.aload_n 0, 1) := dk_42 (dk_at dksX0_thread_0 0 rfl rfl)
theorem dX0_thread_1 : decode cX0_thread 1 = .ok (.iload_n 1, 1) := dk_27 (dk_at dksX0_thread_0 1 rfl rfl)
theorem dX0_thread_2 : decode cX0_thread 2 = .ok (.invokevirtual 171, 3) := dk_182 0 171 (dk_at dksX0_thread_0 2 rfl rfl)
theorem dX0_thread_5 : decode cX0_thread 5 = .ok (.ifCond .eq 46, 3) := dk_153 0 46 (dk_at dksX0_thread_0 5 rfl rfl)
theorem dX0_thread_8 : decode cX0_thread 8 = .ok (.iload_n 2, 1) := dk_28 (dk_at dksX0_thread_0 8 rfl rfl)
theorem dX0_thread_9 : decode cX0_thread 9 = .ok (.iconst 0, 1) := dk_3 (dk_at dksX0_thread_0 9 rfl rfl)
theorem dX0_thread_10 : decode cX0_thread 10 = .ok (.aload_n 0, 1) := dk_42 (dk_at dksX0_thread_0 10 rfl rfl)
theorem dX0_thread_11 : decode cX0_thread 11 = .ok (.iload_n 1, 1) := dk_27 (dk_at dksX0_thread_0 11 rfl rfl)
theorem dX0_thread_12 : decode cX0_thread 12 = .ok (.invokevirtual 175, 3) := dk_182 0 175 (dk_at dksX0_thread_0 12 rfl rfl)
theorem dX0_thread_15 : decode cX0_thread 15 = .ok (.iconst 1, 1) := dk_4 (dk_at dksX0_thread_0 15 rfl rfl)
theorem dX0_thread_16 : decode cX0_thread 16 = .ok (.isub, 1) := dk_100 (dk_at dksX0_thread_0 16 rfl rfl)
theorem dX0_thread_17 : decode cX0_thread 17 = .ok (.invokestatic 158, 3) := dk_184 0 158 (dk_at dksX0_thread_0 17 rfl rfl)
theorem dX0_thread_20 : decode cX0_thread 20 = .ok (.ifCond .eq 31, 3) := dk_153 0 31 (dk_at dksX0_thread_0 20 rfl rfl)
theorem dX0_thread_23 : decode cX0_thread 23 = .ok (.iload_n 3, 1) := dk_29 (dk_at dksX0_thread_0 23 rfl rfl)
theorem dX0_thread_24 : decode cX0_thread 24 = .ok (.iconst 0, 1) := dk_3 (dk_at dksX0_thread_1 0 rfl rfl)
theorem dX0_thread_25 : decode cX0_thread 25 = .ok (.sipush 9999, 3) := dk_17 39 15 (dk_at dksX0_thread_1 1 rfl rfl)
theorem dX0_thread_28 : decode cX0_thread 28 = .ok (.invokestatic 158, 3) := dk_184 0 158 (dk_at dksX0_thread_1 4 rfl rfl)
theorem dX0_thread_31 : decode cX0_thread 31 = .ok (.ifCond .eq 20, 3) := dk_153 0 20 (dk_at dksX0_thread_1 7 rfl rfl)
theorem dX0_thread_34 : decode cX0_thread 34 = .ok (.aload_n 0, 1) := dk_42 (dk_at dksX0_thread_1 10 rfl rfl)
theorem dX0_thread_35 : decode cX0_thread 35 = .ok (.getfield 51, 3) := dk_180 0 51 (dk_at dksX0_thread_1 11 rfl rfl)
theorem dX0_thread_38 : decode cX0_thread 38 = .ok (.aload_n 0, 1) := dk_42 (dk_at dksX0_thread_1 14 rfl rfl)
theorem dX0_thread_39 : decode cX0_thread 39 = .ok (.getfield 40, 3) := dk_180 0 40 (dk_at dksX0_thread_1 15 rfl rfl)
theorem dX0_thread_42 : decode cX0_thread 42 = .ok (.iload_n 1, 1) := dk_27 (dk_at dksX0_thread_1 18 rfl rfl)
theorem dX0_thread_43 : decode cX0_thread 43 = .ok (.iload_n 2, 1) := dk_28 (dk_at dksX0_thread_1 19 rfl rfl)
theorem dX0_thread_44 : decode cX0_thread 44 = .ok (.iload_n 3, 1) := dk_29 (dk_at dksX0_thread_1 20 rfl rfl)
theorem dX0_thread_45 : decode cX0_thread 45 = .ok (.invokevirtual 230, 3) := dk_182 0 230 (dk_at dksX0_thread_1 21 rfl rfl)
theorem dX0_thread_48 : decode cX0_thread 48 = .ok (.goto 4, 3) := dk_167 0 4 (dk_at dksX0_thread_2 0 rfl rfl)
theorem dX0_thread_51 : decode cX0_thread 51 = .ok (.iconst (-1), 1) := dk_2 (dk_at dksX0_thread_2 3 rfl rfl)
theorem dX0_thread_52 : decode cX0_thread 52 = .ok (.ireturn, 1) := dk_172 (dk_at dksX0_thread_2 4 rfl rfl)
abbrev cX0_order : ByteArray := prog_1_method_22_code
def yX0_order : MethodName := ⟨RX0, "order", "(IIIII)Z"⟩
def dkwX0_order_5 : List UInt8 := [180, 0, 51, 180, 0, 221, 27, 21, 5, 79, 4, 172]
abbrev dktX0_order_5 : List UInt8 := dkwX0_order_5 ++ []
def dkwX0_order_4 : List UInt8 := [28, 79, 42, 180, 0, 51, 180, 0, 215, 27, 29, 79, 42, 180, 0, 51, 180, 0, 218, 27, 21, 4, 79, 42]
abbrev dktX0_order_4 : List UInt8 := dkwX0_order_4 ++ dktX0_order_5
def dkwX0_order_3 : List UInt8 := [180, 0, 221, 27, 46, 21, 5, 160, 0, 5, 3, 172, 42, 182, 1, 0, 42, 180, 0, 51, 180, 0, 213, 27]
abbrev dktX0_order_3 : List UInt8 := dkwX0_order_3 ++ dktX0_order_4
def dkwX0_order_2 : List UInt8 := [29, 160, 0, 33, 42, 180, 0, 51, 180, 0, 218, 27, 46, 21, 4, 160, 0, 19, 42, 180, 0, 51]
abbrev dktX0_order_2 : List UInt8 := dkwX0_order_2 ++ dktX0_order_3
def dkwX0_order_1 : List UInt8 := [3, 172, 42, 180, 0, 51, 180, 0, 213, 27, 46, 28, 160, 0, 46, 42, 180, 0, 51, 180, 0, 215, 27, 46]
abbrev dktX0_order_1 : List UInt8 := dkwX0_order_1 ++ dktX0_order_2
def dkwX0_order_0 : List UInt8 := [42, 27, 28, 29, 182, 0, 253, 153, 0, 17, 42, 180, 0, 40, 21, 4, 21, 5, 182, 0, 179, 154, 0, 5]
abbrev dktX0_order_0 : List UInt8 := dkwX0_order_0 ++ dktX0_order_1
theorem dksX0_order_0 : cX0_order.data.toList.drop 0 = dktX0_order_0 := by decide +kernel
theorem dksX0_order_1 : cX0_order.data.toList.drop 24 = dktX0_order_1 := dk_seg dksX0_order_0 24 rfl rfl
theorem dksX0_order_2 : cX0_order.data.toList.drop 48 = dktX0_order_2 := dk_seg dksX0_order_1 24 rfl rfl
theorem dksX0_order_3 : cX0_order.data.toList.drop 70 = dktX0_order_3 := dk_seg dksX0_order_2 22 rfl rfl
theorem dksX0_order_4 : cX0_order.data.toList.drop 94 = dktX0_order_4 := dk_seg dksX0_order_3 24 rfl rfl
theorem dksX0_order_5 : cX0_order.data.toList.drop 118 = dktX0_order_5 := dk_seg dksX0_order_4 24 rfl rfl
theorem dX0_order_0 : decode cX0_order 0 = .ok (.aload_n 0, 1) := dk_42 (dk_at dksX0_order_0 0 rfl rfl)
theorem dX0_order_1 : decode cX0_order 1 = .ok (.iload_n 1, 1) := dk_27 (dk_at dksX0_order_0 1 rfl rfl)
theorem dX0_order_2 : decode cX0_order 2 = .ok (.iload_n 2, 1) := dk_28 (dk_at dksX0_order_0 2 rfl rfl)
theorem dX0_order_3 : decode cX0_order 3 = .ok (.iload_n 3, 1) := dk_29 (dk_at dksX0_order_0 3 rfl rfl)
theorem dX0_order_4 : decode cX0_order 4 = .ok (.invokevirtual 253, 3) := dk_182 0 253 (dk_at dksX0_order_0 4 rfl rfl)
theorem dX0_order_7 : decode cX0_order 7 = .ok (.ifCond .eq 17, 3) := dk_153 0 17 (dk_at dksX0_order_0 7 rfl rfl)
theorem dX0_order_10 : decode cX0_order 10 = .ok (.aload_n 0, 1) := dk_42 (dk_at dksX0_order_0 10 rfl rfl)
theorem dX0_order_11 : decode cX0_order 11 = .ok (.getfield 40, 3) := dk_180 0 40 (dk_at dksX0_order_0 11 rfl rfl)
theorem dX0_order_14 : decode cX0_order 14 = .ok (.iload 4, 2) := dk_21 4 (dk_at dksX0_order_0 14 rfl rfl)
theorem dX0_order_16 : decode cX0_order 16 = .ok (.iload 5, 2) := dk_21 5 (dk_at dksX0_order_0 16 rfl rfl)
theorem dX0_order_18 : decode cX0_order 18 = .ok (.invokevirtual 179, 3) := dk_182 0 179 (dk_at dksX0_order_0 18 rfl rfl)
theorem dX0_order_21 : decode cX0_order 21 = .ok (.ifCond .ne 5, 3) := dk_154 0 5 (dk_at dksX0_order_0 21 rfl rfl)
theorem dX0_order_24 : decode cX0_order 24 = .ok (.iconst 0, 1) := dk_3 (dk_at dksX0_order_1 0 rfl rfl)
theorem dX0_order_25 : decode cX0_order 25 = .ok (.ireturn, 1) := dk_172 (dk_at dksX0_order_1 1 rfl rfl)
theorem dX0_order_26 : decode cX0_order 26 = .ok (.aload_n 0, 1) := dk_42 (dk_at dksX0_order_1 2 rfl rfl)
theorem dX0_order_27 : decode cX0_order 27 = .ok (.getfield 51, 3) := dk_180 0 51 (dk_at dksX0_order_1 3 rfl rfl)
theorem dX0_order_30 : decode cX0_order 30 = .ok (.getfield 213, 3) := dk_180 0 213 (dk_at dksX0_order_1 6 rfl rfl)
theorem dX0_order_33 : decode cX0_order 33 = .ok (.iload_n 1, 1) := dk_27 (dk_at dksX0_order_1 9 rfl rfl)
theorem dX0_order_34 : decode cX0_order 34 = .ok (.iaload, 1) := dk_46 (dk_at dksX0_order_1 10 rfl rfl)
theorem dX0_order_35 : decode cX0_order 35 = .ok (.iload_n 2, 1) := dk_28 (dk_at dksX0_order_1 11 rfl rfl)
theorem dX0_order_36 : decode cX0_order 36 = .ok (.if_icmp .ne 46, 3) := dk_160 0 46 (dk_at dksX0_order_1 12 rfl rfl)
theorem dX0_order_39 : decode cX0_order 39 = .ok (.aload_n 0, 1) := dk_42 (dk_at dksX0_order_1 15 rfl rfl)
theorem dX0_order_40 : decode cX0_order 40 = .ok (.getfield 51, 3) := dk_180 0 51 (dk_at dksX0_order_1 16 rfl rfl)
theorem dX0_order_43 : decode cX0_order 43 = .ok (.getfield 215, 3) := dk_180 0 215 (dk_at dksX0_order_1 19 rfl rfl)
theorem dX0_order_46 : decode cX0_order 46 = .ok (.iload_n 1, 1) := dk_27 (dk_at dksX0_order_1 22 rfl rfl)
theorem dX0_order_47 : decode cX0_order 47 = .ok (.iaload, 1) := dk_46 (dk_at dksX0_order_1 23 rfl rfl)
theorem dX0_order_48 : decode cX0_order 48 = .ok (.iload_n 3, 1) := dk_29 (dk_at dksX0_order_2 0 rfl rfl)
theorem dX0_order_49 : decode cX0_order 49 = .ok (.if_icmp .ne 33, 3) := dk_160 0 33 (dk_at dksX0_order_2 1 rfl rfl)
theorem dX0_order_52 : decode cX0_order 52 = .ok (.aload_n 0, 1) := dk_42 (dk_at dksX0_order_2 4 rfl rfl)
theorem dX0_order_53 : decode cX0_order 53 = .ok (.getfield 51, 3) := dk_180 0 51 (dk_at dksX0_order_2 5 rfl rfl)
theorem dX0_order_56 : decode cX0_order 56 = .ok (.getfield 218, 3) := dk_180 0 218 (dk_at dksX0_order_2 8 rfl rfl)
theorem dX0_order_59 : decode cX0_order 59 = .ok (.iload_n 1, 1) := dk_27 (dk_at dksX0_order_2 11 rfl rfl)
theorem dX0_order_60 : decode cX0_order 60 = .ok (.iaload, 1) := dk_46 (dk_at dksX0_order_2 12 rfl rfl)
theorem dX0_order_61 : decode cX0_order 61 = .ok (.iload 4, 2) := dk_21 4 (dk_at dksX0_order_2 13 rfl rfl)
theorem dX0_order_63 : decode cX0_order 63 = .ok (.if_icmp .ne 19, 3) := dk_160 0 19 (dk_at dksX0_order_2 15 rfl rfl)
theorem dX0_order_66 : decode cX0_order 66 = .ok (.aload_n 0, 1) := dk_42 (dk_at dksX0_order_2 18 rfl rfl)
theorem dX0_order_67 : decode cX0_order 67 = .ok (.getfield 51, 3) := dk_180 0 51 (dk_at dksX0_order_2 19 rfl rfl)
theorem dX0_order_70 : decode cX0_order 70 = .ok (.getfield 221, 3) := dk_180 0 221 (dk_at dksX0_order_3 0 rfl rfl)
theorem dX0_order_73 : decode cX0_order 73 = .ok (.iload_n 1, 1) := dk_27 (dk_at dksX0_order_3 3 rfl rfl)
theorem dX0_order_74 : decode cX0_order 74 = .ok (.iaload, 1) := dk_46 (dk_at dksX0_order_3 4 rfl rfl)
theorem dX0_order_75 : decode cX0_order 75 = .ok (.iload 5, 2) := dk_21 5 (dk_at dksX0_order_3 5 rfl rfl)
theorem dX0_order_77 : decode cX0_order 77 = .ok (.if_icmp .ne 5, 3) := dk_160 0 5 (dk_at dksX0_order_3 7 rfl rfl)
theorem dX0_order_80 : decode cX0_order 80 = .ok (.iconst 0, 1) := dk_3 (dk_at dksX0_order_3 10 rfl rfl)
theorem dX0_order_81 : decode cX0_order 81 = .ok (.ireturn, 1) := dk_172 (dk_at dksX0_order_3 11 rfl rfl)
theorem dX0_order_82 : decode cX0_order 82 = .ok (.aload_n 0, 1) := dk_42 (dk_at dksX0_order_3 12 rfl rfl)
theorem dX0_order_83 : decode cX0_order 83 = .ok (.invokevirtual 256, 3) := dk_182 1 0 (dk_at dksX0_order_3 13 rfl rfl)
theorem dX0_order_86 : decode cX0_order 86 = .ok (.aload_n 0, 1) := dk_42 (dk_at dksX0_order_3 16 rfl rfl)
theorem dX0_order_87 : decode cX0_order 87 = .ok (.getfield 51, 3) := dk_180 0 51 (dk_at dksX0_order_3 17 rfl rfl)
theorem dX0_order_90 : decode cX0_order 90 = .ok (.getfield 213, 3) := dk_180 0 213 (dk_at dksX0_order_3 20 rfl rfl)
theorem dX0_order_93 : decode cX0_order 93 = .ok (.iload_n 1, 1) := dk_27 (dk_at dksX0_order_3 23 rfl rfl)
theorem dX0_order_94 : decode cX0_order 94 = .ok (.iload_n 2, 1) := dk_28 (dk_at dksX0_order_4 0 rfl rfl)
theorem dX0_order_95 : decode cX0_order 95 = .ok (.iastore, 1) := dk_79 (dk_at dksX0_order_4 1 rfl rfl)
theorem dX0_order_96 : decode cX0_order 96 = .ok (.aload_n 0, 1) := dk_42 (dk_at dksX0_order_4 2 rfl rfl)
theorem dX0_order_97 : decode cX0_order 97 = .ok (.getfield 51, 3) := dk_180 0 51 (dk_at dksX0_order_4 3 rfl rfl)
theorem dX0_order_100 : decode cX0_order 100 = .ok (.getfield 215, 3) := dk_180 0 215 (dk_at dksX0_order_4 6 rfl rfl)
theorem dX0_order_103 : decode cX0_order 103 = .ok (.iload_n 1, 1) := dk_27 (dk_at dksX0_order_4 9 rfl rfl)
theorem dX0_order_104 : decode cX0_order 104 = .ok (.iload_n 3, 1) := dk_29 (dk_at dksX0_order_4 10 rfl rfl)
theorem dX0_order_105 : decode cX0_order 105 = .ok (.iastore, 1) := dk_79 (dk_at dksX0_order_4 11 rfl rfl)
theorem dX0_order_106 : decode cX0_order 106 = .ok (.aload_n 0, 1) := dk_42 (dk_at dksX0_order_4 12 rfl rfl)
theorem dX0_order_107 : decode cX0_order 107 = .ok (.getfield 51, 3) := dk_180 0 51 (dk_at dksX0_order_4 13 rfl rfl)
theorem dX0_order_110 : decode cX0_order 110 = .ok (.getfield 218, 3) := dk_180 0 218 (dk_at dksX0_order_4 16 rfl rfl)
theorem dX0_order_113 : decode cX0_order 113 = .ok (.iload_n 1, 1) := dk_27 (dk_at dksX0_order_4 19 rfl rfl)
theorem dX0_order_114 : decode cX0_order 114 = .ok (.iload 4, 2) := dk_21 4 (dk_at dksX0_order_4 20 rfl rfl)
theorem dX0_order_116 : decode cX0_order 116 = .ok (.iastore, 1) := dk_79 (dk_at dksX0_order_4 22 rfl rfl)
theorem dX0_order_117 : decode cX0_order 117 = .ok (.aload_n 0, 1) := dk_42 (dk_at dksX0_order_4 23 rfl rfl)
theorem dX0_order_118 : decode cX0_order 118 = .ok (.getfield 51, 3) := dk_180 0 51 (dk_at dksX0_order_5 0 rfl rfl)
theorem dX0_order_121 : decode cX0_order 121 = .ok (.getfield 221, 3) := dk_180 0 221 (dk_at dksX0_order_5 3 rfl rfl)
theorem dX0_order_124 : decode cX0_order 124 = .ok (.iload_n 1, 1) := dk_27 (dk_at dksX0_order_5 6 rfl rfl)
theorem dX0_order_125 : decode cX0_order 125 = .ok (.iload 5, 2) := dk_21 5 (dk_at dksX0_order_5 7 rfl rfl)
theorem dX0_order_127 : decode cX0_order 127 = .ok (.iastore, 1) := dk_79 (dk_at dksX0_order_5 9 rfl rfl)
theorem dX0_order_128 : decode cX0_order 128 = .ok (.iconst 1, 1) := dk_4 (dk_at dksX0_order_5 10 rfl rfl)
theorem dX0_order_129 : decode cX0_order 129 = .ok (.ireturn, 1) := dk_172 (dk_at dksX0_order_5 11 rfl rfl)
abbrev cX0_isPiece : ByteArray := prog_1_method_14_code
def yX0_isPiece : MethodName := ⟨RX0, "isPiece", "(III)Z"⟩
def dkwX0_isPiece_1 : List UInt8 := [16, 6, 184, 0, 158, 153, 0, 7, 4, 167, 0, 4, 3, 172]
abbrev dktX0_isPiece_1 : List UInt8 := dkwX0_isPiece_1 ++ []
def dkwX0_isPiece_0 : List UInt8 := [42, 27, 182, 0, 171, 153, 0, 30, 28, 4, 42, 27, 182, 0, 175, 184, 0, 158, 153, 0, 17, 29, 4]
abbrev dktX0_isPiece_0 : List UInt8 := dkwX0_isPiece_0 ++ dktX0_isPiece_1
theorem dksX0_isPiece_0 : cX0_isPiece.data.toList.drop 0 = dktX0_isPiece_0 := by decide +kernel
theorem dksX0_isPiece_1 : cX0_isPiece.data.toList.drop 23 = dktX0_isPiece_1 := dk_seg dksX0_isPiece_0 23 rfl rfl
theorem dX0_isPiece_0 : decode cX0_isPiece 0 = .ok (.aload_n 0, 1) := dk_42 (dk_at dksX0_isPiece_0 0 rfl rfl)
theorem dX0_isPiece_1 : decode cX0_isPiece 1 = .ok (.iload_n 1, 1) := dk_27 (dk_at dksX0_isPiece_0 1 rfl rfl)
theorem dX0_isPiece_2 : decode cX0_isPiece 2 = .ok (.invokevirtual 171, 3) := dk_182 0 171 (dk_at dksX0_isPiece_0 2 rfl rfl)
theorem dX0_isPiece_5 : decode cX0_isPiece 5 = .ok (.ifCond .eq 30, 3) := dk_153 0 30 (dk_at dksX0_isPiece_0 5 rfl rfl)
theorem dX0_isPiece_8 : decode cX0_isPiece 8 = .ok (.iload_n 2, 1) := dk_28 (dk_at dksX0_isPiece_0 8 rfl rfl)
theorem dX0_isPiece_9 : decode cX0_isPiece 9 = .ok (.iconst 1, 1) := dk_4 (dk_at dksX0_isPiece_0 9 rfl rfl)
theorem dX0_isPiece_10 : decode cX0_isPiece 10 = .ok (.aload_n 0, 1) := dk_42 (dk_at dksX0_isPiece_0 10 rfl rfl)
theorem dX0_isPiece_11 : decode cX0_isPiece 11 = .ok (.iload_n 1, 1) := dk_27 (dk_at dksX0_isPiece_0 11 rfl rfl)
theorem dX0_isPiece_12 : decode cX0_isPiece 12 = .ok (.invokevirtual 175, 3) := dk_182 0 175 (dk_at dksX0_isPiece_0 12 rfl rfl)
theorem dX0_isPiece_15 : decode cX0_isPiece 15 = .ok (.invokestatic 158, 3) := dk_184 0 158 (dk_at dksX0_isPiece_0 15 rfl rfl)
theorem dX0_isPiece_18 : decode cX0_isPiece 18 = .ok (.ifCond .eq 17, 3) := dk_153 0 17 (dk_at dksX0_isPiece_0 18 rfl rfl)
theorem dX0_isPiece_21 : decode cX0_isPiece 21 = .ok (.iload_n 3, 1) := dk_29 (dk_at dksX0_isPiece_0 21 rfl rfl)
theorem dX0_isPiece_22 : decode cX0_isPiece 22 = .ok (.iconst 1, 1) := dk_4 (dk_at dksX0_isPiece_0 22 rfl rfl)
theorem dX0_isPiece_23 : decode cX0_isPiece 23 = .ok (.bipush 6, 2) := dk_16 6 (dk_at dksX0_isPiece_1 0 rfl rfl)
theorem dX0_isPiece_25 : decode cX0_isPiece 25 = .ok (.invokestatic 158, 3) := dk_184 0 158 (dk_at dksX0_isPiece_1 2 rfl rfl)
theorem dX0_isPiece_28 : decode cX0_isPiece 28 = .ok (.ifCond .eq 7, 3) := dk_153 0 7 (dk_at dksX0_isPiece_1 5 rfl rfl)
theorem dX0_isPiece_31 : decode cX0_isPiece 31 = .ok (.iconst 1, 1) := dk_4 (dk_at dksX0_isPiece_1 8 rfl rfl)
theorem dX0_isPiece_32 : decode cX0_isPiece 32 = .ok (.goto 4, 3) := dk_167 0 4 (dk_at dksX0_isPiece_1 9 rfl rfl)
theorem dX0_isPiece_35 : decode cX0_isPiece 35 = .ok (.iconst 0, 1) := dk_3 (dk_at dksX0_isPiece_1 12 rfl rfl)
theorem dX0_isPiece_36 : decode cX0_isPiece 36 = .ok (.ireturn, 1) := dk_172 (dk_at dksX0_isPiece_1 13 rfl rfl)
abbrev cX0_keeps : ByteArray := prog_1_method_19_code
def yX0_keeps : MethodName := ⟨RX0, "keeps", "()V"⟩
def dkwX0_keeps_1 : List UInt8 := [16, 30, 112, 181, 0, 234, 42, 16, 30, 42, 180, 0, 133, 4, 96, 184, 0, 241, 181, 0, 133, 177]
abbrev dktX0_keeps_1 : List UInt8 := dkwX0_keeps_1 ++ []
def dkwX0_keeps_0 : List UInt8 := [42, 180, 0, 58, 42, 180, 0, 234, 50, 42, 180, 0, 51, 182, 0, 237, 42, 42, 180, 0, 234, 4, 96]
abbrev dktX0_keeps_0 : List UInt8 := dkwX0_keeps_0 ++ dktX0_keeps_1
theorem dksX0_keeps_0 : cX0_keeps.data.toList.drop 0 = dktX0_keeps_0 := by decide +kernel
theorem dksX0_keeps_1 : cX0_keeps.data.toList.drop 23 = dktX0_keeps_1 := dk_seg dksX0_keeps_0 23 rfl rfl
theorem dX0_keeps_0 : decode cX0_keeps 0 = .ok (.aload_n 0, 1) := dk_42 (dk_at dksX0_keeps_0 0 rfl rfl)
theorem dX0_keeps_1 : decode cX0_keeps 1 = .ok (.getfield 58, 3) := dk_180 0 58 (dk_at dksX0_keeps_0 1 rfl rfl)
theorem dX0_keeps_4 : decode cX0_keeps 4 = .ok (.aload_n 0, 1) := dk_42 (dk_at dksX0_keeps_0 4 rfl rfl)
theorem dX0_keeps_5 : decode cX0_keeps 5 = .ok (.getfield 234, 3) := dk_180 0 234 (dk_at dksX0_keeps_0 5 rfl rfl)
theorem dX0_keeps_8 : decode cX0_keeps 8 = .ok (.aaload, 1) := dk_50 (dk_at dksX0_keeps_0 8 rfl rfl)
theorem dX0_keeps_9 : decode cX0_keeps 9 = .ok (.aload_n 0, 1) := dk_42 (dk_at dksX0_keeps_0 9 rfl rfl)
theorem dX0_keeps_10 : decode cX0_keeps 10 = .ok (.getfield 51, 3) := dk_180 0 51 (dk_at dksX0_keeps_0 10 rfl rfl)
theorem dX0_keeps_13 : decode cX0_keeps 13 = .ok (.invokevirtual 237, 3) := dk_182 0 237 (dk_at dksX0_keeps_0 13 rfl rfl)
theorem dX0_keeps_16 : decode cX0_keeps 16 = .ok (.aload_n 0, 1) := dk_42 (dk_at dksX0_keeps_0 16 rfl rfl)
theorem dX0_keeps_17 : decode cX0_keeps 17 = .ok (.aload_n 0, 1) := dk_42 (dk_at dksX0_keeps_0 17 rfl rfl)
theorem dX0_keeps_18 : decode cX0_keeps 18 = .ok (.getfield 234, 3) := dk_180 0 234 (dk_at dksX0_keeps_0 18 rfl rfl)
theorem dX0_keeps_21 : decode cX0_keeps 21 = .ok (.iconst 1, 1) := dk_4 (dk_at dksX0_keeps_0 21 rfl rfl)
theorem dX0_keeps_22 : decode cX0_keeps 22 = .ok (.iadd, 1) := dk_96 (dk_at dksX0_keeps_0 22 rfl rfl)
theorem dX0_keeps_23 : decode cX0_keeps 23 = .ok (.bipush 30, 2) := dk_16 30 (dk_at dksX0_keeps_1 0 rfl rfl)
theorem dX0_keeps_25 : decode cX0_keeps 25 = .ok (.irem, 1) := dk_112 (dk_at dksX0_keeps_1 2 rfl rfl)
theorem dX0_keeps_26 : decode cX0_keeps 26 = .ok (.putfield 234, 3) := dk_181 0 234 (dk_at dksX0_keeps_1 3 rfl rfl)
theorem dX0_keeps_29 : decode cX0_keeps 29 = .ok (.aload_n 0, 1) := dk_42 (dk_at dksX0_keeps_1 6 rfl rfl)
theorem dX0_keeps_30 : decode cX0_keeps 30 = .ok (.bipush 30, 2) := dk_16 30 (dk_at dksX0_keeps_1 7 rfl rfl)
theorem dX0_keeps_32 : decode cX0_keeps 32 = .ok (.aload_n 0, 1) := dk_42 (dk_at dksX0_keeps_1 9 rfl rfl)
theorem dX0_keeps_33 : decode cX0_keeps 33 = .ok (.getfield 133, 3) := dk_180 0 133 (dk_at dksX0_keeps_1 10 rfl rfl)
theorem dX0_keeps_36 : decode cX0_keeps 36 = .ok (.iconst 1, 1) := dk_4 (dk_at dksX0_keeps_1 13 rfl rfl)
theorem dX0_keeps_37 : decode cX0_keeps 37 = .ok (.iadd, 1) := dk_96 (dk_at dksX0_keeps_1 14 rfl rfl)
theorem dX0_keeps_38 : decode cX0_keeps 38 = .ok (.invokestatic 241, 3) := dk_184 0 241 (dk_at dksX0_keeps_1 15 rfl rfl)
theorem dX0_keeps_41 : decode cX0_keeps 41 = .ok (.putfield 133, 3) := dk_181 0 133 (dk_at dksX0_keeps_1 18 rfl rfl)
theorem dX0_keeps_44 : decode cX0_keeps 44 = .ok (.return_, 1) := dk_177 (dk_at dksX0_keeps_1 21 rfl rfl)
abbrev cX0_stop : ByteArray := prog_1_method_23_code
def yX0_stop : MethodName := ⟨RX0, "stop", "(I)Z"⟩
def dkwX0_stop_1 : List UInt8 := [182, 1, 0, 42, 180, 0, 51, 27, 182, 1, 3, 4, 172]
abbrev dktX0_stop_1 : List UInt8 := dkwX0_stop_1 ++ []
def dkwX0_stop_0 : List UInt8 := [42, 27, 182, 0, 171, 153, 0, 15, 42, 180, 0, 51, 180, 0, 213, 27, 46, 156, 0, 5, 3, 172, 42]
abbrev dktX0_stop_0 : List UInt8 := dkwX0_stop_0 ++ dktX0_stop_1
theorem dksX0_stop_0 : cX0_stop.data.toList.drop 0 = dktX0_stop_0 := by decide +kernel
theorem dksX0_stop_1 : cX0_stop.data.toList.drop 23 = dktX0_stop_1 := dk_seg dksX0_stop_0 23 rfl rfl
theorem dX0_stop_0 : decode cX0_stop 0 = .ok (.aload_n 0, 1) := dk_42 (dk_at dksX0_stop_0 0 rfl rfl)
theorem dX0_stop_1 : decode cX0_stop 1 = .ok (.iload_n 1, 1) := dk_27 (dk_at dksX0_stop_0 1 rfl rfl)
theorem dX0_stop_2 : decode cX0_stop 2 = .ok (.invokevirtual 171, 3) := dk_182 0 171 (dk_at dksX0_stop_0 2 rfl rfl)
theorem dX0_stop_5 : decode cX0_stop 5 = .ok (.ifCond .eq 15, 3) := dk_153 0 15 (dk_at dksX0_stop_0 5 rfl rfl)
theorem dX0_stop_8 : decode cX0_stop 8 = .ok (.aload_n 0, 1) := dk_42 (dk_at dksX0_stop_0 8 rfl rfl)
theorem dX0_stop_9 : decode cX0_stop 9 = .ok (.getfield 51, 3) := dk_180 0 51 (dk_at dksX0_stop_0 9 rfl rfl)
theorem dX0_stop_12 : decode cX0_stop 12 = .ok (.getfield 213, 3) := dk_180 0 213 (dk_at dksX0_stop_0 12 rfl rfl)
theorem dX0_stop_15 : decode cX0_stop 15 = .ok (.iload_n 1, 1) := dk_27 (dk_at dksX0_stop_0 15 rfl rfl)
theorem dX0_stop_16 : decode cX0_stop 16 = .ok (.iaload, 1) := dk_46 (dk_at dksX0_stop_0 16 rfl rfl)
theorem dX0_stop_17 : decode cX0_stop 17 = .ok (.ifCond .ge 5, 3) := dk_156 0 5 (dk_at dksX0_stop_0 17 rfl rfl)
theorem dX0_stop_20 : decode cX0_stop 20 = .ok (.iconst 0, 1) := dk_3 (dk_at dksX0_stop_0 20 rfl rfl)
theorem dX0_stop_21 : decode cX0_stop 21 = .ok (.ireturn, 1) := dk_172 (dk_at dksX0_stop_0 21 rfl rfl)
theorem dX0_stop_22 : decode cX0_stop 22 = .ok (.aload_n 0, 1) := dk_42 (dk_at dksX0_stop_0 22 rfl rfl)
theorem dX0_stop_23 : decode cX0_stop 23 = .ok (.invokevirtual 256, 3) := dk_182 1 0 (dk_at dksX0_stop_1 0 rfl rfl)
theorem dX0_stop_26 : decode cX0_stop 26 = .ok (.aload_n 0, 1) := dk_42 (dk_at dksX0_stop_1 3 rfl rfl)
theorem dX0_stop_27 : decode cX0_stop 27 = .ok (.getfield 51, 3) := dk_180 0 51 (dk_at dksX0_stop_1 4 rfl rfl)
theorem dX0_stop_30 : decode cX0_stop 30 = .ok (.iload_n 1, 1) := dk_27 (dk_at dksX0_stop_1 7 rfl rfl)
theorem dX0_stop_31 : decode cX0_stop 31 = .ok (.invokevirtual 259, 3) := dk_182 1 3 (dk_at dksX0_stop_1 8 rfl rfl)
theorem dX0_stop_34 : decode cX0_stop 34 = .ok (.iconst 1, 1) := dk_4 (dk_at dksX0_stop_1 11 rfl rfl)
theorem dX0_stop_35 : decode cX0_stop 35 = .ok (.ireturn, 1) := dk_172 (dk_at dksX0_stop_1 12 rfl rfl)
abbrev cX0_fall : ByteArray := prog_1_method_24_code
def yX0_fall : MethodName := ⟨RX0, "fall", "(IIIII)I"⟩
def dkwX0_fall_2 : List UInt8 := [172]
abbrev dktX0_fall_2 : List UInt8 := dkwX0_fall_2 ++ []
def dkwX0_fall_1 : List UInt8 := [2, 172, 42, 182, 1, 0, 42, 180, 0, 51, 42, 180, 0, 40, 27, 28, 29, 21, 4, 21, 5, 182, 1, 6]
abbrev dktX0_fall_1 : List UInt8 := dkwX0_fall_1 ++ dktX0_fall_2
def dkwX0_fall_0 : List UInt8 := [42, 27, 28, 29, 182, 0, 253, 153, 0, 17, 42, 180, 0, 40, 21, 4, 21, 5, 182, 0, 179, 154, 0, 5]
abbrev dktX0_fall_0 : List UInt8 := dkwX0_fall_0 ++ dktX0_fall_1
theorem dksX0_fall_0 : cX0_fall.data.toList.drop 0 = dktX0_fall_0 := by decide +kernel
theorem dksX0_fall_1 : cX0_fall.data.toList.drop 24 = dktX0_fall_1 := dk_seg dksX0_fall_0 24 rfl rfl
theorem dksX0_fall_2 : cX0_fall.data.toList.drop 48 = dktX0_fall_2 := dk_seg dksX0_fall_1 24 rfl rfl
theorem dX0_fall_0 : decode cX0_fall 0 = .ok (.aload_n 0, 1) := dk_42 (dk_at dksX0_fall_0 0 rfl rfl)
theorem dX0_fall_1 : decode cX0_fall 1 = .ok (.iload_n 1, 1) := dk_27 (dk_at dksX0_fall_0 1 rfl rfl)
theorem dX0_fall_2 : decode cX0_fall 2 = .ok (.iload_n 2, 1) := dk_28 (dk_at dksX0_fall_0 2 rfl rfl)
theorem dX0_fall_3 : decode cX0_fall 3 = .ok (.iload_n 3, 1) := dk_29 (dk_at dksX0_fall_0 3 rfl rfl)
theorem dX0_fall_4 : decode cX0_fall 4 = .ok (.invokevirtual 253, 3) := dk_182 0 253 (dk_at dksX0_fall_0 4 rfl rfl)
theorem dX0_fall_7 : decode cX0_fall 7 = .ok (.ifCond .eq 17, 3) := dk_153 0 17 (dk_at dksX0_fall_0 7 rfl rfl)
theorem dX0_fall_10 : decode cX0_fall 10 = .ok (.aload_n 0, 1) := dk_42 (dk_at dksX0_fall_0 10 rfl rfl)
theorem dX0_fall_11 : decode cX0_fall 11 = .ok (.getfield 40, 3) := dk_180 0 40 (dk_at dksX0_fall_0 11 rfl rfl)
theorem dX0_fall_14 : decode cX0_fall 14 = .ok (.iload 4, 2) := dk_21 4 (dk_at dksX0_fall_0 14 rfl rfl)
theorem dX0_fall_16 : decode cX0_fall 16 = .ok (.iload 5, 2) := dk_21 5 (dk_at dksX0_fall_0 16 rfl rfl)
theorem dX0_fall_18 : decode cX0_fall 18 = .ok (.invokevirtual 179, 3) := dk_182 0 179 (dk_at dksX0_fall_0 18 rfl rfl)
theorem dX0_fall_21 : decode cX0_fall 21 = .ok (.ifCond .ne 5, 3) := dk_154 0 5 (dk_at dksX0_fall_0 21 rfl rfl)
theorem dX0_fall_24 : decode cX0_fall 24 = .ok (.iconst (-1), 1) := dk_2 (dk_at dksX0_fall_1 0 rfl rfl)
theorem dX0_fall_25 : decode cX0_fall 25 = .ok (.ireturn, 1) := dk_172 (dk_at dksX0_fall_1 1 rfl rfl)
theorem dX0_fall_26 : decode cX0_fall 26 = .ok (.aload_n 0, 1) := dk_42 (dk_at dksX0_fall_1 2 rfl rfl)
theorem dX0_fall_27 : decode cX0_fall 27 = .ok (.invokevirtual 256, 3) := dk_182 1 0 (dk_at dksX0_fall_1 3 rfl rfl)
theorem dX0_fall_30 : decode cX0_fall 30 = .ok (.aload_n 0, 1) := dk_42 (dk_at dksX0_fall_1 6 rfl rfl)
theorem dX0_fall_31 : decode cX0_fall 31 = .ok (.getfield 51, 3) := dk_180 0 51 (dk_at dksX0_fall_1 7 rfl rfl)
theorem dX0_fall_34 : decode cX0_fall 34 = .ok (.aload_n 0, 1) := dk_42 (dk_at dksX0_fall_1 10 rfl rfl)
theorem dX0_fall_35 : decode cX0_fall 35 = .ok (.getfield 40, 3) := dk_180 0 40 (dk_at dksX0_fall_1 11 rfl rfl)
theorem dX0_fall_38 : decode cX0_fall 38 = .ok (.iload_n 1, 1) := dk_27 (dk_at dksX0_fall_1 14 rfl rfl)
theorem dX0_fall_39 : decode cX0_fall 39 = .ok (.iload_n 2, 1) := dk_28 (dk_at dksX0_fall_1 15 rfl rfl)
theorem dX0_fall_40 : decode cX0_fall 40 = .ok (.iload_n 3, 1) := dk_29 (dk_at dksX0_fall_1 16 rfl rfl)
theorem dX0_fall_41 : decode cX0_fall 41 = .ok (.iload 4, 2) := dk_21 4 (dk_at dksX0_fall_1 17 rfl rfl)
theorem dX0_fall_43 : decode cX0_fall 43 = .ok (.iload 5, 2) := dk_21 5 (dk_at dksX0_fall_1 19 rfl rfl)
theorem dX0_fall_45 : decode cX0_fall 45 = .ok (.invokevirtual 262, 3) := dk_182 1 6 (dk_at dksX0_fall_1 21 rfl rfl)
theorem dX0_fall_48 : decode cX0_fall 48 = .ok (.ireturn, 1) := dk_172 (dk_at dksX0_fall_2 0 rfl rfl)
abbrev cX0_turn : ByteArray := prog_1_method_25_code
def yX0_turn : MethodName := ⟨RX0, "turn", "(II)I"⟩
def dkwX0_turn_1 : List UInt8 := [42, 180, 0, 51, 180, 0, 210, 27, 92, 46, 28, 96, 79, 42, 180, 0, 51, 180, 0, 210, 27, 46, 172]
abbrev dktX0_turn_1 : List UInt8 := dkwX0_turn_1 ++ []
def dkwX0_turn_0 : List UInt8 := [42, 27, 182, 0, 171, 153, 0, 13, 28, 4, 16, 99, 184, 0, 158, 154, 0, 5, 2, 172, 42, 182, 1, 0]
abbrev dktX0_turn_0 : List UInt8 := dkwX0_turn_0 ++ dktX0_turn_1
theorem dksX0_turn_0 : cX0_turn.data.toList.drop 0 = dktX0_turn_0 := by decide +kernel
theorem dksX0_turn_1 : cX0_turn.data.toList.drop 24 = dktX0_turn_1 := dk_seg dksX0_turn_0 24 rfl rfl
theorem dX0_turn_0 : decode cX0_turn 0 = .ok (.aload_n 0, 1) := dk_42 (dk_at dksX0_turn_0 0 rfl rfl)
theorem dX0_turn_1 : decode cX0_turn 1 = .ok (.iload_n 1, 1) := dk_27 (dk_at dksX0_turn_0 1 rfl rfl)
theorem dX0_turn_2 : decode cX0_turn 2 = .ok (.invokevirtual 171, 3) := dk_182 0 171 (dk_at dksX0_turn_0 2 rfl rfl)
theorem dX0_turn_5 : decode cX0_turn 5 = .ok (.ifCond .eq 13, 3) := dk_153 0 13 (dk_at dksX0_turn_0 5 rfl rfl)
theorem dX0_turn_8 : decode cX0_turn 8 = .ok (.iload_n 2, 1) := dk_28 (dk_at dksX0_turn_0 8 rfl rfl)
theorem dX0_turn_9 : decode cX0_turn 9 = .ok (.iconst 1, 1) := dk_4 (dk_at dksX0_turn_0 9 rfl rfl)
theorem dX0_turn_10 : decode cX0_turn 10 = .ok (.bipush 99, 2) := dk_16 99 (dk_at dksX0_turn_0 10 rfl rfl)
theorem dX0_turn_12 : decode cX0_turn 12 = .ok (.invokestatic 158, 3) := dk_184 0 158 (dk_at dksX0_turn_0 12 rfl rfl)
theorem dX0_turn_15 : decode cX0_turn 15 = .ok (.ifCond .ne 5, 3) := dk_154 0 5 (dk_at dksX0_turn_0 15 rfl rfl)
theorem dX0_turn_18 : decode cX0_turn 18 = .ok (.iconst (-1), 1) := dk_2 (dk_at dksX0_turn_0 18 rfl rfl)
theorem dX0_turn_19 : decode cX0_turn 19 = .ok (.ireturn, 1) := dk_172 (dk_at dksX0_turn_0 19 rfl rfl)
theorem dX0_turn_20 : decode cX0_turn 20 = .ok (.aload_n 0, 1) := dk_42 (dk_at dksX0_turn_0 20 rfl rfl)
theorem dX0_turn_21 : decode cX0_turn 21 = .ok (.invokevirtual 256, 3) := dk_182 1 0 (dk_at dksX0_turn_0 21 rfl rfl)
theorem dX0_turn_24 : decode cX0_turn 24 = .ok (.aload_n 0, 1) := dk_42 (dk_at dksX0_turn_1 0 rfl rfl)
theorem dX0_turn_25 : decode cX0_turn 25 = .ok (.getfield 51, 3) := dk_180 0 51 (dk_at dksX0_turn_1 1 rfl rfl)
theorem dX0_turn_28 : decode cX0_turn 28 = .ok (.getfield 210, 3) := dk_180 0 210 (dk_at dksX0_turn_1 4 rfl rfl)
theorem dX0_turn_31 : decode cX0_turn 31 = .ok (.iload_n 1, 1) := dk_27 (dk_at dksX0_turn_1 7 rfl rfl)
theorem dX0_turn_32 : decode cX0_turn 32 = .ok (.dup2, 1) := dk_92 (dk_at dksX0_turn_1 8 rfl rfl)
theorem dX0_turn_33 : decode cX0_turn 33 = .ok (.iaload, 1) := dk_46 (dk_at dksX0_turn_1 9 rfl rfl)
theorem dX0_turn_34 : decode cX0_turn 34 = .ok (.iload_n 2, 1) := dk_28 (dk_at dksX0_turn_1 10 rfl rfl)
theorem dX0_turn_35 : decode cX0_turn 35 = .ok (.iadd, 1) := dk_96 (dk_at dksX0_turn_1 11 rfl rfl)
theorem dX0_turn_36 : decode cX0_turn 36 = .ok (.iastore, 1) := dk_79 (dk_at dksX0_turn_1 12 rfl rfl)
theorem dX0_turn_37 : decode cX0_turn 37 = .ok (.aload_n 0, 1) := dk_42 (dk_at dksX0_turn_1 13 rfl rfl)
theorem dX0_turn_38 : decode cX0_turn 38 = .ok (.getfield 51, 3) := dk_180 0 51 (dk_at dksX0_turn_1 14 rfl rfl)
theorem dX0_turn_41 : decode cX0_turn 41 = .ok (.getfield 210, 3) := dk_180 0 210 (dk_at dksX0_turn_1 17 rfl rfl)
theorem dX0_turn_44 : decode cX0_turn 44 = .ok (.iload_n 1, 1) := dk_27 (dk_at dksX0_turn_1 20 rfl rfl)
theorem dX0_turn_45 : decode cX0_turn 45 = .ok (.iaload, 1) := dk_46 (dk_at dksX0_turn_1 21 rfl rfl)
theorem dX0_turn_46 : decode cX0_turn 46 = .ok (.ireturn, 1) := dk_172 (dk_at dksX0_turn_1 22 rfl rfl)
abbrev cX0_days : ByteArray := prog_1_method_26_code
def yX0_days : MethodName := ⟨RX0, "days", "(I)I"⟩
def dkwX0_days_1 : List UInt8 := [180, 0, 51, 27, 182, 1, 10, 42, 180, 0, 51, 180, 1, 14, 172]
abbrev dktX0_days_1 : List UInt8 := dkwX0_days_1 ++ []
def dkwX0_days_0 : List UInt8 := [27, 3, 16, 30, 184, 0, 158, 154, 0, 5, 2, 172, 27, 158, 0, 7, 42, 182, 1, 0, 42, 42]
abbrev dktX0_days_0 : List UInt8 := dkwX0_days_0 ++ dktX0_days_1
theorem dksX0_days_0 : cX0_days.data.toList.drop 0 = dktX0_days_0 := by decide +kernel
theorem dksX0_days_1 : cX0_days.data.toList.drop 22 = dktX0_days_1 := dk_seg dksX0_days_0 22 rfl rfl
theorem dX0_days_0 : decode cX0_days 0 = .ok (.iload_n 1, 1) := dk_27 (dk_at dksX0_days_0 0 rfl rfl)
theorem dX0_days_1 : decode cX0_days 1 = .ok (.iconst 0, 1) := dk_3 (dk_at dksX0_days_0 1 rfl rfl)
theorem dX0_days_2 : decode cX0_days 2 = .ok (.bipush 30, 2) := dk_16 30 (dk_at dksX0_days_0 2 rfl rfl)
theorem dX0_days_4 : decode cX0_days 4 = .ok (.invokestatic 158, 3) := dk_184 0 158 (dk_at dksX0_days_0 4 rfl rfl)
theorem dX0_days_7 : decode cX0_days 7 = .ok (.ifCond .ne 5, 3) := dk_154 0 5 (dk_at dksX0_days_0 7 rfl rfl)
theorem dX0_days_10 : decode cX0_days 10 = .ok (.iconst (-1), 1) := dk_2 (dk_at dksX0_days_0 10 rfl rfl)
theorem dX0_days_11 : decode cX0_days 11 = .ok (.ireturn, 1) := dk_172 (dk_at dksX0_days_0 11 rfl rfl)
theorem dX0_days_12 : decode cX0_days 12 = .ok (.iload_n 1, 1) := dk_27 (dk_at dksX0_days_0 12 rfl rfl)
theorem dX0_days_13 : decode cX0_days 13 = .ok (.ifCond .le 7, 3) := dk_158 0 7 (dk_at dksX0_days_0 13 rfl rfl)
theorem dX0_days_16 : decode cX0_days 16 = .ok (.aload_n 0, 1) := dk_42 (dk_at dksX0_days_0 16 rfl rfl)
theorem dX0_days_17 : decode cX0_days 17 = .ok (.invokevirtual 256, 3) := dk_182 1 0 (dk_at dksX0_days_0 17 rfl rfl)
theorem dX0_days_20 : decode cX0_days 20 = .ok (.aload_n 0, 1) := dk_42 (dk_at dksX0_days_0 20 rfl rfl)
theorem dX0_days_21 : decode cX0_days 21 = .ok (.aload_n 0, 1) := dk_42 (dk_at dksX0_days_0 21 rfl rfl)
theorem dX0_days_22 : decode cX0_days 22 = .ok (.getfield 51, 3) := dk_180 0 51 (dk_at dksX0_days_1 0 rfl rfl)
theorem dX0_days_25 : decode cX0_days 25 = .ok (.iload_n 1, 1) := dk_27 (dk_at dksX0_days_1 3 rfl rfl)
theorem dX0_days_26 : decode cX0_days 26 = .ok (.invokevirtual 266, 3) := dk_182 1 10 (dk_at dksX0_days_1 4 rfl rfl)
theorem dX0_days_29 : decode cX0_days 29 = .ok (.aload_n 0, 1) := dk_42 (dk_at dksX0_days_1 7 rfl rfl)
theorem dX0_days_30 : decode cX0_days 30 = .ok (.getfield 51, 3) := dk_180 0 51 (dk_at dksX0_days_1 8 rfl rfl)
theorem dX0_days_33 : decode cX0_days 33 = .ok (.getfield 270, 3) := dk_180 1 14 (dk_at dksX0_days_1 11 rfl rfl)
theorem dX0_days_36 : decode cX0_days 36 = .ok (.ireturn, 1) := dk_172 (dk_at dksX0_days_1 14 rfl rfl)
abbrev cX0_runs : ByteArray := prog_1_method_21_code
def yX0_runs : MethodName := ⟨RX0, "runs", "(LRainLoom$Land;I)V"⟩
def dkwX0_runs_0 : List UInt8 := [3, 62, 29, 28, 162, 0, 14, 42, 43, 182, 0, 250, 132, 3, 1, 167, 255, 243, 177]
abbrev dktX0_runs_0 : List UInt8 := dkwX0_runs_0 ++ []
theorem dksX0_runs_0 : cX0_runs.data.toList.drop 0 = dktX0_runs_0 := by decide +kernel
theorem dX0_runs_0 : decode cX0_runs 0 = .ok (.iconst 0, 1) := dk_3 (dk_at dksX0_runs_0 0 rfl rfl)
theorem dX0_runs_1 : decode cX0_runs 1 = .ok (.istore_n 3, 1) := dk_62 (dk_at dksX0_runs_0 1 rfl rfl)
theorem dX0_runs_2 : decode cX0_runs 2 = .ok (.iload_n 3, 1) := dk_29 (dk_at dksX0_runs_0 2 rfl rfl)
theorem dX0_runs_3 : decode cX0_runs 3 = .ok (.iload_n 2, 1) := dk_28 (dk_at dksX0_runs_0 3 rfl rfl)
theorem dX0_runs_4 : decode cX0_runs 4 = .ok (.if_icmp .ge 14, 3) := dk_162 0 14 (dk_at dksX0_runs_0 4 rfl rfl)
theorem dX0_runs_7 : decode cX0_runs 7 = .ok (.aload_n 0, 1) := dk_42 (dk_at dksX0_runs_0 7 rfl rfl)
theorem dX0_runs_8 : decode cX0_runs 8 = .ok (.aload_n 1, 1) := dk_43 (dk_at dksX0_runs_0 8 rfl rfl)
theorem dX0_runs_9 : decode cX0_runs 9 = .ok (.invokevirtual 250, 3) := dk_182 0 250 (dk_at dksX0_runs_0 9 rfl rfl)
theorem dX0_runs_12 : decode cX0_runs 12 = .ok (.iinc 3 1, 3) := dk_132 3 1 (dk_at dksX0_runs_0 12 rfl rfl)
theorem dX0_runs_15 : decode cX0_runs 15 = .ok (.goto (-13), 3) := dk_167 255 243 (dk_at dksX0_runs_0 15 rfl rfl)
theorem dX0_runs_18 : decode cX0_runs 18 = .ok (.return_, 1) := dk_177 (dk_at dksX0_runs_0 18 rfl rfl)
abbrev cX0_day : ByteArray := prog_1_method_20_code
def yX0_day : MethodName := ⟨RX0, "day", "(LRainLoom$Land;)V"⟩
def dkwX0_day_1 : List UInt8 := [182, 0, 246, 132, 2, 1, 167, 255, 230, 177]
abbrev dktX0_day_1 : List UInt8 := dkwX0_day_1 ++ []
def dkwX0_day_0 : List UInt8 := [3, 61, 28, 42, 180, 0, 79, 190, 162, 0, 23, 42, 180, 0, 79, 28, 50, 43, 42, 180, 0, 40]
abbrev dktX0_day_0 : List UInt8 := dkwX0_day_0 ++ dktX0_day_1
theorem dksX0_day_0 : cX0_day.data.toList.drop 0 = dktX0_day_0 := by decide +kernel
theorem dksX0_day_1 : cX0_day.data.toList.drop 22 = dktX0_day_1 := dk_seg dksX0_day_0 22 rfl rfl
theorem dX0_day_0 : decode cX0_day 0 = .ok (.iconst 0, 1) := dk_3 (dk_at dksX0_day_0 0 rfl rfl)
theorem dX0_day_1 : decode cX0_day 1 = .ok (.istore_n 2, 1) := dk_61 (dk_at dksX0_day_0 1 rfl rfl)
theorem dX0_day_2 : decode cX0_day 2 = .ok (.iload_n 2, 1) := dk_28 (dk_at dksX0_day_0 2 rfl rfl)
theorem dX0_day_3 : decode cX0_day 3 = .ok (.aload_n 0, 1) := dk_42 (dk_at dksX0_day_0 3 rfl rfl)
theorem dX0_day_4 : decode cX0_day 4 = .ok (.getfield 79, 3) := dk_180 0 79 (dk_at dksX0_day_0 4 rfl rfl)
theorem dX0_day_7 : decode cX0_day 7 = .ok (.arraylength, 1) := dk_190 (dk_at dksX0_day_0 7 rfl rfl)
theorem dX0_day_8 : decode cX0_day 8 = .ok (.if_icmp .ge 23, 3) := dk_162 0 23 (dk_at dksX0_day_0 8 rfl rfl)
theorem dX0_day_11 : decode cX0_day 11 = .ok (.aload_n 0, 1) := dk_42 (dk_at dksX0_day_0 11 rfl rfl)
theorem dX0_day_12 : decode cX0_day 12 = .ok (.getfield 79, 3) := dk_180 0 79 (dk_at dksX0_day_0 12 rfl rfl)
theorem dX0_day_15 : decode cX0_day 15 = .ok (.iload_n 2, 1) := dk_28 (dk_at dksX0_day_0 15 rfl rfl)
theorem dX0_day_16 : decode cX0_day 16 = .ok (.aaload, 1) := dk_50 (dk_at dksX0_day_0 16 rfl rfl)
theorem dX0_day_17 : decode cX0_day 17 = .ok (.aload_n 1, 1) := dk_43 (dk_at dksX0_day_0 17 rfl rfl)
theorem dX0_day_18 : decode cX0_day 18 = .ok (.aload_n 0, 1) := dk_42 (dk_at dksX0_day_0 18 rfl rfl)
theorem dX0_day_19 : decode cX0_day 19 = .ok (.getfield 40, 3) := dk_180 0 40 (dk_at dksX0_day_0 19 rfl rfl)
theorem dX0_day_22 : decode cX0_day 22 = .ok (.invokevirtual 246, 3) := dk_182 0 246 (dk_at dksX0_day_1 0 rfl rfl)
theorem dX0_day_25 : decode cX0_day 25 = .ok (.iinc 2 1, 3) := dk_132 2 1 (dk_at dksX0_day_1 3 rfl rfl)
theorem dX0_day_28 : decode cX0_day 28 = .ok (.goto (-26), 3) := dk_167 255 230 (dk_at dksX0_day_1 6 rfl rfl)
theorem dX0_day_31 : decode cX0_day 31 = .ok (.return_, 1) := dk_177 (dk_at dksX0_day_1 9 rfl rfl)
abbrev cX0_lot : ByteArray := prog_1_method_2_code
def yX0_lot : MethodName := ⟨RX0, "lot", "(III)I"⟩
def dkwX0_lot_0 : List UInt8 := [26, 16, 75, 184, 0, 2, 27, 184, 0, 2, 4, 124, 28, 112, 172]
abbrev dktX0_lot_0 : List UInt8 := dkwX0_lot_0 ++ []
theorem dksX0_lot_0 : cX0_lot.data.toList.drop 0 = dktX0_lot_0 := by decide +kernel
theorem dX0_lot_0 : decode cX0_lot 0 = .ok (.iload_n 0, 1) := dk_26 (dk_at dksX0_lot_0 0 rfl rfl)
theorem dX0_lot_1 : decode cX0_lot 1 = .ok (.bipush 75, 2) := dk_16 75 (dk_at dksX0_lot_0 1 rfl rfl)
theorem dX0_lot_3 : decode cX0_lot 3 = .ok (.invokestatic 2, 3) := dk_184 0 2 (dk_at dksX0_lot_0 3 rfl rfl)
theorem dX0_lot_6 : decode cX0_lot 6 = .ok (.iload_n 1, 1) := dk_27 (dk_at dksX0_lot_0 6 rfl rfl)
theorem dX0_lot_7 : decode cX0_lot 7 = .ok (.invokestatic 2, 3) := dk_184 0 2 (dk_at dksX0_lot_0 7 rfl rfl)
theorem dX0_lot_10 : decode cX0_lot 10 = .ok (.iconst 1, 1) := dk_4 (dk_at dksX0_lot_0 10 rfl rfl)
theorem dX0_lot_11 : decode cX0_lot 11 = .ok (.iushr, 1) := dk_124 (dk_at dksX0_lot_0 11 rfl rfl)
theorem dX0_lot_12 : decode cX0_lot 12 = .ok (.iload_n 2, 1) := dk_28 (dk_at dksX0_lot_0 12 rfl rfl)
theorem dX0_lot_13 : decode cX0_lot 13 = .ok (.irem, 1) := dk_112 (dk_at dksX0_lot_0 13 rfl rfl)
theorem dX0_lot_14 : decode cX0_lot 14 = .ok (.ireturn, 1) := dk_172 (dk_at dksX0_lot_0 14 rfl rfl)
abbrev cX0_mixed : ByteArray := prog_1_method_1_code
def yX0_mixed : MethodName := ⟨RX0, "mixed", "(II)I"⟩
def dkwX0_mixed_0 : List UInt8 := [26, 27, 130, 18, 1, 104, 17, 48, 57, 96, 61, 28, 28, 16, 15, 124, 130, 172]
abbrev dktX0_mixed_0 : List UInt8 := dkwX0_mixed_0 ++ []
theorem dksX0_mixed_0 : cX0_mixed.data.toList.drop 0 = dktX0_mixed_0 := by decide +kernel
theorem dX0_mixed_0 : decode cX0_mixed 0 = .ok (.iload_n 0, 1) := dk_26 (dk_at dksX0_mixed_0 0 rfl rfl)
theorem dX0_mixed_1 : decode cX0_mixed 1 = .ok (.iload_n 1, 1) := dk_27 (dk_at dksX0_mixed_0 1 rfl rfl)
theorem dX0_mixed_2 : decode cX0_mixed 2 = .ok (.ixor, 1) := dk_130 (dk_at dksX0_mixed_0 2 rfl rfl)
theorem dX0_mixed_3 : decode cX0_mixed 3 = .ok (.ldc 1, 2) := dk_18 1 (dk_at dksX0_mixed_0 3 rfl rfl)
theorem dX0_mixed_5 : decode cX0_mixed 5 = .ok (.imul, 1) := dk_104 (dk_at dksX0_mixed_0 5 rfl rfl)
theorem dX0_mixed_6 : decode cX0_mixed 6 = .ok (.sipush 12345, 3) := dk_17 48 57 (dk_at dksX0_mixed_0 6 rfl rfl)
theorem dX0_mixed_9 : decode cX0_mixed 9 = .ok (.iadd, 1) := dk_96 (dk_at dksX0_mixed_0 9 rfl rfl)
theorem dX0_mixed_10 : decode cX0_mixed 10 = .ok (.istore_n 2, 1) := dk_61 (dk_at dksX0_mixed_0 10 rfl rfl)
theorem dX0_mixed_11 : decode cX0_mixed 11 = .ok (.iload_n 2, 1) := dk_28 (dk_at dksX0_mixed_0 11 rfl rfl)
theorem dX0_mixed_12 : decode cX0_mixed 12 = .ok (.iload_n 2, 1) := dk_28 (dk_at dksX0_mixed_0 12 rfl rfl)
theorem dX0_mixed_13 : decode cX0_mixed 13 = .ok (.bipush 15, 2) := dk_16 15 (dk_at dksX0_mixed_0 13 rfl rfl)
theorem dX0_mixed_15 : decode cX0_mixed 15 = .ok (.iushr, 1) := dk_124 (dk_at dksX0_mixed_0 15 rfl rfl)
theorem dX0_mixed_16 : decode cX0_mixed 16 = .ok (.ixor, 1) := dk_130 (dk_at dksX0_mixed_0 16 rfl rfl)
theorem dX0_mixed_17 : decode cX0_mixed 17 = .ok (.ireturn, 1) := dk_172 (dk_at dksX0_mixed_0 17 rfl rfl)
abbrev cX0_undo : ByteArray := prog_1_method_27_code
def yX0_undo : MethodName := ⟨RX0, "undo", "()Z"⟩
def dkwX0_undo_2 : List UInt8 := [182, 0, 237, 4, 172]
abbrev dktX0_undo_2 : List UInt8 := dkwX0_undo_2 ++ []
def dkwX0_undo_1 : List UInt8 := [16, 30, 96, 4, 100, 16, 30, 112, 181, 0, 234, 42, 180, 0, 51, 42, 180, 0, 58, 42, 180, 0, 234, 50]
abbrev dktX0_undo_1 : List UInt8 := dkwX0_undo_1 ++ dktX0_undo_2
def dkwX0_undo_0 : List UInt8 := [42, 180, 0, 133, 154, 0, 5, 3, 172, 42, 89, 180, 0, 133, 4, 100, 181, 0, 133, 42, 42, 180, 0, 234]
abbrev dktX0_undo_0 : List UInt8 := dkwX0_undo_0 ++ dktX0_undo_1
theorem dksX0_undo_0 : cX0_undo.data.toList.drop 0 = dktX0_undo_0 := by decide +kernel
theorem dksX0_undo_1 : cX0_undo.data.toList.drop 24 = dktX0_undo_1 := dk_seg dksX0_undo_0 24 rfl rfl
theorem dksX0_undo_2 : cX0_undo.data.toList.drop 48 = dktX0_undo_2 := dk_seg dksX0_undo_1 24 rfl rfl
theorem dX0_undo_0 : decode cX0_undo 0 = .ok (.aload_n 0, 1) := dk_42 (dk_at dksX0_undo_0 0 rfl rfl)
theorem dX0_undo_1 : decode cX0_undo 1 = .ok (.getfield 133, 3) := dk_180 0 133 (dk_at dksX0_undo_0 1 rfl rfl)
theorem dX0_undo_4 : decode cX0_undo 4 = .ok (.ifCond .ne 5, 3) := dk_154 0 5 (dk_at dksX0_undo_0 4 rfl rfl)
theorem dX0_undo_7 : decode cX0_undo 7 = .ok (.iconst 0, 1) := dk_3 (dk_at dksX0_undo_0 7 rfl rfl)
theorem dX0_undo_8 : decode cX0_undo 8 = .ok (.ireturn, 1) := dk_172 (dk_at dksX0_undo_0 8 rfl rfl)
theorem dX0_undo_9 : decode cX0_undo 9 = .ok (.aload_n 0, 1) := dk_42 (dk_at dksX0_undo_0 9 rfl rfl)
theorem dX0_undo_10 : decode cX0_undo 10 = .ok (.dup, 1) := dk_89 (dk_at dksX0_undo_0 10 rfl rfl)
theorem dX0_undo_11 : decode cX0_undo 11 = .ok (.getfield 133, 3) := dk_180 0 133 (dk_at dksX0_undo_0 11 rfl rfl)
theorem dX0_undo_14 : decode cX0_undo 14 = .ok (.iconst 1, 1) := dk_4 (dk_at dksX0_undo_0 14 rfl rfl)
theorem dX0_undo_15 : decode cX0_undo 15 = .ok (.isub, 1) := dk_100 (dk_at dksX0_undo_0 15 rfl rfl)
theorem dX0_undo_16 : decode cX0_undo 16 = .ok (.putfield 133, 3) := dk_181 0 133 (dk_at dksX0_undo_0 16 rfl rfl)
theorem dX0_undo_19 : decode cX0_undo 19 = .ok (.aload_n 0, 1) := dk_42 (dk_at dksX0_undo_0 19 rfl rfl)
theorem dX0_undo_20 : decode cX0_undo 20 = .ok (.aload_n 0, 1) := dk_42 (dk_at dksX0_undo_0 20 rfl rfl)
theorem dX0_undo_21 : decode cX0_undo 21 = .ok (.getfield 234, 3) := dk_180 0 234 (dk_at dksX0_undo_0 21 rfl rfl)
theorem dX0_undo_24 : decode cX0_undo 24 = .ok (.bipush 30, 2) := dk_16 30 (dk_at dksX0_undo_1 0 rfl rfl)
theorem dX0_undo_26 : decode cX0_undo 26 = .ok (.iadd, 1) := dk_96 (dk_at dksX0_undo_1 2 rfl rfl)
theorem dX0_undo_27 : decode cX0_undo 27 = .ok (.iconst 1, 1) := dk_4 (dk_at dksX0_undo_1 3 rfl rfl)
theorem dX0_undo_28 : decode cX0_undo 28 = .ok (.isub, 1) := dk_100 (dk_at dksX0_undo_1 4 rfl rfl)
theorem dX0_undo_29 : decode cX0_undo 29 = .ok (.bipush 30, 2) := dk_16 30 (dk_at dksX0_undo_1 5 rfl rfl)
theorem dX0_undo_31 : decode cX0_undo 31 = .ok (.irem, 1) := dk_112 (dk_at dksX0_undo_1 7 rfl rfl)
theorem dX0_undo_32 : decode cX0_undo 32 = .ok (.putfield 234, 3) := dk_181 0 234 (dk_at dksX0_undo_1 8 rfl rfl)
theorem dX0_undo_35 : decode cX0_undo 35 = .ok (.aload_n 0, 1) := dk_42 (dk_at dksX0_undo_1 11 rfl rfl)
theorem dX0_undo_36 : decode cX0_undo 36 = .ok (.getfield 51, 3) := dk_180 0 51 (dk_at dksX0_undo_1 12 rfl rfl)
theorem dX0_undo_39 : decode cX0_undo 39 = .ok (.aload_n 0, 1) := dk_42 (dk_at dksX0_undo_1 15 rfl rfl)
theorem dX0_undo_40 : decode cX0_undo 40 = .ok (.getfield 58, 3) := dk_180 0 58 (dk_at dksX0_undo_1 16 rfl rfl)
theorem dX0_undo_43 : decode cX0_undo 43 = .ok (.aload_n 0, 1) := dk_42 (dk_at dksX0_undo_1 19 rfl rfl)
theorem dX0_undo_44 : decode cX0_undo 44 = .ok (.getfield 234, 3) := dk_180 0 234 (dk_at dksX0_undo_1 20 rfl rfl)
theorem dX0_undo_47 : decode cX0_undo 47 = .ok (.aaload, 1) := dk_50 (dk_at dksX0_undo_1 23 rfl rfl)
theorem dX0_undo_48 : decode cX0_undo 48 = .ok (.invokevirtual 237, 3) := dk_182 0 237 (dk_at dksX0_undo_2 0 rfl rfl)
theorem dX0_undo_51 : decode cX0_undo 51 = .ok (.iconst 1, 1) := dk_4 (dk_at dksX0_undo_2 3 rfl rfl)
theorem dX0_undo_52 : decode cX0_undo 52 = .ok (.ireturn, 1) := dk_172 (dk_at dksX0_undo_2 4 rfl rfl)
abbrev cX0_holds : ByteArray := prog_1_method_29_code
def yX0_holds : MethodName := ⟨RX0, "holds", "(IIIZ)I"⟩
def dkwX0_holds_0 : List UInt8 := [42, 27, 28, 29, 182, 0, 253, 153, 0, 15, 42, 27, 28, 29, 21, 4, 182, 1, 16, 167, 0, 4, 2, 172]
abbrev dktX0_holds_0 : List UInt8 := dkwX0_holds_0 ++ []
theorem dksX0_holds_0 : cX0_holds.data.toList.drop 0 = dktX0_holds_0 := by decide +kernel
theorem dX0_holds_0 : decode cX0_holds 0 = .ok (.aload_n 0, 1) := dk_42 (dk_at dksX0_holds_0 0 rfl rfl)
theorem dX0_holds_1 : decode cX0_holds 1 = .ok (.iload_n 1, 1) := dk_27 (dk_at dksX0_holds_0 1 rfl rfl)
theorem dX0_holds_2 : decode cX0_holds 2 = .ok (.iload_n 2, 1) := dk_28 (dk_at dksX0_holds_0 2 rfl rfl)
theorem dX0_holds_3 : decode cX0_holds 3 = .ok (.iload_n 3, 1) := dk_29 (dk_at dksX0_holds_0 3 rfl rfl)
theorem dX0_holds_4 : decode cX0_holds 4 = .ok (.invokevirtual 253, 3) := dk_182 0 253 (dk_at dksX0_holds_0 4 rfl rfl)
theorem dX0_holds_7 : decode cX0_holds 7 = .ok (.ifCond .eq 15, 3) := dk_153 0 15 (dk_at dksX0_holds_0 7 rfl rfl)
theorem dX0_holds_10 : decode cX0_holds 10 = .ok (.aload_n 0, 1) := dk_42 (dk_at dksX0_holds_0 10 rfl rfl)
theorem dX0_holds_11 : decode cX0_holds 11 = .ok (.iload_n 1, 1) := dk_27 (dk_at dksX0_holds_0 11 rfl rfl)
theorem dX0_holds_12 : decode cX0_holds 12 = .ok (.iload_n 2, 1) := dk_28 (dk_at dksX0_holds_0 12 rfl rfl)
theorem dX0_holds_13 : decode cX0_holds 13 = .ok (.iload_n 3, 1) := dk_29 (dk_at dksX0_holds_0 13 rfl rfl)
theorem dX0_holds_14 : decode cX0_holds 14 = .ok (.iload 4, 2) := dk_21 4 (dk_at dksX0_holds_0 14 rfl rfl)
theorem dX0_holds_16 : decode cX0_holds 16 = .ok (.invokevirtual 272, 3) := dk_182 1 16 (dk_at dksX0_holds_0 16 rfl rfl)
theorem dX0_holds_19 : decode cX0_holds 19 = .ok (.goto 4, 3) := dk_167 0 4 (dk_at dksX0_holds_0 19 rfl rfl)
theorem dX0_holds_22 : decode cX0_holds 22 = .ok (.iconst (-1), 1) := dk_2 (dk_at dksX0_holds_0 22 rfl rfl)
theorem dX0_holds_23 : decode cX0_holds 23 = .ok (.ireturn, 1) := dk_172 (dk_at dksX0_holds_0 23 rfl rfl)
abbrev cX0_holdsOf : ByteArray := prog_1_method_28_code
def yX0_holdsOf : MethodName := ⟨RX0, "holdsOf", "(IIIZ)I"⟩
def dkwX0_holdsOf_3 : List UInt8 := [54, 5, 132, 6, 1, 167, 255, 188, 21, 5, 172]
abbrev dktX0_holdsOf_3 : List UInt8 := dkwX0_holdsOf_3 ++ []
def dkwX0_holdsOf_2 : List UInt8 := [21, 5, 21, 4, 153, 0, 16, 21, 7, 154, 0, 7, 4, 167, 0, 9, 3, 167, 0, 5, 21, 7, 96]
abbrev dktX0_holdsOf_2 : List UInt8 := dkwX0_holdsOf_2 ++ dktX0_holdsOf_3
def dkwX0_holdsOf_1 : List UInt8 := [21, 6, 28, 112, 42, 180, 0, 51, 180, 0, 210, 27, 46, 21, 6, 28, 108, 96, 182, 0, 230, 54, 7]
abbrev dktX0_holdsOf_1 : List UInt8 := dkwX0_holdsOf_1 ++ dktX0_holdsOf_2
def dkwX0_holdsOf_0 : List UInt8 := [3, 54, 5, 3, 54, 6, 21, 6, 28, 29, 104, 162, 0, 66, 42, 180, 0, 51, 42, 180, 0, 40, 27]
abbrev dktX0_holdsOf_0 : List UInt8 := dkwX0_holdsOf_0 ++ dktX0_holdsOf_1
theorem dksX0_holdsOf_0 : cX0_holdsOf.data.toList.drop 0 = dktX0_holdsOf_0 := by decide +kernel
theorem dksX0_holdsOf_1 : cX0_holdsOf.data.toList.drop 23 = dktX0_holdsOf_1 := dk_seg dksX0_holdsOf_0 23 rfl rfl
theorem dksX0_holdsOf_2 : cX0_holdsOf.data.toList.drop 46 = dktX0_holdsOf_2 := dk_seg dksX0_holdsOf_1 23 rfl rfl
theorem dksX0_holdsOf_3 : cX0_holdsOf.data.toList.drop 69 = dktX0_holdsOf_3 := dk_seg dksX0_holdsOf_2 23 rfl rfl
theorem dX0_holdsOf_0 : decode cX0_holdsOf 0 = .ok (.iconst 0, 1) := dk_3 (dk_at dksX0_holdsOf_0 0 rfl rfl)
theorem dX0_holdsOf_1 : decode cX0_holdsOf 1 = .ok (.istore 5, 2) := dk_54 5 (dk_at dksX0_holdsOf_0 1 rfl rfl)
theorem dX0_holdsOf_3 : decode cX0_holdsOf 3 = .ok (.iconst 0, 1) := dk_3 (dk_at dksX0_holdsOf_0 3 rfl rfl)
theorem dX0_holdsOf_4 : decode cX0_holdsOf 4 = .ok (.istore 6, 2) := dk_54 6 (dk_at dksX0_holdsOf_0 4 rfl rfl)
theorem dX0_holdsOf_6 : decode cX0_holdsOf 6 = .ok (.iload 6, 2) := dk_21 6 (dk_at dksX0_holdsOf_0 6 rfl rfl)
theorem dX0_holdsOf_8 : decode cX0_holdsOf 8 = .ok (.iload_n 2, 1) := dk_28 (dk_at dksX0_holdsOf_0 8 rfl rfl)
theorem dX0_holdsOf_9 : decode cX0_holdsOf 9 = .ok (.iload_n 3, 1) := dk_29 (dk_at dksX0_holdsOf_0 9 rfl rfl)
theorem dX0_holdsOf_10 : decode cX0_holdsOf 10 = .ok (.imul, 1) := dk_104 (dk_at dksX0_holdsOf_0 10 rfl rfl)
theorem dX0_holdsOf_11 : decode cX0_holdsOf 11 = .ok (.if_icmp .ge 66, 3) := dk_162 0 66 (dk_at dksX0_holdsOf_0 11 rfl rfl)
theorem dX0_holdsOf_14 : decode cX0_holdsOf 14 = .ok (.aload_n 0, 1) := dk_42 (dk_at dksX0_holdsOf_0 14 rfl rfl)
theorem dX0_holdsOf_15 : decode cX0_holdsOf 15 = .ok (.getfield 51, 3) := dk_180 0 51 (dk_at dksX0_holdsOf_0 15 rfl rfl)
theorem dX0_holdsOf_18 : decode cX0_holdsOf 18 = .ok (.aload_n 0, 1) := dk_42 (dk_at dksX0_holdsOf_0 18 rfl rfl)
theorem dX0_holdsOf_19 : decode cX0_holdsOf 19 = .ok (.getfield 40, 3) := dk_180 0 40 (dk_at dksX0_holdsOf_0 19 rfl rfl)
theorem dX0_holdsOf_22 : decode cX0_holdsOf 22 = .ok (.iload_n 1, 1) := dk_27 (dk_at dksX0_holdsOf_0 22 rfl rfl)
theorem dX0_holdsOf_23 : decode cX0_holdsOf 23 = .ok (.iload 6, 2) := dk_21 6 (dk_at dksX0_holdsOf_1 0 rfl rfl)
theorem dX0_holdsOf_25 : decode cX0_holdsOf 25 = .ok (.iload_n 2, 1) := dk_28 (dk_at dksX0_holdsOf_1 2 rfl rfl)
theorem dX0_holdsOf_26 : decode cX0_holdsOf 26 = .ok (.irem, 1) := dk_112 (dk_at dksX0_holdsOf_1 3 rfl rfl)
theorem dX0_holdsOf_27 : decode cX0_holdsOf 27 = .ok (.aload_n 0, 1) := dk_42 (dk_at dksX0_holdsOf_1 4 rfl rfl)
theorem dX0_holdsOf_28 : decode cX0_holdsOf 28 = .ok (.getfield 51, 3) := dk_180 0 51 (dk_at dksX0_holdsOf_1 5 rfl rfl)
theorem dX0_holdsOf_31 : decode cX0_holdsOf 31 = .ok (.getfield 210, 3) := dk_180 0 210 (dk_at dksX0_holdsOf_1 8 rfl rfl)
theorem dX0_holdsOf_34 : decode cX0_holdsOf 34 = .ok (.iload_n 1, 1) := dk_27 (dk_at dksX0_holdsOf_1 11 rfl rfl)
theorem dX0_holdsOf_35 : decode cX0_holdsOf 35 = .ok (.iaload, 1) := dk_46 (dk_at dksX0_holdsOf_1 12 rfl rfl)
theorem dX0_holdsOf_36 : decode cX0_holdsOf 36 = .ok (.iload 6, 2) := dk_21 6 (dk_at dksX0_holdsOf_1 13 rfl rfl)
theorem dX0_holdsOf_38 : decode cX0_holdsOf 38 = .ok (.iload_n 2, 1) := dk_28 (dk_at dksX0_holdsOf_1 15 rfl rfl)
theorem dX0_holdsOf_39 : decode cX0_holdsOf 39 = .ok (.idiv, 1) := dk_108 (dk_at dksX0_holdsOf_1 16 rfl rfl)
theorem dX0_holdsOf_40 : decode cX0_holdsOf 40 = .ok (.iadd, 1) := dk_96 (dk_at dksX0_holdsOf_1 17 rfl rfl)
theorem dX0_holdsOf_41 : decode cX0_holdsOf 41 = .ok (.invokevirtual 230, 3) := dk_182 0 230 (dk_at dksX0_holdsOf_1 18 rfl rfl)
theorem dX0_holdsOf_44 : decode cX0_holdsOf 44 = .ok (.istore 7, 2) := dk_54 7 (dk_at dksX0_holdsOf_1 21 rfl rfl)
theorem dX0_holdsOf_46 : decode cX0_holdsOf 46 = .ok (.iload 5, 2) := dk_21 5 (dk_at dksX0_holdsOf_2 0 rfl rfl)
theorem dX0_holdsOf_48 : decode cX0_holdsOf 48 = .ok (.iload 4, 2) := dk_21 4 (dk_at dksX0_holdsOf_2 2 rfl rfl)
theorem dX0_holdsOf_50 : decode cX0_holdsOf 50 = .ok (.ifCond .eq 16, 3) := dk_153 0 16 (dk_at dksX0_holdsOf_2 4 rfl rfl)
theorem dX0_holdsOf_53 : decode cX0_holdsOf 53 = .ok (.iload 7, 2) := dk_21 7 (dk_at dksX0_holdsOf_2 7 rfl rfl)
theorem dX0_holdsOf_55 : decode cX0_holdsOf 55 = .ok (.ifCond .ne 7, 3) := dk_154 0 7 (dk_at dksX0_holdsOf_2 9 rfl rfl)
theorem dX0_holdsOf_58 : decode cX0_holdsOf 58 = .ok (.iconst 1, 1) := dk_4 (dk_at dksX0_holdsOf_2 12 rfl rfl)
theorem dX0_holdsOf_59 : decode cX0_holdsOf 59 = .ok (.goto 9, 3) := dk_167 0 9 (dk_at dksX0_holdsOf_2 13 rfl rfl)
theorem dX0_holdsOf_62 : decode cX0_holdsOf 62 = .ok (.iconst 0, 1) := dk_3 (dk_at dksX0_holdsOf_2 16 rfl rfl)
theorem dX0_holdsOf_63 : decode cX0_holdsOf 63 = .ok (.goto 5, 3) := dk_167 0 5 (dk_at dksX0_holdsOf_2 17 rfl rfl)
theorem dX0_holdsOf_66 : decode cX0_holdsOf 66 = .ok (.iload 7, 2) := dk_21 7 (dk_at dksX0_holdsOf_2 20 rfl rfl)
theorem dX0_holdsOf_68 : decode cX0_holdsOf 68 = .ok (.iadd, 1) := dk_96 (dk_at dksX0_holdsOf_2 22 rfl rfl)
theorem dX0_holdsOf_69 : decode cX0_holdsOf 69 = .ok (.istore 5, 2) := dk_54 5 (dk_at dksX0_holdsOf_3 0 rfl rfl)
theorem dX0_holdsOf_71 : decode cX0_holdsOf 71 = .ok (.iinc 6 1, 3) := dk_132 6 1 (dk_at dksX0_holdsOf_3 2 rfl rfl)
theorem dX0_holdsOf_74 : decode cX0_holdsOf 74 = .ok (.goto (-68), 3) := dk_167 255 188 (dk_at dksX0_holdsOf_3 5 rfl rfl)
theorem dX0_holdsOf_77 : decode cX0_holdsOf 77 = .ok (.iload 5, 2) := dk_21 5 (dk_at dksX0_holdsOf_3 8 rfl rfl)
theorem dX0_holdsOf_79 : decode cX0_holdsOf 79 = .ok (.ireturn, 1) := dk_172 (dk_at dksX0_holdsOf_3 10 rfl rfl)
abbrev cX0_comes : ByteArray := prog_1_method_30_code
def yX0_comes : MethodName := ⟨RX0, "comes", "(III)I"⟩
def dkwX0_comes_4 : List UInt8 := [21, 5, 29, 160, 0, 6, 21, 4, 172, 132, 4, 1, 167, 255, 176, 16, 254, 172]
abbrev dktX0_comes_4 : List UInt8 := dkwX0_comes_4 ++ []
def dkwX0_comes_3 : List UInt8 := [96, 182, 0, 230, 158, 0, 10, 4, 21, 6, 120, 167, 0, 4, 3, 128, 54, 5, 132, 6, 1, 167, 255, 205]
abbrev dktX0_comes_3 : List UInt8 := dkwX0_comes_3 ++ dktX0_comes_4
def dkwX0_comes_2 : List UInt8 := [21, 5, 42, 180, 0, 51, 42, 180, 0, 40, 27, 21, 6, 42, 180, 0, 51, 180, 0, 210, 27, 46, 21, 4]
abbrev dktX0_comes_2 : List UInt8 := dkwX0_comes_2 ++ dktX0_comes_3
def dkwX0_comes_1 : List UInt8 := [172, 3, 54, 4, 21, 4, 17, 0, 200, 163, 0, 78, 3, 54, 5, 3, 54, 6, 21, 6, 28, 162, 0, 51]
abbrev dktX0_comes_1 : List UInt8 := dkwX0_comes_1 ++ dktX0_comes_2
def dkwX0_comes_0 : List UInt8 := [42, 27, 28, 4, 182, 0, 253, 153, 0, 16, 29, 3, 4, 28, 120, 4, 100, 184, 0, 158, 154, 0, 5, 2]
abbrev dktX0_comes_0 : List UInt8 := dkwX0_comes_0 ++ dktX0_comes_1
theorem dksX0_comes_0 : cX0_comes.data.toList.drop 0 = dktX0_comes_0 := by decide +kernel
theorem dksX0_comes_1 : cX0_comes.data.toList.drop 24 = dktX0_comes_1 := dk_seg dksX0_comes_0 24 rfl rfl
theorem dksX0_comes_2 : cX0_comes.data.toList.drop 48 = dktX0_comes_2 := dk_seg dksX0_comes_1 24 rfl rfl
theorem dksX0_comes_3 : cX0_comes.data.toList.drop 72 = dktX0_comes_3 := dk_seg dksX0_comes_2 24 rfl rfl
theorem dksX0_comes_4 : cX0_comes.data.toList.drop 96 = dktX0_comes_4 := dk_seg dksX0_comes_3 24 rfl rfl
theorem dX0_comes_0 : decode cX0_comes 0 = .ok (.aload_n 0, 1) := dk_42 (dk_at dksX0_comes_0 0 rfl rfl)
theorem dX0_comes_1 : decode cX0_comes 1 = .ok (.iload_n 1, 1) := dk_27 (dk_at dksX0_comes_0 1 rfl rfl)
theorem dX0_comes_2 : decode cX0_comes 2 = .ok (.iload_n 2, 1) := dk_28 (dk_at dksX0_comes_0 2 rfl rfl)
theorem dX0_comes_3 : decode cX0_comes 3 = .ok (.iconst 1, 1) := dk_4 (dk_at dksX0_comes_0 3 rfl rfl)
theorem dX0_comes_4 : decode cX0_comes 4 = .ok (.invokevirtual 253, 3) := dk_182 0 253 (dk_at dksX0_comes_0 4 rfl rfl)
theorem dX0_comes_7 : decode cX0_comes 7 = .ok (.ifCond .eq 16, 3) := dk_153 0 16 (dk_at dksX0_comes_0 7 rfl rfl)
theorem dX0_comes_10 : decode cX0_comes 10 = .ok (.iload_n 3, 1) := dk_29 (dk_at dksX0_comes_0 10 rfl rfl)
theorem dX0_comes_11 : decode cX0_comes 11 = .ok (.iconst 0, 1) := dk_3 (dk_at dksX0_comes_0 11 rfl rfl)
theorem dX0_comes_12 : decode cX0_comes 12 = .ok (.iconst 1, 1) := dk_4 (dk_at dksX0_comes_0 12 rfl rfl)
theorem dX0_comes_13 : decode cX0_comes 13 = .ok (.iload_n 2, 1) := dk_28 (dk_at dksX0_comes_0 13 rfl rfl)
theorem dX0_comes_14 : decode cX0_comes 14 = .ok (.ishl, 1) := dk_120 (dk_at dksX0_comes_0 14 rfl rfl)
theorem dX0_comes_15 : decode cX0_comes 15 = .ok (.iconst 1, 1) := dk_4 (dk_at dksX0_comes_0 15 rfl rfl)
theorem dX0_comes_16 : decode cX0_comes 16 = .ok (.isub, 1) := dk_100 (dk_at dksX0_comes_0 16 rfl rfl)
theorem dX0_comes_17 : decode cX0_comes 17 = .ok (.invokestatic 158, 3) := dk_184 0 158 (dk_at dksX0_comes_0 17 rfl rfl)
theorem dX0_comes_20 : decode cX0_comes 20 = .ok (.ifCond .ne 5, 3) := dk_154 0 5 (dk_at dksX0_comes_0 20 rfl rfl)
theorem dX0_comes_23 : decode cX0_comes 23 = .ok (.iconst (-1), 1) := dk_2 (dk_at dksX0_comes_0 23 rfl rfl)
theorem dX0_comes_24 : decode cX0_comes 24 = .ok (.ireturn, 1) := dk_172 (dk_at dksX0_comes_1 0 rfl rfl)
theorem dX0_comes_25 : decode cX0_comes 25 = .ok (.iconst 0, 1) := dk_3 (dk_at dksX0_comes_1 1 rfl rfl)
theorem dX0_comes_26 : decode cX0_comes 26 = .ok (.istore 4, 2) := dk_54 4 (dk_at dksX0_comes_1 2 rfl rfl)
theorem dX0_comes_28 : decode cX0_comes 28 = .ok (.iload 4, 2) := dk_21 4 (dk_at dksX0_comes_1 4 rfl rfl)
theorem dX0_comes_30 : decode cX0_comes 30 = .ok (.sipush 200, 3) := dk_17 0 200 (dk_at dksX0_comes_1 6 rfl rfl)
theorem dX0_comes_33 : decode cX0_comes 33 = .ok (.if_icmp .gt 78, 3) := dk_163 0 78 (dk_at dksX0_comes_1 9 rfl rfl)
theorem dX0_comes_36 : decode cX0_comes 36 = .ok (.iconst 0, 1) := dk_3 (dk_at dksX0_comes_1 12 rfl rfl)
theorem dX0_comes_37 : decode cX0_comes 37 = .ok (.istore 5, 2) := dk_54 5 (dk_at dksX0_comes_1 13 rfl rfl)
theorem dX0_comes_39 : decode cX0_comes 39 = .ok (.iconst 0, 1) := dk_3 (dk_at dksX0_comes_1 15 rfl rfl)
theorem dX0_comes_40 : decode cX0_comes 40 = .ok (.istore 6, 2) := dk_54 6 (dk_at dksX0_comes_1 16 rfl rfl)
theorem dX0_comes_42 : decode cX0_comes 42 = .ok (.iload 6, 2) := dk_21 6 (dk_at dksX0_comes_1 18 rfl rfl)
theorem dX0_comes_44 : decode cX0_comes 44 = .ok (.iload_n 2, 1) := dk_28 (dk_at dksX0_comes_1 20 rfl rfl)
theorem dX0_comes_45 : decode cX0_comes 45 = .ok (.if_icmp .ge 51, 3) := dk_162 0 51 (dk_at dksX0_comes_1 21 rfl rfl)
theorem dX0_comes_48 : decode cX0_comes 48 = .ok (.iload 5, 2) := dk_21 5 (dk_at dksX0_comes_2 0 rfl rfl)
theorem dX0_comes_50 : decode cX0_comes 50 = .ok (.aload_n 0, 1) := dk_42 (dk_at dksX0_comes_2 2 rfl rfl)
theorem dX0_comes_51 : decode cX0_comes 51 = .ok (.getfield 51, 3) := dk_180 0 51 (dk_at dksX0_comes_2 3 rfl rfl)
theorem dX0_comes_54 : decode cX0_comes 54 = .ok (.aload_n 0, 1) := dk_42 (dk_at dksX0_comes_2 6 rfl rfl)
theorem dX0_comes_55 : decode cX0_comes 55 = .ok (.getfield 40, 3) := dk_180 0 40 (dk_at dksX0_comes_2 7 rfl rfl)
theorem dX0_comes_58 : decode cX0_comes 58 = .ok (.iload_n 1, 1) := dk_27 (dk_at dksX0_comes_2 10 rfl rfl)
theorem dX0_comes_59 : decode cX0_comes 59 = .ok (.iload 6, 2) := dk_21 6 (dk_at dksX0_comes_2 11 rfl rfl)
theorem dX0_comes_61 : decode cX0_comes 61 = .ok (.aload_n 0, 1) := dk_42 (dk_at dksX0_comes_2 13 rfl rfl)
theorem dX0_comes_62 : decode cX0_comes 62 = .ok (.getfield 51, 3) := dk_180 0 51 (dk_at dksX0_comes_2 14 rfl rfl)
theorem dX0_comes_65 : decode cX0_comes 65 = .ok (.getfield 210, 3) := dk_180 0 210 (dk_at dksX0_comes_2 17 rfl rfl)
theorem dX0_comes_68 : decode cX0_comes 68 = .ok (.iload_n 1, 1) := dk_27 (dk_at dksX0_comes_2 20 rfl rfl)
theorem dX0_comes_69 : decode cX0_comes 69 = .ok (.iaload, 1) := dk_46 (dk_at dksX0_comes_2 21 rfl rfl)
theorem dX0_comes_70 : decode cX0_comes 70 = .ok (.iload 4, 2) := dk_21 4 (dk_at dksX0_comes_2 22 rfl rfl)
theorem dX0_comes_72 : decode cX0_comes 72 = .ok (.iadd, 1) := dk_96 (dk_at dksX0_comes_3 0 rfl rfl)
theorem dX0_comes_73 : decode cX0_comes 73 = .ok (.invokevirtual 230, 3) := dk_182 0 230 (dk_at dksX0_comes_3 1 rfl rfl)
theorem dX0_comes_76 : decode cX0_comes 76 = .ok (.ifCond .le 10, 3) := dk_158 0 10 (dk_at dksX0_comes_3 4 rfl rfl)
theorem dX0_comes_79 : decode cX0_comes 79 = .ok (.iconst 1, 1) := dk_4 (dk_at dksX0_comes_3 7 rfl rfl)
theorem dX0_comes_80 : decode cX0_comes 80 = .ok (.iload 6, 2) := dk_21 6 (dk_at dksX0_comes_3 8 rfl rfl)
theorem dX0_comes_82 : decode cX0_comes 82 = .ok (.ishl, 1) := dk_120 (dk_at dksX0_comes_3 10 rfl rfl)
theorem dX0_comes_83 : decode cX0_comes 83 = .ok (.goto 4, 3) := dk_167 0 4 (dk_at dksX0_comes_3 11 rfl rfl)
theorem dX0_comes_86 : decode cX0_comes 86 = .ok (.iconst 0, 1) := dk_3 (dk_at dksX0_comes_3 14 rfl rfl)
theorem dX0_comes_87 : decode cX0_comes 87 = .ok (.ior, 1) := dk_128 (dk_at dksX0_comes_3 15 rfl rfl)
theorem dX0_comes_88 : decode cX0_comes 88 = .ok (.istore 5, 2) := dk_54 5 (dk_at dksX0_comes_3 16 rfl rfl)
theorem dX0_comes_90 : decode cX0_comes 90 = .ok (.iinc 6 1, 3) := dk_132 6 1 (dk_at dksX0_comes_3 18 rfl rfl)
theorem dX0_comes_93 : decode cX0_comes 93 = .ok (.goto (-51), 3) := dk_167 255 205 (dk_at dksX0_comes_3 21 rfl rfl)
theorem dX0_comes_96 : decode cX0_comes 96 = .ok (.iload 5, 2) := dk_21 5 (dk_at dksX0_comes_4 0 rfl rfl)
theorem dX0_comes_98 : decode cX0_comes 98 = .ok (.iload_n 3, 1) := dk_29 (dk_at dksX0_comes_4 2 rfl rfl)
theorem dX0_comes_99 : decode cX0_comes 99 = .ok (.if_icmp .ne 6, 3) := dk_160 0 6 (dk_at dksX0_comes_4 3 rfl rfl)
theorem dX0_comes_102 : decode cX0_comes 102 = .ok (.iload 4, 2) := dk_21 4 (dk_at dksX0_comes_4 6 rfl rfl)
theorem dX0_comes_104 : decode cX0_comes 104 = .ok (.ireturn, 1) := dk_172 (dk_at dksX0_comes_4 8 rfl rfl)
theorem dX0_comes_105 : decode cX0_comes 105 = .ok (.iinc 4 1, 3) := dk_132 4 1 (dk_at dksX0_comes_4 9 rfl rfl)
theorem dX0_comes_108 : decode cX0_comes 108 = .ok (.goto (-80), 3) := dk_167 255 176 (dk_at dksX0_comes_4 12 rfl rfl)
theorem dX0_comes_111 : decode cX0_comes 111 = .ok (.bipush (-2), 2) := dk_16 254 (dk_at dksX0_comes_4 15 rfl rfl)
theorem dX0_comes_113 : decode cX0_comes 113 = .ok (.ireturn, 1) := dk_172 (dk_at dksX0_comes_4 17 rfl rfl)
abbrev cX0_agree : ByteArray := prog_1_method_32_code
def yX0_agree : MethodName := ⟨RX0, "agree", "(II)I"⟩
def dkwX0_agree_2 : List UInt8 := [167, 255, 234, 16, 254, 172]
abbrev dktX0_agree_2 : List UInt8 := dkwX0_agree_2 ++ []
def dkwX0_agree_1 : List UInt8 := [62, 29, 17, 0, 200, 163, 0, 21, 42, 27, 28, 29, 182, 1, 20, 153, 0, 5, 29, 172, 132, 3, 1]
abbrev dktX0_agree_1 : List UInt8 := dkwX0_agree_1 ++ dktX0_agree_2
def dkwX0_agree_0 : List UInt8 := [42, 27, 182, 0, 171, 153, 0, 16, 42, 28, 182, 0, 171, 153, 0, 8, 27, 28, 160, 0, 5, 2, 172, 3]
abbrev dktX0_agree_0 : List UInt8 := dkwX0_agree_0 ++ dktX0_agree_1
theorem dksX0_agree_0 : cX0_agree.data.toList.drop 0 = dktX0_agree_0 := by decide +kernel
theorem dksX0_agree_1 : cX0_agree.data.toList.drop 24 = dktX0_agree_1 := dk_seg dksX0_agree_0 24 rfl rfl
theorem dksX0_agree_2 : cX0_agree.data.toList.drop 47 = dktX0_agree_2 := dk_seg dksX0_agree_1 23 rfl rfl
theorem dX0_agree_0 : decode cX0_agree 0 = .ok (.aload_n 0, 1) := dk_42 (dk_at dksX0_agree_0 0 rfl rfl)
theorem dX0_agree_1 : decode cX0_agree 1 = .ok (.iload_n 1, 1) := dk_27 (dk_at dksX0_agree_0 1 rfl rfl)
theorem dX0_agree_2 : decode cX0_agree 2 = .ok (.invokevirtual 171, 3) := dk_182 0 171 (dk_at dksX0_agree_0 2 rfl rfl)
theorem dX0_agree_5 : decode cX0_agree 5 = .ok (.ifCond .eq 16, 3) := dk_153 0 16 (dk_at dksX0_agree_0 5 rfl rfl)
theorem dX0_agree_8 : decode cX0_agree 8 = .ok (.aload_n 0, 1) := dk_42 (dk_at dksX0_agree_0 8 rfl rfl)
theorem dX0_agree_9 : decode cX0_agree 9 = .ok (.iload_n 2, 1) := dk_28 (dk_at dksX0_agree_0 9 rfl rfl)
theorem dX0_agree_10 : decode cX0_agree 10 = .ok (.invokevirtual 171, 3) := dk_182 0 171 (dk_at dksX0_agree_0 10 rfl rfl)
theorem dX0_agree_13 : decode cX0_agree 13 = .ok (.ifCond .eq 8, 3) := dk_153 0 8 (dk_at dksX0_agree_0 13 rfl rfl)
theorem dX0_agree_16 : decode cX0_agree 16 = .ok (.iload_n 1, 1) := dk_27 (dk_at dksX0_agree_0 16 rfl rfl)
theorem dX0_agree_17 : decode cX0_agree 17 = .ok (.iload_n 2, 1) := dk_28 (dk_at dksX0_agree_0 17 rfl rfl)
theorem dX0_agree_18 : decode cX0_agree 18 = .ok (.if_icmp .ne 5, 3) := dk_160 0 5 (dk_at dksX0_agree_0 18 rfl rfl)
theorem dX0_agree_21 : decode cX0_agree 21 = .ok (.iconst (-1), 1) := dk_2 (dk_at dksX0_agree_0 21 rfl rfl)
theorem dX0_agree_22 : decode cX0_agree 22 = .ok (.ireturn, 1) := dk_172 (dk_at dksX0_agree_0 22 rfl rfl)
theorem dX0_agree_23 : decode cX0_agree 23 = .ok (.iconst 0, 1) := dk_3 (dk_at dksX0_agree_0 23 rfl rfl)
theorem dX0_agree_24 : decode cX0_agree 24 = .ok (.istore_n 3, 1) := dk_62 (dk_at dksX0_agree_1 0 rfl rfl)
theorem dX0_agree_25 : decode cX0_agree 25 = .ok (.iload_n 3, 1) := dk_29 (dk_at dksX0_agree_1 1 rfl rfl)
theorem dX0_agree_26 : decode cX0_agree 26 = .ok (.sipush 200, 3) := dk_17 0 200 (dk_at dksX0_agree_1 2 rfl rfl)
theorem dX0_agree_29 : decode cX0_agree 29 = .ok (.if_icmp .gt 21, 3) := dk_163 0 21 (dk_at dksX0_agree_1 5 rfl rfl)
theorem dX0_agree_32 : decode cX0_agree 32 = .ok (.aload_n 0, 1) := dk_42 (dk_at dksX0_agree_1 8 rfl rfl)
theorem dX0_agree_33 : decode cX0_agree 33 = .ok (.iload_n 1, 1) := dk_27 (dk_at dksX0_agree_1 9 rfl rfl)
theorem dX0_agree_34 : decode cX0_agree 34 = .ok (.iload_n 2, 1) := dk_28 (dk_at dksX0_agree_1 10 rfl rfl)
theorem dX0_agree_35 : decode cX0_agree 35 = .ok (.iload_n 3, 1) := dk_29 (dk_at dksX0_agree_1 11 rfl rfl)
theorem dX0_agree_36 : decode cX0_agree 36 = .ok (.invokevirtual 276, 3) := dk_182 1 20 (dk_at dksX0_agree_1 12 rfl rfl)
theorem dX0_agree_39 : decode cX0_agree 39 = .ok (.ifCond .eq 5, 3) := dk_153 0 5 (dk_at dksX0_agree_1 15 rfl rfl)
theorem dX0_agree_42 : decode cX0_agree 42 = .ok (.iload_n 3, 1) := dk_29 (dk_at dksX0_agree_1 18 rfl rfl)
theorem dX0_agree_43 : decode cX0_agree 43 = .ok (.ireturn, 1) := dk_172 (dk_at dksX0_agree_1 19 rfl rfl)
theorem dX0_agree_44 : decode cX0_agree 44 = .ok (.iinc 3 1, 3) := dk_132 3 1 (dk_at dksX0_agree_1 20 rfl rfl)
theorem dX0_agree_47 : decode cX0_agree 47 = .ok (.goto (-22), 3) := dk_167 255 234 (dk_at dksX0_agree_2 0 rfl rfl)
theorem dX0_agree_50 : decode cX0_agree 50 = .ok (.bipush (-2), 2) := dk_16 254 (dk_at dksX0_agree_2 3 rfl rfl)
theorem dX0_agree_52 : decode cX0_agree 52 = .ok (.ireturn, 1) := dk_172 (dk_at dksX0_agree_2 5 rfl rfl)
abbrev cX0_areSame : ByteArray := prog_1_method_31_code
def yX0_areSame : MethodName := ⟨RX0, "areSame", "(III)Z"⟩
def dkwX0_areSame_3 : List UInt8 := [182, 0, 230, 159, 0, 5, 3, 172, 132, 4, 1, 167, 255, 180, 4, 172]
abbrev dktX0_areSame_3 : List UInt8 := dkwX0_areSame_3 ++ []
def dkwX0_areSame_2 : List UInt8 := [42, 180, 0, 51, 42, 180, 0, 40, 28, 21, 4, 42, 180, 0, 51, 180, 0, 210, 28, 46, 29, 96]
abbrev dktX0_areSame_2 : List UInt8 := dkwX0_areSame_2 ++ dktX0_areSame_3
def dkwX0_areSame_1 : List UInt8 := [180, 0, 51, 42, 180, 0, 40, 27, 21, 4, 42, 180, 0, 51, 180, 0, 210, 27, 46, 29, 96, 182, 0, 230]
abbrev dktX0_areSame_1 : List UInt8 := dkwX0_areSame_1 ++ dktX0_areSame_2
def dkwX0_areSame_0 : List UInt8 := [3, 54, 4, 21, 4, 42, 27, 182, 0, 175, 42, 28, 182, 0, 175, 184, 0, 241, 162, 0, 64, 42]
abbrev dktX0_areSame_0 : List UInt8 := dkwX0_areSame_0 ++ dktX0_areSame_1
theorem dksX0_areSame_0 : cX0_areSame.data.toList.drop 0 = dktX0_areSame_0 := by decide +kernel
theorem dksX0_areSame_1 : cX0_areSame.data.toList.drop 22 = dktX0_areSame_1 := dk_seg dksX0_areSame_0 22 rfl rfl
theorem dksX0_areSame_2 : cX0_areSame.data.toList.drop 46 = dktX0_areSame_2 := dk_seg dksX0_areSame_1 24 rfl rfl
theorem dksX0_areSame_3 : cX0_areSame.data.toList.drop 68 = dktX0_areSame_3 := dk_seg dksX0_areSame_2 22 rfl rfl
theorem dX0_areSame_0 : decode cX0_areSame 0 = .ok (.iconst 0, 1) := dk_3 (dk_at dksX0_areSame_0 0 rfl rfl)
theorem dX0_areSame_1 : decode cX0_areSame 1 = .ok (.istore 4, 2) := dk_54 4 (dk_at dksX0_areSame_0 1 rfl rfl)
theorem dX0_areSame_3 : decode cX0_areSame 3 = .ok (.iload 4, 2) := dk_21 4 (dk_at dksX0_areSame_0 3 rfl rfl)
theorem dX0_areSame_5 : decode cX0_areSame 5 = .ok (.aload_n 0, 1) := dk_42 (dk_at dksX0_areSame_0 5 rfl rfl)
theorem dX0_areSame_6 : decode cX0_areSame 6 = .ok (.iload_n 1, 1) := dk_27 (dk_at dksX0_areSame_0 6 rfl rfl)
theorem dX0_areSame_7 : decode cX0_areSame 7 = .ok (.invokevirtual 175, 3) := dk_182 0 175 (dk_at dksX0_areSame_0 7 rfl rfl)
theorem dX0_areSame_10 : decode cX0_areSame 10 = .ok (.aload_n 0, 1) := dk_42 (dk_at dksX0_areSame_0 10 rfl rfl)
theorem dX0_areSame_11 : decode cX0_areSame 11 = .ok (.iload_n 2, 1) := dk_28 (dk_at dksX0_areSame_0 11 rfl rfl)
theorem dX0_areSame_12 : decode cX0_areSame 12 = .ok (.invokevirtual 175, 3) := dk_182 0 175 (dk_at dksX0_areSame_0 12 rfl rfl)
theorem dX0_areSame_15 : decode cX0_areSame 15 = .ok (.invokestatic 241, 3) := dk_184 0 241 (dk_at dksX0_areSame_0 15 rfl rfl)
theorem dX0_areSame_18 : decode cX0_areSame 18 = .ok (.if_icmp .ge 64, 3) := dk_162 0 64 (dk_at dksX0_areSame_0 18 rfl rfl)
theorem dX0_areSame_21 : decode cX0_areSame 21 = .ok (.aload_n 0, 1) := dk_42 (dk_at dksX0_areSame_0 21 rfl rfl)
theorem dX0_areSame_22 : decode cX0_areSame 22 = .ok (.getfield 51, 3) := dk_180 0 51 (dk_at dksX0_areSame_1 0 rfl rfl)
theorem dX0_areSame_25 : decode cX0_areSame 25 = .ok (.aload_n 0, 1) := dk_42 (dk_at dksX0_areSame_1 3 rfl rfl)
theorem dX0_areSame_26 : decode cX0_areSame 26 = .ok (.getfield 40, 3) := dk_180 0 40 (dk_at dksX0_areSame_1 4 rfl rfl)
theorem dX0_areSame_29 : decode cX0_areSame 29 = .ok (.iload_n 1, 1) := dk_27 (dk_at dksX0_areSame_1 7 rfl rfl)
theorem dX0_areSame_30 : decode cX0_areSame 30 = .ok (.iload 4, 2) := dk_21 4 (dk_at dksX0_areSame_1 8 rfl rfl)
theorem dX0_areSame_32 : decode cX0_areSame 32 = .ok (.aload_n 0, 1) := dk_42 (dk_at dksX0_areSame_1 10 rfl rfl)
theorem dX0_areSame_33 : decode cX0_areSame 33 = .ok (.getfield 51, 3) := dk_180 0 51 (dk_at dksX0_areSame_1 11 rfl rfl)
theorem dX0_areSame_36 : decode cX0_areSame 36 = .ok (.getfield 210, 3) := dk_180 0 210 (dk_at dksX0_areSame_1 14 rfl rfl)
theorem dX0_areSame_39 : decode cX0_areSame 39 = .ok (.iload_n 1, 1) := dk_27 (dk_at dksX0_areSame_1 17 rfl rfl)
theorem dX0_areSame_40 : decode cX0_areSame 40 = .ok (.iaload, 1) := dk_46 (dk_at dksX0_areSame_1 18 rfl rfl)
theorem dX0_areSame_41 : decode cX0_areSame 41 = .ok (.iload_n 3, 1) := dk_29 (dk_at dksX0_areSame_1 19 rfl rfl)
theorem dX0_areSame_42 : decode cX0_areSame 42 = .ok (.iadd, 1) := dk_96 (dk_at dksX0_areSame_1 20 rfl rfl)
theorem dX0_areSame_43 : decode cX0_areSame 43 = .ok (.invokevirtual 230, 3) := dk_182 0 230 (dk_at dksX0_areSame_1 21 rfl rfl)
theorem dX0_areSame_46 : decode cX0_areSame 46 = .ok (.aload_n 0, 1) := dk_42 (dk_at dksX0_areSame_2 0 rfl rfl)
theorem dX0_areSame_47 : decode cX0_areSame 47 = .ok (.getfield 51, 3) := dk_180 0 51 (dk_at dksX0_areSame_2 1 rfl rfl)
theorem dX0_areSame_50 : decode cX0_areSame 50 = .ok (.aload_n 0, 1) := dk_42 (dk_at dksX0_areSame_2 4 rfl rfl)
theorem dX0_areSame_51 : decode cX0_areSame 51 = .ok (.getfield 40, 3) := dk_180 0 40 (dk_at dksX0_areSame_2 5 rfl rfl)
theorem dX0_areSame_54 : decode cX0_areSame 54 = .ok (.iload_n 2, 1) := dk_28 (dk_at dksX0_areSame_2 8 rfl rfl)
theorem dX0_areSame_55 : decode cX0_areSame 55 = .ok (.iload 4, 2) := dk_21 4 (dk_at dksX0_areSame_2 9 rfl rfl)
theorem dX0_areSame_57 : decode cX0_areSame 57 = .ok (.aload_n 0, 1) := dk_42 (dk_at dksX0_areSame_2 11 rfl rfl)
theorem dX0_areSame_58 : decode cX0_areSame 58 = .ok (.getfield 51, 3) := dk_180 0 51 (dk_at dksX0_areSame_2 12 rfl rfl)
theorem dX0_areSame_61 : decode cX0_areSame 61 = .ok (.getfield 210, 3) := dk_180 0 210 (dk_at dksX0_areSame_2 15 rfl rfl)
theorem dX0_areSame_64 : decode cX0_areSame 64 = .ok (.iload_n 2, 1) := dk_28 (dk_at dksX0_areSame_2 18 rfl rfl)
theorem dX0_areSame_65 : decode cX0_areSame 65 = .ok (.iaload, 1) := dk_46 (dk_at dksX0_areSame_2 19 rfl rfl)
theorem dX0_areSame_66 : decode cX0_areSame 66 = .ok (.iload_n 3, 1) := dk_29 (dk_at dksX0_areSame_2 20 rfl rfl)
theorem dX0_areSame_67 : decode cX0_areSame 67 = .ok (.iadd, 1) := dk_96 (dk_at dksX0_areSame_2 21 rfl rfl)
theorem dX0_areSame_68 : decode cX0_areSame 68 = .ok (.invokevirtual 230, 3) := dk_182 0 230 (dk_at dksX0_areSame_3 0 rfl rfl)
theorem dX0_areSame_71 : decode cX0_areSame 71 = .ok (.if_icmp .eq 5, 3) := dk_159 0 5 (dk_at dksX0_areSame_3 3 rfl rfl)
theorem dX0_areSame_74 : decode cX0_areSame 74 = .ok (.iconst 0, 1) := dk_3 (dk_at dksX0_areSame_3 6 rfl rfl)
theorem dX0_areSame_75 : decode cX0_areSame 75 = .ok (.ireturn, 1) := dk_172 (dk_at dksX0_areSame_3 7 rfl rfl)
theorem dX0_areSame_76 : decode cX0_areSame 76 = .ok (.iinc 4 1, 3) := dk_132 4 1 (dk_at dksX0_areSame_3 8 rfl rfl)
theorem dX0_areSame_79 : decode cX0_areSame 79 = .ok (.goto (-76), 3) := dk_167 255 180 (dk_at dksX0_areSame_3 11 rfl rfl)
theorem dX0_areSame_82 : decode cX0_areSame 82 = .ok (.iconst 1, 1) := dk_4 (dk_at dksX0_areSame_3 14 rfl rfl)
theorem dX0_areSame_83 : decode cX0_areSame 83 = .ok (.ireturn, 1) := dk_172 (dk_at dksX0_areSame_3 15 rfl rfl)
abbrev cX0_round : ByteArray := prog_1_method_34_code
def yX0_round : MethodName := ⟨RX0, "round", "(I)I"⟩
def dkwX0_round_1 : List UInt8 := [153, 0, 5, 28, 172, 132, 2, 1, 167, 255, 236, 16, 254, 172]
abbrev dktX0_round_1 : List UInt8 := dkwX0_round_1 ++ []
def dkwX0_round_0 : List UInt8 := [42, 27, 182, 0, 171, 154, 0, 5, 2, 172, 4, 61, 28, 16, 99, 163, 0, 20, 42, 27, 28, 182, 1, 23]
abbrev dktX0_round_0 : List UInt8 := dkwX0_round_0 ++ dktX0_round_1
theorem dksX0_round_0 : cX0_round.data.toList.drop 0 = dktX0_round_0 := by decide +kernel
theorem dksX0_round_1 : cX0_round.data.toList.drop 24 = dktX0_round_1 := dk_seg dksX0_round_0 24 rfl rfl
theorem dX0_round_0 : decode cX0_round 0 = .ok (.aload_n 0, 1) := dk_42 (dk_at dksX0_round_0 0 rfl rfl)
theorem dX0_round_1 : decode cX0_round 1 = .ok (.iload_n 1, 1) := dk_27 (dk_at dksX0_round_0 1 rfl rfl)
theorem dX0_round_2 : decode cX0_round 2 = .ok (.invokevirtual 171, 3) := dk_182 0 171 (dk_at dksX0_round_0 2 rfl rfl)
theorem dX0_round_5 : decode cX0_round 5 = .ok (.ifCond .ne 5, 3) := dk_154 0 5 (dk_at dksX0_round_0 5 rfl rfl)
theorem dX0_round_8 : decode cX0_round 8 = .ok (.iconst (-1), 1) := dk_2 (dk_at dksX0_round_0 8 rfl rfl)
theorem dX0_round_9 : decode cX0_round 9 = .ok (.ireturn, 1) := dk_172 (dk_at dksX0_round_0 9 rfl rfl)
theorem dX0_round_10 : decode cX0_round 10 = .ok (.iconst 1, 1) := dk_4 (dk_at dksX0_round_0 10 rfl rfl)
theorem dX0_round_11 : decode cX0_round 11 = .ok (.istore_n 2, 1) := dk_61 (dk_at dksX0_round_0 11 rfl rfl)
theorem dX0_round_12 : decode cX0_round 12 = .ok (.iload_n 2, 1) := dk_28 (dk_at dksX0_round_0 12 rfl rfl)
theorem dX0_round_13 : decode cX0_round 13 = .ok (.bipush 99, 2) := dk_16 99 (dk_at dksX0_round_0 13 rfl rfl)
theorem dX0_round_15 : decode cX0_round 15 = .ok (.if_icmp .gt 20, 3) := dk_163 0 20 (dk_at dksX0_round_0 15 rfl rfl)
theorem dX0_round_18 : decode cX0_round 18 = .ok (.aload_n 0, 1) := dk_42 (dk_at dksX0_round_0 18 rfl rfl)
theorem dX0_round_19 : decode cX0_round 19 = .ok (.iload_n 1, 1) := dk_27 (dk_at dksX0_round_0 19 rfl rfl)
theorem dX0_round_20 : decode cX0_round 20 = .ok (.iload_n 2, 1) := dk_28 (dk_at dksX0_round_0 20 rfl rfl)
theorem dX0_round_21 : decode cX0_round 21 = .ok (.invokevirtual 279, 3) := dk_182 1 23 (dk_at dksX0_round_0 21 rfl rfl)
theorem dX0_round_24 : decode cX0_round 24 = .ok (.ifCond .eq 5, 3) := dk_153 0 5 (dk_at dksX0_round_1 0 rfl rfl)
theorem dX0_round_27 : decode cX0_round 27 = .ok (.iload_n 2, 1) := dk_28 (dk_at dksX0_round_1 3 rfl rfl)
theorem dX0_round_28 : decode cX0_round 28 = .ok (.ireturn, 1) := dk_172 (dk_at dksX0_round_1 4 rfl rfl)
theorem dX0_round_29 : decode cX0_round 29 = .ok (.iinc 2 1, 3) := dk_132 2 1 (dk_at dksX0_round_1 5 rfl rfl)
theorem dX0_round_32 : decode cX0_round 32 = .ok (.goto (-20), 3) := dk_167 255 236 (dk_at dksX0_round_1 8 rfl rfl)
theorem dX0_round_35 : decode cX0_round 35 = .ok (.bipush (-2), 2) := dk_16 254 (dk_at dksX0_round_1 11 rfl rfl)
theorem dX0_round_37 : decode cX0_round 37 = .ok (.ireturn, 1) := dk_172 (dk_at dksX0_round_1 13 rfl rfl)
abbrev cX0_isRound : ByteArray := prog_1_method_33_code
def yX0_isRound : MethodName := ⟨RX0, "isRound", "(II)Z"⟩
def dkwX0_isRound_3 : List UInt8 := [182, 0, 230, 159, 0, 5, 3, 172, 132, 4, 1, 167, 255, 186, 132, 3, 1, 167, 255, 171, 4, 172]
abbrev dktX0_isRound_3 : List UInt8 := dkwX0_isRound_3 ++ []
def dkwX0_isRound_2 : List UInt8 := [42, 180, 0, 51, 42, 180, 0, 40, 27, 21, 4, 42, 180, 0, 51, 180, 0, 210, 27, 46, 29, 96, 28, 96]
abbrev dktX0_isRound_2 : List UInt8 := dkwX0_isRound_2 ++ dktX0_isRound_3
def dkwX0_isRound_1 : List UInt8 := [180, 0, 51, 42, 180, 0, 40, 27, 21, 4, 42, 180, 0, 51, 180, 0, 210, 27, 46, 29, 96, 182, 0, 230]
abbrev dktX0_isRound_1 : List UInt8 := dkwX0_isRound_1 ++ dktX0_isRound_2
def dkwX0_isRound_0 : List UInt8 := [3, 62, 29, 16, 48, 162, 0, 85, 3, 54, 4, 21, 4, 42, 27, 182, 0, 175, 162, 0, 66, 42]
abbrev dktX0_isRound_0 : List UInt8 := dkwX0_isRound_0 ++ dktX0_isRound_1
theorem dksX0_isRound_0 : cX0_isRound.data.toList.drop 0 = dktX0_isRound_0 := by decide +kernel
theorem dksX0_isRound_1 : cX0_isRound.data.toList.drop 22 = dktX0_isRound_1 := dk_seg dksX0_isRound_0 22 rfl rfl
theorem dksX0_isRound_2 : cX0_isRound.data.toList.drop 46 = dktX0_isRound_2 := dk_seg dksX0_isRound_1 24 rfl rfl
theorem dksX0_isRound_3 : cX0_isRound.data.toList.drop 70 = dktX0_isRound_3 := dk_seg dksX0_isRound_2 24 rfl rfl
theorem dX0_isRound_0 : decode cX0_isRound 0 = .ok (.iconst 0, 1) := dk_3 (dk_at dksX0_isRound_0 0 rfl rfl)
theorem dX0_isRound_1 : decode cX0_isRound 1 = .ok (.istore_n 3, 1) := dk_62 (dk_at dksX0_isRound_0 1 rfl rfl)
theorem dX0_isRound_2 : decode cX0_isRound 2 = .ok (.iload_n 3, 1) := dk_29 (dk_at dksX0_isRound_0 2 rfl rfl)
theorem dX0_isRound_3 : decode cX0_isRound 3 = .ok (.bipush 48, 2) := dk_16 48 (dk_at dksX0_isRound_0 3 rfl rfl)
theorem dX0_isRound_5 : decode cX0_isRound 5 = .ok (.if_icmp .ge 85, 3) := dk_162 0 85 (dk_at dksX0_isRound_0 5 rfl rfl)
theorem dX0_isRound_8 : decode cX0_isRound 8 = .ok (.iconst 0, 1) := dk_3 (dk_at dksX0_isRound_0 8 rfl rfl)
theorem dX0_isRound_9 : decode cX0_isRound 9 = .ok (.istore 4, 2) := dk_54 4 (dk_at dksX0_isRound_0 9 rfl rfl)
theorem dX0_isRound_11 : decode cX0_isRound 11 = .ok (.iload 4, 2) := dk_21 4 (dk_at dksX0_isRound_0 11 rfl rfl)
theorem dX0_isRound_13 : decode cX0_isRound 13 = .ok (.aload_n 0, 1) := dk_42 (dk_at dksX0_isRound_0 13 rfl rfl)
theorem dX0_isRound_14 : decode cX0_isRound 14 = .ok (.iload_n 1, 1) := dk_27 (dk_at dksX0_isRound_0 14 rfl rfl)
theorem dX0_isRound_15 : decode cX0_isRound 15 = .ok (.invokevirtual 175, 3) := dk_182 0 175 (dk_at dksX0_isRound_0 15 rfl rfl)
theorem dX0_isRound_18 : decode cX0_isRound 18 = .ok (.if_icmp .ge 66, 3) := dk_162 0 66 (dk_at dksX0_isRound_0 18 rfl rfl)
theorem dX0_isRound_21 : decode cX0_isRound 21 = .ok (.aload_n 0, 1) := dk_42 (dk_at dksX0_isRound_0 21 rfl rfl)
theorem dX0_isRound_22 : decode cX0_isRound 22 = .ok (.getfield 51, 3) := dk_180 0 51 (dk_at dksX0_isRound_1 0 rfl rfl)
theorem dX0_isRound_25 : decode cX0_isRound 25 = .ok (.aload_n 0, 1) := dk_42 (dk_at dksX0_isRound_1 3 rfl rfl)
theorem dX0_isRound_26 : decode cX0_isRound 26 = .ok (.getfield 40, 3) := dk_180 0 40 (dk_at dksX0_isRound_1 4 rfl rfl)
theorem dX0_isRound_29 : decode cX0_isRound 29 = .ok (.iload_n 1, 1) := dk_27 (dk_at dksX0_isRound_1 7 rfl rfl)
theorem dX0_isRound_30 : decode cX0_isRound 30 = .ok (.iload 4, 2) := dk_21 4 (dk_at dksX0_isRound_1 8 rfl rfl)
theorem dX0_isRound_32 : decode cX0_isRound 32 = .ok (.aload_n 0, 1) := dk_42 (dk_at dksX0_isRound_1 10 rfl rfl)
theorem dX0_isRound_33 : decode cX0_isRound 33 = .ok (.getfield 51, 3) := dk_180 0 51 (dk_at dksX0_isRound_1 11 rfl rfl)
theorem dX0_isRound_36 : decode cX0_isRound 36 = .ok (.getfield 210, 3) := dk_180 0 210 (dk_at dksX0_isRound_1 14 rfl rfl)
theorem dX0_isRound_39 : decode cX0_isRound 39 = .ok (.iload_n 1, 1) := dk_27 (dk_at dksX0_isRound_1 17 rfl rfl)
theorem dX0_isRound_40 : decode cX0_isRound 40 = .ok (.iaload, 1) := dk_46 (dk_at dksX0_isRound_1 18 rfl rfl)
theorem dX0_isRound_41 : decode cX0_isRound 41 = .ok (.iload_n 3, 1) := dk_29 (dk_at dksX0_isRound_1 19 rfl rfl)
theorem dX0_isRound_42 : decode cX0_isRound 42 = .ok (.iadd, 1) := dk_96 (dk_at dksX0_isRound_1 20 rfl rfl)
theorem dX0_isRound_43 : decode cX0_isRound 43 = .ok (.invokevirtual 230, 3) := dk_182 0 230 (dk_at dksX0_isRound_1 21 rfl rfl)
theorem dX0_isRound_46 : decode cX0_isRound 46 = .ok (.aload_n 0, 1) := dk_42 (dk_at dksX0_isRound_2 0 rfl rfl)
theorem dX0_isRound_47 : decode cX0_isRound 47 = .ok (.getfield 51, 3) := dk_180 0 51 (dk_at dksX0_isRound_2 1 rfl rfl)
theorem dX0_isRound_50 : decode cX0_isRound 50 = .ok (.aload_n 0, 1) := dk_42 (dk_at dksX0_isRound_2 4 rfl rfl)
theorem dX0_isRound_51 : decode cX0_isRound 51 = .ok (.getfield 40, 3) := dk_180 0 40 (dk_at dksX0_isRound_2 5 rfl rfl)
theorem dX0_isRound_54 : decode cX0_isRound 54 = .ok (.iload_n 1, 1) := dk_27 (dk_at dksX0_isRound_2 8 rfl rfl)
theorem dX0_isRound_55 : decode cX0_isRound 55 = .ok (.iload 4, 2) := dk_21 4 (dk_at dksX0_isRound_2 9 rfl rfl)
theorem dX0_isRound_57 : decode cX0_isRound 57 = .ok (.aload_n 0, 1) := dk_42 (dk_at dksX0_isRound_2 11 rfl rfl)
theorem dX0_isRound_58 : decode cX0_isRound 58 = .ok (.getfield 51, 3) := dk_180 0 51 (dk_at dksX0_isRound_2 12 rfl rfl)
theorem dX0_isRound_61 : decode cX0_isRound 61 = .ok (.getfield 210, 3) := dk_180 0 210 (dk_at dksX0_isRound_2 15 rfl rfl)
theorem dX0_isRound_64 : decode cX0_isRound 64 = .ok (.iload_n 1, 1) := dk_27 (dk_at dksX0_isRound_2 18 rfl rfl)
theorem dX0_isRound_65 : decode cX0_isRound 65 = .ok (.iaload, 1) := dk_46 (dk_at dksX0_isRound_2 19 rfl rfl)
theorem dX0_isRound_66 : decode cX0_isRound 66 = .ok (.iload_n 3, 1) := dk_29 (dk_at dksX0_isRound_2 20 rfl rfl)
theorem dX0_isRound_67 : decode cX0_isRound 67 = .ok (.iadd, 1) := dk_96 (dk_at dksX0_isRound_2 21 rfl rfl)
theorem dX0_isRound_68 : decode cX0_isRound 68 = .ok (.iload_n 2, 1) := dk_28 (dk_at dksX0_isRound_2 22 rfl rfl)
theorem dX0_isRound_69 : decode cX0_isRound 69 = .ok (.iadd, 1) := dk_96 (dk_at dksX0_isRound_2 23 rfl rfl)
theorem dX0_isRound_70 : decode cX0_isRound 70 = .ok (.invokevirtual 230, 3) := dk_182 0 230 (dk_at dksX0_isRound_3 0 rfl rfl)
theorem dX0_isRound_73 : decode cX0_isRound 73 = .ok (.if_icmp .eq 5, 3) := dk_159 0 5 (dk_at dksX0_isRound_3 3 rfl rfl)
theorem dX0_isRound_76 : decode cX0_isRound 76 = .ok (.iconst 0, 1) := dk_3 (dk_at dksX0_isRound_3 6 rfl rfl)
theorem dX0_isRound_77 : decode cX0_isRound 77 = .ok (.ireturn, 1) := dk_172 (dk_at dksX0_isRound_3 7 rfl rfl)
theorem dX0_isRound_78 : decode cX0_isRound 78 = .ok (.iinc 4 1, 3) := dk_132 4 1 (dk_at dksX0_isRound_3 8 rfl rfl)
theorem dX0_isRound_81 : decode cX0_isRound 81 = .ok (.goto (-70), 3) := dk_167 255 186 (dk_at dksX0_isRound_3 11 rfl rfl)
theorem dX0_isRound_84 : decode cX0_isRound 84 = .ok (.iinc 3 1, 3) := dk_132 3 1 (dk_at dksX0_isRound_3 14 rfl rfl)
theorem dX0_isRound_87 : decode cX0_isRound 87 = .ok (.goto (-85), 3) := dk_167 255 171 (dk_at dksX0_isRound_3 17 rfl rfl)
theorem dX0_isRound_90 : decode cX0_isRound 90 = .ok (.iconst 1, 1) := dk_4 (dk_at dksX0_isRound_3 20 rfl rfl)
theorem dX0_isRound_91 : decode cX0_isRound 91 = .ok (.ireturn, 1) := dk_172 (dk_at dksX0_isRound_3 21 rfl rfl)
abbrev cX0_where : ByteArray := prog_1_method_36_code
def yX0_where : MethodName := ⟨RX0, "where", "(IIII)I"⟩
def dkwX0_where_7 : List UInt8 := [21, 6, 167, 0, 5, 21, 7, 172]
abbrev dktX0_where_7 : List UInt8 := dkwX0_where_7 ++ []
def dkwX0_where_6 : List UInt8 := [21, 5, 17, 252, 24, 159, 0, 8, 21, 4, 154, 0, 8, 21, 5, 167, 0, 16, 21, 4, 4, 160, 0, 8]
abbrev dktX0_where_6 : List UInt8 := dkwX0_where_6 ++ dktX0_where_7
def dkwX0_where_5 : List UInt8 := [21, 11, 54, 5, 21, 9, 54, 6, 21, 8, 54, 7, 132, 9, 1, 167, 255, 180, 132, 8, 1, 167, 255, 157]
abbrev dktX0_where_5 : List UInt8 := dkwX0_where_5 ++ dktX0_where_6
def dkwX0_where_4 : List UInt8 := [21, 8, 182, 1, 6, 54, 10, 42, 182, 1, 30, 54, 11, 21, 11, 21, 5, 163, 0, 6, 167, 0, 15]
abbrev dktX0_where_4 : List UInt8 := dkwX0_where_4 ++ dktX0_where_5
def dkwX0_where_3 : List UInt8 := [180, 0, 55, 42, 180, 0, 51, 182, 0, 237, 42, 180, 0, 55, 42, 180, 0, 40, 27, 28, 29, 21, 9]
abbrev dktX0_where_3 : List UInt8 := dkwX0_where_3 ++ dktX0_where_4
def dkwX0_where_2 : List UInt8 := [180, 1, 26, 163, 0, 91, 3, 54, 9, 21, 9, 28, 96, 42, 180, 0, 40, 180, 1, 29, 163, 0, 68, 42]
abbrev dktX0_where_2 : List UInt8 := dkwX0_where_2 ++ dktX0_where_3
def dkwX0_where_1 : List UInt8 := [17, 252, 24, 54, 5, 3, 54, 6, 3, 54, 7, 3, 54, 8, 21, 8, 29, 96, 42, 180, 0, 40]
abbrev dktX0_where_1 : List UInt8 := dkwX0_where_1 ++ dktX0_where_2
def dkwX0_where_0 : List UInt8 := [42, 27, 28, 29, 182, 0, 253, 153, 0, 13, 21, 4, 3, 5, 184, 0, 158, 154, 0, 7, 17, 252, 24, 172]
abbrev dktX0_where_0 : List UInt8 := dkwX0_where_0 ++ dktX0_where_1
theorem dksX0_where_0 : cX0_where.data.toList.drop 0 = dktX0_where_0 := by decide +kernel
theorem dksX0_where_1 : cX0_where.data.toList.drop 24 = dktX0_where_1 := dk_seg dksX0_where_0 24 rfl rfl
theorem dksX0_where_2 : cX0_where.data.toList.drop 46 = dktX0_where_2 := dk_seg dksX0_where_1 22 rfl rfl
theorem dksX0_where_3 : cX0_where.data.toList.drop 70 = dktX0_where_3 := dk_seg dksX0_where_2 24 rfl rfl
theorem dksX0_where_4 : cX0_where.data.toList.drop 93 = dktX0_where_4 := dk_seg dksX0_where_3 23 rfl rfl
theorem dksX0_where_5 : cX0_where.data.toList.drop 116 = dktX0_where_5 := dk_seg dksX0_where_4 23 rfl rfl
theorem dksX0_where_6 : cX0_where.data.toList.drop 140 = dktX0_where_6 := dk_seg dksX0_where_5 24 rfl rfl
theorem dksX0_where_7 : cX0_where.data.toList.drop 164 = dktX0_where_7 := dk_seg dksX0_where_6 24 rfl rfl
theorem dX0_where_0 : decode cX0_where 0 = .ok (.aload_n 0, 1) := dk_42 (dk_at dksX0_where_0 0 rfl rfl)
theorem dX0_where_1 : decode cX0_where 1 = .ok (.iload_n 1, 1) := dk_27 (dk_at dksX0_where_0 1 rfl rfl)
theorem dX0_where_2 : decode cX0_where 2 = .ok (.iload_n 2, 1) := dk_28 (dk_at dksX0_where_0 2 rfl rfl)
theorem dX0_where_3 : decode cX0_where 3 = .ok (.iload_n 3, 1) := dk_29 (dk_at dksX0_where_0 3 rfl rfl)
theorem dX0_where_4 : decode cX0_where 4 = .ok (.invokevirtual 253, 3) := dk_182 0 253 (dk_at dksX0_where_0 4 rfl rfl)
theorem dX0_where_7 : decode cX0_where 7 = .ok (.ifCond .eq 13, 3) := dk_153 0 13 (dk_at dksX0_where_0 7 rfl rfl)
theorem dX0_where_10 : decode cX0_where 10 = .ok (.iload 4, 2) := dk_21 4 (dk_at dksX0_where_0 10 rfl rfl)
theorem dX0_where_12 : decode cX0_where 12 = .ok (.iconst 0, 1) := dk_3 (dk_at dksX0_where_0 12 rfl rfl)
theorem dX0_where_13 : decode cX0_where 13 = .ok (.iconst 2, 1) := dk_5 (dk_at dksX0_where_0 13 rfl rfl)
theorem dX0_where_14 : decode cX0_where 14 = .ok (.invokestatic 158, 3) := dk_184 0 158 (dk_at dksX0_where_0 14 rfl rfl)
theorem dX0_where_17 : decode cX0_where 17 = .ok (.ifCond .ne 7, 3) := dk_154 0 7 (dk_at dksX0_where_0 17 rfl rfl)
theorem dX0_where_20 : decode cX0_where 20 = .ok (.sipush (-1000), 3) := dk_17 252 24 (dk_at dksX0_where_0 20 rfl rfl)
theorem dX0_where_23 : decode cX0_where 23 = .ok (.ireturn, 1) := dk_172 (dk_at dksX0_where_0 23 rfl rfl)
theorem dX0_where_24 : decode cX0_where 24 = .ok (.sipush (-1000), 3) := dk_17 252 24 (dk_at dksX0_where_1 0 rfl rfl)
theorem dX0_where_27 : decode cX0_where 27 = .ok (.istore 5, 2) := dk_54 5 (dk_at dksX0_where_1 3 rfl rfl)
theorem dX0_where_29 : decode cX0_where 29 = .ok (.iconst 0, 1) := dk_3 (dk_at dksX0_where_1 5 rfl rfl)
theorem dX0_where_30 : decode cX0_where 30 = .ok (.istore 6, 2) := dk_54 6 (dk_at dksX0_where_1 6 rfl rfl)
theorem dX0_where_32 : decode cX0_where 32 = .ok (.iconst 0, 1) := dk_3 (dk_at dksX0_where_1 8 rfl rfl)
theorem dX0_where_33 : decode cX0_where 33 = .ok (.istore 7, 2) := dk_54 7 (dk_at dksX0_where_1 9 rfl rfl)
theorem dX0_where_35 : decode cX0_where 35 = .ok (.iconst 0, 1) := dk_3 (dk_at dksX0_where_1 11 rfl rfl)
theorem dX0_where_36 : decode cX0_where 36 = .ok (.istore 8, 2) := dk_54 8 (dk_at dksX0_where_1 12 rfl rfl)
theorem dX0_where_38 : decode cX0_where 38 = .ok (.iload 8, 2) := dk_21 8 (dk_at dksX0_where_1 14 rfl rfl)
theorem dX0_where_40 : decode cX0_where 40 = .ok (.iload_n 3, 1) := dk_29 (dk_at dksX0_where_1 16 rfl rfl)
theorem dX0_where_41 : decode cX0_where 41 = .ok (.iadd, 1) := dk_96 (dk_at dksX0_where_1 17 rfl rfl)
theorem dX0_where_42 : decode cX0_where 42 = .ok (.aload_n 0, 1) := dk_42 (dk_at dksX0_where_1 18 rfl rfl)
theorem dX0_where_43 : decode cX0_where 43 = .ok (.getfield 40, 3) := dk_180 0 40 (dk_at dksX0_where_1 19 rfl rfl)
theorem dX0_where_46 : decode cX0_where 46 = .ok (.getfield 282, 3) := dk_180 1 26 (dk_at dksX0_where_2 0 rfl rfl)
theorem dX0_where_49 : decode cX0_where 49 = .ok (.if_icmp .gt 91, 3) := dk_163 0 91 (dk_at dksX0_where_2 3 rfl rfl)
theorem dX0_where_52 : decode cX0_where 52 = .ok (.iconst 0, 1) := dk_3 (dk_at dksX0_where_2 6 rfl rfl)
theorem dX0_where_53 : decode cX0_where 53 = .ok (.istore 9, 2) := dk_54 9 (dk_at dksX0_where_2 7 rfl rfl)
theorem dX0_where_55 : decode cX0_where 55 = .ok (.iload 9, 2) := dk_21 9 (dk_at dksX0_where_2 9 rfl rfl)
theorem dX0_where_57 : decode cX0_where 57 = .ok (.iload_n 2, 1) := dk_28 (dk_at dksX0_where_2 11 rfl rfl)
theorem dX0_where_58 : decode cX0_where 58 = .ok (.iadd, 1) := dk_96 (dk_at dksX0_where_2 12 rfl rfl)
theorem dX0_where_59 : decode cX0_where 59 = .ok (.aload_n 0, 1) := dk_42 (dk_at dksX0_where_2 13 rfl rfl)
theorem dX0_where_60 : decode cX0_where 60 = .ok (.getfield 40, 3) := dk_180 0 40 (dk_at dksX0_where_2 14 rfl rfl)
theorem dX0_where_63 : decode cX0_where 63 = .ok (.getfield 285, 3) := dk_180 1 29 (dk_at dksX0_where_2 17 rfl rfl)
theorem dX0_where_66 : decode cX0_where 66 = .ok (.if_icmp .gt 68, 3) := dk_163 0 68 (dk_at dksX0_where_2 20 rfl rfl)
theorem dX0_where_69 : decode cX0_where 69 = .ok (.aload_n 0, 1) := dk_42 (dk_at dksX0_where_2 23 rfl rfl)
theorem dX0_where_70 : decode cX0_where 70 = .ok (.getfield 55, 3) := dk_180 0 55 (dk_at dksX0_where_3 0 rfl rfl)
theorem dX0_where_73 : decode cX0_where 73 = .ok (.aload_n 0, 1) := dk_42 (dk_at dksX0_where_3 3 rfl rfl)
theorem dX0_where_74 : decode cX0_where 74 = .ok (.getfield 51, 3) := dk_180 0 51 (dk_at dksX0_where_3 4 rfl rfl)
theorem dX0_where_77 : decode cX0_where 77 = .ok (.invokevirtual 237, 3) := dk_182 0 237 (dk_at dksX0_where_3 7 rfl rfl)
theorem dX0_where_80 : decode cX0_where 80 = .ok (.aload_n 0, 1) := dk_42 (dk_at dksX0_where_3 10 rfl rfl)
theorem dX0_where_81 : decode cX0_where 81 = .ok (.getfield 55, 3) := dk_180 0 55 (dk_at dksX0_where_3 11 rfl rfl)
theorem dX0_where_84 : decode cX0_where 84 = .ok (.aload_n 0, 1) := dk_42 (dk_at dksX0_where_3 14 rfl rfl)
theorem dX0_where_85 : decode cX0_where 85 = .ok (.getfield 40, 3) := dk_180 0 40 (dk_at dksX0_where_3 15 rfl rfl)
theorem dX0_where_88 : decode cX0_where 88 = .ok (.iload_n 1, 1) := dk_27 (dk_at dksX0_where_3 18 rfl rfl)
theorem dX0_where_89 : decode cX0_where 89 = .ok (.iload_n 2, 1) := dk_28 (dk_at dksX0_where_3 19 rfl rfl)
theorem dX0_where_90 : decode cX0_where 90 = .ok (.iload_n 3, 1) := dk_29 (dk_at dksX0_where_3 20 rfl rfl)
theorem dX0_where_91 : decode cX0_where 91 = .ok (.iload 9, 2) := dk_21 9 (dk_at dksX0_where_3 21 rfl rfl)
theorem dX0_where_93 : decode cX0_where 93 = .ok (.iload 8, 2) := dk_21 8 (dk_at dksX0_where_4 0 rfl rfl)
theorem dX0_where_95 : decode cX0_where 95 = .ok (.invokevirtual 262, 3) := dk_182 1 6 (dk_at dksX0_where_4 2 rfl rfl)
theorem dX0_where_98 : decode cX0_where 98 = .ok (.istore 10, 2) := dk_54 10 (dk_at dksX0_where_4 5 rfl rfl)
theorem dX0_where_100 : decode cX0_where 100 = .ok (.aload_n 0, 1) := dk_42 (dk_at dksX0_where_4 7 rfl rfl)
theorem dX0_where_101 : decode cX0_where 101 = .ok (.invokevirtual 286, 3) := dk_182 1 30 (dk_at dksX0_where_4 8 rfl rfl)
theorem dX0_where_104 : decode cX0_where 104 = .ok (.istore 11, 2) := dk_54 11 (dk_at dksX0_where_4 11 rfl rfl)
theorem dX0_where_106 : decode cX0_where 106 = .ok (.iload 11, 2) := dk_21 11 (dk_at dksX0_where_4 13 rfl rfl)
theorem dX0_where_108 : decode cX0_where 108 = .ok (.iload 5, 2) := dk_21 5 (dk_at dksX0_where_4 15 rfl rfl)
theorem dX0_where_110 : decode cX0_where 110 = .ok (.if_icmp .gt 6, 3) := dk_163 0 6 (dk_at dksX0_where_4 17 rfl rfl)
theorem dX0_where_113 : decode cX0_where 113 = .ok (.goto 15, 3) := dk_167 0 15 (dk_at dksX0_where_4 20 rfl rfl)
theorem dX0_where_116 : decode cX0_where 116 = .ok (.iload 11, 2) := dk_21 11 (dk_at dksX0_where_5 0 rfl rfl)
theorem dX0_where_118 : decode cX0_where 118 = .ok (.istore 5, 2) := dk_54 5 (dk_at dksX0_where_5 2 rfl rfl)
theorem dX0_where_120 : decode cX0_where 120 = .ok (.iload 9, 2) := dk_21 9 (dk_at dksX0_where_5 4 rfl rfl)
theorem dX0_where_122 : decode cX0_where 122 = .ok (.istore 6, 2) := dk_54 6 (dk_at dksX0_where_5 6 rfl rfl)
theorem dX0_where_124 : decode cX0_where 124 = .ok (.iload 8, 2) := dk_21 8 (dk_at dksX0_where_5 8 rfl rfl)
theorem dX0_where_126 : decode cX0_where 126 = .ok (.istore 7, 2) := dk_54 7 (dk_at dksX0_where_5 10 rfl rfl)
theorem dX0_where_128 : decode cX0_where 128 = .ok (.iinc 9 1, 3) := dk_132 9 1 (dk_at dksX0_where_5 12 rfl rfl)
theorem dX0_where_131 : decode cX0_where 131 = .ok (.goto (-76), 3) := dk_167 255 180 (dk_at dksX0_where_5 15 rfl rfl)
theorem dX0_where_134 : decode cX0_where 134 = .ok (.iinc 8 1, 3) := dk_132 8 1 (dk_at dksX0_where_5 18 rfl rfl)
theorem dX0_where_137 : decode cX0_where 137 = .ok (.goto (-99), 3) := dk_167 255 157 (dk_at dksX0_where_5 21 rfl rfl)
theorem dX0_where_140 : decode cX0_where 140 = .ok (.iload 5, 2) := dk_21 5 (dk_at dksX0_where_6 0 rfl rfl)
theorem dX0_where_142 : decode cX0_where 142 = .ok (.sipush (-1000), 3) := dk_17 252 24 (dk_at dksX0_where_6 2 rfl rfl)
theorem dX0_where_145 : decode cX0_where 145 = .ok (.if_icmp .eq 8, 3) := dk_159 0 8 (dk_at dksX0_where_6 5 rfl rfl)
theorem dX0_where_148 : decode cX0_where 148 = .ok (.iload 4, 2) := dk_21 4 (dk_at dksX0_where_6 8 rfl rfl)
theorem dX0_where_150 : decode cX0_where 150 = .ok (.ifCond .ne 8, 3) := dk_154 0 8 (dk_at dksX0_where_6 10 rfl rfl)
theorem dX0_where_153 : decode cX0_where 153 = .ok (.iload 5, 2) := dk_21 5 (dk_at dksX0_where_6 13 rfl rfl)
theorem dX0_where_155 : decode cX0_where 155 = .ok (.goto 16, 3) := dk_167 0 16 (dk_at dksX0_where_6 15 rfl rfl)
theorem dX0_where_158 : decode cX0_where 158 = .ok (.iload 4, 2) := dk_21 4 (dk_at dksX0_where_6 18 rfl rfl)
theorem dX0_where_160 : decode cX0_where 160 = .ok (.iconst 1, 1) := dk_4 (dk_at dksX0_where_6 20 rfl rfl)
theorem dX0_where_161 : decode cX0_where 161 = .ok (.if_icmp .ne 8, 3) := dk_160 0 8 (dk_at dksX0_where_6 21 rfl rfl)
theorem dX0_where_164 : decode cX0_where 164 = .ok (.iload 6, 2) := dk_21 6 (dk_at dksX0_where_7 0 rfl rfl)
theorem dX0_where_166 : decode cX0_where 166 = .ok (.goto 5, 3) := dk_167 0 5 (dk_at dksX0_where_7 2 rfl rfl)
theorem dX0_where_169 : decode cX0_where 169 = .ok (.iload 7, 2) := dk_21 7 (dk_at dksX0_where_7 5 rfl rfl)
theorem dX0_where_171 : decode cX0_where 171 = .ok (.ireturn, 1) := dk_172 (dk_at dksX0_where_7 7 rfl rfl)
abbrev cX0_gains : ByteArray := prog_1_method_35_code
def yX0_gains : MethodName := ⟨RX0, "gains", "()I"⟩
def dkwX0_gains_4 : List UInt8 := [167, 0, 4, 3, 100, 60, 132, 2, 1, 167, 255, 157, 27, 172]
abbrev dktX0_gains_4 : List UInt8 := dkwX0_gains_4 ++ []
def dkwX0_gains_3 : List UInt8 := [182, 0, 193, 153, 0, 22, 42, 180, 0, 51, 42, 180, 0, 40, 28, 182, 0, 193, 154, 0, 7, 4]
abbrev dktX0_gains_3 : List UInt8 := dkwX0_gains_3 ++ dktX0_gains_4
def dkwX0_gains_2 : List UInt8 := [28, 182, 0, 189, 154, 0, 7, 4, 167, 0, 4, 3, 96, 60, 27, 42, 180, 0, 55, 42, 180, 0, 40, 28]
abbrev dktX0_gains_2 : List UInt8 := dkwX0_gains_2 ++ dktX0_gains_3
def dkwX0_gains_1 : List UInt8 := [27, 42, 180, 0, 51, 42, 180, 0, 40, 28, 182, 0, 189, 153, 0, 22, 42, 180, 0, 55, 42, 180, 0, 40]
abbrev dktX0_gains_1 : List UInt8 := dkwX0_gains_1 ++ dktX0_gains_2
def dkwX0_gains_0 : List UInt8 := [3, 60, 3, 61, 28, 16, 48, 162, 0, 99, 42, 180, 0, 40, 28, 182, 0, 198, 154, 0, 6, 167, 0, 79]
abbrev dktX0_gains_0 : List UInt8 := dkwX0_gains_0 ++ dktX0_gains_1
theorem dksX0_gains_0 : cX0_gains.data.toList.drop 0 = dktX0_gains_0 := by decide +kernel
theorem dksX0_gains_1 : cX0_gains.data.toList.drop 24 = dktX0_gains_1 := dk_seg dksX0_gains_0 24 rfl rfl
theorem dksX0_gains_2 : cX0_gains.data.toList.drop 48 = dktX0_gains_2 := dk_seg dksX0_gains_1 24 rfl rfl
theorem dksX0_gains_3 : cX0_gains.data.toList.drop 72 = dktX0_gains_3 := dk_seg dksX0_gains_2 24 rfl rfl
theorem dksX0_gains_4 : cX0_gains.data.toList.drop 94 = dktX0_gains_4 := dk_seg dksX0_gains_3 22 rfl rfl
theorem dX0_gains_0 : decode cX0_gains 0 = .ok (.iconst 0, 1) := dk_3 (dk_at dksX0_gains_0 0 rfl rfl)
theorem dX0_gains_1 : decode cX0_gains 1 = .ok (.istore_n 1, 1) := dk_60 (dk_at dksX0_gains_0 1 rfl rfl)
theorem dX0_gains_2 : decode cX0_gains 2 = .ok (.iconst 0, 1) := dk_3 (dk_at dksX0_gains_0 2 rfl rfl)
theorem dX0_gains_3 : decode cX0_gains 3 = .ok (.istore_n 2, 1) := dk_61 (dk_at dksX0_gains_0 3 rfl rfl)
theorem dX0_gains_4 : decode cX0_gains 4 = .ok (.iload_n 2, 1) := dk_28 (dk_at dksX0_gains_0 4 rfl rfl)
theorem dX0_gains_5 : decode cX0_gains 5 = .ok (.bipush 48, 2) := dk_16 48 (dk_at dksX0_gains_0 5 rfl rfl)
theorem dX0_gains_7 : decode cX0_gains 7 = .ok (.if_icmp .ge 99, 3) := dk_162 0 99 (dk_at dksX0_gains_0 7 rfl rfl)
theorem dX0_gains_10 : decode cX0_gains 10 = .ok (.aload_n 0, 1) := dk_42 (dk_at dksX0_gains_0 10 rfl rfl)
theorem dX0_gains_11 : decode cX0_gains 11 = .ok (.getfield 40, 3) := dk_180 0 40 (dk_at dksX0_gains_0 11 rfl rfl)
theorem dX0_gains_14 : decode cX0_gains 14 = .ok (.iload_n 2, 1) := dk_28 (dk_at dksX0_gains_0 14 rfl rfl)
theorem dX0_gains_15 : decode cX0_gains 15 = .ok (.invokevirtual 198, 3) := dk_182 0 198 (dk_at dksX0_gains_0 15 rfl rfl)
theorem dX0_gains_18 : decode cX0_gains 18 = .ok (.ifCond .ne 6, 3) := dk_154 0 6 (dk_at dksX0_gains_0 18 rfl rfl)
theorem dX0_gains_21 : decode cX0_gains 21 = .ok (.goto 79, 3) := dk_167 0 79 (dk_at dksX0_gains_0 21 rfl rfl)
theorem dX0_gains_24 : decode cX0_gains 24 = .ok (.iload_n 1, 1) := dk_27 (dk_at dksX0_gains_1 0 rfl rfl)
theorem dX0_gains_25 : decode cX0_gains 25 = .ok (.aload_n 0, 1) := dk_42 (dk_at dksX0_gains_1 1 rfl rfl)
theorem dX0_gains_26 : decode cX0_gains 26 = .ok (.getfield 51, 3) := dk_180 0 51 (dk_at dksX0_gains_1 2 rfl rfl)
theorem dX0_gains_29 : decode cX0_gains 29 = .ok (.aload_n 0, 1) := dk_42 (dk_at dksX0_gains_1 5 rfl rfl)
theorem dX0_gains_30 : decode cX0_gains 30 = .ok (.getfield 40, 3) := dk_180 0 40 (dk_at dksX0_gains_1 6 rfl rfl)
theorem dX0_gains_33 : decode cX0_gains 33 = .ok (.iload_n 2, 1) := dk_28 (dk_at dksX0_gains_1 9 rfl rfl)
theorem dX0_gains_34 : decode cX0_gains 34 = .ok (.invokevirtual 189, 3) := dk_182 0 189 (dk_at dksX0_gains_1 10 rfl rfl)
theorem dX0_gains_37 : decode cX0_gains 37 = .ok (.ifCond .eq 22, 3) := dk_153 0 22 (dk_at dksX0_gains_1 13 rfl rfl)
theorem dX0_gains_40 : decode cX0_gains 40 = .ok (.aload_n 0, 1) := dk_42 (dk_at dksX0_gains_1 16 rfl rfl)
theorem dX0_gains_41 : decode cX0_gains 41 = .ok (.getfield 55, 3) := dk_180 0 55 (dk_at dksX0_gains_1 17 rfl rfl)
theorem dX0_gains_44 : decode cX0_gains 44 = .ok (.aload_n 0, 1) := dk_42 (dk_at dksX0_gains_1 20 rfl rfl)
theorem dX0_gains_45 : decode cX0_gains 45 = .ok (.getfield 40, 3) := dk_180 0 40 (dk_at dksX0_gains_1 21 rfl rfl)
theorem dX0_gains_48 : decode cX0_gains 48 = .ok (.iload_n 2, 1) := dk_28 (dk_at dksX0_gains_2 0 rfl rfl)
theorem dX0_gains_49 : decode cX0_gains 49 = .ok (.invokevirtual 189, 3) := dk_182 0 189 (dk_at dksX0_gains_2 1 rfl rfl)
theorem dX0_gains_52 : decode cX0_gains 52 = .ok (.ifCond .ne 7, 3) := dk_154 0 7 (dk_at dksX0_gains_2 4 rfl rfl)
theorem dX0_gains_55 : decode cX0_gains 55 = .ok (.iconst 1, 1) := dk_4 (dk_at dksX0_gains_2 7 rfl rfl)
theorem dX0_gains_56 : decode cX0_gains 56 = .ok (.goto 4, 3) := dk_167 0 4 (dk_at dksX0_gains_2 8 rfl rfl)
theorem dX0_gains_59 : decode cX0_gains 59 = .ok (.iconst 0, 1) := dk_3 (dk_at dksX0_gains_2 11 rfl rfl)
theorem dX0_gains_60 : decode cX0_gains 60 = .ok (.iadd, 1) := dk_96 (dk_at dksX0_gains_2 12 rfl rfl)
theorem dX0_gains_61 : decode cX0_gains 61 = .ok (.istore_n 1, 1) := dk_60 (dk_at dksX0_gains_2 13 rfl rfl)
theorem dX0_gains_62 : decode cX0_gains 62 = .ok (.iload_n 1, 1) := dk_27 (dk_at dksX0_gains_2 14 rfl rfl)
theorem dX0_gains_63 : decode cX0_gains 63 = .ok (.aload_n 0, 1) := dk_42 (dk_at dksX0_gains_2 15 rfl rfl)
theorem dX0_gains_64 : decode cX0_gains 64 = .ok (.getfield 55, 3) := dk_180 0 55 (dk_at dksX0_gains_2 16 rfl rfl)
theorem dX0_gains_67 : decode cX0_gains 67 = .ok (.aload_n 0, 1) := dk_42 (dk_at dksX0_gains_2 19 rfl rfl)
theorem dX0_gains_68 : decode cX0_gains 68 = .ok (.getfield 40, 3) := dk_180 0 40 (dk_at dksX0_gains_2 20 rfl rfl)
theorem dX0_gains_71 : decode cX0_gains 71 = .ok (.iload_n 2, 1) := dk_28 (dk_at dksX0_gains_2 23 rfl rfl)
theorem dX0_gains_72 : decode cX0_gains 72 = .ok (.invokevirtual 193, 3) := dk_182 0 193 (dk_at dksX0_gains_3 0 rfl rfl)
theorem dX0_gains_75 : decode cX0_gains 75 = .ok (.ifCond .eq 22, 3) := dk_153 0 22 (dk_at dksX0_gains_3 3 rfl rfl)
theorem dX0_gains_78 : decode cX0_gains 78 = .ok (.aload_n 0, 1) := dk_42 (dk_at dksX0_gains_3 6 rfl rfl)
theorem dX0_gains_79 : decode cX0_gains 79 = .ok (.getfield 51, 3) := dk_180 0 51 (dk_at dksX0_gains_3 7 rfl rfl)
theorem dX0_gains_82 : decode cX0_gains 82 = .ok (.aload_n 0, 1) := dk_42 (dk_at dksX0_gains_3 10 rfl rfl)
theorem dX0_gains_83 : decode cX0_gains 83 = .ok (.getfield 40, 3) := dk_180 0 40 (dk_at dksX0_gains_3 11 rfl rfl)
theorem dX0_gains_86 : decode cX0_gains 86 = .ok (.iload_n 2, 1) := dk_28 (dk_at dksX0_gains_3 14 rfl rfl)
theorem dX0_gains_87 : decode cX0_gains 87 = .ok (.invokevirtual 193, 3) := dk_182 0 193 (dk_at dksX0_gains_3 15 rfl rfl)
theorem dX0_gains_90 : decode cX0_gains 90 = .ok (.ifCond .ne 7, 3) := dk_154 0 7 (dk_at dksX0_gains_3 18 rfl rfl)
theorem dX0_gains_93 : decode cX0_gains 93 = .ok (.iconst 1, 1) := dk_4 (dk_at dksX0_gains_3 21 rfl rfl)
theorem dX0_gains_94 : decode cX0_gains 94 = .ok (.goto 4, 3) := dk_167 0 4 (dk_at dksX0_gains_4 0 rfl rfl)
theorem dX0_gains_97 : decode cX0_gains 97 = .ok (.iconst 0, 1) := dk_3 (dk_at dksX0_gains_4 3 rfl rfl)
theorem dX0_gains_98 : decode cX0_gains 98 = .ok (.isub, 1) := dk_100 (dk_at dksX0_gains_4 4 rfl rfl)
theorem dX0_gains_99 : decode cX0_gains 99 = .ok (.istore_n 1, 1) := dk_60 (dk_at dksX0_gains_4 5 rfl rfl)
theorem dX0_gains_100 : decode cX0_gains 100 = .ok (.iinc 2 1, 3) := dk_132 2 1 (dk_at dksX0_gains_4 6 rfl rfl)
theorem dX0_gains_103 : decode cX0_gains 103 = .ok (.goto (-99), 3) := dk_167 255 157 (dk_at dksX0_gains_4 9 rfl rfl)
theorem dX0_gains_106 : decode cX0_gains 106 = .ok (.iload_n 1, 1) := dk_27 (dk_at dksX0_gains_4 12 rfl rfl)
theorem dX0_gains_107 : decode cX0_gains 107 = .ok (.ireturn, 1) := dk_172 (dk_at dksX0_gains_4 13 rfl rfl)
abbrev cX0_cut : ByteArray := prog_1_method_40_code
def yX0_cut : MethodName := ⟨RX0, "cut", "(IIII)I"⟩
def dkwX0_cut_4 : List UInt8 := [167, 255, 236, 42, 3, 3, 3, 182, 1, 42, 42, 180, 1, 33, 172]
abbrev dktX0_cut_4 : List UInt8 := dkwX0_cut_4 ++ []
def dkwX0_cut_3 : List UInt8 := [54, 5, 21, 5, 16, 8, 162, 0, 19, 42, 180, 0, 96, 3, 50, 21, 5, 3, 79, 132, 5, 1]
abbrev dktX0_cut_3 : List UInt8 := dkwX0_cut_3 ++ dktX0_cut_4
def dkwX0_cut_2 : List UInt8 := [29, 153, 0, 12, 42, 21, 4, 182, 1, 49, 154, 0, 5, 2, 172, 42, 19, 1, 52, 181, 1, 33, 3]
abbrev dktX0_cut_2 : List UInt8 := dkwX0_cut_2 ++ dktX0_cut_3
def dkwX0_cut_1 : List UInt8 := [153, 0, 37, 29, 153, 0, 15, 28, 153, 0, 29, 42, 29, 182, 1, 49, 153, 0, 21, 21, 4, 153, 0, 18]
abbrev dktX0_cut_1 : List UInt8 := dkwX0_cut_1 ++ dktX0_cut_2
def dkwX0_cut_0 : List UInt8 := [42, 3, 181, 1, 36, 42, 27, 182, 1, 49, 153, 0, 49, 28, 153, 0, 11, 42, 28, 182, 1, 49]
abbrev dktX0_cut_0 : List UInt8 := dkwX0_cut_0 ++ dktX0_cut_1
theorem dksX0_cut_0 : cX0_cut.data.toList.drop 0 = dktX0_cut_0 := by decide +kernel
theorem dksX0_cut_1 : cX0_cut.data.toList.drop 22 = dktX0_cut_1 := dk_seg dksX0_cut_0 22 rfl rfl
theorem dksX0_cut_2 : cX0_cut.data.toList.drop 46 = dktX0_cut_2 := dk_seg dksX0_cut_1 24 rfl rfl
theorem dksX0_cut_3 : cX0_cut.data.toList.drop 69 = dktX0_cut_3 := dk_seg dksX0_cut_2 23 rfl rfl
theorem dksX0_cut_4 : cX0_cut.data.toList.drop 91 = dktX0_cut_4 := dk_seg dksX0_cut_3 22 rfl rfl
theorem dX0_cut_0 : decode cX0_cut 0 = .ok (.aload_n 0, 1) := dk_42 (dk_at dksX0_cut_0 0 rfl rfl)
theorem dX0_cut_1 : decode cX0_cut 1 = .ok (.iconst 0, 1) := dk_3 (dk_at dksX0_cut_0 1 rfl rfl)
theorem dX0_cut_2 : decode cX0_cut 2 = .ok (.putfield 292, 3) := dk_181 1 36 (dk_at dksX0_cut_0 2 rfl rfl)
theorem dX0_cut_5 : decode cX0_cut 5 = .ok (.aload_n 0, 1) := dk_42 (dk_at dksX0_cut_0 5 rfl rfl)
theorem dX0_cut_6 : decode cX0_cut 6 = .ok (.iload_n 1, 1) := dk_27 (dk_at dksX0_cut_0 6 rfl rfl)
theorem dX0_cut_7 : decode cX0_cut 7 = .ok (.invokevirtual 305, 3) := dk_182 1 49 (dk_at dksX0_cut_0 7 rfl rfl)
theorem dX0_cut_10 : decode cX0_cut 10 = .ok (.ifCond .eq 49, 3) := dk_153 0 49 (dk_at dksX0_cut_0 10 rfl rfl)
theorem dX0_cut_13 : decode cX0_cut 13 = .ok (.iload_n 2, 1) := dk_28 (dk_at dksX0_cut_0 13 rfl rfl)
theorem dX0_cut_14 : decode cX0_cut 14 = .ok (.ifCond .eq 11, 3) := dk_153 0 11 (dk_at dksX0_cut_0 14 rfl rfl)
theorem dX0_cut_17 : decode cX0_cut 17 = .ok (.aload_n 0, 1) := dk_42 (dk_at dksX0_cut_0 17 rfl rfl)
theorem dX0_cut_18 : decode cX0_cut 18 = .ok (.iload_n 2, 1) := dk_28 (dk_at dksX0_cut_0 18 rfl rfl)
theorem dX0_cut_19 : decode cX0_cut 19 = .ok (.invokevirtual 305, 3) := dk_182 1 49 (dk_at dksX0_cut_0 19 rfl rfl)
theorem dX0_cut_22 : decode cX0_cut 22 = .ok (.ifCond .eq 37, 3) := dk_153 0 37 (dk_at dksX0_cut_1 0 rfl rfl)
theorem dX0_cut_25 : decode cX0_cut 25 = .ok (.iload_n 3, 1) := dk_29 (dk_at dksX0_cut_1 3 rfl rfl)
theorem dX0_cut_26 : decode cX0_cut 26 = .ok (.ifCond .eq 15, 3) := dk_153 0 15 (dk_at dksX0_cut_1 4 rfl rfl)
theorem dX0_cut_29 : decode cX0_cut 29 = .ok (.iload_n 2, 1) := dk_28 (dk_at dksX0_cut_1 7 rfl rfl)
theorem dX0_cut_30 : decode cX0_cut 30 = .ok (.ifCond .eq 29, 3) := dk_153 0 29 (dk_at dksX0_cut_1 8 rfl rfl)
theorem dX0_cut_33 : decode cX0_cut 33 = .ok (.aload_n 0, 1) := dk_42 (dk_at dksX0_cut_1 11 rfl rfl)
theorem dX0_cut_34 : decode cX0_cut 34 = .ok (.iload_n 3, 1) := dk_29 (dk_at dksX0_cut_1 12 rfl rfl)
theorem dX0_cut_35 : decode cX0_cut 35 = .ok (.invokevirtual 305, 3) := dk_182 1 49 (dk_at dksX0_cut_1 13 rfl rfl)
theorem dX0_cut_38 : decode cX0_cut 38 = .ok (.ifCond .eq 21, 3) := dk_153 0 21 (dk_at dksX0_cut_1 16 rfl rfl)
theorem dX0_cut_41 : decode cX0_cut 41 = .ok (.iload 4, 2) := dk_21 4 (dk_at dksX0_cut_1 19 rfl rfl)
theorem dX0_cut_43 : decode cX0_cut 43 = .ok (.ifCond .eq 18, 3) := dk_153 0 18 (dk_at dksX0_cut_1 21 rfl rfl)
theorem dX0_cut_46 : decode cX0_cut 46 = .ok (.iload_n 3, 1) := dk_29 (dk_at dksX0_cut_2 0 rfl rfl)
theorem dX0_cut_47 : decode cX0_cut 47 = .ok (.ifCond .eq 12, 3) := dk_153 0 12 (dk_at dksX0_cut_2 1 rfl rfl)
theorem dX0_cut_50 : decode cX0_cut 50 = .ok (.aload_n 0, 1) := dk_42 (dk_at dksX0_cut_2 4 rfl rfl)
theorem dX0_cut_51 : decode cX0_cut 51 = .ok (.iload 4, 2) := dk_21 4 (dk_at dksX0_cut_2 5 rfl rfl)
theorem dX0_cut_53 : decode cX0_cut 53 = .ok (.invokevirtual 305, 3) := dk_182 1 49 (dk_at dksX0_cut_2 7 rfl rfl)
theorem dX0_cut_56 : decode cX0_cut 56 = .ok (.ifCond .ne 5, 3) := dk_154 0 5 (dk_at dksX0_cut_2 10 rfl rfl)
theorem dX0_cut_59 : decode cX0_cut 59 = .ok (.iconst (-1), 1) := dk_2 (dk_at dksX0_cut_2 13 rfl rfl)
theorem dX0_cut_60 : decode cX0_cut 60 = .ok (.ireturn, 1) := dk_172 (dk_at dksX0_cut_2 14 rfl rfl)
theorem dX0_cut_61 : decode cX0_cut 61 = .ok (.aload_n 0, 1) := dk_42 (dk_at dksX0_cut_2 15 rfl rfl)
theorem dX0_cut_62 : decode cX0_cut 62 = .ok (.ldc_w 308, 3) := dk_19 1 52 (dk_at dksX0_cut_2 16 rfl rfl)
theorem dX0_cut_65 : decode cX0_cut 65 = .ok (.putfield 289, 3) := dk_181 1 33 (dk_at dksX0_cut_2 19 rfl rfl)
theorem dX0_cut_68 : decode cX0_cut 68 = .ok (.iconst 0, 1) := dk_3 (dk_at dksX0_cut_2 22 rfl rfl)
theorem dX0_cut_69 : decode cX0_cut 69 = .ok (.istore 5, 2) := dk_54 5 (dk_at dksX0_cut_3 0 rfl rfl)
theorem dX0_cut_71 : decode cX0_cut 71 = .ok (.iload 5, 2) := dk_21 5 (dk_at dksX0_cut_3 2 rfl rfl)
theorem dX0_cut_73 : decode cX0_cut 73 = .ok (.bipush 8, 2) := dk_16 8 (dk_at dksX0_cut_3 4 rfl rfl)
theorem dX0_cut_75 : decode cX0_cut 75 = .ok (.if_icmp .ge 19, 3) := dk_162 0 19 (dk_at dksX0_cut_3 6 rfl rfl)
theorem dX0_cut_78 : decode cX0_cut 78 = .ok (.aload_n 0, 1) := dk_42 (dk_at dksX0_cut_3 9 rfl rfl)
theorem dX0_cut_79 : decode cX0_cut 79 = .ok (.getfield 96, 3) := dk_180 0 96 (dk_at dksX0_cut_3 10 rfl rfl)
theorem dX0_cut_82 : decode cX0_cut 82 = .ok (.iconst 0, 1) := dk_3 (dk_at dksX0_cut_3 13 rfl rfl)
theorem dX0_cut_83 : decode cX0_cut 83 = .ok (.aaload, 1) := dk_50 (dk_at dksX0_cut_3 14 rfl rfl)
theorem dX0_cut_84 : decode cX0_cut 84 = .ok (.iload 5, 2) := dk_21 5 (dk_at dksX0_cut_3 15 rfl rfl)
theorem dX0_cut_86 : decode cX0_cut 86 = .ok (.iconst 0, 1) := dk_3 (dk_at dksX0_cut_3 17 rfl rfl)
theorem dX0_cut_87 : decode cX0_cut 87 = .ok (.iastore, 1) := dk_79 (dk_at dksX0_cut_3 18 rfl rfl)
theorem dX0_cut_88 : decode cX0_cut 88 = .ok (.iinc 5 1, 3) := dk_132 5 1 (dk_at dksX0_cut_3 19 rfl rfl)
theorem dX0_cut_91 : decode cX0_cut 91 = .ok (.goto (-20), 3) := dk_167 255 236 (dk_at dksX0_cut_4 0 rfl rfl)
theorem dX0_cut_94 : decode cX0_cut 94 = .ok (.aload_n 0, 1) := dk_42 (dk_at dksX0_cut_4 3 rfl rfl)
theorem dX0_cut_95 : decode cX0_cut 95 = .ok (.iconst 0, 1) := dk_3 (dk_at dksX0_cut_4 4 rfl rfl)
theorem dX0_cut_96 : decode cX0_cut 96 = .ok (.iconst 0, 1) := dk_3 (dk_at dksX0_cut_4 5 rfl rfl)
theorem dX0_cut_97 : decode cX0_cut 97 = .ok (.iconst 0, 1) := dk_3 (dk_at dksX0_cut_4 6 rfl rfl)
theorem dX0_cut_98 : decode cX0_cut 98 = .ok (.invokevirtual 298, 3) := dk_182 1 42 (dk_at dksX0_cut_4 7 rfl rfl)
theorem dX0_cut_101 : decode cX0_cut 101 = .ok (.aload_n 0, 1) := dk_42 (dk_at dksX0_cut_4 10 rfl rfl)
theorem dX0_cut_102 : decode cX0_cut 102 = .ok (.getfield 289, 3) := dk_180 1 33 (dk_at dksX0_cut_4 11 rfl rfl)
theorem dX0_cut_105 : decode cX0_cut 105 = .ok (.ireturn, 1) := dk_172 (dk_at dksX0_cut_4 14 rfl rfl)
abbrev cX0_takesCut : ByteArray := prog_1_method_39_code
def yX0_takesCut : MethodName := ⟨RX0, "takesCut", "(I)Z"⟩
def dkwX0_takesCut_1 : List UInt8 := [180, 0, 91, 42, 180, 1, 36, 27, 16, 10, 112, 79, 42, 89, 180, 1, 36, 4, 96, 181, 1, 36, 4, 172]
abbrev dktX0_takesCut_1 : List UInt8 := dkwX0_takesCut_1 ++ []
def dkwX0_takesCut_0 : List UInt8 := [42, 27, 182, 1, 46, 154, 0, 5, 3, 172, 42, 180, 0, 87, 42, 180, 1, 36, 27, 16, 10, 108, 79, 42]
abbrev dktX0_takesCut_0 : List UInt8 := dkwX0_takesCut_0 ++ dktX0_takesCut_1
theorem dksX0_takesCut_0 : cX0_takesCut.data.toList.drop 0 = dktX0_takesCut_0 := by decide +kernel
theorem dksX0_takesCut_1 : cX0_takesCut.data.toList.drop 24 = dktX0_takesCut_1 := dk_seg dksX0_takesCut_0 24 rfl rfl
theorem dX0_takesCut_0 : decode cX0_takesCut 0 = .ok (.aload_n 0, 1) := dk_42 (dk_at dksX0_takesCut_0 0 rfl rfl)
theorem dX0_takesCut_1 : decode cX0_takesCut 1 = .ok (.iload_n 1, 1) := dk_27 (dk_at dksX0_takesCut_0 1 rfl rfl)
theorem dX0_takesCut_2 : decode cX0_takesCut 2 = .ok (.invokevirtual 302, 3) := dk_182 1 46 (dk_at dksX0_takesCut_0 2 rfl rfl)
theorem dX0_takesCut_5 : decode cX0_takesCut 5 = .ok (.ifCond .ne 5, 3) := dk_154 0 5 (dk_at dksX0_takesCut_0 5 rfl rfl)
theorem dX0_takesCut_8 : decode cX0_takesCut 8 = .ok (.iconst 0, 1) := dk_3 (dk_at dksX0_takesCut_0 8 rfl rfl)
theorem dX0_takesCut_9 : decode cX0_takesCut 9 = .ok (.ireturn, 1) := dk_172 (dk_at dksX0_takesCut_0 9 rfl rfl)
theorem dX0_takesCut_10 : decode cX0_takesCut 10 = .ok (.aload_n 0, 1) := dk_42 (dk_at dksX0_takesCut_0 10 rfl rfl)
theorem dX0_takesCut_11 : decode cX0_takesCut 11 = .ok (.getfield 87, 3) := dk_180 0 87 (dk_at dksX0_takesCut_0 11 rfl rfl)
theorem dX0_takesCut_14 : decode cX0_takesCut 14 = .ok (.aload_n 0, 1) := dk_42 (dk_at dksX0_takesCut_0 14 rfl rfl)
theorem dX0_takesCut_15 : decode cX0_takesCut 15 = .ok (.getfield 292, 3) := dk_180 1 36 (dk_at dksX0_takesCut_0 15 rfl rfl)
theorem dX0_takesCut_18 : decode cX0_takesCut 18 = .ok (.iload_n 1, 1) := dk_27 (dk_at dksX0_takesCut_0 18 rfl rfl)
theorem dX0_takesCut_19 : decode cX0_takesCut 19 = .ok (.bipush 10, 2) := dk_16 10 (dk_at dksX0_takesCut_0 19 rfl rfl)
theorem dX0_takesCut_21 : decode cX0_takesCut 21 = .ok (.idiv, 1) := dk_108 (dk_at dksX0_takesCut_0 21 rfl rfl)
theorem dX0_takesCut_22 : decode cX0_takesCut 22 = .ok (.iastore, 1) := dk_79 (dk_at dksX0_takesCut_0 22 rfl rfl)
theorem dX0_takesCut_23 : decode cX0_takesCut 23 = .ok (.aload_n 0, 1) := dk_42 (dk_at dksX0_takesCut_0 23 rfl rfl)
theorem dX0_takesCut_24 : decode cX0_takesCut 24 = .ok (.getfield 91, 3) := dk_180 0 91 (dk_at dksX0_takesCut_1 0 rfl rfl)
theorem dX0_takesCut_27 : decode cX0_takesCut 27 = .ok (.aload_n 0, 1) := dk_42 (dk_at dksX0_takesCut_1 3 rfl rfl)
theorem dX0_takesCut_28 : decode cX0_takesCut 28 = .ok (.getfield 292, 3) := dk_180 1 36 (dk_at dksX0_takesCut_1 4 rfl rfl)
theorem dX0_takesCut_31 : decode cX0_takesCut 31 = .ok (.iload_n 1, 1) := dk_27 (dk_at dksX0_takesCut_1 7 rfl rfl)
theorem dX0_takesCut_32 : decode cX0_takesCut 32 = .ok (.bipush 10, 2) := dk_16 10 (dk_at dksX0_takesCut_1 8 rfl rfl)
theorem dX0_takesCut_34 : decode cX0_takesCut 34 = .ok (.irem, 1) := dk_112 (dk_at dksX0_takesCut_1 10 rfl rfl)
theorem dX0_takesCut_35 : decode cX0_takesCut 35 = .ok (.iastore, 1) := dk_79 (dk_at dksX0_takesCut_1 11 rfl rfl)
theorem dX0_takesCut_36 : decode cX0_takesCut 36 = .ok (.aload_n 0, 1) := dk_42 (dk_at dksX0_takesCut_1 12 rfl rfl)
theorem dX0_takesCut_37 : decode cX0_takesCut 37 = .ok (.dup, 1) := dk_89 (dk_at dksX0_takesCut_1 13 rfl rfl)
theorem dX0_takesCut_38 : decode cX0_takesCut 38 = .ok (.getfield 292, 3) := dk_180 1 36 (dk_at dksX0_takesCut_1 14 rfl rfl)
theorem dX0_takesCut_41 : decode cX0_takesCut 41 = .ok (.iconst 1, 1) := dk_4 (dk_at dksX0_takesCut_1 17 rfl rfl)
theorem dX0_takesCut_42 : decode cX0_takesCut 42 = .ok (.iadd, 1) := dk_96 (dk_at dksX0_takesCut_1 18 rfl rfl)
theorem dX0_takesCut_43 : decode cX0_takesCut 43 = .ok (.putfield 292, 3) := dk_181 1 36 (dk_at dksX0_takesCut_1 19 rfl rfl)
theorem dX0_takesCut_46 : decode cX0_takesCut 46 = .ok (.iconst 1, 1) := dk_4 (dk_at dksX0_takesCut_1 22 rfl rfl)
theorem dX0_takesCut_47 : decode cX0_takesCut 47 = .ok (.ireturn, 1) := dk_172 (dk_at dksX0_takesCut_1 23 rfl rfl)
abbrev cX0_isCut : ByteArray := prog_1_method_38_code
def yX0_isCut : MethodName := ⟨RX0, "isCut", "(I)Z"⟩
def dkwX0_isCut_1 : List UInt8 := [153, 0, 7, 4, 167, 0, 4, 3, 172]
abbrev dktX0_isCut_1 : List UInt8 := dkwX0_isCut_1 ++ []
def dkwX0_isCut_0 : List UInt8 := [27, 16, 10, 108, 4, 16, 8, 184, 0, 158, 153, 0, 20, 27, 16, 10, 112, 4, 16, 6, 184, 0, 158]
abbrev dktX0_isCut_0 : List UInt8 := dkwX0_isCut_0 ++ dktX0_isCut_1
theorem dksX0_isCut_0 : cX0_isCut.data.toList.drop 0 = dktX0_isCut_0 := by decide +kernel
theorem dksX0_isCut_1 : cX0_isCut.data.toList.drop 23 = dktX0_isCut_1 := dk_seg dksX0_isCut_0 23 rfl rfl
theorem dX0_isCut_0 : decode cX0_isCut 0 = .ok (.iload_n 1, 1) := dk_27 (dk_at dksX0_isCut_0 0 rfl rfl)
theorem dX0_isCut_1 : decode cX0_isCut 1 = .ok (.bipush 10, 2) := dk_16 10 (dk_at dksX0_isCut_0 1 rfl rfl)
theorem dX0_isCut_3 : decode cX0_isCut 3 = .ok (.idiv, 1) := dk_108 (dk_at dksX0_isCut_0 3 rfl rfl)
theorem dX0_isCut_4 : decode cX0_isCut 4 = .ok (.iconst 1, 1) := dk_4 (dk_at dksX0_isCut_0 4 rfl rfl)
theorem dX0_isCut_5 : decode cX0_isCut 5 = .ok (.bipush 8, 2) := dk_16 8 (dk_at dksX0_isCut_0 5 rfl rfl)
theorem dX0_isCut_7 : decode cX0_isCut 7 = .ok (.invokestatic 158, 3) := dk_184 0 158 (dk_at dksX0_isCut_0 7 rfl rfl)
theorem dX0_isCut_10 : decode cX0_isCut 10 = .ok (.ifCond .eq 20, 3) := dk_153 0 20 (dk_at dksX0_isCut_0 10 rfl rfl)
theorem dX0_isCut_13 : decode cX0_isCut 13 = .ok (.iload_n 1, 1) := dk_27 (dk_at dksX0_isCut_0 13 rfl rfl)
theorem dX0_isCut_14 : decode cX0_isCut 14 = .ok (.bipush 10, 2) := dk_16 10 (dk_at dksX0_isCut_0 14 rfl rfl)
theorem dX0_isCut_16 : decode cX0_isCut 16 = .ok (.irem, 1) := dk_112 (dk_at dksX0_isCut_0 16 rfl rfl)
theorem dX0_isCut_17 : decode cX0_isCut 17 = .ok (.iconst 1, 1) := dk_4 (dk_at dksX0_isCut_0 17 rfl rfl)
theorem dX0_isCut_18 : decode cX0_isCut 18 = .ok (.bipush 6, 2) := dk_16 6 (dk_at dksX0_isCut_0 18 rfl rfl)
theorem dX0_isCut_20 : decode cX0_isCut 20 = .ok (.invokestatic 158, 3) := dk_184 0 158 (dk_at dksX0_isCut_0 20 rfl rfl)
theorem dX0_isCut_23 : decode cX0_isCut 23 = .ok (.ifCond .eq 7, 3) := dk_153 0 7 (dk_at dksX0_isCut_1 0 rfl rfl)
theorem dX0_isCut_26 : decode cX0_isCut 26 = .ok (.iconst 1, 1) := dk_4 (dk_at dksX0_isCut_1 3 rfl rfl)
theorem dX0_isCut_27 : decode cX0_isCut 27 = .ok (.goto 4, 3) := dk_167 0 4 (dk_at dksX0_isCut_1 4 rfl rfl)
theorem dX0_isCut_30 : decode cX0_isCut 30 = .ok (.iconst 0, 1) := dk_3 (dk_at dksX0_isCut_1 7 rfl rfl)
theorem dX0_isCut_31 : decode cX0_isCut 31 = .ok (.ireturn, 1) := dk_172 (dk_at dksX0_isCut_1 8 rfl rfl)
abbrev cX0_laysCut : ByteArray := prog_1_method_37_code
def yX0_laysCut : MethodName := ⟨RX0, "laysCut", "(III)V"⟩
def dkwX0_laysCut_9 : List UInt8 := [132, 4, 1, 167, 255, 66, 177]
abbrev dktX0_laysCut_9 : List UInt8 := dkwX0_laysCut_9 ++ []
def dkwX0_laysCut_8 : List UInt8 := [21, 6, 42, 180, 0, 91, 21, 4, 46, 96, 184, 1, 39, 182, 1, 42, 132, 5, 1, 167, 255, 97]
abbrev dktX0_laysCut_8 : List UInt8 := dkwX0_laysCut_8 ++ dktX0_laysCut_9
def dkwX0_laysCut_7 : List UInt8 := [27, 50, 21, 7, 46, 79, 132, 7, 1, 167, 255, 191, 42, 27, 4, 96, 28, 4, 21, 4, 120, 128, 29]
abbrev dktX0_laysCut_7 : List UInt8 := dkwX0_laysCut_7 ++ dktX0_laysCut_8
def dkwX0_laysCut_6 : List UInt8 := [21, 4, 46, 96, 162, 0, 16, 21, 6, 42, 180, 0, 91, 21, 4, 46, 96, 167, 0, 12, 42, 180, 0, 96]
abbrev dktX0_laysCut_6 : List UInt8 := dkwX0_laysCut_6 ++ dktX0_laysCut_7
def dkwX0_laysCut_5 : List UInt8 := [180, 0, 96, 27, 4, 96, 50, 21, 7, 21, 7, 21, 5, 161, 0, 31, 21, 7, 21, 5, 42, 180, 0, 87]
abbrev dktX0_laysCut_5 : List UInt8 := dkwX0_laysCut_5 ++ dktX0_laysCut_6
def dkwX0_laysCut_4 : List UInt8 := [96, 46, 184, 1, 39, 54, 6, 132, 7, 1, 167, 255, 222, 3, 54, 7, 21, 7, 16, 8, 162, 0, 64, 42]
abbrev dktX0_laysCut_4 : List UInt8 := dkwX0_laysCut_4 ++ dktX0_laysCut_5
def dkwX0_laysCut_3 : List UInt8 := [21, 7, 42, 180, 0, 87, 21, 4, 46, 162, 0, 28, 21, 6, 42, 180, 0, 96, 27, 50, 21, 5, 21, 7]
abbrev dktX0_laysCut_3 : List UInt8 := dkwX0_laysCut_3 ++ dktX0_laysCut_4
def dkwX0_laysCut_2 : List UInt8 := [3, 54, 5, 21, 5, 42, 180, 0, 87, 21, 4, 46, 96, 16, 8, 163, 0, 150, 3, 54, 6, 3, 54, 7]
abbrev dktX0_laysCut_2 : List UInt8 := dkwX0_laysCut_2 ++ dktX0_laysCut_3
def dkwX0_laysCut_1 : List UInt8 := [54, 4, 21, 4, 42, 180, 1, 36, 162, 0, 187, 28, 21, 4, 122, 4, 126, 4, 160, 0, 6, 167, 0, 168]
abbrev dktX0_laysCut_1 : List UInt8 := dkwX0_laysCut_1 ++ dktX0_laysCut_2
def dkwX0_laysCut_0 : List UInt8 := [29, 42, 180, 1, 33, 161, 0, 4, 177, 27, 42, 180, 1, 36, 160, 0, 9, 42, 29, 181, 1, 33, 177, 3]
abbrev dktX0_laysCut_0 : List UInt8 := dkwX0_laysCut_0 ++ dktX0_laysCut_1
theorem dksX0_laysCut_0 : cX0_laysCut.data.toList.drop 0 = dktX0_laysCut_0 := by decide +kernel
theorem dksX0_laysCut_1 : cX0_laysCut.data.toList.drop 24 = dktX0_laysCut_1 := dk_seg dksX0_laysCut_0 24 rfl rfl
theorem dksX0_laysCut_2 : cX0_laysCut.data.toList.drop 48 = dktX0_laysCut_2 := dk_seg dksX0_laysCut_1 24 rfl rfl
theorem dksX0_laysCut_3 : cX0_laysCut.data.toList.drop 72 = dktX0_laysCut_3 := dk_seg dksX0_laysCut_2 24 rfl rfl
theorem dksX0_laysCut_4 : cX0_laysCut.data.toList.drop 96 = dktX0_laysCut_4 := dk_seg dksX0_laysCut_3 24 rfl rfl
theorem dksX0_laysCut_5 : cX0_laysCut.data.toList.drop 120 = dktX0_laysCut_5 := dk_seg dksX0_laysCut_4 24 rfl rfl
theorem dksX0_laysCut_6 : cX0_laysCut.data.toList.drop 144 = dktX0_laysCut_6 := dk_seg dksX0_laysCut_5 24 rfl rfl
theorem dksX0_laysCut_7 : cX0_laysCut.data.toList.drop 168 = dktX0_laysCut_7 := dk_seg dksX0_laysCut_6 24 rfl rfl
theorem dksX0_laysCut_8 : cX0_laysCut.data.toList.drop 191 = dktX0_laysCut_8 := dk_seg dksX0_laysCut_7 23 rfl rfl
theorem dksX0_laysCut_9 : cX0_laysCut.data.toList.drop 213 = dktX0_laysCut_9 := dk_seg dksX0_laysCut_8 22 rfl rfl
theorem dX0_laysCut_0 : decode cX0_laysCut 0 = .ok (.iload_n 3, 1) := dk_29 (dk_at dksX0_laysCut_0 0 rfl rfl)
theorem dX0_laysCut_1 : decode cX0_laysCut 1 = .ok (.aload_n 0, 1) := dk_42 (dk_at dksX0_laysCut_0 1 rfl rfl)
theorem dX0_laysCut_2 : decode cX0_laysCut 2 = .ok (.getfield 289, 3) := dk_180 1 33 (dk_at dksX0_laysCut_0 2 rfl rfl)
theorem dX0_laysCut_5 : decode cX0_laysCut 5 = .ok (.if_icmp .lt 4, 3) := dk_161 0 4 (dk_at dksX0_laysCut_0 5 rfl rfl)
theorem dX0_laysCut_8 : decode cX0_laysCut 8 = .ok (.return_, 1) := dk_177 (dk_at dksX0_laysCut_0 8 rfl rfl)
theorem dX0_laysCut_9 : decode cX0_laysCut 9 = .ok (.iload_n 1, 1) := dk_27 (dk_at dksX0_laysCut_0 9 rfl rfl)
theorem dX0_laysCut_10 : decode cX0_laysCut 10 = .ok (.aload_n 0, 1) := dk_42 (dk_at dksX0_laysCut_0 10 rfl rfl)
theorem dX0_laysCut_11 : decode cX0_laysCut 11 = .ok (.getfield 292, 3) := dk_180 1 36 (dk_at dksX0_laysCut_0 11 rfl rfl)
theorem dX0_laysCut_14 : decode cX0_laysCut 14 = .ok (.if_icmp .ne 9, 3) := dk_160 0 9 (dk_at dksX0_laysCut_0 14 rfl rfl)
theorem dX0_laysCut_17 : decode cX0_laysCut 17 = .ok (.aload_n 0, 1) := dk_42 (dk_at dksX0_laysCut_0 17 rfl rfl)
theorem dX0_laysCut_18 : decode cX0_laysCut 18 = .ok (.iload_n 3, 1) := dk_29 (dk_at dksX0_laysCut_0 18 rfl rfl)
theorem dX0_laysCut_19 : decode cX0_laysCut 19 = .ok (.putfield 289, 3) := dk_181 1 33 (dk_at dksX0_laysCut_0 19 rfl rfl)
theorem dX0_laysCut_22 : decode cX0_laysCut 22 = .ok (.return_, 1) := dk_177 (dk_at dksX0_laysCut_0 22 rfl rfl)
theorem dX0_laysCut_23 : decode cX0_laysCut 23 = .ok (.iconst 0, 1) := dk_3 (dk_at dksX0_laysCut_0 23 rfl rfl)
theorem dX0_laysCut_24 : decode cX0_laysCut 24 = .ok (.istore 4, 2) := dk_54 4 (dk_at dksX0_laysCut_1 0 rfl rfl)
theorem dX0_laysCut_26 : decode cX0_laysCut 26 = .ok (.iload 4, 2) := dk_21 4 (dk_at dksX0_laysCut_1 2 rfl rfl)
theorem dX0_laysCut_28 : decode cX0_laysCut 28 = .ok (.aload_n 0, 1) := dk_42 (dk_at dksX0_laysCut_1 4 rfl rfl)
theorem dX0_laysCut_29 : decode cX0_laysCut 29 = .ok (.getfield 292, 3) := dk_180 1 36 (dk_at dksX0_laysCut_1 5 rfl rfl)
theorem dX0_laysCut_32 : decode cX0_laysCut 32 = .ok (.if_icmp .ge 187, 3) := dk_162 0 187 (dk_at dksX0_laysCut_1 8 rfl rfl)
theorem dX0_laysCut_35 : decode cX0_laysCut 35 = .ok (.iload_n 2, 1) := dk_28 (dk_at dksX0_laysCut_1 11 rfl rfl)
theorem dX0_laysCut_36 : decode cX0_laysCut 36 = .ok (.iload 4, 2) := dk_21 4 (dk_at dksX0_laysCut_1 12 rfl rfl)
theorem dX0_laysCut_38 : decode cX0_laysCut 38 = .ok (.ishr, 1) := dk_122 (dk_at dksX0_laysCut_1 14 rfl rfl)
theorem dX0_laysCut_39 : decode cX0_laysCut 39 = .ok (.iconst 1, 1) := dk_4 (dk_at dksX0_laysCut_1 15 rfl rfl)
theorem dX0_laysCut_40 : decode cX0_laysCut 40 = .ok (.iand, 1) := dk_126 (dk_at dksX0_laysCut_1 16 rfl rfl)
theorem dX0_laysCut_41 : decode cX0_laysCut 41 = .ok (.iconst 1, 1) := dk_4 (dk_at dksX0_laysCut_1 17 rfl rfl)
theorem dX0_laysCut_42 : decode cX0_laysCut 42 = .ok (.if_icmp .ne 6, 3) := dk_160 0 6 (dk_at dksX0_laysCut_1 18 rfl rfl)
theorem dX0_laysCut_45 : decode cX0_laysCut 45 = .ok (.goto 168, 3) := dk_167 0 168 (dk_at dksX0_laysCut_1 21 rfl rfl)
theorem dX0_laysCut_48 : decode cX0_laysCut 48 = .ok (.iconst 0, 1) := dk_3 (dk_at dksX0_laysCut_2 0 rfl rfl)
theorem dX0_laysCut_49 : decode cX0_laysCut 49 = .ok (.istore 5, 2) := dk_54 5 (dk_at dksX0_laysCut_2 1 rfl rfl)
theorem dX0_laysCut_51 : decode cX0_laysCut 51 = .ok (.iload 5, 2) := dk_21 5 (dk_at dksX0_laysCut_2 3 rfl rfl)
theorem dX0_laysCut_53 : decode cX0_laysCut 53 = .ok (.aload_n 0, 1) := dk_42 (dk_at dksX0_laysCut_2 5 rfl rfl)
theorem dX0_laysCut_54 : decode cX0_laysCut 54 = .ok (.getfield 87, 3) := dk_180 0 87 (dk_at dksX0_laysCut_2 6 rfl rfl)
theorem dX0_laysCut_57 : decode cX0_laysCut 57 = .ok (.iload 4, 2) := dk_21 4 (dk_at dksX0_laysCut_2 9 rfl rfl)
theorem dX0_laysCut_59 : decode cX0_laysCut 59 = .ok (.iaload, 1) := dk_46 (dk_at dksX0_laysCut_2 11 rfl rfl)
theorem dX0_laysCut_60 : decode cX0_laysCut 60 = .ok (.iadd, 1) := dk_96 (dk_at dksX0_laysCut_2 12 rfl rfl)
theorem dX0_laysCut_61 : decode cX0_laysCut 61 = .ok (.bipush 8, 2) := dk_16 8 (dk_at dksX0_laysCut_2 13 rfl rfl)
theorem dX0_laysCut_63 : decode cX0_laysCut 63 = .ok (.if_icmp .gt 150, 3) := dk_163 0 150 (dk_at dksX0_laysCut_2 15 rfl rfl)
theorem dX0_laysCut_66 : decode cX0_laysCut 66 = .ok (.iconst 0, 1) := dk_3 (dk_at dksX0_laysCut_2 18 rfl rfl)
theorem dX0_laysCut_67 : decode cX0_laysCut 67 = .ok (.istore 6, 2) := dk_54 6 (dk_at dksX0_laysCut_2 19 rfl rfl)
theorem dX0_laysCut_69 : decode cX0_laysCut 69 = .ok (.iconst 0, 1) := dk_3 (dk_at dksX0_laysCut_2 21 rfl rfl)
theorem dX0_laysCut_70 : decode cX0_laysCut 70 = .ok (.istore 7, 2) := dk_54 7 (dk_at dksX0_laysCut_2 22 rfl rfl)
theorem dX0_laysCut_72 : decode cX0_laysCut 72 = .ok (.iload 7, 2) := dk_21 7 (dk_at dksX0_laysCut_3 0 rfl rfl)
theorem dX0_laysCut_74 : decode cX0_laysCut 74 = .ok (.aload_n 0, 1) := dk_42 (dk_at dksX0_laysCut_3 2 rfl rfl)
theorem dX0_laysCut_75 : decode cX0_laysCut 75 = .ok (.getfield 87, 3) := dk_180 0 87 (dk_at dksX0_laysCut_3 3 rfl rfl)
theorem dX0_laysCut_78 : decode cX0_laysCut 78 = .ok (.iload 4, 2) := dk_21 4 (dk_at dksX0_laysCut_3 6 rfl rfl)
theorem dX0_laysCut_80 : decode cX0_laysCut 80 = .ok (.iaload, 1) := dk_46 (dk_at dksX0_laysCut_3 8 rfl rfl)
theorem dX0_laysCut_81 : decode cX0_laysCut 81 = .ok (.if_icmp .ge 28, 3) := dk_162 0 28 (dk_at dksX0_laysCut_3 9 rfl rfl)
theorem dX0_laysCut_84 : decode cX0_laysCut 84 = .ok (.iload 6, 2) := dk_21 6 (dk_at dksX0_laysCut_3 12 rfl rfl)
theorem dX0_laysCut_86 : decode cX0_laysCut 86 = .ok (.aload_n 0, 1) := dk_42 (dk_at dksX0_laysCut_3 14 rfl rfl)
theorem dX0_laysCut_87 : decode cX0_laysCut 87 = .ok (.getfield 96, 3) := dk_180 0 96 (dk_at dksX0_laysCut_3 15 rfl rfl)
theorem dX0_laysCut_90 : decode cX0_laysCut 90 = .ok (.iload_n 1, 1) := dk_27 (dk_at dksX0_laysCut_3 18 rfl rfl)
theorem dX0_laysCut_91 : decode cX0_laysCut 91 = .ok (.aaload, 1) := dk_50 (dk_at dksX0_laysCut_3 19 rfl rfl)
theorem dX0_laysCut_92 : decode cX0_laysCut 92 = .ok (.iload 5, 2) := dk_21 5 (dk_at dksX0_laysCut_3 20 rfl rfl)
theorem dX0_laysCut_94 : decode cX0_laysCut 94 = .ok (.iload 7, 2) := dk_21 7 (dk_at dksX0_laysCut_3 22 rfl rfl)
theorem dX0_laysCut_96 : decode cX0_laysCut 96 = .ok (.iadd, 1) := dk_96 (dk_at dksX0_laysCut_4 0 rfl rfl)
theorem dX0_laysCut_97 : decode cX0_laysCut 97 = .ok (.iaload, 1) := dk_46 (dk_at dksX0_laysCut_4 1 rfl rfl)
theorem dX0_laysCut_98 : decode cX0_laysCut 98 = .ok (.invokestatic 295, 3) := dk_184 1 39 (dk_at dksX0_laysCut_4 2 rfl rfl)
theorem dX0_laysCut_101 : decode cX0_laysCut 101 = .ok (.istore 6, 2) := dk_54 6 (dk_at dksX0_laysCut_4 5 rfl rfl)
theorem dX0_laysCut_103 : decode cX0_laysCut 103 = .ok (.iinc 7 1, 3) := dk_132 7 1 (dk_at dksX0_laysCut_4 7 rfl rfl)
theorem dX0_laysCut_106 : decode cX0_laysCut 106 = .ok (.goto (-34), 3) := dk_167 255 222 (dk_at dksX0_laysCut_4 10 rfl rfl)
theorem dX0_laysCut_109 : decode cX0_laysCut 109 = .ok (.iconst 0, 1) := dk_3 (dk_at dksX0_laysCut_4 13 rfl rfl)
theorem dX0_laysCut_110 : decode cX0_laysCut 110 = .ok (.istore 7, 2) := dk_54 7 (dk_at dksX0_laysCut_4 14 rfl rfl)
theorem dX0_laysCut_112 : decode cX0_laysCut 112 = .ok (.iload 7, 2) := dk_21 7 (dk_at dksX0_laysCut_4 16 rfl rfl)
theorem dX0_laysCut_114 : decode cX0_laysCut 114 = .ok (.bipush 8, 2) := dk_16 8 (dk_at dksX0_laysCut_4 18 rfl rfl)
theorem dX0_laysCut_116 : decode cX0_laysCut 116 = .ok (.if_icmp .ge 64, 3) := dk_162 0 64 (dk_at dksX0_laysCut_4 20 rfl rfl)
theorem dX0_laysCut_119 : decode cX0_laysCut 119 = .ok (.aload_n 0, 1) := dk_42 (dk_at dksX0_laysCut_4 23 rfl rfl)
theorem dX0_laysCut_120 : decode cX0_laysCut 120 = .ok (.getfield 96, 3) := dk_180 0 96 (dk_at dksX0_laysCut_5 0 rfl rfl)
theorem dX0_laysCut_123 : decode cX0_laysCut 123 = .ok (.iload_n 1, 1) := dk_27 (dk_at dksX0_laysCut_5 3 rfl rfl)
theorem dX0_laysCut_124 : decode cX0_laysCut 124 = .ok (.iconst 1, 1) := dk_4 (dk_at dksX0_laysCut_5 4 rfl rfl)
theorem dX0_laysCut_125 : decode cX0_laysCut 125 = .ok (.iadd, 1) := dk_96 (dk_at dksX0_laysCut_5 5 rfl rfl)
theorem dX0_laysCut_126 : decode cX0_laysCut 126 = .ok (.aaload, 1) := dk_50 (dk_at dksX0_laysCut_5 6 rfl rfl)
theorem dX0_laysCut_127 : decode cX0_laysCut 127 = .ok (.iload 7, 2) := dk_21 7 (dk_at dksX0_laysCut_5 7 rfl rfl)
theorem dX0_laysCut_129 : decode cX0_laysCut 129 = .ok (.iload 7, 2) := dk_21 7 (dk_at dksX0_laysCut_5 9 rfl rfl)
theorem dX0_laysCut_131 : decode cX0_laysCut 131 = .ok (.iload 5, 2) := dk_21 5 (dk_at dksX0_laysCut_5 11 rfl rfl)
theorem dX0_laysCut_133 : decode cX0_laysCut 133 = .ok (.if_icmp .lt 31, 3) := dk_161 0 31 (dk_at dksX0_laysCut_5 13 rfl rfl)
theorem dX0_laysCut_136 : decode cX0_laysCut 136 = .ok (.iload 7, 2) := dk_21 7 (dk_at dksX0_laysCut_5 16 rfl rfl)
theorem dX0_laysCut_138 : decode cX0_laysCut 138 = .ok (.iload 5, 2) := dk_21 5 (dk_at dksX0_laysCut_5 18 rfl rfl)
theorem dX0_laysCut_140 : decode cX0_laysCut 140 = .ok (.aload_n 0, 1) := dk_42 (dk_at dksX0_laysCut_5 20 rfl rfl)
theorem dX0_laysCut_141 : decode cX0_laysCut 141 = .ok (.getfield 87, 3) := dk_180 0 87 (dk_at dksX0_laysCut_5 21 rfl rfl)
theorem dX0_laysCut_144 : decode cX0_laysCut 144 = .ok (.iload 4, 2) := dk_21 4 (dk_at dksX0_laysCut_6 0 rfl rfl)
theorem dX0_laysCut_146 : decode cX0_laysCut 146 = .ok (.iaload, 1) := dk_46 (dk_at dksX0_laysCut_6 2 rfl rfl)
theorem dX0_laysCut_147 : decode cX0_laysCut 147 = .ok (.iadd, 1) := dk_96 (dk_at dksX0_laysCut_6 3 rfl rfl)
theorem dX0_laysCut_148 : decode cX0_laysCut 148 = .ok (.if_icmp .ge 16, 3) := dk_162 0 16 (dk_at dksX0_laysCut_6 4 rfl rfl)
theorem dX0_laysCut_151 : decode cX0_laysCut 151 = .ok (.iload 6, 2) := dk_21 6 (dk_at dksX0_laysCut_6 7 rfl rfl)
theorem dX0_laysCut_153 : decode cX0_laysCut 153 = .ok (.aload_n 0, 1) := dk_42 (dk_at dksX0_laysCut_6 9 rfl rfl)
theorem dX0_laysCut_154 : decode cX0_laysCut 154 = .ok (.getfield 91, 3) := dk_180 0 91 (dk_at dksX0_laysCut_6 10 rfl rfl)
theorem dX0_laysCut_157 : decode cX0_laysCut 157 = .ok (.iload 4, 2) := dk_21 4 (dk_at dksX0_laysCut_6 13 rfl rfl)
theorem dX0_laysCut_159 : decode cX0_laysCut 159 = .ok (.iaload, 1) := dk_46 (dk_at dksX0_laysCut_6 15 rfl rfl)
theorem dX0_laysCut_160 : decode cX0_laysCut 160 = .ok (.iadd, 1) := dk_96 (dk_at dksX0_laysCut_6 16 rfl rfl)
theorem dX0_laysCut_161 : decode cX0_laysCut 161 = .ok (.goto 12, 3) := dk_167 0 12 (dk_at dksX0_laysCut_6 17 rfl rfl)
theorem dX0_laysCut_164 : decode cX0_laysCut 164 = .ok (.aload_n 0, 1) := dk_42 (dk_at dksX0_laysCut_6 20 rfl rfl)
theorem dX0_laysCut_165 : decode cX0_laysCut 165 = .ok (.getfield 96, 3) := dk_180 0 96 (dk_at dksX0_laysCut_6 21 rfl rfl)
theorem dX0_laysCut_168 : decode cX0_laysCut 168 = .ok (.iload_n 1, 1) := dk_27 (dk_at dksX0_laysCut_7 0 rfl rfl)
theorem dX0_laysCut_169 : decode cX0_laysCut 169 = .ok (.aaload, 1) := dk_50 (dk_at dksX0_laysCut_7 1 rfl rfl)
theorem dX0_laysCut_170 : decode cX0_laysCut 170 = .ok (.iload 7, 2) := dk_21 7 (dk_at dksX0_laysCut_7 2 rfl rfl)
theorem dX0_laysCut_172 : decode cX0_laysCut 172 = .ok (.iaload, 1) := dk_46 (dk_at dksX0_laysCut_7 4 rfl rfl)
theorem dX0_laysCut_173 : decode cX0_laysCut 173 = .ok (.iastore, 1) := dk_79 (dk_at dksX0_laysCut_7 5 rfl rfl)
theorem dX0_laysCut_174 : decode cX0_laysCut 174 = .ok (.iinc 7 1, 3) := dk_132 7 1 (dk_at dksX0_laysCut_7 6 rfl rfl)
theorem dX0_laysCut_177 : decode cX0_laysCut 177 = .ok (.goto (-65), 3) := dk_167 255 191 (dk_at dksX0_laysCut_7 9 rfl rfl)
theorem dX0_laysCut_180 : decode cX0_laysCut 180 = .ok (.aload_n 0, 1) := dk_42 (dk_at dksX0_laysCut_7 12 rfl rfl)
theorem dX0_laysCut_181 : decode cX0_laysCut 181 = .ok (.iload_n 1, 1) := dk_27 (dk_at dksX0_laysCut_7 13 rfl rfl)
theorem dX0_laysCut_182 : decode cX0_laysCut 182 = .ok (.iconst 1, 1) := dk_4 (dk_at dksX0_laysCut_7 14 rfl rfl)
theorem dX0_laysCut_183 : decode cX0_laysCut 183 = .ok (.iadd, 1) := dk_96 (dk_at dksX0_laysCut_7 15 rfl rfl)
theorem dX0_laysCut_184 : decode cX0_laysCut 184 = .ok (.iload_n 2, 1) := dk_28 (dk_at dksX0_laysCut_7 16 rfl rfl)
theorem dX0_laysCut_185 : decode cX0_laysCut 185 = .ok (.iconst 1, 1) := dk_4 (dk_at dksX0_laysCut_7 17 rfl rfl)
theorem dX0_laysCut_186 : decode cX0_laysCut 186 = .ok (.iload 4, 2) := dk_21 4 (dk_at dksX0_laysCut_7 18 rfl rfl)
theorem dX0_laysCut_188 : decode cX0_laysCut 188 = .ok (.ishl, 1) := dk_120 (dk_at dksX0_laysCut_7 20 rfl rfl)
theorem dX0_laysCut_189 : decode cX0_laysCut 189 = .ok (.ior, 1) := dk_128 (dk_at dksX0_laysCut_7 21 rfl rfl)
theorem dX0_laysCut_190 : decode cX0_laysCut 190 = .ok (.iload_n 3, 1) := dk_29 (dk_at dksX0_laysCut_7 22 rfl rfl)
theorem dX0_laysCut_191 : decode cX0_laysCut 191 = .ok (.iload 6, 2) := dk_21 6 (dk_at dksX0_laysCut_8 0 rfl rfl)
theorem dX0_laysCut_193 : decode cX0_laysCut 193 = .ok (.aload_n 0, 1) := dk_42 (dk_at dksX0_laysCut_8 2 rfl rfl)
theorem dX0_laysCut_194 : decode cX0_laysCut 194 = .ok (.getfield 91, 3) := dk_180 0 91 (dk_at dksX0_laysCut_8 3 rfl rfl)
theorem dX0_laysCut_197 : decode cX0_laysCut 197 = .ok (.iload 4, 2) := dk_21 4 (dk_at dksX0_laysCut_8 6 rfl rfl)
theorem dX0_laysCut_199 : decode cX0_laysCut 199 = .ok (.iaload, 1) := dk_46 (dk_at dksX0_laysCut_8 8 rfl rfl)
theorem dX0_laysCut_200 : decode cX0_laysCut 200 = .ok (.iadd, 1) := dk_96 (dk_at dksX0_laysCut_8 9 rfl rfl)
theorem dX0_laysCut_201 : decode cX0_laysCut 201 = .ok (.invokestatic 295, 3) := dk_184 1 39 (dk_at dksX0_laysCut_8 10 rfl rfl)
theorem dX0_laysCut_204 : decode cX0_laysCut 204 = .ok (.invokevirtual 298, 3) := dk_182 1 42 (dk_at dksX0_laysCut_8 13 rfl rfl)
theorem dX0_laysCut_207 : decode cX0_laysCut 207 = .ok (.iinc 5 1, 3) := dk_132 5 1 (dk_at dksX0_laysCut_8 16 rfl rfl)
theorem dX0_laysCut_210 : decode cX0_laysCut 210 = .ok (.goto (-159), 3) := dk_167 255 97 (dk_at dksX0_laysCut_8 19 rfl rfl)
theorem dX0_laysCut_213 : decode cX0_laysCut 213 = .ok (.iinc 4 1, 3) := dk_132 4 1 (dk_at dksX0_laysCut_9 0 rfl rfl)
theorem dX0_laysCut_216 : decode cX0_laysCut 216 = .ok (.goto (-190), 3) := dk_167 255 66 (dk_at dksX0_laysCut_9 3 rfl rfl)
theorem dX0_laysCut_219 : decode cX0_laysCut 219 = .ok (.return_, 1) := dk_177 (dk_at dksX0_laysCut_9 6 rfl rfl)
abbrev cX0_then : ByteArray := prog_1_method_41_code
def yX0_then : MethodName := ⟨RX0, "then", "(III)I"⟩
def dkwX0_then_2 : List UInt8 := [180, 0, 186, 28, 16, 8, 104, 27, 96, 46, 172]
abbrev dktX0_then_2 : List UInt8 := dkwX0_then_2 ++ []
def dkwX0_then_1 : List UInt8 := [42, 180, 0, 55, 42, 180, 0, 51, 182, 0, 237, 42, 42, 180, 0, 55, 29, 182, 1, 10, 42, 180, 0, 55]
abbrev dktX0_then_1 : List UInt8 := dkwX0_then_1 ++ dktX0_then_2
def dkwX0_then_0 : List UInt8 := [42, 180, 0, 40, 27, 28, 182, 0, 179, 153, 0, 13, 29, 3, 16, 60, 184, 0, 158, 154, 0, 5, 2, 172]
abbrev dktX0_then_0 : List UInt8 := dkwX0_then_0 ++ dktX0_then_1
theorem dksX0_then_0 : cX0_then.data.toList.drop 0 = dktX0_then_0 := by decide +kernel
theorem dksX0_then_1 : cX0_then.data.toList.drop 24 = dktX0_then_1 := dk_seg dksX0_then_0 24 rfl rfl
theorem dksX0_then_2 : cX0_then.data.toList.drop 48 = dktX0_then_2 := dk_seg dksX0_then_1 24 rfl rfl
theorem dX0_then_0 : decode cX0_then 0 = .ok (.aload_n 0, 1) := dk_42 (dk_at dksX0_then_0 0 rfl rfl)
theorem dX0_then_1 : decode cX0_then 1 = .ok (.getfield 40, 3) := dk_180 0 40 (dk_at dksX0_then_0 1 rfl rfl)
theorem dX0_then_4 : decode cX0_then 4 = .ok (.iload_n 1, 1) := dk_27 (dk_at dksX0_then_0 4 rfl rfl)
theorem dX0_then_5 : decode cX0_then 5 = .ok (.iload_n 2, 1) := dk_28 (dk_at dksX0_then_0 5 rfl rfl)
theorem dX0_then_6 : decode cX0_then 6 = .ok (.invokevirtual 179, 3) := dk_182 0 179 (dk_at dksX0_then_0 6 rfl rfl)
theorem dX0_then_9 : decode cX0_then 9 = .ok (.ifCond .eq 13, 3) := dk_153 0 13 (dk_at dksX0_then_0 9 rfl rfl)
theorem dX0_then_12 : decode cX0_then 12 = .ok (.iload_n 3, 1) := dk_29 (dk_at dksX0_then_0 12 rfl rfl)
theorem dX0_then_13 : decode cX0_then 13 = .ok (.iconst 0, 1) := dk_3 (dk_at dksX0_then_0 13 rfl rfl)
theorem dX0_then_14 : decode cX0_then 14 = .ok (.bipush 60, 2) := dk_16 60 (dk_at dksX0_then_0 14 rfl rfl)
theorem dX0_then_16 : decode cX0_then 16 = .ok (.invokestatic 158, 3) := dk_184 0 158 (dk_at dksX0_then_0 16 rfl rfl)
theorem dX0_then_19 : decode cX0_then 19 = .ok (.ifCond .ne 5, 3) := dk_154 0 5 (dk_at dksX0_then_0 19 rfl rfl)
theorem dX0_then_22 : decode cX0_then 22 = .ok (.iconst (-1), 1) := dk_2 (dk_at dksX0_then_0 22 rfl rfl)
theorem dX0_then_23 : decode cX0_then 23 = .ok (.ireturn, 1) := dk_172 (dk_at dksX0_then_0 23 rfl rfl)
theorem dX0_then_24 : decode cX0_then 24 = .ok (.aload_n 0, 1) := dk_42 (dk_at dksX0_then_1 0 rfl rfl)
theorem dX0_then_25 : decode cX0_then 25 = .ok (.getfield 55, 3) := dk_180 0 55 (dk_at dksX0_then_1 1 rfl rfl)
theorem dX0_then_28 : decode cX0_then 28 = .ok (.aload_n 0, 1) := dk_42 (dk_at dksX0_then_1 4 rfl rfl)
theorem dX0_then_29 : decode cX0_then 29 = .ok (.getfield 51, 3) := dk_180 0 51 (dk_at dksX0_then_1 5 rfl rfl)
theorem dX0_then_32 : decode cX0_then 32 = .ok (.invokevirtual 237, 3) := dk_182 0 237 (dk_at dksX0_then_1 8 rfl rfl)
theorem dX0_then_35 : decode cX0_then 35 = .ok (.aload_n 0, 1) := dk_42 (dk_at dksX0_then_1 11 rfl rfl)
theorem dX0_then_36 : decode cX0_then 36 = .ok (.aload_n 0, 1) := dk_42 (dk_at dksX0_then_1 12 rfl rfl)
theorem dX0_then_37 : decode cX0_then 37 = .ok (.getfield 55, 3) := dk_180 0 55 (dk_at dksX0_then_1 13 rfl rfl)
theorem dX0_then_40 : decode cX0_then 40 = .ok (.iload_n 3, 1) := dk_29 (dk_at dksX0_then_1 16 rfl rfl)
theorem dX0_then_41 : decode cX0_then 41 = .ok (.invokevirtual 266, 3) := dk_182 1 10 (dk_at dksX0_then_1 17 rfl rfl)
theorem dX0_then_44 : decode cX0_then 44 = .ok (.aload_n 0, 1) := dk_42 (dk_at dksX0_then_1 20 rfl rfl)
theorem dX0_then_45 : decode cX0_then 45 = .ok (.getfield 55, 3) := dk_180 0 55 (dk_at dksX0_then_1 21 rfl rfl)
theorem dX0_then_48 : decode cX0_then 48 = .ok (.getfield 186, 3) := dk_180 0 186 (dk_at dksX0_then_2 0 rfl rfl)
theorem dX0_then_51 : decode cX0_then 51 = .ok (.iload_n 2, 1) := dk_28 (dk_at dksX0_then_2 3 rfl rfl)
theorem dX0_then_52 : decode cX0_then 52 = .ok (.bipush 8, 2) := dk_16 8 (dk_at dksX0_then_2 4 rfl rfl)
theorem dX0_then_54 : decode cX0_then 54 = .ok (.imul, 1) := dk_104 (dk_at dksX0_then_2 6 rfl rfl)
theorem dX0_then_55 : decode cX0_then 55 = .ok (.iload_n 1, 1) := dk_27 (dk_at dksX0_then_2 7 rfl rfl)
theorem dX0_then_56 : decode cX0_then 56 = .ok (.iadd, 1) := dk_96 (dk_at dksX0_then_2 8 rfl rfl)
theorem dX0_then_57 : decode cX0_then 57 = .ok (.iaload, 1) := dk_46 (dk_at dksX0_then_2 9 rfl rfl)
theorem dX0_then_58 : decode cX0_then 58 = .ok (.ireturn, 1) := dk_172 (dk_at dksX0_then_2 10 rfl rfl)
abbrev cX0_all : ByteArray := prog_1_method_42_code
def yX0_all : MethodName := ⟨RX0, "all", "(II)I"⟩
def dkwX0_all_4 : List UInt8 := [42, 180, 0, 51, 180, 0, 204, 184, 1, 56, 100, 172]
abbrev dktX0_all_4 : List UInt8 := dkwX0_all_4 ++ []
def dkwX0_all_3 : List UInt8 := [42, 180, 0, 51, 180, 0, 201, 184, 1, 56, 100, 167, 0, 24, 42, 180, 0, 55, 180, 0, 204, 184, 1, 56]
abbrev dktX0_all_3 : List UInt8 := dkwX0_all_3 ++ dktX0_all_4
def dkwX0_all_2 : List UInt8 := [42, 180, 0, 55, 180, 1, 53, 167, 0, 52, 28, 154, 0, 27, 42, 180, 0, 55, 180, 0, 201, 184, 1, 56]
abbrev dktX0_all_2 : List UInt8 := dkwX0_all_2 ++ dktX0_all_3
def dkwX0_all_1 : List UInt8 := [180, 0, 55, 42, 180, 0, 51, 182, 0, 237, 42, 42, 180, 0, 55, 27, 182, 1, 10, 28, 5, 160, 0, 13]
abbrev dktX0_all_1 : List UInt8 := dkwX0_all_1 ++ dktX0_all_2
def dkwX0_all_0 : List UInt8 := [27, 3, 16, 60, 184, 0, 158, 153, 0, 12, 28, 3, 5, 184, 0, 158, 154, 0, 5, 2, 172, 42]
abbrev dktX0_all_0 : List UInt8 := dkwX0_all_0 ++ dktX0_all_1
theorem dksX0_all_0 : cX0_all.data.toList.drop 0 = dktX0_all_0 := by decide +kernel
theorem dksX0_all_1 : cX0_all.data.toList.drop 22 = dktX0_all_1 := dk_seg dksX0_all_0 22 rfl rfl
theorem dksX0_all_2 : cX0_all.data.toList.drop 46 = dktX0_all_2 := dk_seg dksX0_all_1 24 rfl rfl
theorem dksX0_all_3 : cX0_all.data.toList.drop 70 = dktX0_all_3 := dk_seg dksX0_all_2 24 rfl rfl
theorem dksX0_all_4 : cX0_all.data.toList.drop 94 = dktX0_all_4 := dk_seg dksX0_all_3 24 rfl rfl
theorem dX0_all_0 : decode cX0_all 0 = .ok (.iload_n 1, 1) := dk_27 (dk_at dksX0_all_0 0 rfl rfl)
theorem dX0_all_1 : decode cX0_all 1 = .ok (.iconst 0, 1) := dk_3 (dk_at dksX0_all_0 1 rfl rfl)
theorem dX0_all_2 : decode cX0_all 2 = .ok (.bipush 60, 2) := dk_16 60 (dk_at dksX0_all_0 2 rfl rfl)
theorem dX0_all_4 : decode cX0_all 4 = .ok (.invokestatic 158, 3) := dk_184 0 158 (dk_at dksX0_all_0 4 rfl rfl)
theorem dX0_all_7 : decode cX0_all 7 = .ok (.ifCond .eq 12, 3) := dk_153 0 12 (dk_at dksX0_all_0 7 rfl rfl)
theorem dX0_all_10 : decode cX0_all 10 = .ok (.iload_n 2, 1) := dk_28 (dk_at dksX0_all_0 10 rfl rfl)
theorem dX0_all_11 : decode cX0_all 11 = .ok (.iconst 0, 1) := dk_3 (dk_at dksX0_all_0 11 rfl rfl)
theorem dX0_all_12 : decode cX0_all 12 = .ok (.iconst 2, 1) := dk_5 (dk_at dksX0_all_0 12 rfl rfl)
theorem dX0_all_13 : decode cX0_all 13 = .ok (.invokestatic 158, 3) := dk_184 0 158 (dk_at dksX0_all_0 13 rfl rfl)
theorem dX0_all_16 : decode cX0_all 16 = .ok (.ifCond .ne 5, 3) := dk_154 0 5 (dk_at dksX0_all_0 16 rfl rfl)
theorem dX0_all_19 : decode cX0_all 19 = .ok (.iconst (-1), 1) := dk_2 (dk_at dksX0_all_0 19 rfl rfl)
theorem dX0_all_20 : decode cX0_all 20 = .ok (.ireturn, 1) := dk_172 (dk_at dksX0_all_0 20 rfl rfl)
theorem dX0_all_21 : decode cX0_all 21 = .ok (.aload_n 0, 1) := dk_42 (dk_at dksX0_all_0 21 rfl rfl)
theorem dX0_all_22 : decode cX0_all 22 = .ok (.getfield 55, 3) := dk_180 0 55 (dk_at dksX0_all_1 0 rfl rfl)
theorem dX0_all_25 : decode cX0_all 25 = .ok (.aload_n 0, 1) := dk_42 (dk_at dksX0_all_1 3 rfl rfl)
theorem dX0_all_26 : decode cX0_all 26 = .ok (.getfield 51, 3) := dk_180 0 51 (dk_at dksX0_all_1 4 rfl rfl)
theorem dX0_all_29 : decode cX0_all 29 = .ok (.invokevirtual 237, 3) := dk_182 0 237 (dk_at dksX0_all_1 7 rfl rfl)
theorem dX0_all_32 : decode cX0_all 32 = .ok (.aload_n 0, 1) := dk_42 (dk_at dksX0_all_1 10 rfl rfl)
theorem dX0_all_33 : decode cX0_all 33 = .ok (.aload_n 0, 1) := dk_42 (dk_at dksX0_all_1 11 rfl rfl)
theorem dX0_all_34 : decode cX0_all 34 = .ok (.getfield 55, 3) := dk_180 0 55 (dk_at dksX0_all_1 12 rfl rfl)
theorem dX0_all_37 : decode cX0_all 37 = .ok (.iload_n 1, 1) := dk_27 (dk_at dksX0_all_1 15 rfl rfl)
theorem dX0_all_38 : decode cX0_all 38 = .ok (.invokevirtual 266, 3) := dk_182 1 10 (dk_at dksX0_all_1 16 rfl rfl)
theorem dX0_all_41 : decode cX0_all 41 = .ok (.iload_n 2, 1) := dk_28 (dk_at dksX0_all_1 19 rfl rfl)
theorem dX0_all_42 : decode cX0_all 42 = .ok (.iconst 2, 1) := dk_5 (dk_at dksX0_all_1 20 rfl rfl)
theorem dX0_all_43 : decode cX0_all 43 = .ok (.if_icmp .ne 13, 3) := dk_160 0 13 (dk_at dksX0_all_1 21 rfl rfl)
theorem dX0_all_46 : decode cX0_all 46 = .ok (.aload_n 0, 1) := dk_42 (dk_at dksX0_all_2 0 rfl rfl)
theorem dX0_all_47 : decode cX0_all 47 = .ok (.getfield 55, 3) := dk_180 0 55 (dk_at dksX0_all_2 1 rfl rfl)
theorem dX0_all_50 : decode cX0_all 50 = .ok (.getfield 309, 3) := dk_180 1 53 (dk_at dksX0_all_2 4 rfl rfl)
theorem dX0_all_53 : decode cX0_all 53 = .ok (.goto 52, 3) := dk_167 0 52 (dk_at dksX0_all_2 7 rfl rfl)
theorem dX0_all_56 : decode cX0_all 56 = .ok (.iload_n 2, 1) := dk_28 (dk_at dksX0_all_2 10 rfl rfl)
theorem dX0_all_57 : decode cX0_all 57 = .ok (.ifCond .ne 27, 3) := dk_154 0 27 (dk_at dksX0_all_2 11 rfl rfl)
theorem dX0_all_60 : decode cX0_all 60 = .ok (.aload_n 0, 1) := dk_42 (dk_at dksX0_all_2 14 rfl rfl)
theorem dX0_all_61 : decode cX0_all 61 = .ok (.getfield 55, 3) := dk_180 0 55 (dk_at dksX0_all_2 15 rfl rfl)
theorem dX0_all_64 : decode cX0_all 64 = .ok (.getfield 201, 3) := dk_180 0 201 (dk_at dksX0_all_2 18 rfl rfl)
theorem dX0_all_67 : decode cX0_all 67 = .ok (.invokestatic 312, 3) := dk_184 1 56 (dk_at dksX0_all_2 21 rfl rfl)
theorem dX0_all_70 : decode cX0_all 70 = .ok (.aload_n 0, 1) := dk_42 (dk_at dksX0_all_3 0 rfl rfl)
theorem dX0_all_71 : decode cX0_all 71 = .ok (.getfield 51, 3) := dk_180 0 51 (dk_at dksX0_all_3 1 rfl rfl)
theorem dX0_all_74 : decode cX0_all 74 = .ok (.getfield 201, 3) := dk_180 0 201 (dk_at dksX0_all_3 4 rfl rfl)
theorem dX0_all_77 : decode cX0_all 77 = .ok (.invokestatic 312, 3) := dk_184 1 56 (dk_at dksX0_all_3 7 rfl rfl)
theorem dX0_all_80 : decode cX0_all 80 = .ok (.isub, 1) := dk_100 (dk_at dksX0_all_3 10 rfl rfl)
theorem dX0_all_81 : decode cX0_all 81 = .ok (.goto 24, 3) := dk_167 0 24 (dk_at dksX0_all_3 11 rfl rfl)
theorem dX0_all_84 : decode cX0_all 84 = .ok (.aload_n 0, 1) := dk_42 (dk_at dksX0_all_3 14 rfl rfl)
theorem dX0_all_85 : decode cX0_all 85 = .ok (.getfield 55, 3) := dk_180 0 55 (dk_at dksX0_all_3 15 rfl rfl)
theorem dX0_all_88 : decode cX0_all 88 = .ok (.getfield 204, 3) := dk_180 0 204 (dk_at dksX0_all_3 18 rfl rfl)
theorem dX0_all_91 : decode cX0_all 91 = .ok (.invokestatic 312, 3) := dk_184 1 56 (dk_at dksX0_all_3 21 rfl rfl)
theorem dX0_all_94 : decode cX0_all 94 = .ok (.aload_n 0, 1) := dk_42 (dk_at dksX0_all_4 0 rfl rfl)
theorem dX0_all_95 : decode cX0_all 95 = .ok (.getfield 51, 3) := dk_180 0 51 (dk_at dksX0_all_4 1 rfl rfl)
theorem dX0_all_98 : decode cX0_all 98 = .ok (.getfield 204, 3) := dk_180 0 204 (dk_at dksX0_all_4 4 rfl rfl)
theorem dX0_all_101 : decode cX0_all 101 = .ok (.invokestatic 312, 3) := dk_184 1 56 (dk_at dksX0_all_4 7 rfl rfl)
theorem dX0_all_104 : decode cX0_all 104 = .ok (.isub, 1) := dk_100 (dk_at dksX0_all_4 10 rfl rfl)
theorem dX0_all_105 : decode cX0_all 105 = .ok (.ireturn, 1) := dk_172 (dk_at dksX0_all_4 11 rfl rfl)
abbrev cX0_wettest : ByteArray := prog_1_method_43_code
def yX0_wettest : MethodName := ⟨RX0, "wettest", "(II)I"⟩
def dkwX0_wettest_6 : List UInt8 := [172]
abbrev dktX0_wettest_6 : List UInt8 := dkwX0_wettest_6 ++ []
def dkwX0_wettest_5 : List UInt8 := [180, 0, 186, 29, 46, 167, 0, 19, 28, 4, 160, 0, 10, 29, 16, 8, 112, 167, 0, 7, 29, 16, 8, 108]
abbrev dktX0_wettest_5 : List UInt8 := dkwX0_wettest_5 ++ dktX0_wettest_6
def dkwX0_wettest_4 : List UInt8 := [132, 4, 1, 167, 255, 205, 29, 156, 0, 8, 16, 254, 167, 0, 35, 28, 154, 0, 15, 42, 180, 0, 55]
abbrev dktX0_wettest_4 : List UInt8 := dkwX0_wettest_4 ++ dktX0_wettest_5
def dkwX0_wettest_3 : List UInt8 := [180, 0, 55, 180, 0, 186, 21, 4, 46, 42, 180, 0, 55, 180, 0, 186, 29, 46, 164, 0, 6, 21, 4, 62]
abbrev dktX0_wettest_3 : List UInt8 := dkwX0_wettest_3 ++ dktX0_wettest_4
def dkwX0_wettest_2 : List UInt8 := [21, 4, 16, 48, 162, 0, 50, 42, 180, 0, 40, 21, 4, 182, 0, 198, 153, 0, 32, 29, 155, 0, 25, 42]
abbrev dktX0_wettest_2 : List UInt8 := dkwX0_wettest_2 ++ dktX0_wettest_3
def dkwX0_wettest_1 : List UInt8 := [42, 180, 0, 55, 42, 180, 0, 51, 182, 0, 237, 42, 42, 180, 0, 55, 27, 182, 1, 10, 3, 54, 4]
abbrev dktX0_wettest_1 : List UInt8 := dkwX0_wettest_1 ++ dktX0_wettest_2
def dkwX0_wettest_0 : List UInt8 := [27, 3, 16, 60, 184, 0, 158, 153, 0, 12, 28, 3, 5, 184, 0, 158, 154, 0, 5, 2, 172, 16, 254, 62]
abbrev dktX0_wettest_0 : List UInt8 := dkwX0_wettest_0 ++ dktX0_wettest_1
theorem dksX0_wettest_0 : cX0_wettest.data.toList.drop 0 = dktX0_wettest_0 := by decide +kernel
theorem dksX0_wettest_1 : cX0_wettest.data.toList.drop 24 = dktX0_wettest_1 := dk_seg dksX0_wettest_0 24 rfl rfl
theorem dksX0_wettest_2 : cX0_wettest.data.toList.drop 47 = dktX0_wettest_2 := dk_seg dksX0_wettest_1 23 rfl rfl
theorem dksX0_wettest_3 : cX0_wettest.data.toList.drop 71 = dktX0_wettest_3 := dk_seg dksX0_wettest_2 24 rfl rfl
theorem dksX0_wettest_4 : cX0_wettest.data.toList.drop 95 = dktX0_wettest_4 := dk_seg dksX0_wettest_3 24 rfl rfl
theorem dksX0_wettest_5 : cX0_wettest.data.toList.drop 118 = dktX0_wettest_5 := dk_seg dksX0_wettest_4 23 rfl rfl
theorem dksX0_wettest_6 : cX0_wettest.data.toList.drop 142 = dktX0_wettest_6 := dk_seg dksX0_wettest_5 24 rfl rfl
theorem dX0_wettest_0 : decode cX0_wettest 0 = .ok (.iload_n 1, 1) := dk_27 (dk_at dksX0_wettest_0 0 rfl rfl)
theorem dX0_wettest_1 : decode cX0_wettest 1 = .ok (.iconst 0, 1) := dk_3 (dk_at dksX0_wettest_0 1 rfl rfl)
theorem dX0_wettest_2 : decode cX0_wettest 2 = .ok (.bipush 60, 2) := dk_16 60 (dk_at dksX0_wettest_0 2 rfl rfl)
theorem dX0_wettest_4 : decode cX0_wettest 4 = .ok (.invokestatic 158, 3) := dk_184 0 158 (dk_at dksX0_wettest_0 4 rfl rfl)
theorem dX0_wettest_7 : decode cX0_wettest 7 = .ok (.ifCond .eq 12, 3) := dk_153 0 12 (dk_at dksX0_wettest_0 7 rfl rfl)
theorem dX0_wettest_10 : decode cX0_wettest 10 = .ok (.iload_n 2, 1) := dk_28 (dk_at dksX0_wettest_0 10 rfl rfl)
theorem dX0_wettest_11 : decode cX0_wettest 11 = .ok (.iconst 0, 1) := dk_3 (dk_at dksX0_wettest_0 11 rfl rfl)
theorem dX0_wettest_12 : decode cX0_wettest 12 = .ok (.iconst 2, 1) := dk_5 (dk_at dksX0_wettest_0 12 rfl rfl)
theorem dX0_wettest_13 : decode cX0_wettest 13 = .ok (.invokestatic 158, 3) := dk_184 0 158 (dk_at dksX0_wettest_0 13 rfl rfl)
theorem dX0_wettest_16 : decode cX0_wettest 16 = .ok (.ifCond .ne 5, 3) := dk_154 0 5 (dk_at dksX0_wettest_0 16 rfl rfl)
theorem dX0_wettest_19 : decode cX0_wettest 19 = .ok (.iconst (-1), 1) := dk_2 (dk_at dksX0_wettest_0 19 rfl rfl)
theorem dX0_wettest_20 : decode cX0_wettest 20 = .ok (.ireturn, 1) := dk_172 (dk_at dksX0_wettest_0 20 rfl rfl)
theorem dX0_wettest_21 : decode cX0_wettest 21 = .ok (.bipush (-2), 2) := dk_16 254 (dk_at dksX0_wettest_0 21 rfl rfl)
theorem dX0_wettest_23 : decode cX0_wettest 23 = .ok (.istore_n 3, 1) := dk_62 (dk_at dksX0_wettest_0 23 rfl rfl)
theorem dX0_wettest_24 : decode cX0_wettest 24 = .ok (.aload_n 0, 1) := dk_42 (dk_at dksX0_wettest_1 0 rfl rfl)
theorem dX0_wettest_25 : decode cX0_wettest 25 = .ok (.getfield 55, 3) := dk_180 0 55 (dk_at dksX0_wettest_1 1 rfl rfl)
theorem dX0_wettest_28 : decode cX0_wettest 28 = .ok (.aload_n 0, 1) := dk_42 (dk_at dksX0_wettest_1 4 rfl rfl)
theorem dX0_wettest_29 : decode cX0_wettest 29 = .ok (.getfield 51, 3) := dk_180 0 51 (dk_at dksX0_wettest_1 5 rfl rfl)
theorem dX0_wettest_32 : decode cX0_wettest 32 = .ok (.invokevirtual 237, 3) := dk_182 0 237 (dk_at dksX0_wettest_1 8 rfl rfl)
theorem dX0_wettest_35 : decode cX0_wettest 35 = .ok (.aload_n 0, 1) := dk_42 (dk_at dksX0_wettest_1 11 rfl rfl)
theorem dX0_wettest_36 : decode cX0_wettest 36 = .ok (.aload_n 0, 1) := dk_42 (dk_at dksX0_wettest_1 12 rfl rfl)
theorem dX0_wettest_37 : decode cX0_wettest 37 = .ok (.getfield 55, 3) := dk_180 0 55 (dk_at dksX0_wettest_1 13 rfl rfl)
theorem dX0_wettest_40 : decode cX0_wettest 40 = .ok (.iload_n 1, 1) := dk_27 (dk_at dksX0_wettest_1 16 rfl rfl)
theorem dX0_wettest_41 : decode cX0_wettest 41 = .ok (.invokevirtual 266, 3) := dk_182 1 10 (dk_at dksX0_wettest_1 17 rfl rfl)
theorem dX0_wettest_44 : decode cX0_wettest 44 = .ok (.iconst 0, 1) := dk_3 (dk_at dksX0_wettest_1 20 rfl rfl)
theorem dX0_wettest_45 : decode cX0_wettest 45 = .ok (.istore 4, 2) := dk_54 4 (dk_at dksX0_wettest_1 21 rfl rfl)
theorem dX0_wettest_47 : decode cX0_wettest 47 = .ok (.iload 4, 2) := dk_21 4 (dk_at dksX0_wettest_2 0 rfl rfl)
theorem dX0_wettest_49 : decode cX0_wettest 49 = .ok (.bipush 48, 2) := dk_16 48 (dk_at dksX0_wettest_2 2 rfl rfl)
theorem dX0_wettest_51 : decode cX0_wettest 51 = .ok (.if_icmp .ge 50, 3) := dk_162 0 50 (dk_at dksX0_wettest_2 4 rfl rfl)
theorem dX0_wettest_54 : decode cX0_wettest 54 = .ok (.aload_n 0, 1) := dk_42 (dk_at dksX0_wettest_2 7 rfl rfl)
theorem dX0_wettest_55 : decode cX0_wettest 55 = .ok (.getfield 40, 3) := dk_180 0 40 (dk_at dksX0_wettest_2 8 rfl rfl)
theorem dX0_wettest_58 : decode cX0_wettest 58 = .ok (.iload 4, 2) := dk_21 4 (dk_at dksX0_wettest_2 11 rfl rfl)
theorem dX0_wettest_60 : decode cX0_wettest 60 = .ok (.invokevirtual 198, 3) := dk_182 0 198 (dk_at dksX0_wettest_2 13 rfl rfl)
theorem dX0_wettest_63 : decode cX0_wettest 63 = .ok (.ifCond .eq 32, 3) := dk_153 0 32 (dk_at dksX0_wettest_2 16 rfl rfl)
theorem dX0_wettest_66 : decode cX0_wettest 66 = .ok (.iload_n 3, 1) := dk_29 (dk_at dksX0_wettest_2 19 rfl rfl)
theorem dX0_wettest_67 : decode cX0_wettest 67 = .ok (.ifCond .lt 25, 3) := dk_155 0 25 (dk_at dksX0_wettest_2 20 rfl rfl)
theorem dX0_wettest_70 : decode cX0_wettest 70 = .ok (.aload_n 0, 1) := dk_42 (dk_at dksX0_wettest_2 23 rfl rfl)
theorem dX0_wettest_71 : decode cX0_wettest 71 = .ok (.getfield 55, 3) := dk_180 0 55 (dk_at dksX0_wettest_3 0 rfl rfl)
theorem dX0_wettest_74 : decode cX0_wettest 74 = .ok (.getfield 186, 3) := dk_180 0 186 (dk_at dksX0_wettest_3 3 rfl rfl)
theorem dX0_wettest_77 : decode cX0_wettest 77 = .ok (.iload 4, 2) := dk_21 4 (dk_at dksX0_wettest_3 6 rfl rfl)
theorem dX0_wettest_79 : decode cX0_wettest 79 = .ok (.iaload, 1) := dk_46 (dk_at dksX0_wettest_3 8 rfl rfl)
theorem dX0_wettest_80 : decode cX0_wettest 80 = .ok (.aload_n 0, 1) := dk_42 (dk_at dksX0_wettest_3 9 rfl rfl)
theorem dX0_wettest_81 : decode cX0_wettest 81 = .ok (.getfield 55, 3) := dk_180 0 55 (dk_at dksX0_wettest_3 10 rfl rfl)
theorem dX0_wettest_84 : decode cX0_wettest 84 = .ok (.getfield 186, 3) := dk_180 0 186 (dk_at dksX0_wettest_3 13 rfl rfl)
theorem dX0_wettest_87 : decode cX0_wettest 87 = .ok (.iload_n 3, 1) := dk_29 (dk_at dksX0_wettest_3 16 rfl rfl)
theorem dX0_wettest_88 : decode cX0_wettest 88 = .ok (.iaload, 1) := dk_46 (dk_at dksX0_wettest_3 17 rfl rfl)
theorem dX0_wettest_89 : decode cX0_wettest 89 = .ok (.if_icmp .le 6, 3) := dk_164 0 6 (dk_at dksX0_wettest_3 18 rfl rfl)
theorem dX0_wettest_92 : decode cX0_wettest 92 = .ok (.iload 4, 2) := dk_21 4 (dk_at dksX0_wettest_3 21 rfl rfl)
theorem dX0_wettest_94 : decode cX0_wettest 94 = .ok (.istore_n 3, 1) := dk_62 (dk_at dksX0_wettest_3 23 rfl rfl)
theorem dX0_wettest_95 : decode cX0_wettest 95 = .ok (.iinc 4 1, 3) := dk_132 4 1 (dk_at dksX0_wettest_4 0 rfl rfl)
theorem dX0_wettest_98 : decode cX0_wettest 98 = .ok (.goto (-51), 3) := dk_167 255 205 (dk_at dksX0_wettest_4 3 rfl rfl)
theorem dX0_wettest_101 : decode cX0_wettest 101 = .ok (.iload_n 3, 1) := dk_29 (dk_at dksX0_wettest_4 6 rfl rfl)
theorem dX0_wettest_102 : decode cX0_wettest 102 = .ok (.ifCond .ge 8, 3) := dk_156 0 8 (dk_at dksX0_wettest_4 7 rfl rfl)
theorem dX0_wettest_105 : decode cX0_wettest 105 = .ok (.bipush (-2), 2) := dk_16 254 (dk_at dksX0_wettest_4 10 rfl rfl)
theorem dX0_wettest_107 : decode cX0_wettest 107 = .ok (.goto 35, 3) := dk_167 0 35 (dk_at dksX0_wettest_4 12 rfl rfl)
theorem dX0_wettest_110 : decode cX0_wettest 110 = .ok (.iload_n 2, 1) := dk_28 (dk_at dksX0_wettest_4 15 rfl rfl)
theorem dX0_wettest_111 : decode cX0_wettest 111 = .ok (.ifCond .ne 15, 3) := dk_154 0 15 (dk_at dksX0_wettest_4 16 rfl rfl)
theorem dX0_wettest_114 : decode cX0_wettest 114 = .ok (.aload_n 0, 1) := dk_42 (dk_at dksX0_wettest_4 19 rfl rfl)
theorem dX0_wettest_115 : decode cX0_wettest 115 = .ok (.getfield 55, 3) := dk_180 0 55 (dk_at dksX0_wettest_4 20 rfl rfl)
theorem dX0_wettest_118 : decode cX0_wettest 118 = .ok (.getfield 186, 3) := dk_180 0 186 (dk_at dksX0_wettest_5 0 rfl rfl)
theorem dX0_wettest_121 : decode cX0_wettest 121 = .ok (.iload_n 3, 1) := dk_29 (dk_at dksX0_wettest_5 3 rfl rfl)
theorem dX0_wettest_122 : decode cX0_wettest 122 = .ok (.iaload, 1) := dk_46 (dk_at dksX0_wettest_5 4 rfl rfl)
theorem dX0_wettest_123 : decode cX0_wettest 123 = .ok (.goto 19, 3) := dk_167 0 19 (dk_at dksX0_wettest_5 5 rfl rfl)
theorem dX0_wettest_126 : decode cX0_wettest 126 = .ok (.iload_n 2, 1) := dk_28 (dk_at dksX0_wettest_5 8 rfl rfl)
theorem dX0_wettest_127 : decode cX0_wettest 127 = .ok (.iconst 1, 1) := dk_4 (dk_at dksX0_wettest_5 9 rfl rfl)
theorem dX0_wettest_128 : decode cX0_wettest 128 = .ok (.if_icmp .ne 10, 3) := dk_160 0 10 (dk_at dksX0_wettest_5 10 rfl rfl)
theorem dX0_wettest_131 : decode cX0_wettest 131 = .ok (.iload_n 3, 1) := dk_29 (dk_at dksX0_wettest_5 13 rfl rfl)
theorem dX0_wettest_132 : decode cX0_wettest 132 = .ok (.bipush 8, 2) := dk_16 8 (dk_at dksX0_wettest_5 14 rfl rfl)
theorem dX0_wettest_134 : decode cX0_wettest 134 = .ok (.irem, 1) := dk_112 (dk_at dksX0_wettest_5 16 rfl rfl)
theorem dX0_wettest_135 : decode cX0_wettest 135 = .ok (.goto 7, 3) := dk_167 0 7 (dk_at dksX0_wettest_5 17 rfl rfl)
theorem dX0_wettest_138 : decode cX0_wettest 138 = .ok (.iload_n 3, 1) := dk_29 (dk_at dksX0_wettest_5 20 rfl rfl)
theorem dX0_wettest_139 : decode cX0_wettest 139 = .ok (.bipush 8, 2) := dk_16 8 (dk_at dksX0_wettest_5 21 rfl rfl)
theorem dX0_wettest_141 : decode cX0_wettest 141 = .ok (.idiv, 1) := dk_108 (dk_at dksX0_wettest_5 23 rfl rfl)
theorem dX0_wettest_142 : decode cX0_wettest 142 = .ok (.ireturn, 1) := dk_172 (dk_at dksX0_wettest_6 0 rfl rfl)
abbrev cX0_dry : ByteArray := prog_1_method_44_code
def yX0_dry : MethodName := ⟨RX0, "dry", "(I)I"⟩
def dkwX0_dry_3 : List UInt8 := [167, 0, 4, 3, 96, 61, 132, 3, 1, 167, 255, 216, 28, 172]
abbrev dktX0_dry_3 : List UInt8 := dkwX0_dry_3 ++ []
def dkwX0_dry_2 : List UInt8 := [180, 0, 40, 29, 182, 0, 198, 153, 0, 19, 42, 180, 0, 55, 180, 0, 186, 29, 46, 154, 0, 7, 4]
abbrev dktX0_dry_2 : List UInt8 := dkwX0_dry_2 ++ dktX0_dry_3
def dkwX0_dry_1 : List UInt8 := [182, 0, 237, 42, 42, 180, 0, 55, 27, 182, 1, 10, 3, 62, 29, 16, 48, 162, 0, 40, 28, 42]
abbrev dktX0_dry_1 : List UInt8 := dkwX0_dry_1 ++ dktX0_dry_2
def dkwX0_dry_0 : List UInt8 := [27, 3, 16, 60, 184, 0, 158, 154, 0, 5, 2, 172, 3, 61, 42, 180, 0, 55, 42, 180, 0, 51]
abbrev dktX0_dry_0 : List UInt8 := dkwX0_dry_0 ++ dktX0_dry_1
theorem dksX0_dry_0 : cX0_dry.data.toList.drop 0 = dktX0_dry_0 := by decide +kernel
theorem dksX0_dry_1 : cX0_dry.data.toList.drop 22 = dktX0_dry_1 := dk_seg dksX0_dry_0 22 rfl rfl
theorem dksX0_dry_2 : cX0_dry.data.toList.drop 44 = dktX0_dry_2 := dk_seg dksX0_dry_1 22 rfl rfl
theorem dksX0_dry_3 : cX0_dry.data.toList.drop 67 = dktX0_dry_3 := dk_seg dksX0_dry_2 23 rfl rfl
theorem dX0_dry_0 : decode cX0_dry 0 = .ok (.iload_n 1, 1) := dk_27 (dk_at dksX0_dry_0 0 rfl rfl)
theorem dX0_dry_1 : decode cX0_dry 1 = .ok (.iconst 0, 1) := dk_3 (dk_at dksX0_dry_0 1 rfl rfl)
theorem dX0_dry_2 : decode cX0_dry 2 = .ok (.bipush 60, 2) := dk_16 60 (dk_at dksX0_dry_0 2 rfl rfl)
theorem dX0_dry_4 : decode cX0_dry 4 = .ok (.invokestatic 158, 3) := dk_184 0 158 (dk_at dksX0_dry_0 4 rfl rfl)
theorem dX0_dry_7 : decode cX0_dry 7 = .ok (.ifCond .ne 5, 3) := dk_154 0 5 (dk_at dksX0_dry_0 7 rfl rfl)
theorem dX0_dry_10 : decode cX0_dry 10 = .ok (.iconst (-1), 1) := dk_2 (dk_at dksX0_dry_0 10 rfl rfl)
theorem dX0_dry_11 : decode cX0_dry 11 = .ok (.ireturn, 1) := dk_172 (dk_at dksX0_dry_0 11 rfl rfl)
theorem dX0_dry_12 : decode cX0_dry 12 = .ok (.iconst 0, 1) := dk_3 (dk_at dksX0_dry_0 12 rfl rfl)
theorem dX0_dry_13 : decode cX0_dry 13 = .ok (.istore_n 2, 1) := dk_61 (dk_at dksX0_dry_0 13 rfl rfl)
theorem dX0_dry_14 : decode cX0_dry 14 = .ok (.aload_n 0, 1) := dk_42 (dk_at dksX0_dry_0 14 rfl rfl)
theorem dX0_dry_15 : decode cX0_dry 15 = .ok (.getfield 55, 3) := dk_180 0 55 (dk_at dksX0_dry_0 15 rfl rfl)
theorem dX0_dry_18 : decode cX0_dry 18 = .ok (.aload_n 0, 1) := dk_42 (dk_at dksX0_dry_0 18 rfl rfl)
theorem dX0_dry_19 : decode cX0_dry 19 = .ok (.getfield 51, 3) := dk_180 0 51 (dk_at dksX0_dry_0 19 rfl rfl)
theorem dX0_dry_22 : decode cX0_dry 22 = .ok (.invokevirtual 237, 3) := dk_182 0 237 (dk_at dksX0_dry_1 0 rfl rfl)
theorem dX0_dry_25 : decode cX0_dry 25 = .ok (.aload_n 0, 1) := dk_42 (dk_at dksX0_dry_1 3 rfl rfl)
theorem dX0_dry_26 : decode cX0_dry 26 = .ok (.aload_n 0, 1) := dk_42 (dk_at dksX0_dry_1 4 rfl rfl)
theorem dX0_dry_27 : decode cX0_dry 27 = .ok (.getfield 55, 3) := dk_180 0 55 (dk_at dksX0_dry_1 5 rfl rfl)
theorem dX0_dry_30 : decode cX0_dry 30 = .ok (.iload_n 1, 1) := dk_27 (dk_at dksX0_dry_1 8 rfl rfl)
theorem dX0_dry_31 : decode cX0_dry 31 = .ok (.invokevirtual 266, 3) := dk_182 1 10 (dk_at dksX0_dry_1 9 rfl rfl)
theorem dX0_dry_34 : decode cX0_dry 34 = .ok (.iconst 0, 1) := dk_3 (dk_at dksX0_dry_1 12 rfl rfl)
theorem dX0_dry_35 : decode cX0_dry 35 = .ok (.istore_n 3, 1) := dk_62 (dk_at dksX0_dry_1 13 rfl rfl)
theorem dX0_dry_36 : decode cX0_dry 36 = .ok (.iload_n 3, 1) := dk_29 (dk_at dksX0_dry_1 14 rfl rfl)
theorem dX0_dry_37 : decode cX0_dry 37 = .ok (.bipush 48, 2) := dk_16 48 (dk_at dksX0_dry_1 15 rfl rfl)
theorem dX0_dry_39 : decode cX0_dry 39 = .ok (.if_icmp .ge 40, 3) := dk_162 0 40 (dk_at dksX0_dry_1 17 rfl rfl)
theorem dX0_dry_42 : decode cX0_dry 42 = .ok (.iload_n 2, 1) := dk_28 (dk_at dksX0_dry_1 20 rfl rfl)
theorem dX0_dry_43 : decode cX0_dry 43 = .ok (.aload_n 0, 1) := dk_42 (dk_at dksX0_dry_1 21 rfl rfl)
theorem dX0_dry_44 : decode cX0_dry 44 = .ok (.getfield 40, 3) := dk_180 0 40 (dk_at dksX0_dry_2 0 rfl rfl)
theorem dX0_dry_47 : decode cX0_dry 47 = .ok (.iload_n 3, 1) := dk_29 (dk_at dksX0_dry_2 3 rfl rfl)
theorem dX0_dry_48 : decode cX0_dry 48 = .ok (.invokevirtual 198, 3) := dk_182 0 198 (dk_at dksX0_dry_2 4 rfl rfl)
theorem dX0_dry_51 : decode cX0_dry 51 = .ok (.ifCond .eq 19, 3) := dk_153 0 19 (dk_at dksX0_dry_2 7 rfl rfl)
theorem dX0_dry_54 : decode cX0_dry 54 = .ok (.aload_n 0, 1) := dk_42 (dk_at dksX0_dry_2 10 rfl rfl)
theorem dX0_dry_55 : decode cX0_dry 55 = .ok (.getfield 55, 3) := dk_180 0 55 (dk_at dksX0_dry_2 11 rfl rfl)
theorem dX0_dry_58 : decode cX0_dry 58 = .ok (.getfield 186, 3) := dk_180 0 186 (dk_at dksX0_dry_2 14 rfl rfl)
theorem dX0_dry_61 : decode cX0_dry 61 = .ok (.iload_n 3, 1) := dk_29 (dk_at dksX0_dry_2 17 rfl rfl)
theorem dX0_dry_62 : decode cX0_dry 62 = .ok (.iaload, 1) := dk_46 (dk_at dksX0_dry_2 18 rfl rfl)
theorem dX0_dry_63 : decode cX0_dry 63 = .ok (.ifCond .ne 7, 3) := dk_154 0 7 (dk_at dksX0_dry_2 19 rfl rfl)
theorem dX0_dry_66 : decode cX0_dry 66 = .ok (.iconst 1, 1) := dk_4 (dk_at dksX0_dry_2 22 rfl rfl)
theorem dX0_dry_67 : decode cX0_dry 67 = .ok (.goto 4, 3) := dk_167 0 4 (dk_at dksX0_dry_3 0 rfl rfl)
theorem dX0_dry_70 : decode cX0_dry 70 = .ok (.iconst 0, 1) := dk_3 (dk_at dksX0_dry_3 3 rfl rfl)
theorem dX0_dry_71 : decode cX0_dry 71 = .ok (.iadd, 1) := dk_96 (dk_at dksX0_dry_3 4 rfl rfl)
theorem dX0_dry_72 : decode cX0_dry 72 = .ok (.istore_n 2, 1) := dk_61 (dk_at dksX0_dry_3 5 rfl rfl)
theorem dX0_dry_73 : decode cX0_dry 73 = .ok (.iinc 3 1, 3) := dk_132 3 1 (dk_at dksX0_dry_3 6 rfl rfl)
theorem dX0_dry_76 : decode cX0_dry 76 = .ok (.goto (-40), 3) := dk_167 255 216 (dk_at dksX0_dry_3 9 rfl rfl)
theorem dX0_dry_79 : decode cX0_dry 79 = .ok (.iload_n 2, 1) := dk_28 (dk_at dksX0_dry_3 12 rfl rfl)
theorem dX0_dry_80 : decode cX0_dry 80 = .ok (.ireturn, 1) := dk_172 (dk_at dksX0_dry_3 13 rfl rfl)
abbrev cX0_emptyBy : ByteArray := prog_1_method_45_code
def yX0_emptyBy : MethodName := ⟨RX0, "emptyBy", "()I"⟩
def dkwX0_emptyBy_2 : List UInt8 := [172]
abbrev dktX0_emptyBy_2 : List UInt8 := dkwX0_emptyBy_2 ++ []
def dkwX0_emptyBy_1 : List UInt8 := [180, 1, 53, 154, 0, 5, 27, 172, 42, 42, 180, 0, 55, 182, 0, 250, 132, 1, 1, 167, 255, 226, 16, 254]
abbrev dktX0_emptyBy_1 : List UInt8 := dkwX0_emptyBy_1 ++ dktX0_emptyBy_2
def dkwX0_emptyBy_0 : List UInt8 := [42, 180, 0, 55, 42, 180, 0, 51, 182, 0, 237, 3, 60, 27, 17, 0, 200, 163, 0, 29, 42, 180, 0, 55]
abbrev dktX0_emptyBy_0 : List UInt8 := dkwX0_emptyBy_0 ++ dktX0_emptyBy_1
theorem dksX0_emptyBy_0 : cX0_emptyBy.data.toList.drop 0 = dktX0_emptyBy_0 := by decide +kernel
theorem dksX0_emptyBy_1 : cX0_emptyBy.data.toList.drop 24 = dktX0_emptyBy_1 := dk_seg dksX0_emptyBy_0 24 rfl rfl
theorem dksX0_emptyBy_2 : cX0_emptyBy.data.toList.drop 48 = dktX0_emptyBy_2 := dk_seg dksX0_emptyBy_1 24 rfl rfl
theorem dX0_emptyBy_0 : decode cX0_emptyBy 0 = .ok (.aload_n 0, 1) := dk_42 (dk_at dksX0_emptyBy_0 0 rfl rfl)
theorem dX0_emptyBy_1 : decode cX0_emptyBy 1 = .ok (.getfield 55, 3) := dk_180 0 55 (dk_at dksX0_emptyBy_0 1 rfl rfl)
theorem dX0_emptyBy_4 : decode cX0_emptyBy 4 = .ok (.aload_n 0, 1) := dk_42 (dk_at dksX0_emptyBy_0 4 rfl rfl)
theorem dX0_emptyBy_5 : decode cX0_emptyBy 5 = .ok (.getfield 51, 3) := dk_180 0 51 (dk_at dksX0_emptyBy_0 5 rfl rfl)
theorem dX0_emptyBy_8 : decode cX0_emptyBy 8 = .ok (.invokevirtual 237, 3) := dk_182 0 237 (dk_at dksX0_emptyBy_0 8 rfl rfl)
theorem dX0_emptyBy_11 : decode cX0_emptyBy 11 = .ok (.iconst 0, 1) := dk_3 (dk_at dksX0_emptyBy_0 11 rfl rfl)
theorem dX0_emptyBy_12 : decode cX0_emptyBy 12 = .ok (.istore_n 1, 1) := dk_60 (dk_at dksX0_emptyBy_0 12 rfl rfl)
theorem dX0_emptyBy_13 : decode cX0_emptyBy 13 = .ok (.iload_n 1, 1) := dk_27 (dk_at dksX0_emptyBy_0 13 rfl rfl)
theorem dX0_emptyBy_14 : decode cX0_emptyBy 14 = .ok (.sipush 200, 3) := dk_17 0 200 (dk_at dksX0_emptyBy_0 14 rfl rfl)
theorem dX0_emptyBy_17 : decode cX0_emptyBy 17 = .ok (.if_icmp .gt 29, 3) := dk_163 0 29 (dk_at dksX0_emptyBy_0 17 rfl rfl)
theorem dX0_emptyBy_20 : decode cX0_emptyBy 20 = .ok (.aload_n 0, 1) := dk_42 (dk_at dksX0_emptyBy_0 20 rfl rfl)
theorem dX0_emptyBy_21 : decode cX0_emptyBy 21 = .ok (.getfield 55, 3) := dk_180 0 55 (dk_at dksX0_emptyBy_0 21 rfl rfl)
theorem dX0_emptyBy_24 : decode cX0_emptyBy 24 = .ok (.getfield 309, 3) := dk_180 1 53 (dk_at dksX0_emptyBy_1 0 rfl rfl)
theorem dX0_emptyBy_27 : decode cX0_emptyBy 27 = .ok (.ifCond .ne 5, 3) := dk_154 0 5 (dk_at dksX0_emptyBy_1 3 rfl rfl)
theorem dX0_emptyBy_30 : decode cX0_emptyBy 30 = .ok (.iload_n 1, 1) := dk_27 (dk_at dksX0_emptyBy_1 6 rfl rfl)
theorem dX0_emptyBy_31 : decode cX0_emptyBy 31 = .ok (.ireturn, 1) := dk_172 (dk_at dksX0_emptyBy_1 7 rfl rfl)
theorem dX0_emptyBy_32 : decode cX0_emptyBy 32 = .ok (.aload_n 0, 1) := dk_42 (dk_at dksX0_emptyBy_1 8 rfl rfl)
theorem dX0_emptyBy_33 : decode cX0_emptyBy 33 = .ok (.aload_n 0, 1) := dk_42 (dk_at dksX0_emptyBy_1 9 rfl rfl)
theorem dX0_emptyBy_34 : decode cX0_emptyBy 34 = .ok (.getfield 55, 3) := dk_180 0 55 (dk_at dksX0_emptyBy_1 10 rfl rfl)
theorem dX0_emptyBy_37 : decode cX0_emptyBy 37 = .ok (.invokevirtual 250, 3) := dk_182 0 250 (dk_at dksX0_emptyBy_1 13 rfl rfl)
theorem dX0_emptyBy_40 : decode cX0_emptyBy 40 = .ok (.iinc 1 1, 3) := dk_132 1 1 (dk_at dksX0_emptyBy_1 16 rfl rfl)
theorem dX0_emptyBy_43 : decode cX0_emptyBy 43 = .ok (.goto (-30), 3) := dk_167 255 226 (dk_at dksX0_emptyBy_1 19 rfl rfl)
theorem dX0_emptyBy_46 : decode cX0_emptyBy 46 = .ok (.bipush (-2), 2) := dk_16 254 (dk_at dksX0_emptyBy_1 22 rfl rfl)
theorem dX0_emptyBy_48 : decode cX0_emptyBy 48 = .ok (.ireturn, 1) := dk_172 (dk_at dksX0_emptyBy_2 0 rfl rfl)
abbrev cX0_year : ByteArray := prog_1_method_46_code
def yX0_year : MethodName := ⟨RX0, "year", "(II)I"⟩
def dkwX0_year_4 : List UInt8 := [132, 4, 1, 167, 255, 186, 29, 172]
abbrev dktX0_year_4 : List UInt8 := dkwX0_year_4 ++ []
def dkwX0_year_3 : List UInt8 := [180, 0, 55, 180, 0, 201, 184, 1, 56, 42, 180, 0, 51, 180, 0, 201, 184, 1, 56, 100, 96, 62]
abbrev dktX0_year_3 : List UInt8 := dkwX0_year_3 ++ dktX0_year_4
def dkwX0_year_2 : List UInt8 := [42, 180, 0, 40, 180, 1, 60, 21, 4, 96, 181, 1, 63, 42, 42, 180, 0, 55, 27, 182, 1, 10, 29, 42]
abbrev dktX0_year_2 : List UInt8 := dkwX0_year_2 ++ dktX0_year_3
def dkwX0_year_1 : List UInt8 := [3, 54, 4, 21, 4, 28, 162, 0, 70, 42, 180, 0, 55, 42, 180, 0, 51, 182, 0, 237, 42, 180, 0, 55]
abbrev dktX0_year_1 : List UInt8 := dkwX0_year_1 ++ dktX0_year_2
def dkwX0_year_0 : List UInt8 := [27, 3, 16, 60, 184, 0, 158, 153, 0, 13, 28, 4, 16, 20, 184, 0, 158, 154, 0, 5, 2, 172, 3, 62]
abbrev dktX0_year_0 : List UInt8 := dkwX0_year_0 ++ dktX0_year_1
theorem dksX0_year_0 : cX0_year.data.toList.drop 0 = dktX0_year_0 := by decide +kernel
theorem dksX0_year_1 : cX0_year.data.toList.drop 24 = dktX0_year_1 := dk_seg dksX0_year_0 24 rfl rfl
theorem dksX0_year_2 : cX0_year.data.toList.drop 48 = dktX0_year_2 := dk_seg dksX0_year_1 24 rfl rfl
theorem dksX0_year_3 : cX0_year.data.toList.drop 72 = dktX0_year_3 := dk_seg dksX0_year_2 24 rfl rfl
theorem dksX0_year_4 : cX0_year.data.toList.drop 94 = dktX0_year_4 := dk_seg dksX0_year_3 22 rfl rfl
theorem dX0_year_0 : decode cX0_year 0 = .ok (.iload_n 1, 1) := dk_27 (dk_at dksX0_year_0 0 rfl rfl)
theorem dX0_year_1 : decode cX0_year 1 = .ok (.iconst 0, 1) := dk_3 (dk_at dksX0_year_0 1 rfl rfl)
theorem dX0_year_2 : decode cX0_year 2 = .ok (.bipush 60, 2) := dk_16 60 (dk_at dksX0_year_0 2 rfl rfl)
theorem dX0_year_4 : decode cX0_year 4 = .ok (.invokestatic 158, 3) := dk_184 0 158 (dk_at dksX0_year_0 4 rfl rfl)
theorem dX0_year_7 : decode cX0_year 7 = .ok (.ifCond .eq 13, 3) := dk_153 0 13 (dk_at dksX0_year_0 7 rfl rfl)
theorem dX0_year_10 : decode cX0_year 10 = .ok (.iload_n 2, 1) := dk_28 (dk_at dksX0_year_0 10 rfl rfl)
theorem dX0_year_11 : decode cX0_year 11 = .ok (.iconst 1, 1) := dk_4 (dk_at dksX0_year_0 11 rfl rfl)
theorem dX0_year_12 : decode cX0_year 12 = .ok (.bipush 20, 2) := dk_16 20 (dk_at dksX0_year_0 12 rfl rfl)
theorem dX0_year_14 : decode cX0_year 14 = .ok (.invokestatic 158, 3) := dk_184 0 158 (dk_at dksX0_year_0 14 rfl rfl)
theorem dX0_year_17 : decode cX0_year 17 = .ok (.ifCond .ne 5, 3) := dk_154 0 5 (dk_at dksX0_year_0 17 rfl rfl)
theorem dX0_year_20 : decode cX0_year 20 = .ok (.iconst (-1), 1) := dk_2 (dk_at dksX0_year_0 20 rfl rfl)
theorem dX0_year_21 : decode cX0_year 21 = .ok (.ireturn, 1) := dk_172 (dk_at dksX0_year_0 21 rfl rfl)
theorem dX0_year_22 : decode cX0_year 22 = .ok (.iconst 0, 1) := dk_3 (dk_at dksX0_year_0 22 rfl rfl)
theorem dX0_year_23 : decode cX0_year 23 = .ok (.istore_n 3, 1) := dk_62 (dk_at dksX0_year_0 23 rfl rfl)
theorem dX0_year_24 : decode cX0_year 24 = .ok (.iconst 0, 1) := dk_3 (dk_at dksX0_year_1 0 rfl rfl)
theorem dX0_year_25 : decode cX0_year 25 = .ok (.istore 4, 2) := dk_54 4 (dk_at dksX0_year_1 1 rfl rfl)
theorem dX0_year_27 : decode cX0_year 27 = .ok (.iload 4, 2) := dk_21 4 (dk_at dksX0_year_1 3 rfl rfl)
theorem dX0_year_29 : decode cX0_year 29 = .ok (.iload_n 2, 1) := dk_28 (dk_at dksX0_year_1 5 rfl rfl)
theorem dX0_year_30 : decode cX0_year 30 = .ok (.if_icmp .ge 70, 3) := dk_162 0 70 (dk_at dksX0_year_1 6 rfl rfl)
theorem dX0_year_33 : decode cX0_year 33 = .ok (.aload_n 0, 1) := dk_42 (dk_at dksX0_year_1 9 rfl rfl)
theorem dX0_year_34 : decode cX0_year 34 = .ok (.getfield 55, 3) := dk_180 0 55 (dk_at dksX0_year_1 10 rfl rfl)
theorem dX0_year_37 : decode cX0_year 37 = .ok (.aload_n 0, 1) := dk_42 (dk_at dksX0_year_1 13 rfl rfl)
theorem dX0_year_38 : decode cX0_year 38 = .ok (.getfield 51, 3) := dk_180 0 51 (dk_at dksX0_year_1 14 rfl rfl)
theorem dX0_year_41 : decode cX0_year 41 = .ok (.invokevirtual 237, 3) := dk_182 0 237 (dk_at dksX0_year_1 17 rfl rfl)
theorem dX0_year_44 : decode cX0_year 44 = .ok (.aload_n 0, 1) := dk_42 (dk_at dksX0_year_1 20 rfl rfl)
theorem dX0_year_45 : decode cX0_year 45 = .ok (.getfield 55, 3) := dk_180 0 55 (dk_at dksX0_year_1 21 rfl rfl)
theorem dX0_year_48 : decode cX0_year 48 = .ok (.aload_n 0, 1) := dk_42 (dk_at dksX0_year_2 0 rfl rfl)
theorem dX0_year_49 : decode cX0_year 49 = .ok (.getfield 40, 3) := dk_180 0 40 (dk_at dksX0_year_2 1 rfl rfl)
theorem dX0_year_52 : decode cX0_year 52 = .ok (.getfield 316, 3) := dk_180 1 60 (dk_at dksX0_year_2 4 rfl rfl)
theorem dX0_year_55 : decode cX0_year 55 = .ok (.iload 4, 2) := dk_21 4 (dk_at dksX0_year_2 7 rfl rfl)
theorem dX0_year_57 : decode cX0_year 57 = .ok (.iadd, 1) := dk_96 (dk_at dksX0_year_2 9 rfl rfl)
theorem dX0_year_58 : decode cX0_year 58 = .ok (.putfield 319, 3) := dk_181 1 63 (dk_at dksX0_year_2 10 rfl rfl)
theorem dX0_year_61 : decode cX0_year 61 = .ok (.aload_n 0, 1) := dk_42 (dk_at dksX0_year_2 13 rfl rfl)
theorem dX0_year_62 : decode cX0_year 62 = .ok (.aload_n 0, 1) := dk_42 (dk_at dksX0_year_2 14 rfl rfl)
theorem dX0_year_63 : decode cX0_year 63 = .ok (.getfield 55, 3) := dk_180 0 55 (dk_at dksX0_year_2 15 rfl rfl)
theorem dX0_year_66 : decode cX0_year 66 = .ok (.iload_n 1, 1) := dk_27 (dk_at dksX0_year_2 18 rfl rfl)
theorem dX0_year_67 : decode cX0_year 67 = .ok (.invokevirtual 266, 3) := dk_182 1 10 (dk_at dksX0_year_2 19 rfl rfl)
theorem dX0_year_70 : decode cX0_year 70 = .ok (.iload_n 3, 1) := dk_29 (dk_at dksX0_year_2 22 rfl rfl)
theorem dX0_year_71 : decode cX0_year 71 = .ok (.aload_n 0, 1) := dk_42 (dk_at dksX0_year_2 23 rfl rfl)
theorem dX0_year_72 : decode cX0_year 72 = .ok (.getfield 55, 3) := dk_180 0 55 (dk_at dksX0_year_3 0 rfl rfl)
theorem dX0_year_75 : decode cX0_year 75 = .ok (.getfield 201, 3) := dk_180 0 201 (dk_at dksX0_year_3 3 rfl rfl)
theorem dX0_year_78 : decode cX0_year 78 = .ok (.invokestatic 312, 3) := dk_184 1 56 (dk_at dksX0_year_3 6 rfl rfl)
theorem dX0_year_81 : decode cX0_year 81 = .ok (.aload_n 0, 1) := dk_42 (dk_at dksX0_year_3 9 rfl rfl)
theorem dX0_year_82 : decode cX0_year 82 = .ok (.getfield 51, 3) := dk_180 0 51 (dk_at dksX0_year_3 10 rfl rfl)
theorem dX0_year_85 : decode cX0_year 85 = .ok (.getfield 201, 3) := dk_180 0 201 (dk_at dksX0_year_3 13 rfl rfl)
theorem dX0_year_88 : decode cX0_year 88 = .ok (.invokestatic 312, 3) := dk_184 1 56 (dk_at dksX0_year_3 16 rfl rfl)
theorem dX0_year_91 : decode cX0_year 91 = .ok (.isub, 1) := dk_100 (dk_at dksX0_year_3 19 rfl rfl)
theorem dX0_year_92 : decode cX0_year 92 = .ok (.iadd, 1) := dk_96 (dk_at dksX0_year_3 20 rfl rfl)
theorem dX0_year_93 : decode cX0_year 93 = .ok (.istore_n 3, 1) := dk_62 (dk_at dksX0_year_3 21 rfl rfl)
theorem dX0_year_94 : decode cX0_year 94 = .ok (.iinc 4 1, 3) := dk_132 4 1 (dk_at dksX0_year_4 0 rfl rfl)
theorem dX0_year_97 : decode cX0_year 97 = .ok (.goto (-70), 3) := dk_167 255 186 (dk_at dksX0_year_4 3 rfl rfl)
theorem dX0_year_100 : decode cX0_year 100 = .ok (.iload_n 3, 1) := dk_29 (dk_at dksX0_year_4 6 rfl rfl)
theorem dX0_year_101 : decode cX0_year 101 = .ok (.ireturn, 1) := dk_172 (dk_at dksX0_year_4 7 rfl rfl)
abbrev cX0_serve : ByteArray := prog_1_method_48_code
def yX0_serve : MethodName := ⟨RX0, "serve", "(III)I"⟩
def dkwX0_serve_4 : List UInt8 := [27, 28, 182, 1, 76, 29, 2, 160, 0, 10, 42, 180, 1, 64, 167, 0, 9, 42, 180, 0, 102, 29, 46, 172]
abbrev dktX0_serve_4 : List UInt8 := dkwX0_serve_4 ++ []
def dkwX0_serve_3 : List UInt8 := [182, 0, 156, 42, 182, 0, 196, 164, 0, 6, 16, 254, 172, 42, 19, 1, 52, 181, 1, 64, 42, 3, 3, 3]
abbrev dktX0_serve_3 : List UInt8 := dkwX0_serve_3 ++ dktX0_serve_4
def dkwX0_serve_2 : List UInt8 := [162, 0, 21, 27, 42, 21, 4, 182, 0, 175, 164, 0, 5, 2, 172, 132, 4, 1, 167, 255, 232, 42]
abbrev dktX0_serve_2 : List UInt8 := dkwX0_serve_2 ++ dktX0_serve_3
def dkwX0_serve_1 : List UInt8 := [182, 0, 156, 4, 100, 184, 0, 158, 154, 0, 5, 2, 172, 3, 54, 4, 21, 4, 42, 182, 0, 156]
abbrev dktX0_serve_1 : List UInt8 := dkwX0_serve_1 ++ dktX0_serve_2
def dkwX0_serve_0 : List UInt8 := [27, 4, 16, 8, 184, 0, 158, 153, 0, 27, 28, 4, 16, 6, 184, 0, 158, 153, 0, 17, 29, 2, 42]
abbrev dktX0_serve_0 : List UInt8 := dkwX0_serve_0 ++ dktX0_serve_1
theorem dksX0_serve_0 : cX0_serve.data.toList.drop 0 = dktX0_serve_0 := by decide +kernel
theorem dksX0_serve_1 : cX0_serve.data.toList.drop 23 = dktX0_serve_1 := dk_seg dksX0_serve_0 23 rfl rfl
theorem dksX0_serve_2 : cX0_serve.data.toList.drop 45 = dktX0_serve_2 := dk_seg dksX0_serve_1 22 rfl rfl
theorem dksX0_serve_3 : cX0_serve.data.toList.drop 67 = dktX0_serve_3 := dk_seg dksX0_serve_2 22 rfl rfl
theorem dksX0_serve_4 : cX0_serve.data.toList.drop 91 = dktX0_serve_4 := dk_seg dksX0_serve_3 24 rfl rfl
theorem dX0_serve_0 : decode cX0_serve 0 = .ok (.iload_n 1, 1) := dk_27 (dk_at dksX0_serve_0 0 rfl rfl)
theorem dX0_serve_1 : decode cX0_serve 1 = .ok (.iconst 1, 1) := dk_4 (dk_at dksX0_serve_0 1 rfl rfl)
theorem dX0_serve_2 : decode cX0_serve 2 = .ok (.bipush 8, 2) := dk_16 8 (dk_at dksX0_serve_0 2 rfl rfl)
theorem dX0_serve_4 : decode cX0_serve 4 = .ok (.invokestatic 158, 3) := dk_184 0 158 (dk_at dksX0_serve_0 4 rfl rfl)
theorem dX0_serve_7 : decode cX0_serve 7 = .ok (.ifCond .eq 27, 3) := dk_153 0 27 (dk_at dksX0_serve_0 7 rfl rfl)
theorem dX0_serve_10 : decode cX0_serve 10 = .ok (.iload_n 2, 1) := dk_28 (dk_at dksX0_serve_0 10 rfl rfl)
theorem dX0_serve_11 : decode cX0_serve 11 = .ok (.iconst 1, 1) := dk_4 (dk_at dksX0_serve_0 11 rfl rfl)
theorem dX0_serve_12 : decode cX0_serve 12 = .ok (.bipush 6, 2) := dk_16 6 (dk_at dksX0_serve_0 12 rfl rfl)
theorem dX0_serve_14 : decode cX0_serve 14 = .ok (.invokestatic 158, 3) := dk_184 0 158 (dk_at dksX0_serve_0 14 rfl rfl)
theorem dX0_serve_17 : decode cX0_serve 17 = .ok (.ifCond .eq 17, 3) := dk_153 0 17 (dk_at dksX0_serve_0 17 rfl rfl)
theorem dX0_serve_20 : decode cX0_serve 20 = .ok (.iload_n 3, 1) := dk_29 (dk_at dksX0_serve_0 20 rfl rfl)
theorem dX0_serve_21 : decode cX0_serve 21 = .ok (.iconst (-1), 1) := dk_2 (dk_at dksX0_serve_0 21 rfl rfl)
theorem dX0_serve_22 : decode cX0_serve 22 = .ok (.aload_n 0, 1) := dk_42 (dk_at dksX0_serve_0 22 rfl rfl)
theorem dX0_serve_23 : decode cX0_serve 23 = .ok (.invokevirtual 156, 3) := dk_182 0 156 (dk_at dksX0_serve_1 0 rfl rfl)
theorem dX0_serve_26 : decode cX0_serve 26 = .ok (.iconst 1, 1) := dk_4 (dk_at dksX0_serve_1 3 rfl rfl)
theorem dX0_serve_27 : decode cX0_serve 27 = .ok (.isub, 1) := dk_100 (dk_at dksX0_serve_1 4 rfl rfl)
theorem dX0_serve_28 : decode cX0_serve 28 = .ok (.invokestatic 158, 3) := dk_184 0 158 (dk_at dksX0_serve_1 5 rfl rfl)
theorem dX0_serve_31 : decode cX0_serve 31 = .ok (.ifCond .ne 5, 3) := dk_154 0 5 (dk_at dksX0_serve_1 8 rfl rfl)
theorem dX0_serve_34 : decode cX0_serve 34 = .ok (.iconst (-1), 1) := dk_2 (dk_at dksX0_serve_1 11 rfl rfl)
theorem dX0_serve_35 : decode cX0_serve 35 = .ok (.ireturn, 1) := dk_172 (dk_at dksX0_serve_1 12 rfl rfl)
theorem dX0_serve_36 : decode cX0_serve 36 = .ok (.iconst 0, 1) := dk_3 (dk_at dksX0_serve_1 13 rfl rfl)
theorem dX0_serve_37 : decode cX0_serve 37 = .ok (.istore 4, 2) := dk_54 4 (dk_at dksX0_serve_1 14 rfl rfl)
theorem dX0_serve_39 : decode cX0_serve 39 = .ok (.iload 4, 2) := dk_21 4 (dk_at dksX0_serve_1 16 rfl rfl)
theorem dX0_serve_41 : decode cX0_serve 41 = .ok (.aload_n 0, 1) := dk_42 (dk_at dksX0_serve_1 18 rfl rfl)
theorem dX0_serve_42 : decode cX0_serve 42 = .ok (.invokevirtual 156, 3) := dk_182 0 156 (dk_at dksX0_serve_1 19 rfl rfl)
theorem dX0_serve_45 : decode cX0_serve 45 = .ok (.if_icmp .ge 21, 3) := dk_162 0 21 (dk_at dksX0_serve_2 0 rfl rfl)
theorem dX0_serve_48 : decode cX0_serve 48 = .ok (.iload_n 1, 1) := dk_27 (dk_at dksX0_serve_2 3 rfl rfl)
theorem dX0_serve_49 : decode cX0_serve 49 = .ok (.aload_n 0, 1) := dk_42 (dk_at dksX0_serve_2 4 rfl rfl)
theorem dX0_serve_50 : decode cX0_serve 50 = .ok (.iload 4, 2) := dk_21 4 (dk_at dksX0_serve_2 5 rfl rfl)
theorem dX0_serve_52 : decode cX0_serve 52 = .ok (.invokevirtual 175, 3) := dk_182 0 175 (dk_at dksX0_serve_2 7 rfl rfl)
theorem dX0_serve_55 : decode cX0_serve 55 = .ok (.if_icmp .le 5, 3) := dk_164 0 5 (dk_at dksX0_serve_2 10 rfl rfl)
theorem dX0_serve_58 : decode cX0_serve 58 = .ok (.iconst (-1), 1) := dk_2 (dk_at dksX0_serve_2 13 rfl rfl)
theorem dX0_serve_59 : decode cX0_serve 59 = .ok (.ireturn, 1) := dk_172 (dk_at dksX0_serve_2 14 rfl rfl)
theorem dX0_serve_60 : decode cX0_serve 60 = .ok (.iinc 4 1, 3) := dk_132 4 1 (dk_at dksX0_serve_2 15 rfl rfl)
theorem dX0_serve_63 : decode cX0_serve 63 = .ok (.goto (-24), 3) := dk_167 255 232 (dk_at dksX0_serve_2 18 rfl rfl)
theorem dX0_serve_66 : decode cX0_serve 66 = .ok (.aload_n 0, 1) := dk_42 (dk_at dksX0_serve_2 21 rfl rfl)
theorem dX0_serve_67 : decode cX0_serve 67 = .ok (.invokevirtual 156, 3) := dk_182 0 156 (dk_at dksX0_serve_3 0 rfl rfl)
theorem dX0_serve_70 : decode cX0_serve 70 = .ok (.aload_n 0, 1) := dk_42 (dk_at dksX0_serve_3 3 rfl rfl)
theorem dX0_serve_71 : decode cX0_serve 71 = .ok (.invokevirtual 196, 3) := dk_182 0 196 (dk_at dksX0_serve_3 4 rfl rfl)
theorem dX0_serve_74 : decode cX0_serve 74 = .ok (.if_icmp .le 6, 3) := dk_164 0 6 (dk_at dksX0_serve_3 7 rfl rfl)
theorem dX0_serve_77 : decode cX0_serve 77 = .ok (.bipush (-2), 2) := dk_16 254 (dk_at dksX0_serve_3 10 rfl rfl)
theorem dX0_serve_79 : decode cX0_serve 79 = .ok (.ireturn, 1) := dk_172 (dk_at dksX0_serve_3 12 rfl rfl)
theorem dX0_serve_80 : decode cX0_serve 80 = .ok (.aload_n 0, 1) := dk_42 (dk_at dksX0_serve_3 13 rfl rfl)
theorem dX0_serve_81 : decode cX0_serve 81 = .ok (.ldc_w 308, 3) := dk_19 1 52 (dk_at dksX0_serve_3 14 rfl rfl)
theorem dX0_serve_84 : decode cX0_serve 84 = .ok (.putfield 320, 3) := dk_181 1 64 (dk_at dksX0_serve_3 17 rfl rfl)
theorem dX0_serve_87 : decode cX0_serve 87 = .ok (.aload_n 0, 1) := dk_42 (dk_at dksX0_serve_3 20 rfl rfl)
theorem dX0_serve_88 : decode cX0_serve 88 = .ok (.iconst 0, 1) := dk_3 (dk_at dksX0_serve_3 21 rfl rfl)
theorem dX0_serve_89 : decode cX0_serve 89 = .ok (.iconst 0, 1) := dk_3 (dk_at dksX0_serve_3 22 rfl rfl)
theorem dX0_serve_90 : decode cX0_serve 90 = .ok (.iconst 0, 1) := dk_3 (dk_at dksX0_serve_3 23 rfl rfl)
theorem dX0_serve_91 : decode cX0_serve 91 = .ok (.iload_n 1, 1) := dk_27 (dk_at dksX0_serve_4 0 rfl rfl)
theorem dX0_serve_92 : decode cX0_serve 92 = .ok (.iload_n 2, 1) := dk_28 (dk_at dksX0_serve_4 1 rfl rfl)
theorem dX0_serve_93 : decode cX0_serve 93 = .ok (.invokevirtual 332, 3) := dk_182 1 76 (dk_at dksX0_serve_4 2 rfl rfl)
theorem dX0_serve_96 : decode cX0_serve 96 = .ok (.iload_n 3, 1) := dk_29 (dk_at dksX0_serve_4 5 rfl rfl)
theorem dX0_serve_97 : decode cX0_serve 97 = .ok (.iconst (-1), 1) := dk_2 (dk_at dksX0_serve_4 6 rfl rfl)
theorem dX0_serve_98 : decode cX0_serve 98 = .ok (.if_icmp .ne 10, 3) := dk_160 0 10 (dk_at dksX0_serve_4 7 rfl rfl)
theorem dX0_serve_101 : decode cX0_serve 101 = .ok (.aload_n 0, 1) := dk_42 (dk_at dksX0_serve_4 10 rfl rfl)
theorem dX0_serve_102 : decode cX0_serve 102 = .ok (.getfield 320, 3) := dk_180 1 64 (dk_at dksX0_serve_4 11 rfl rfl)
theorem dX0_serve_105 : decode cX0_serve 105 = .ok (.goto 9, 3) := dk_167 0 9 (dk_at dksX0_serve_4 14 rfl rfl)
theorem dX0_serve_108 : decode cX0_serve 108 = .ok (.aload_n 0, 1) := dk_42 (dk_at dksX0_serve_4 17 rfl rfl)
theorem dX0_serve_109 : decode cX0_serve 109 = .ok (.getfield 102, 3) := dk_180 0 102 (dk_at dksX0_serve_4 18 rfl rfl)
theorem dX0_serve_112 : decode cX0_serve 112 = .ok (.iload_n 3, 1) := dk_29 (dk_at dksX0_serve_4 21 rfl rfl)
theorem dX0_serve_113 : decode cX0_serve 113 = .ok (.iaload, 1) := dk_46 (dk_at dksX0_serve_4 22 rfl rfl)
theorem dX0_serve_114 : decode cX0_serve 114 = .ok (.ireturn, 1) := dk_172 (dk_at dksX0_serve_4 23 rfl rfl)
abbrev cX0_laysServe : ByteArray := prog_1_method_47_code
def yX0_laysServe : MethodName := ⟨RX0, "laysServe", "(IIIII)V"⟩
def dkwX0_laysServe_5 : List UInt8 := [167, 255, 181, 177]
abbrev dktX0_laysServe_5 : List UInt8 := dkwX0_laysServe_5 ++ []
def dkwX0_laysServe_4 : List UInt8 := [180, 0, 40, 21, 6, 182, 0, 207, 100, 184, 1, 73, 96, 21, 4, 21, 5, 182, 1, 76, 132, 6, 1]
abbrev dktX0_laysServe_4 : List UInt8 := dkwX0_laysServe_4 ++ dktX0_laysServe_5
def dkwX0_laysServe_3 : List UInt8 := [42, 27, 4, 96, 28, 4, 21, 6, 120, 128, 29, 42, 27, 21, 4, 21, 5, 3, 182, 1, 16, 42]
abbrev dktX0_laysServe_3 : List UInt8 := dkwX0_laysServe_3 ++ dktX0_laysServe_4
def dkwX0_laysServe_2 : List UInt8 := [162, 0, 72, 28, 21, 6, 122, 4, 126, 4, 160, 0, 6, 167, 0, 53, 42, 180, 0, 99, 27, 21, 6, 79]
abbrev dktX0_laysServe_2 : List UInt8 := dkwX0_laysServe_2 ++ dktX0_laysServe_3
def dkwX0_laysServe_1 : List UInt8 := [180, 0, 99, 3, 42, 180, 0, 102, 3, 7, 184, 1, 67, 177, 3, 54, 6, 21, 6, 42, 182, 0, 196]
abbrev dktX0_laysServe_1 : List UInt8 := dkwX0_laysServe_1 ++ dktX0_laysServe_2
def dkwX0_laysServe_0 : List UInt8 := [29, 42, 180, 1, 64, 161, 0, 4, 177, 27, 42, 182, 0, 156, 160, 0, 23, 42, 29, 181, 1, 64, 42]
abbrev dktX0_laysServe_0 : List UInt8 := dkwX0_laysServe_0 ++ dktX0_laysServe_1
theorem dksX0_laysServe_0 : cX0_laysServe.data.toList.drop 0 = dktX0_laysServe_0 := by decide +kernel
theorem dksX0_laysServe_1 : cX0_laysServe.data.toList.drop 23 = dktX0_laysServe_1 := dk_seg dksX0_laysServe_0 23 rfl rfl
theorem dksX0_laysServe_2 : cX0_laysServe.data.toList.drop 46 = dktX0_laysServe_2 := dk_seg dksX0_laysServe_1 23 rfl rfl
theorem dksX0_laysServe_3 : cX0_laysServe.data.toList.drop 70 = dktX0_laysServe_3 := dk_seg dksX0_laysServe_2 24 rfl rfl
theorem dksX0_laysServe_4 : cX0_laysServe.data.toList.drop 92 = dktX0_laysServe_4 := dk_seg dksX0_laysServe_3 22 rfl rfl
theorem dksX0_laysServe_5 : cX0_laysServe.data.toList.drop 115 = dktX0_laysServe_5 := dk_seg dksX0_laysServe_4 23 rfl rfl
theorem dX0_laysServe_0 : decode cX0_laysServe 0 = .ok (.iload_n 3, 1) := dk_29 (dk_at dksX0_laysServe_0 0 rfl rfl)
theorem dX0_laysServe_1 : decode cX0_laysServe 1 = .ok (.aload_n 0, 1) := dk_42 (dk_at dksX0_laysServe_0 1 rfl rfl)
theorem dX0_laysServe_2 : decode cX0_laysServe 2 = .ok (.getfield 320, 3) := dk_180 1 64 (dk_at dksX0_laysServe_0 2 rfl rfl)
theorem dX0_laysServe_5 : decode cX0_laysServe 5 = .ok (.if_icmp .lt 4, 3) := dk_161 0 4 (dk_at dksX0_laysServe_0 5 rfl rfl)
theorem dX0_laysServe_8 : decode cX0_laysServe 8 = .ok (.return_, 1) := dk_177 (dk_at dksX0_laysServe_0 8 rfl rfl)
theorem dX0_laysServe_9 : decode cX0_laysServe 9 = .ok (.iload_n 1, 1) := dk_27 (dk_at dksX0_laysServe_0 9 rfl rfl)
theorem dX0_laysServe_10 : decode cX0_laysServe 10 = .ok (.aload_n 0, 1) := dk_42 (dk_at dksX0_laysServe_0 10 rfl rfl)
theorem dX0_laysServe_11 : decode cX0_laysServe 11 = .ok (.invokevirtual 156, 3) := dk_182 0 156 (dk_at dksX0_laysServe_0 11 rfl rfl)
theorem dX0_laysServe_14 : decode cX0_laysServe 14 = .ok (.if_icmp .ne 23, 3) := dk_160 0 23 (dk_at dksX0_laysServe_0 14 rfl rfl)
theorem dX0_laysServe_17 : decode cX0_laysServe 17 = .ok (.aload_n 0, 1) := dk_42 (dk_at dksX0_laysServe_0 17 rfl rfl)
theorem dX0_laysServe_18 : decode cX0_laysServe 18 = .ok (.iload_n 3, 1) := dk_29 (dk_at dksX0_laysServe_0 18 rfl rfl)
theorem dX0_laysServe_19 : decode cX0_laysServe 19 = .ok (.putfield 320, 3) := dk_181 1 64 (dk_at dksX0_laysServe_0 19 rfl rfl)
theorem dX0_laysServe_22 : decode cX0_laysServe 22 = .ok (.aload_n 0, 1) := dk_42 (dk_at dksX0_laysServe_0 22 rfl rfl)
theorem dX0_laysServe_23 : decode cX0_laysServe 23 = .ok (.getfield 99, 3) := dk_180 0 99 (dk_at dksX0_laysServe_1 0 rfl rfl)
theorem dX0_laysServe_26 : decode cX0_laysServe 26 = .ok (.iconst 0, 1) := dk_3 (dk_at dksX0_laysServe_1 3 rfl rfl)
theorem dX0_laysServe_27 : decode cX0_laysServe 27 = .ok (.aload_n 0, 1) := dk_42 (dk_at dksX0_laysServe_1 4 rfl rfl)
theorem dX0_laysServe_28 : decode cX0_laysServe 28 = .ok (.getfield 102, 3) := dk_180 0 102 (dk_at dksX0_laysServe_1 5 rfl rfl)
theorem dX0_laysServe_31 : decode cX0_laysServe 31 = .ok (.iconst 0, 1) := dk_3 (dk_at dksX0_laysServe_1 8 rfl rfl)
theorem dX0_laysServe_32 : decode cX0_laysServe 32 = .ok (.iconst 4, 1) := dk_7 (dk_at dksX0_laysServe_1 9 rfl rfl)
theorem dX0_laysServe_33 : decode cX0_laysServe 33 = .ok (.invokestatic 323, 3) := dk_184 1 67 (dk_at dksX0_laysServe_1 10 rfl rfl)
theorem dX0_laysServe_36 : decode cX0_laysServe 36 = .ok (.return_, 1) := dk_177 (dk_at dksX0_laysServe_1 13 rfl rfl)
theorem dX0_laysServe_37 : decode cX0_laysServe 37 = .ok (.iconst 0, 1) := dk_3 (dk_at dksX0_laysServe_1 14 rfl rfl)
theorem dX0_laysServe_38 : decode cX0_laysServe 38 = .ok (.istore 6, 2) := dk_54 6 (dk_at dksX0_laysServe_1 15 rfl rfl)
theorem dX0_laysServe_40 : decode cX0_laysServe 40 = .ok (.iload 6, 2) := dk_21 6 (dk_at dksX0_laysServe_1 17 rfl rfl)
theorem dX0_laysServe_42 : decode cX0_laysServe 42 = .ok (.aload_n 0, 1) := dk_42 (dk_at dksX0_laysServe_1 19 rfl rfl)
theorem dX0_laysServe_43 : decode cX0_laysServe 43 = .ok (.invokevirtual 196, 3) := dk_182 0 196 (dk_at dksX0_laysServe_1 20 rfl rfl)
theorem dX0_laysServe_46 : decode cX0_laysServe 46 = .ok (.if_icmp .ge 72, 3) := dk_162 0 72 (dk_at dksX0_laysServe_2 0 rfl rfl)
theorem dX0_laysServe_49 : decode cX0_laysServe 49 = .ok (.iload_n 2, 1) := dk_28 (dk_at dksX0_laysServe_2 3 rfl rfl)
theorem dX0_laysServe_50 : decode cX0_laysServe 50 = .ok (.iload 6, 2) := dk_21 6 (dk_at dksX0_laysServe_2 4 rfl rfl)
theorem dX0_laysServe_52 : decode cX0_laysServe 52 = .ok (.ishr, 1) := dk_122 (dk_at dksX0_laysServe_2 6 rfl rfl)
theorem dX0_laysServe_53 : decode cX0_laysServe 53 = .ok (.iconst 1, 1) := dk_4 (dk_at dksX0_laysServe_2 7 rfl rfl)
theorem dX0_laysServe_54 : decode cX0_laysServe 54 = .ok (.iand, 1) := dk_126 (dk_at dksX0_laysServe_2 8 rfl rfl)
theorem dX0_laysServe_55 : decode cX0_laysServe 55 = .ok (.iconst 1, 1) := dk_4 (dk_at dksX0_laysServe_2 9 rfl rfl)
theorem dX0_laysServe_56 : decode cX0_laysServe 56 = .ok (.if_icmp .ne 6, 3) := dk_160 0 6 (dk_at dksX0_laysServe_2 10 rfl rfl)
theorem dX0_laysServe_59 : decode cX0_laysServe 59 = .ok (.goto 53, 3) := dk_167 0 53 (dk_at dksX0_laysServe_2 13 rfl rfl)
theorem dX0_laysServe_62 : decode cX0_laysServe 62 = .ok (.aload_n 0, 1) := dk_42 (dk_at dksX0_laysServe_2 16 rfl rfl)
theorem dX0_laysServe_63 : decode cX0_laysServe 63 = .ok (.getfield 99, 3) := dk_180 0 99 (dk_at dksX0_laysServe_2 17 rfl rfl)
theorem dX0_laysServe_66 : decode cX0_laysServe 66 = .ok (.iload_n 1, 1) := dk_27 (dk_at dksX0_laysServe_2 20 rfl rfl)
theorem dX0_laysServe_67 : decode cX0_laysServe 67 = .ok (.iload 6, 2) := dk_21 6 (dk_at dksX0_laysServe_2 21 rfl rfl)
theorem dX0_laysServe_69 : decode cX0_laysServe 69 = .ok (.iastore, 1) := dk_79 (dk_at dksX0_laysServe_2 23 rfl rfl)
theorem dX0_laysServe_70 : decode cX0_laysServe 70 = .ok (.aload_n 0, 1) := dk_42 (dk_at dksX0_laysServe_3 0 rfl rfl)
theorem dX0_laysServe_71 : decode cX0_laysServe 71 = .ok (.iload_n 1, 1) := dk_27 (dk_at dksX0_laysServe_3 1 rfl rfl)
theorem dX0_laysServe_72 : decode cX0_laysServe 72 = .ok (.iconst 1, 1) := dk_4 (dk_at dksX0_laysServe_3 2 rfl rfl)
theorem dX0_laysServe_73 : decode cX0_laysServe 73 = .ok (.iadd, 1) := dk_96 (dk_at dksX0_laysServe_3 3 rfl rfl)
theorem dX0_laysServe_74 : decode cX0_laysServe 74 = .ok (.iload_n 2, 1) := dk_28 (dk_at dksX0_laysServe_3 4 rfl rfl)
theorem dX0_laysServe_75 : decode cX0_laysServe 75 = .ok (.iconst 1, 1) := dk_4 (dk_at dksX0_laysServe_3 5 rfl rfl)
theorem dX0_laysServe_76 : decode cX0_laysServe 76 = .ok (.iload 6, 2) := dk_21 6 (dk_at dksX0_laysServe_3 6 rfl rfl)
theorem dX0_laysServe_78 : decode cX0_laysServe 78 = .ok (.ishl, 1) := dk_120 (dk_at dksX0_laysServe_3 8 rfl rfl)
theorem dX0_laysServe_79 : decode cX0_laysServe 79 = .ok (.ior, 1) := dk_128 (dk_at dksX0_laysServe_3 9 rfl rfl)
theorem dX0_laysServe_80 : decode cX0_laysServe 80 = .ok (.iload_n 3, 1) := dk_29 (dk_at dksX0_laysServe_3 10 rfl rfl)
theorem dX0_laysServe_81 : decode cX0_laysServe 81 = .ok (.aload_n 0, 1) := dk_42 (dk_at dksX0_laysServe_3 11 rfl rfl)
theorem dX0_laysServe_82 : decode cX0_laysServe 82 = .ok (.iload_n 1, 1) := dk_27 (dk_at dksX0_laysServe_3 12 rfl rfl)
theorem dX0_laysServe_83 : decode cX0_laysServe 83 = .ok (.iload 4, 2) := dk_21 4 (dk_at dksX0_laysServe_3 13 rfl rfl)
theorem dX0_laysServe_85 : decode cX0_laysServe 85 = .ok (.iload 5, 2) := dk_21 5 (dk_at dksX0_laysServe_3 15 rfl rfl)
theorem dX0_laysServe_87 : decode cX0_laysServe 87 = .ok (.iconst 0, 1) := dk_3 (dk_at dksX0_laysServe_3 17 rfl rfl)
theorem dX0_laysServe_88 : decode cX0_laysServe 88 = .ok (.invokevirtual 272, 3) := dk_182 1 16 (dk_at dksX0_laysServe_3 18 rfl rfl)
theorem dX0_laysServe_91 : decode cX0_laysServe 91 = .ok (.aload_n 0, 1) := dk_42 (dk_at dksX0_laysServe_3 21 rfl rfl)
theorem dX0_laysServe_92 : decode cX0_laysServe 92 = .ok (.getfield 40, 3) := dk_180 0 40 (dk_at dksX0_laysServe_4 0 rfl rfl)
theorem dX0_laysServe_95 : decode cX0_laysServe 95 = .ok (.iload 6, 2) := dk_21 6 (dk_at dksX0_laysServe_4 3 rfl rfl)
theorem dX0_laysServe_97 : decode cX0_laysServe 97 = .ok (.invokevirtual 207, 3) := dk_182 0 207 (dk_at dksX0_laysServe_4 5 rfl rfl)
theorem dX0_laysServe_100 : decode cX0_laysServe 100 = .ok (.isub, 1) := dk_100 (dk_at dksX0_laysServe_4 8 rfl rfl)
theorem dX0_laysServe_101 : decode cX0_laysServe 101 = .ok (.invokestatic 329, 3) := dk_184 1 73 (dk_at dksX0_laysServe_4 9 rfl rfl)
theorem dX0_laysServe_104 : decode cX0_laysServe 104 = .ok (.iadd, 1) := dk_96 (dk_at dksX0_laysServe_4 12 rfl rfl)
theorem dX0_laysServe_105 : decode cX0_laysServe 105 = .ok (.iload 4, 2) := dk_21 4 (dk_at dksX0_laysServe_4 13 rfl rfl)
theorem dX0_laysServe_107 : decode cX0_laysServe 107 = .ok (.iload 5, 2) := dk_21 5 (dk_at dksX0_laysServe_4 15 rfl rfl)
theorem dX0_laysServe_109 : decode cX0_laysServe 109 = .ok (.invokevirtual 332, 3) := dk_182 1 76 (dk_at dksX0_laysServe_4 17 rfl rfl)
theorem dX0_laysServe_112 : decode cX0_laysServe 112 = .ok (.iinc 6 1, 3) := dk_132 6 1 (dk_at dksX0_laysServe_4 20 rfl rfl)
theorem dX0_laysServe_115 : decode cX0_laysServe 115 = .ok (.goto (-75), 3) := dk_167 255 181 (dk_at dksX0_laysServe_5 0 rfl rfl)
theorem dX0_laysServe_118 : decode cX0_laysServe 118 = .ok (.return_, 1) := dk_177 (dk_at dksX0_laysServe_5 3 rfl rfl)
abbrev cX0_suits : ByteArray := prog_1_method_49_code
def yX0_suits : MethodName := ⟨RX0, "suits", "(III)I"⟩
def dkwX0_suits_5 : List UInt8 := [167, 255, 187, 21, 4, 172]
abbrev dktX0_suits_5 : List UInt8 := dkwX0_suits_5 ++ []
def dkwX0_suits_4 : List UInt8 := [54, 7, 21, 7, 21, 5, 161, 0, 6, 167, 0, 11, 21, 6, 54, 4, 21, 7, 54, 5, 132, 6, 1]
abbrev dktX0_suits_4 : List UInt8 := dkwX0_suits_4 ++ dktX0_suits_5
def dkwX0_suits_3 : List UInt8 := [167, 0, 24, 42, 21, 6, 28, 29, 3, 182, 1, 16, 42, 180, 0, 40, 27, 182, 0, 207, 100, 184, 1, 73]
abbrev dktX0_suits_3 : List UInt8 := dkwX0_suits_3 ++ dktX0_suits_4
def dkwX0_suits_2 : List UInt8 := [21, 6, 42, 182, 0, 156, 162, 0, 66, 28, 42, 21, 6, 182, 0, 175, 164, 0, 9, 19, 1, 52]
abbrev dktX0_suits_2 : List UInt8 := dkwX0_suits_2 ++ dktX0_suits_3
def dkwX0_suits_1 : List UInt8 := [29, 4, 16, 6, 184, 0, 158, 154, 0, 5, 2, 172, 16, 254, 54, 4, 19, 1, 52, 54, 5, 3, 54, 6]
abbrev dktX0_suits_1 : List UInt8 := dkwX0_suits_1 ++ dktX0_suits_2
def dkwX0_suits_0 : List UInt8 := [27, 3, 42, 182, 0, 196, 4, 100, 184, 0, 158, 153, 0, 23, 28, 4, 16, 8, 184, 0, 158, 153, 0, 13]
abbrev dktX0_suits_0 : List UInt8 := dkwX0_suits_0 ++ dktX0_suits_1
theorem dksX0_suits_0 : cX0_suits.data.toList.drop 0 = dktX0_suits_0 := by decide +kernel
theorem dksX0_suits_1 : cX0_suits.data.toList.drop 24 = dktX0_suits_1 := dk_seg dksX0_suits_0 24 rfl rfl
theorem dksX0_suits_2 : cX0_suits.data.toList.drop 48 = dktX0_suits_2 := dk_seg dksX0_suits_1 24 rfl rfl
theorem dksX0_suits_3 : cX0_suits.data.toList.drop 70 = dktX0_suits_3 := dk_seg dksX0_suits_2 22 rfl rfl
theorem dksX0_suits_4 : cX0_suits.data.toList.drop 94 = dktX0_suits_4 := dk_seg dksX0_suits_3 24 rfl rfl
theorem dksX0_suits_5 : cX0_suits.data.toList.drop 117 = dktX0_suits_5 := dk_seg dksX0_suits_4 23 rfl rfl
theorem dX0_suits_0 : decode cX0_suits 0 = .ok (.iload_n 1, 1) := dk_27 (dk_at dksX0_suits_0 0 rfl rfl)
theorem dX0_suits_1 : decode cX0_suits 1 = .ok (.iconst 0, 1) := dk_3 (dk_at dksX0_suits_0 1 rfl rfl)
theorem dX0_suits_2 : decode cX0_suits 2 = .ok (.aload_n 0, 1) := dk_42 (dk_at dksX0_suits_0 2 rfl rfl)
theorem dX0_suits_3 : decode cX0_suits 3 = .ok (.invokevirtual 196, 3) := dk_182 0 196 (dk_at dksX0_suits_0 3 rfl rfl)
theorem dX0_suits_6 : decode cX0_suits 6 = .ok (.iconst 1, 1) := dk_4 (dk_at dksX0_suits_0 6 rfl rfl)
theorem dX0_suits_7 : decode cX0_suits 7 = .ok (.isub, 1) := dk_100 (dk_at dksX0_suits_0 7 rfl rfl)
theorem dX0_suits_8 : decode cX0_suits 8 = .ok (.invokestatic 158, 3) := dk_184 0 158 (dk_at dksX0_suits_0 8 rfl rfl)
theorem dX0_suits_11 : decode cX0_suits 11 = .ok (.ifCond .eq 23, 3) := dk_153 0 23 (dk_at dksX0_suits_0 11 rfl rfl)
theorem dX0_suits_14 : decode cX0_suits 14 = .ok (.iload_n 2, 1) := dk_28 (dk_at dksX0_suits_0 14 rfl rfl)
theorem dX0_suits_15 : decode cX0_suits 15 = .ok (.iconst 1, 1) := dk_4 (dk_at dksX0_suits_0 15 rfl rfl)
theorem dX0_suits_16 : decode cX0_suits 16 = .ok (.bipush 8, 2) := dk_16 8 (dk_at dksX0_suits_0 16 rfl rfl)
theorem dX0_suits_18 : decode cX0_suits 18 = .ok (.invokestatic 158, 3) := dk_184 0 158 (dk_at dksX0_suits_0 18 rfl rfl)
theorem dX0_suits_21 : decode cX0_suits 21 = .ok (.ifCond .eq 13, 3) := dk_153 0 13 (dk_at dksX0_suits_0 21 rfl rfl)
theorem dX0_suits_24 : decode cX0_suits 24 = .ok (.iload_n 3, 1) := dk_29 (dk_at dksX0_suits_1 0 rfl rfl)
theorem dX0_suits_25 : decode cX0_suits 25 = .ok (.iconst 1, 1) := dk_4 (dk_at dksX0_suits_1 1 rfl rfl)
theorem dX0_suits_26 : decode cX0_suits 26 = .ok (.bipush 6, 2) := dk_16 6 (dk_at dksX0_suits_1 2 rfl rfl)
theorem dX0_suits_28 : decode cX0_suits 28 = .ok (.invokestatic 158, 3) := dk_184 0 158 (dk_at dksX0_suits_1 4 rfl rfl)
theorem dX0_suits_31 : decode cX0_suits 31 = .ok (.ifCond .ne 5, 3) := dk_154 0 5 (dk_at dksX0_suits_1 7 rfl rfl)
theorem dX0_suits_34 : decode cX0_suits 34 = .ok (.iconst (-1), 1) := dk_2 (dk_at dksX0_suits_1 10 rfl rfl)
theorem dX0_suits_35 : decode cX0_suits 35 = .ok (.ireturn, 1) := dk_172 (dk_at dksX0_suits_1 11 rfl rfl)
theorem dX0_suits_36 : decode cX0_suits 36 = .ok (.bipush (-2), 2) := dk_16 254 (dk_at dksX0_suits_1 12 rfl rfl)
theorem dX0_suits_38 : decode cX0_suits 38 = .ok (.istore 4, 2) := dk_54 4 (dk_at dksX0_suits_1 14 rfl rfl)
theorem dX0_suits_40 : decode cX0_suits 40 = .ok (.ldc_w 308, 3) := dk_19 1 52 (dk_at dksX0_suits_1 16 rfl rfl)
theorem dX0_suits_43 : decode cX0_suits 43 = .ok (.istore 5, 2) := dk_54 5 (dk_at dksX0_suits_1 19 rfl rfl)
theorem dX0_suits_45 : decode cX0_suits 45 = .ok (.iconst 0, 1) := dk_3 (dk_at dksX0_suits_1 21 rfl rfl)
theorem dX0_suits_46 : decode cX0_suits 46 = .ok (.istore 6, 2) := dk_54 6 (dk_at dksX0_suits_1 22 rfl rfl)
theorem dX0_suits_48 : decode cX0_suits 48 = .ok (.iload 6, 2) := dk_21 6 (dk_at dksX0_suits_2 0 rfl rfl)
theorem dX0_suits_50 : decode cX0_suits 50 = .ok (.aload_n 0, 1) := dk_42 (dk_at dksX0_suits_2 2 rfl rfl)
theorem dX0_suits_51 : decode cX0_suits 51 = .ok (.invokevirtual 156, 3) := dk_182 0 156 (dk_at dksX0_suits_2 3 rfl rfl)
theorem dX0_suits_54 : decode cX0_suits 54 = .ok (.if_icmp .ge 66, 3) := dk_162 0 66 (dk_at dksX0_suits_2 6 rfl rfl)
theorem dX0_suits_57 : decode cX0_suits 57 = .ok (.iload_n 2, 1) := dk_28 (dk_at dksX0_suits_2 9 rfl rfl)
theorem dX0_suits_58 : decode cX0_suits 58 = .ok (.aload_n 0, 1) := dk_42 (dk_at dksX0_suits_2 10 rfl rfl)
theorem dX0_suits_59 : decode cX0_suits 59 = .ok (.iload 6, 2) := dk_21 6 (dk_at dksX0_suits_2 11 rfl rfl)
theorem dX0_suits_61 : decode cX0_suits 61 = .ok (.invokevirtual 175, 3) := dk_182 0 175 (dk_at dksX0_suits_2 13 rfl rfl)
theorem dX0_suits_64 : decode cX0_suits 64 = .ok (.if_icmp .le 9, 3) := dk_164 0 9 (dk_at dksX0_suits_2 16 rfl rfl)
theorem dX0_suits_67 : decode cX0_suits 67 = .ok (.ldc_w 308, 3) := dk_19 1 52 (dk_at dksX0_suits_2 19 rfl rfl)
theorem dX0_suits_70 : decode cX0_suits 70 = .ok (.goto 24, 3) := dk_167 0 24 (dk_at dksX0_suits_3 0 rfl rfl)
theorem dX0_suits_73 : decode cX0_suits 73 = .ok (.aload_n 0, 1) := dk_42 (dk_at dksX0_suits_3 3 rfl rfl)
theorem dX0_suits_74 : decode cX0_suits 74 = .ok (.iload 6, 2) := dk_21 6 (dk_at dksX0_suits_3 4 rfl rfl)
theorem dX0_suits_76 : decode cX0_suits 76 = .ok (.iload_n 2, 1) := dk_28 (dk_at dksX0_suits_3 6 rfl rfl)
theorem dX0_suits_77 : decode cX0_suits 77 = .ok (.iload_n 3, 1) := dk_29 (dk_at dksX0_suits_3 7 rfl rfl)
theorem dX0_suits_78 : decode cX0_suits 78 = .ok (.iconst 0, 1) := dk_3 (dk_at dksX0_suits_3 8 rfl rfl)
theorem dX0_suits_79 : decode cX0_suits 79 = .ok (.invokevirtual 272, 3) := dk_182 1 16 (dk_at dksX0_suits_3 9 rfl rfl)
theorem dX0_suits_82 : decode cX0_suits 82 = .ok (.aload_n 0, 1) := dk_42 (dk_at dksX0_suits_3 12 rfl rfl)
theorem dX0_suits_83 : decode cX0_suits 83 = .ok (.getfield 40, 3) := dk_180 0 40 (dk_at dksX0_suits_3 13 rfl rfl)
theorem dX0_suits_86 : decode cX0_suits 86 = .ok (.iload_n 1, 1) := dk_27 (dk_at dksX0_suits_3 16 rfl rfl)
theorem dX0_suits_87 : decode cX0_suits 87 = .ok (.invokevirtual 207, 3) := dk_182 0 207 (dk_at dksX0_suits_3 17 rfl rfl)
theorem dX0_suits_90 : decode cX0_suits 90 = .ok (.isub, 1) := dk_100 (dk_at dksX0_suits_3 20 rfl rfl)
theorem dX0_suits_91 : decode cX0_suits 91 = .ok (.invokestatic 329, 3) := dk_184 1 73 (dk_at dksX0_suits_3 21 rfl rfl)
theorem dX0_suits_94 : decode cX0_suits 94 = .ok (.istore 7, 2) := dk_54 7 (dk_at dksX0_suits_4 0 rfl rfl)
theorem dX0_suits_96 : decode cX0_suits 96 = .ok (.iload 7, 2) := dk_21 7 (dk_at dksX0_suits_4 2 rfl rfl)
theorem dX0_suits_98 : decode cX0_suits 98 = .ok (.iload 5, 2) := dk_21 5 (dk_at dksX0_suits_4 4 rfl rfl)
theorem dX0_suits_100 : decode cX0_suits 100 = .ok (.if_icmp .lt 6, 3) := dk_161 0 6 (dk_at dksX0_suits_4 6 rfl rfl)
theorem dX0_suits_103 : decode cX0_suits 103 = .ok (.goto 11, 3) := dk_167 0 11 (dk_at dksX0_suits_4 9 rfl rfl)
theorem dX0_suits_106 : decode cX0_suits 106 = .ok (.iload 6, 2) := dk_21 6 (dk_at dksX0_suits_4 12 rfl rfl)
theorem dX0_suits_108 : decode cX0_suits 108 = .ok (.istore 4, 2) := dk_54 4 (dk_at dksX0_suits_4 14 rfl rfl)
theorem dX0_suits_110 : decode cX0_suits 110 = .ok (.iload 7, 2) := dk_21 7 (dk_at dksX0_suits_4 16 rfl rfl)
theorem dX0_suits_112 : decode cX0_suits 112 = .ok (.istore 5, 2) := dk_54 5 (dk_at dksX0_suits_4 18 rfl rfl)
theorem dX0_suits_114 : decode cX0_suits 114 = .ok (.iinc 6 1, 3) := dk_132 6 1 (dk_at dksX0_suits_4 20 rfl rfl)
theorem dX0_suits_117 : decode cX0_suits 117 = .ok (.goto (-69), 3) := dk_167 255 187 (dk_at dksX0_suits_5 0 rfl rfl)
theorem dX0_suits_120 : decode cX0_suits 120 = .ok (.iload 4, 2) := dk_21 4 (dk_at dksX0_suits_5 3 rfl rfl)
theorem dX0_suits_122 : decode cX0_suits 122 = .ok (.ireturn, 1) := dk_172 (dk_at dksX0_suits_5 5 rfl rfl)
abbrev cX0_now : ByteArray := prog_1_method_50_code
def yX0_now : MethodName := ⟨RX0, "now", "(IZ)I"⟩
def dkwX0_now_4 : List UInt8 := [153, 0, 7, 4, 167, 0, 4, 3, 96, 62, 132, 4, 1, 167, 255, 173, 29, 172]
abbrev dktX0_now_4 : List UInt8 := dkwX0_now_4 ++ []
def dkwX0_now_3 : List UInt8 := [182, 0, 193, 153, 0, 26, 167, 0, 19, 42, 180, 0, 51, 42, 180, 0, 40, 21, 4, 182, 0, 189]
abbrev dktX0_now_3 : List UInt8 := dkwX0_now_3 ++ dktX0_now_4
def dkwX0_now_2 : List UInt8 := [180, 0, 183, 21, 4, 46, 27, 160, 0, 46, 28, 153, 0, 22, 42, 180, 0, 51, 42, 180, 0, 40, 21, 4]
abbrev dktX0_now_2 : List UInt8 := dkwX0_now_2 ++ dktX0_now_3
def dkwX0_now_1 : List UInt8 := [16, 48, 162, 0, 82, 29, 42, 180, 0, 40, 21, 4, 182, 0, 198, 153, 0, 60, 42, 180, 0, 40]
abbrev dktX0_now_1 : List UInt8 := dkwX0_now_1 ++ dktX0_now_2
def dkwX0_now_0 : List UInt8 := [27, 3, 42, 182, 0, 196, 4, 100, 184, 0, 158, 154, 0, 5, 2, 172, 3, 62, 3, 54, 4, 21, 4]
abbrev dktX0_now_0 : List UInt8 := dkwX0_now_0 ++ dktX0_now_1
theorem dksX0_now_0 : cX0_now.data.toList.drop 0 = dktX0_now_0 := by decide +kernel
theorem dksX0_now_1 : cX0_now.data.toList.drop 23 = dktX0_now_1 := dk_seg dksX0_now_0 23 rfl rfl
theorem dksX0_now_2 : cX0_now.data.toList.drop 45 = dktX0_now_2 := dk_seg dksX0_now_1 22 rfl rfl
theorem dksX0_now_3 : cX0_now.data.toList.drop 69 = dktX0_now_3 := dk_seg dksX0_now_2 24 rfl rfl
theorem dksX0_now_4 : cX0_now.data.toList.drop 91 = dktX0_now_4 := dk_seg dksX0_now_3 22 rfl rfl
theorem dX0_now_0 : decode cX0_now 0 = .ok (.iload_n 1, 1) := dk_27 (dk_at dksX0_now_0 0 rfl rfl)
theorem dX0_now_1 : decode cX0_now 1 = .ok (.iconst 0, 1) := dk_3 (dk_at dksX0_now_0 1 rfl rfl)
theorem dX0_now_2 : decode cX0_now 2 = .ok (.aload_n 0, 1) := dk_42 (dk_at dksX0_now_0 2 rfl rfl)
theorem dX0_now_3 : decode cX0_now 3 = .ok (.invokevirtual 196, 3) := dk_182 0 196 (dk_at dksX0_now_0 3 rfl rfl)
theorem dX0_now_6 : decode cX0_now 6 = .ok (.iconst 1, 1) := dk_4 (dk_at dksX0_now_0 6 rfl rfl)
theorem dX0_now_7 : decode cX0_now 7 = .ok (.isub, 1) := dk_100 (dk_at dksX0_now_0 7 rfl rfl)
theorem dX0_now_8 : decode cX0_now 8 = .ok (.invokestatic 158, 3) := dk_184 0 158 (dk_at dksX0_now_0 8 rfl rfl)
theorem dX0_now_11 : decode cX0_now 11 = .ok (.ifCond .ne 5, 3) := dk_154 0 5 (dk_at dksX0_now_0 11 rfl rfl)
theorem dX0_now_14 : decode cX0_now 14 = .ok (.iconst (-1), 1) := dk_2 (dk_at dksX0_now_0 14 rfl rfl)
theorem dX0_now_15 : decode cX0_now 15 = .ok (.ireturn, 1) := dk_172 (dk_at dksX0_now_0 15 rfl rfl)
theorem dX0_now_16 : decode cX0_now 16 = .ok (.iconst 0, 1) := dk_3 (dk_at dksX0_now_0 16 rfl rfl)
theorem dX0_now_17 : decode cX0_now 17 = .ok (.istore_n 3, 1) := dk_62 (dk_at dksX0_now_0 17 rfl rfl)
theorem dX0_now_18 : decode cX0_now 18 = .ok (.iconst 0, 1) := dk_3 (dk_at dksX0_now_0 18 rfl rfl)
theorem dX0_now_19 : decode cX0_now 19 = .ok (.istore 4, 2) := dk_54 4 (dk_at dksX0_now_0 19 rfl rfl)
theorem dX0_now_21 : decode cX0_now 21 = .ok (.iload 4, 2) := dk_21 4 (dk_at dksX0_now_0 21 rfl rfl)
theorem dX0_now_23 : decode cX0_now 23 = .ok (.bipush 48, 2) := dk_16 48 (dk_at dksX0_now_1 0 rfl rfl)
theorem dX0_now_25 : decode cX0_now 25 = .ok (.if_icmp .ge 82, 3) := dk_162 0 82 (dk_at dksX0_now_1 2 rfl rfl)
theorem dX0_now_28 : decode cX0_now 28 = .ok (.iload_n 3, 1) := dk_29 (dk_at dksX0_now_1 5 rfl rfl)
theorem dX0_now_29 : decode cX0_now 29 = .ok (.aload_n 0, 1) := dk_42 (dk_at dksX0_now_1 6 rfl rfl)
theorem dX0_now_30 : decode cX0_now 30 = .ok (.getfield 40, 3) := dk_180 0 40 (dk_at dksX0_now_1 7 rfl rfl)
theorem dX0_now_33 : decode cX0_now 33 = .ok (.iload 4, 2) := dk_21 4 (dk_at dksX0_now_1 10 rfl rfl)
theorem dX0_now_35 : decode cX0_now 35 = .ok (.invokevirtual 198, 3) := dk_182 0 198 (dk_at dksX0_now_1 12 rfl rfl)
theorem dX0_now_38 : decode cX0_now 38 = .ok (.ifCond .eq 60, 3) := dk_153 0 60 (dk_at dksX0_now_1 15 rfl rfl)
theorem dX0_now_41 : decode cX0_now 41 = .ok (.aload_n 0, 1) := dk_42 (dk_at dksX0_now_1 18 rfl rfl)
theorem dX0_now_42 : decode cX0_now 42 = .ok (.getfield 40, 3) := dk_180 0 40 (dk_at dksX0_now_1 19 rfl rfl)
theorem dX0_now_45 : decode cX0_now 45 = .ok (.getfield 183, 3) := dk_180 0 183 (dk_at dksX0_now_2 0 rfl rfl)
theorem dX0_now_48 : decode cX0_now 48 = .ok (.iload 4, 2) := dk_21 4 (dk_at dksX0_now_2 3 rfl rfl)
theorem dX0_now_50 : decode cX0_now 50 = .ok (.iaload, 1) := dk_46 (dk_at dksX0_now_2 5 rfl rfl)
theorem dX0_now_51 : decode cX0_now 51 = .ok (.iload_n 1, 1) := dk_27 (dk_at dksX0_now_2 6 rfl rfl)
theorem dX0_now_52 : decode cX0_now 52 = .ok (.if_icmp .ne 46, 3) := dk_160 0 46 (dk_at dksX0_now_2 7 rfl rfl)
theorem dX0_now_55 : decode cX0_now 55 = .ok (.iload_n 2, 1) := dk_28 (dk_at dksX0_now_2 10 rfl rfl)
theorem dX0_now_56 : decode cX0_now 56 = .ok (.ifCond .eq 22, 3) := dk_153 0 22 (dk_at dksX0_now_2 11 rfl rfl)
theorem dX0_now_59 : decode cX0_now 59 = .ok (.aload_n 0, 1) := dk_42 (dk_at dksX0_now_2 14 rfl rfl)
theorem dX0_now_60 : decode cX0_now 60 = .ok (.getfield 51, 3) := dk_180 0 51 (dk_at dksX0_now_2 15 rfl rfl)
theorem dX0_now_63 : decode cX0_now 63 = .ok (.aload_n 0, 1) := dk_42 (dk_at dksX0_now_2 18 rfl rfl)
theorem dX0_now_64 : decode cX0_now 64 = .ok (.getfield 40, 3) := dk_180 0 40 (dk_at dksX0_now_2 19 rfl rfl)
theorem dX0_now_67 : decode cX0_now 67 = .ok (.iload 4, 2) := dk_21 4 (dk_at dksX0_now_2 22 rfl rfl)
theorem dX0_now_69 : decode cX0_now 69 = .ok (.invokevirtual 193, 3) := dk_182 0 193 (dk_at dksX0_now_3 0 rfl rfl)
theorem dX0_now_72 : decode cX0_now 72 = .ok (.ifCond .eq 26, 3) := dk_153 0 26 (dk_at dksX0_now_3 3 rfl rfl)
theorem dX0_now_75 : decode cX0_now 75 = .ok (.goto 19, 3) := dk_167 0 19 (dk_at dksX0_now_3 6 rfl rfl)
theorem dX0_now_78 : decode cX0_now 78 = .ok (.aload_n 0, 1) := dk_42 (dk_at dksX0_now_3 9 rfl rfl)
theorem dX0_now_79 : decode cX0_now 79 = .ok (.getfield 51, 3) := dk_180 0 51 (dk_at dksX0_now_3 10 rfl rfl)
theorem dX0_now_82 : decode cX0_now 82 = .ok (.aload_n 0, 1) := dk_42 (dk_at dksX0_now_3 13 rfl rfl)
theorem dX0_now_83 : decode cX0_now 83 = .ok (.getfield 40, 3) := dk_180 0 40 (dk_at dksX0_now_3 14 rfl rfl)
theorem dX0_now_86 : decode cX0_now 86 = .ok (.iload 4, 2) := dk_21 4 (dk_at dksX0_now_3 17 rfl rfl)
theorem dX0_now_88 : decode cX0_now 88 = .ok (.invokevirtual 189, 3) := dk_182 0 189 (dk_at dksX0_now_3 19 rfl rfl)
theorem dX0_now_91 : decode cX0_now 91 = .ok (.ifCond .eq 7, 3) := dk_153 0 7 (dk_at dksX0_now_4 0 rfl rfl)
theorem dX0_now_94 : decode cX0_now 94 = .ok (.iconst 1, 1) := dk_4 (dk_at dksX0_now_4 3 rfl rfl)
theorem dX0_now_95 : decode cX0_now 95 = .ok (.goto 4, 3) := dk_167 0 4 (dk_at dksX0_now_4 4 rfl rfl)
theorem dX0_now_98 : decode cX0_now 98 = .ok (.iconst 0, 1) := dk_3 (dk_at dksX0_now_4 7 rfl rfl)
theorem dX0_now_99 : decode cX0_now 99 = .ok (.iadd, 1) := dk_96 (dk_at dksX0_now_4 8 rfl rfl)
theorem dX0_now_100 : decode cX0_now 100 = .ok (.istore_n 3, 1) := dk_62 (dk_at dksX0_now_4 9 rfl rfl)
theorem dX0_now_101 : decode cX0_now 101 = .ok (.iinc 4 1, 3) := dk_132 4 1 (dk_at dksX0_now_4 10 rfl rfl)
theorem dX0_now_104 : decode cX0_now 104 = .ok (.goto (-83), 3) := dk_167 255 173 (dk_at dksX0_now_4 13 rfl rfl)
theorem dX0_now_107 : decode cX0_now 107 = .ok (.iload_n 3, 1) := dk_29 (dk_at dksX0_now_4 16 rfl rfl)
theorem dX0_now_108 : decode cX0_now 108 = .ok (.ireturn, 1) := dk_172 (dk_at dksX0_now_4 17 rfl rfl)
abbrev cX0_tell : ByteArray := prog_1_method_51_code
def yX0_tell : MethodName := ⟨RX0, "tell", "(III)I"⟩
def dkwX0_tell_3 : List UInt8 := [180, 0, 136, 4, 100, 172]
abbrev dktX0_tell_3 : List UInt8 := dkwX0_tell_3 ++ []
def dkwX0_tell_2 : List UInt8 := [79, 42, 180, 0, 108, 42, 180, 0, 136, 29, 79, 42, 89, 180, 0, 136, 4, 96, 181, 0, 136, 42]
abbrev dktX0_tell_2 : List UInt8 := dkwX0_tell_2 ++ dktX0_tell_3
def dkwX0_tell_1 : List UInt8 := [180, 0, 136, 16, 20, 160, 0, 5, 2, 172, 42, 180, 0, 105, 42, 180, 0, 136, 28, 16, 8, 104, 27, 96]
abbrev dktX0_tell_1 : List UInt8 := dkwX0_tell_1 ++ dktX0_tell_2
def dkwX0_tell_0 : List UInt8 := [42, 180, 0, 40, 27, 28, 182, 0, 179, 153, 0, 23, 29, 3, 17, 3, 231, 184, 0, 158, 153, 0, 12, 42]
abbrev dktX0_tell_0 : List UInt8 := dkwX0_tell_0 ++ dktX0_tell_1
theorem dksX0_tell_0 : cX0_tell.data.toList.drop 0 = dktX0_tell_0 := by decide +kernel
theorem dksX0_tell_1 : cX0_tell.data.toList.drop 24 = dktX0_tell_1 := dk_seg dksX0_tell_0 24 rfl rfl
theorem dksX0_tell_2 : cX0_tell.data.toList.drop 48 = dktX0_tell_2 := dk_seg dksX0_tell_1 24 rfl rfl
theorem dksX0_tell_3 : cX0_tell.data.toList.drop 70 = dktX0_tell_3 := dk_seg dksX0_tell_2 22 rfl rfl
theorem dX0_tell_0 : decode cX0_tell 0 = .ok (.aload_n 0, 1) := dk_42 (dk_at dksX0_tell_0 0 rfl rfl)
theorem dX0_tell_1 : decode cX0_tell 1 = .ok (.getfield 40, 3) := dk_180 0 40 (dk_at dksX0_tell_0 1 rfl rfl)
theorem dX0_tell_4 : decode cX0_tell 4 = .ok (.iload_n 1, 1) := dk_27 (dk_at dksX0_tell_0 4 rfl rfl)
theorem dX0_tell_5 : decode cX0_tell 5 = .ok (.iload_n 2, 1) := dk_28 (dk_at dksX0_tell_0 5 rfl rfl)
theorem dX0_tell_6 : decode cX0_tell 6 = .ok (.invokevirtual 179, 3) := dk_182 0 179 (dk_at dksX0_tell_0 6 rfl rfl)
theorem dX0_tell_9 : decode cX0_tell 9 = .ok (.ifCond .eq 23, 3) := dk_153 0 23 (dk_at dksX0_tell_0 9 rfl rfl)
theorem dX0_tell_12 : decode cX0_tell 12 = .ok (.iload_n 3, 1) := dk_29 (dk_at dksX0_tell_0 12 rfl rfl)
theorem dX0_tell_13 : decode cX0_tell 13 = .ok (.iconst 0, 1) := dk_3 (dk_at dksX0_tell_0 13 rfl rfl)
theorem dX0_tell_14 : decode cX0_tell 14 = .ok (.sipush 999, 3) := dk_17 3 231 (dk_at dksX0_tell_0 14 rfl rfl)
theorem dX0_tell_17 : decode cX0_tell 17 = .ok (.invokestatic 158, 3) := dk_184 0 158 (dk_at dksX0_tell_0 17 rfl rfl)
theorem dX0_tell_20 : decode cX0_tell 20 = .ok (.ifCond .eq 12, 3) := dk_153 0 12 (dk_at dksX0_tell_0 20 rfl rfl)
theorem dX0_tell_23 : decode cX0_tell 23 = .ok (.aload_n 0, 1) := dk_42 (dk_at dksX0_tell_0 23 rfl rfl)
theorem dX0_tell_24 : decode cX0_tell 24 = .ok (.getfield 136, 3) := dk_180 0 136 (dk_at dksX0_tell_1 0 rfl rfl)
theorem dX0_tell_27 : decode cX0_tell 27 = .ok (.bipush 20, 2) := dk_16 20 (dk_at dksX0_tell_1 3 rfl rfl)
theorem dX0_tell_29 : decode cX0_tell 29 = .ok (.if_icmp .ne 5, 3) := dk_160 0 5 (dk_at dksX0_tell_1 5 rfl rfl)
theorem dX0_tell_32 : decode cX0_tell 32 = .ok (.iconst (-1), 1) := dk_2 (dk_at dksX0_tell_1 8 rfl rfl)
theorem dX0_tell_33 : decode cX0_tell 33 = .ok (.ireturn, 1) := dk_172 (dk_at dksX0_tell_1 9 rfl rfl)
theorem dX0_tell_34 : decode cX0_tell 34 = .ok (.aload_n 0, 1) := dk_42 (dk_at dksX0_tell_1 10 rfl rfl)
theorem dX0_tell_35 : decode cX0_tell 35 = .ok (.getfield 105, 3) := dk_180 0 105 (dk_at dksX0_tell_1 11 rfl rfl)
theorem dX0_tell_38 : decode cX0_tell 38 = .ok (.aload_n 0, 1) := dk_42 (dk_at dksX0_tell_1 14 rfl rfl)
theorem dX0_tell_39 : decode cX0_tell 39 = .ok (.getfield 136, 3) := dk_180 0 136 (dk_at dksX0_tell_1 15 rfl rfl)
theorem dX0_tell_42 : decode cX0_tell 42 = .ok (.iload_n 2, 1) := dk_28 (dk_at dksX0_tell_1 18 rfl rfl)
theorem dX0_tell_43 : decode cX0_tell 43 = .ok (.bipush 8, 2) := dk_16 8 (dk_at dksX0_tell_1 19 rfl rfl)
theorem dX0_tell_45 : decode cX0_tell 45 = .ok (.imul, 1) := dk_104 (dk_at dksX0_tell_1 21 rfl rfl)
theorem dX0_tell_46 : decode cX0_tell 46 = .ok (.iload_n 1, 1) := dk_27 (dk_at dksX0_tell_1 22 rfl rfl)
theorem dX0_tell_47 : decode cX0_tell 47 = .ok (.iadd, 1) := dk_96 (dk_at dksX0_tell_1 23 rfl rfl)
theorem dX0_tell_48 : decode cX0_tell 48 = .ok (.iastore, 1) := dk_79 (dk_at dksX0_tell_2 0 rfl rfl)
theorem dX0_tell_49 : decode cX0_tell 49 = .ok (.aload_n 0, 1) := dk_42 (dk_at dksX0_tell_2 1 rfl rfl)
theorem dX0_tell_50 : decode cX0_tell 50 = .ok (.getfield 108, 3) := dk_180 0 108 (dk_at dksX0_tell_2 2 rfl rfl)
theorem dX0_tell_53 : decode cX0_tell 53 = .ok (.aload_n 0, 1) := dk_42 (dk_at dksX0_tell_2 5 rfl rfl)
theorem dX0_tell_54 : decode cX0_tell 54 = .ok (.getfield 136, 3) := dk_180 0 136 (dk_at dksX0_tell_2 6 rfl rfl)
theorem dX0_tell_57 : decode cX0_tell 57 = .ok (.iload_n 3, 1) := dk_29 (dk_at dksX0_tell_2 9 rfl rfl)
theorem dX0_tell_58 : decode cX0_tell 58 = .ok (.iastore, 1) := dk_79 (dk_at dksX0_tell_2 10 rfl rfl)
theorem dX0_tell_59 : decode cX0_tell 59 = .ok (.aload_n 0, 1) := dk_42 (dk_at dksX0_tell_2 11 rfl rfl)
theorem dX0_tell_60 : decode cX0_tell 60 = .ok (.dup, 1) := dk_89 (dk_at dksX0_tell_2 12 rfl rfl)
theorem dX0_tell_61 : decode cX0_tell 61 = .ok (.getfield 136, 3) := dk_180 0 136 (dk_at dksX0_tell_2 13 rfl rfl)
theorem dX0_tell_64 : decode cX0_tell 64 = .ok (.iconst 1, 1) := dk_4 (dk_at dksX0_tell_2 16 rfl rfl)
theorem dX0_tell_65 : decode cX0_tell 65 = .ok (.iadd, 1) := dk_96 (dk_at dksX0_tell_2 17 rfl rfl)
theorem dX0_tell_66 : decode cX0_tell 66 = .ok (.putfield 136, 3) := dk_181 0 136 (dk_at dksX0_tell_2 18 rfl rfl)
theorem dX0_tell_69 : decode cX0_tell 69 = .ok (.aload_n 0, 1) := dk_42 (dk_at dksX0_tell_2 21 rfl rfl)
theorem dX0_tell_70 : decode cX0_tell 70 = .ok (.getfield 136, 3) := dk_180 0 136 (dk_at dksX0_tell_3 0 rfl rfl)
theorem dX0_tell_73 : decode cX0_tell 73 = .ok (.iconst 1, 1) := dk_4 (dk_at dksX0_tell_3 3 rfl rfl)
theorem dX0_tell_74 : decode cX0_tell 74 = .ok (.isub, 1) := dk_100 (dk_at dksX0_tell_3 4 rfl rfl)
theorem dX0_tell_75 : decode cX0_tell 75 = .ok (.ireturn, 1) := dk_172 (dk_at dksX0_tell_3 5 rfl rfl)
abbrev cX0_forget : ByteArray := prog_1_method_52_code
def yX0_forget : MethodName := ⟨RX0, "forget", "()I"⟩
def dkwX0_forget_0 : List UInt8 := [42, 180, 0, 136, 60, 42, 3, 181, 0, 136, 27, 172]
abbrev dktX0_forget_0 : List UInt8 := dkwX0_forget_0 ++ []
theorem dksX0_forget_0 : cX0_forget.data.toList.drop 0 = dktX0_forget_0 := by decide +kernel
theorem dX0_forget_0 : decode cX0_forget 0 = .ok (.aload_n 0, 1) := dk_42 (dk_at dksX0_forget_0 0 rfl rfl)
theorem dX0_forget_1 : decode cX0_forget 1 = .ok (.getfield 136, 3) := dk_180 0 136 (dk_at dksX0_forget_0 1 rfl rfl)
theorem dX0_forget_4 : decode cX0_forget 4 = .ok (.istore_n 1, 1) := dk_60 (dk_at dksX0_forget_0 4 rfl rfl)
theorem dX0_forget_5 : decode cX0_forget 5 = .ok (.aload_n 0, 1) := dk_42 (dk_at dksX0_forget_0 5 rfl rfl)
theorem dX0_forget_6 : decode cX0_forget 6 = .ok (.iconst 0, 1) := dk_3 (dk_at dksX0_forget_0 6 rfl rfl)
theorem dX0_forget_7 : decode cX0_forget 7 = .ok (.putfield 136, 3) := dk_181 0 136 (dk_at dksX0_forget_0 7 rfl rfl)
theorem dX0_forget_10 : decode cX0_forget 10 = .ok (.iload_n 1, 1) := dk_27 (dk_at dksX0_forget_0 10 rfl rfl)
theorem dX0_forget_11 : decode cX0_forget 11 = .ok (.ireturn, 1) := dk_172 (dk_at dksX0_forget_0 11 rfl rfl)
abbrev cX0_fell : ByteArray := prog_1_method_54_code
def yX0_fell : MethodName := ⟨RX0, "fell", "(IIII)I"⟩
def dkwX0_fell_7 : List UInt8 := [167, 255, 150, 132, 6, 1, 167, 255, 132, 21, 4, 2, 160, 0, 8, 21, 5, 167, 0, 4, 2, 172]
abbrev dktX0_fell_7 : List UInt8 := dkwX0_fell_7 ++ []
def dkwX0_fell_6 : List UInt8 := [160, 0, 18, 16, 100, 21, 6, 104, 16, 10, 21, 9, 104, 96, 21, 8, 96, 172, 132, 5, 1, 132, 7, 1]
abbrev dktX0_fell_6 : List UInt8 := dkwX0_fell_6 ++ dktX0_fell_7
def dkwX0_fell_5 : List UInt8 := [27, 21, 6, 28, 29, 21, 8, 21, 9, 182, 1, 80, 154, 0, 6, 167, 0, 28, 21, 5, 21, 4]
abbrev dktX0_fell_5 : List UInt8 := dkwX0_fell_5 ++ dktX0_fell_6
def dkwX0_fell_4 : List UInt8 := [180, 0, 40, 180, 1, 29, 163, 0, 61, 21, 9, 29, 96, 42, 180, 0, 40, 180, 1, 26, 163, 0, 47, 42]
abbrev dktX0_fell_4 : List UInt8 := dkwX0_fell_4 ++ dktX0_fell_5
def dkwX0_fell_3 : List UInt8 := [163, 0, 95, 21, 7, 16, 8, 112, 54, 8, 21, 7, 16, 8, 108, 54, 9, 21, 8, 28, 96, 42]
abbrev dktX0_fell_3 : List UInt8 := dkwX0_fell_3 ++ dktX0_fell_4
def dkwX0_fell_2 : List UInt8 := [42, 182, 0, 156, 162, 0, 121, 3, 54, 7, 21, 7, 16, 48, 162, 0, 105, 28, 42, 21, 6, 182, 0, 175]
abbrev dktX0_fell_2 : List UInt8 := dkwX0_fell_2 ++ dktX0_fell_3
def dkwX0_fell_1 : List UInt8 := [16, 6, 184, 0, 158, 153, 0, 9, 21, 4, 2, 162, 0, 5, 2, 172, 3, 54, 5, 3, 54, 6, 21, 6]
abbrev dktX0_fell_1 : List UInt8 := dkwX0_fell_1 ++ dktX0_fell_2
def dkwX0_fell_0 : List UInt8 := [27, 3, 42, 180, 0, 136, 184, 0, 158, 153, 0, 29, 28, 4, 16, 8, 184, 0, 158, 153, 0, 19, 29, 4]
abbrev dktX0_fell_0 : List UInt8 := dkwX0_fell_0 ++ dktX0_fell_1
theorem dksX0_fell_0 : cX0_fell.data.toList.drop 0 = dktX0_fell_0 := by decide +kernel
theorem dksX0_fell_1 : cX0_fell.data.toList.drop 24 = dktX0_fell_1 := dk_seg dksX0_fell_0 24 rfl rfl
theorem dksX0_fell_2 : cX0_fell.data.toList.drop 48 = dktX0_fell_2 := dk_seg dksX0_fell_1 24 rfl rfl
theorem dksX0_fell_3 : cX0_fell.data.toList.drop 72 = dktX0_fell_3 := dk_seg dksX0_fell_2 24 rfl rfl
theorem dksX0_fell_4 : cX0_fell.data.toList.drop 94 = dktX0_fell_4 := dk_seg dksX0_fell_3 22 rfl rfl
theorem dksX0_fell_5 : cX0_fell.data.toList.drop 118 = dktX0_fell_5 := dk_seg dksX0_fell_4 24 rfl rfl
theorem dksX0_fell_6 : cX0_fell.data.toList.drop 140 = dktX0_fell_6 := dk_seg dksX0_fell_5 22 rfl rfl
theorem dksX0_fell_7 : cX0_fell.data.toList.drop 164 = dktX0_fell_7 := dk_seg dksX0_fell_6 24 rfl rfl
theorem dX0_fell_0 : decode cX0_fell 0 = .ok (.iload_n 1, 1) := dk_27 (dk_at dksX0_fell_0 0 rfl rfl)
theorem dX0_fell_1 : decode cX0_fell 1 = .ok (.iconst 0, 1) := dk_3 (dk_at dksX0_fell_0 1 rfl rfl)
theorem dX0_fell_2 : decode cX0_fell 2 = .ok (.aload_n 0, 1) := dk_42 (dk_at dksX0_fell_0 2 rfl rfl)
theorem dX0_fell_3 : decode cX0_fell 3 = .ok (.getfield 136, 3) := dk_180 0 136 (dk_at dksX0_fell_0 3 rfl rfl)
theorem dX0_fell_6 : decode cX0_fell 6 = .ok (.invokestatic 158, 3) := dk_184 0 158 (dk_at dksX0_fell_0 6 rfl rfl)
theorem dX0_fell_9 : decode cX0_fell 9 = .ok (.ifCond .eq 29, 3) := dk_153 0 29 (dk_at dksX0_fell_0 9 rfl rfl)
theorem dX0_fell_12 : decode cX0_fell 12 = .ok (.iload_n 2, 1) := dk_28 (dk_at dksX0_fell_0 12 rfl rfl)
theorem dX0_fell_13 : decode cX0_fell 13 = .ok (.iconst 1, 1) := dk_4 (dk_at dksX0_fell_0 13 rfl rfl)
theorem dX0_fell_14 : decode cX0_fell 14 = .ok (.bipush 8, 2) := dk_16 8 (dk_at dksX0_fell_0 14 rfl rfl)
theorem dX0_fell_16 : decode cX0_fell 16 = .ok (.invokestatic 158, 3) := dk_184 0 158 (dk_at dksX0_fell_0 16 rfl rfl)
theorem dX0_fell_19 : decode cX0_fell 19 = .ok (.ifCond .eq 19, 3) := dk_153 0 19 (dk_at dksX0_fell_0 19 rfl rfl)
theorem dX0_fell_22 : decode cX0_fell 22 = .ok (.iload_n 3, 1) := dk_29 (dk_at dksX0_fell_0 22 rfl rfl)
theorem dX0_fell_23 : decode cX0_fell 23 = .ok (.iconst 1, 1) := dk_4 (dk_at dksX0_fell_0 23 rfl rfl)
theorem dX0_fell_24 : decode cX0_fell 24 = .ok (.bipush 6, 2) := dk_16 6 (dk_at dksX0_fell_1 0 rfl rfl)
theorem dX0_fell_26 : decode cX0_fell 26 = .ok (.invokestatic 158, 3) := dk_184 0 158 (dk_at dksX0_fell_1 2 rfl rfl)
theorem dX0_fell_29 : decode cX0_fell 29 = .ok (.ifCond .eq 9, 3) := dk_153 0 9 (dk_at dksX0_fell_1 5 rfl rfl)
theorem dX0_fell_32 : decode cX0_fell 32 = .ok (.iload 4, 2) := dk_21 4 (dk_at dksX0_fell_1 8 rfl rfl)
theorem dX0_fell_34 : decode cX0_fell 34 = .ok (.iconst (-1), 1) := dk_2 (dk_at dksX0_fell_1 10 rfl rfl)
theorem dX0_fell_35 : decode cX0_fell 35 = .ok (.if_icmp .ge 5, 3) := dk_162 0 5 (dk_at dksX0_fell_1 11 rfl rfl)
theorem dX0_fell_38 : decode cX0_fell 38 = .ok (.iconst (-1), 1) := dk_2 (dk_at dksX0_fell_1 14 rfl rfl)
theorem dX0_fell_39 : decode cX0_fell 39 = .ok (.ireturn, 1) := dk_172 (dk_at dksX0_fell_1 15 rfl rfl)
theorem dX0_fell_40 : decode cX0_fell 40 = .ok (.iconst 0, 1) := dk_3 (dk_at dksX0_fell_1 16 rfl rfl)
theorem dX0_fell_41 : decode cX0_fell 41 = .ok (.istore 5, 2) := dk_54 5 (dk_at dksX0_fell_1 17 rfl rfl)
theorem dX0_fell_43 : decode cX0_fell 43 = .ok (.iconst 0, 1) := dk_3 (dk_at dksX0_fell_1 19 rfl rfl)
theorem dX0_fell_44 : decode cX0_fell 44 = .ok (.istore 6, 2) := dk_54 6 (dk_at dksX0_fell_1 20 rfl rfl)
theorem dX0_fell_46 : decode cX0_fell 46 = .ok (.iload 6, 2) := dk_21 6 (dk_at dksX0_fell_1 22 rfl rfl)
theorem dX0_fell_48 : decode cX0_fell 48 = .ok (.aload_n 0, 1) := dk_42 (dk_at dksX0_fell_2 0 rfl rfl)
theorem dX0_fell_49 : decode cX0_fell 49 = .ok (.invokevirtual 156, 3) := dk_182 0 156 (dk_at dksX0_fell_2 1 rfl rfl)
theorem dX0_fell_52 : decode cX0_fell 52 = .ok (.if_icmp .ge 121, 3) := dk_162 0 121 (dk_at dksX0_fell_2 4 rfl rfl)
theorem dX0_fell_55 : decode cX0_fell 55 = .ok (.iconst 0, 1) := dk_3 (dk_at dksX0_fell_2 7 rfl rfl)
theorem dX0_fell_56 : decode cX0_fell 56 = .ok (.istore 7, 2) := dk_54 7 (dk_at dksX0_fell_2 8 rfl rfl)
theorem dX0_fell_58 : decode cX0_fell 58 = .ok (.iload 7, 2) := dk_21 7 (dk_at dksX0_fell_2 10 rfl rfl)
theorem dX0_fell_60 : decode cX0_fell 60 = .ok (.bipush 48, 2) := dk_16 48 (dk_at dksX0_fell_2 12 rfl rfl)
theorem dX0_fell_62 : decode cX0_fell 62 = .ok (.if_icmp .ge 105, 3) := dk_162 0 105 (dk_at dksX0_fell_2 14 rfl rfl)
theorem dX0_fell_65 : decode cX0_fell 65 = .ok (.iload_n 2, 1) := dk_28 (dk_at dksX0_fell_2 17 rfl rfl)
theorem dX0_fell_66 : decode cX0_fell 66 = .ok (.aload_n 0, 1) := dk_42 (dk_at dksX0_fell_2 18 rfl rfl)
theorem dX0_fell_67 : decode cX0_fell 67 = .ok (.iload 6, 2) := dk_21 6 (dk_at dksX0_fell_2 19 rfl rfl)
theorem dX0_fell_69 : decode cX0_fell 69 = .ok (.invokevirtual 175, 3) := dk_182 0 175 (dk_at dksX0_fell_2 21 rfl rfl)
theorem dX0_fell_72 : decode cX0_fell 72 = .ok (.if_icmp .gt 95, 3) := dk_163 0 95 (dk_at dksX0_fell_3 0 rfl rfl)
theorem dX0_fell_75 : decode cX0_fell 75 = .ok (.iload 7, 2) := dk_21 7 (dk_at dksX0_fell_3 3 rfl rfl)
theorem dX0_fell_77 : decode cX0_fell 77 = .ok (.bipush 8, 2) := dk_16 8 (dk_at dksX0_fell_3 5 rfl rfl)
theorem dX0_fell_79 : decode cX0_fell 79 = .ok (.irem, 1) := dk_112 (dk_at dksX0_fell_3 7 rfl rfl)
theorem dX0_fell_80 : decode cX0_fell 80 = .ok (.istore 8, 2) := dk_54 8 (dk_at dksX0_fell_3 8 rfl rfl)
theorem dX0_fell_82 : decode cX0_fell 82 = .ok (.iload 7, 2) := dk_21 7 (dk_at dksX0_fell_3 10 rfl rfl)
theorem dX0_fell_84 : decode cX0_fell 84 = .ok (.bipush 8, 2) := dk_16 8 (dk_at dksX0_fell_3 12 rfl rfl)
theorem dX0_fell_86 : decode cX0_fell 86 = .ok (.idiv, 1) := dk_108 (dk_at dksX0_fell_3 14 rfl rfl)
theorem dX0_fell_87 : decode cX0_fell 87 = .ok (.istore 9, 2) := dk_54 9 (dk_at dksX0_fell_3 15 rfl rfl)
theorem dX0_fell_89 : decode cX0_fell 89 = .ok (.iload 8, 2) := dk_21 8 (dk_at dksX0_fell_3 17 rfl rfl)
theorem dX0_fell_91 : decode cX0_fell 91 = .ok (.iload_n 2, 1) := dk_28 (dk_at dksX0_fell_3 19 rfl rfl)
theorem dX0_fell_92 : decode cX0_fell 92 = .ok (.iadd, 1) := dk_96 (dk_at dksX0_fell_3 20 rfl rfl)
theorem dX0_fell_93 : decode cX0_fell 93 = .ok (.aload_n 0, 1) := dk_42 (dk_at dksX0_fell_3 21 rfl rfl)
theorem dX0_fell_94 : decode cX0_fell 94 = .ok (.getfield 40, 3) := dk_180 0 40 (dk_at dksX0_fell_4 0 rfl rfl)
theorem dX0_fell_97 : decode cX0_fell 97 = .ok (.getfield 285, 3) := dk_180 1 29 (dk_at dksX0_fell_4 3 rfl rfl)
theorem dX0_fell_100 : decode cX0_fell 100 = .ok (.if_icmp .gt 61, 3) := dk_163 0 61 (dk_at dksX0_fell_4 6 rfl rfl)
theorem dX0_fell_103 : decode cX0_fell 103 = .ok (.iload 9, 2) := dk_21 9 (dk_at dksX0_fell_4 9 rfl rfl)
theorem dX0_fell_105 : decode cX0_fell 105 = .ok (.iload_n 3, 1) := dk_29 (dk_at dksX0_fell_4 11 rfl rfl)
theorem dX0_fell_106 : decode cX0_fell 106 = .ok (.iadd, 1) := dk_96 (dk_at dksX0_fell_4 12 rfl rfl)
theorem dX0_fell_107 : decode cX0_fell 107 = .ok (.aload_n 0, 1) := dk_42 (dk_at dksX0_fell_4 13 rfl rfl)
theorem dX0_fell_108 : decode cX0_fell 108 = .ok (.getfield 40, 3) := dk_180 0 40 (dk_at dksX0_fell_4 14 rfl rfl)
theorem dX0_fell_111 : decode cX0_fell 111 = .ok (.getfield 282, 3) := dk_180 1 26 (dk_at dksX0_fell_4 17 rfl rfl)
theorem dX0_fell_114 : decode cX0_fell 114 = .ok (.if_icmp .gt 47, 3) := dk_163 0 47 (dk_at dksX0_fell_4 20 rfl rfl)
theorem dX0_fell_117 : decode cX0_fell 117 = .ok (.aload_n 0, 1) := dk_42 (dk_at dksX0_fell_4 23 rfl rfl)
theorem dX0_fell_118 : decode cX0_fell 118 = .ok (.iload_n 1, 1) := dk_27 (dk_at dksX0_fell_5 0 rfl rfl)
theorem dX0_fell_119 : decode cX0_fell 119 = .ok (.iload 6, 2) := dk_21 6 (dk_at dksX0_fell_5 1 rfl rfl)
theorem dX0_fell_121 : decode cX0_fell 121 = .ok (.iload_n 2, 1) := dk_28 (dk_at dksX0_fell_5 3 rfl rfl)
theorem dX0_fell_122 : decode cX0_fell 122 = .ok (.iload_n 3, 1) := dk_29 (dk_at dksX0_fell_5 4 rfl rfl)
theorem dX0_fell_123 : decode cX0_fell 123 = .ok (.iload 8, 2) := dk_21 8 (dk_at dksX0_fell_5 5 rfl rfl)
theorem dX0_fell_125 : decode cX0_fell 125 = .ok (.iload 9, 2) := dk_21 9 (dk_at dksX0_fell_5 7 rfl rfl)
theorem dX0_fell_127 : decode cX0_fell 127 = .ok (.invokevirtual 336, 3) := dk_182 1 80 (dk_at dksX0_fell_5 9 rfl rfl)
theorem dX0_fell_130 : decode cX0_fell 130 = .ok (.ifCond .ne 6, 3) := dk_154 0 6 (dk_at dksX0_fell_5 12 rfl rfl)
theorem dX0_fell_133 : decode cX0_fell 133 = .ok (.goto 28, 3) := dk_167 0 28 (dk_at dksX0_fell_5 15 rfl rfl)
theorem dX0_fell_136 : decode cX0_fell 136 = .ok (.iload 5, 2) := dk_21 5 (dk_at dksX0_fell_5 18 rfl rfl)
theorem dX0_fell_138 : decode cX0_fell 138 = .ok (.iload 4, 2) := dk_21 4 (dk_at dksX0_fell_5 20 rfl rfl)
theorem dX0_fell_140 : decode cX0_fell 140 = .ok (.if_icmp .ne 18, 3) := dk_160 0 18 (dk_at dksX0_fell_6 0 rfl rfl)
theorem dX0_fell_143 : decode cX0_fell 143 = .ok (.bipush 100, 2) := dk_16 100 (dk_at dksX0_fell_6 3 rfl rfl)
theorem dX0_fell_145 : decode cX0_fell 145 = .ok (.iload 6, 2) := dk_21 6 (dk_at dksX0_fell_6 5 rfl rfl)
theorem dX0_fell_147 : decode cX0_fell 147 = .ok (.imul, 1) := dk_104 (dk_at dksX0_fell_6 7 rfl rfl)
theorem dX0_fell_148 : decode cX0_fell 148 = .ok (.bipush 10, 2) := dk_16 10 (dk_at dksX0_fell_6 8 rfl rfl)
theorem dX0_fell_150 : decode cX0_fell 150 = .ok (.iload 9, 2) := dk_21 9 (dk_at dksX0_fell_6 10 rfl rfl)
theorem dX0_fell_152 : decode cX0_fell 152 = .ok (.imul, 1) := dk_104 (dk_at dksX0_fell_6 12 rfl rfl)
theorem dX0_fell_153 : decode cX0_fell 153 = .ok (.iadd, 1) := dk_96 (dk_at dksX0_fell_6 13 rfl rfl)
theorem dX0_fell_154 : decode cX0_fell 154 = .ok (.iload 8, 2) := dk_21 8 (dk_at dksX0_fell_6 14 rfl rfl)
theorem dX0_fell_156 : decode cX0_fell 156 = .ok (.iadd, 1) := dk_96 (dk_at dksX0_fell_6 16 rfl rfl)
theorem dX0_fell_157 : decode cX0_fell 157 = .ok (.ireturn, 1) := dk_172 (dk_at dksX0_fell_6 17 rfl rfl)
theorem dX0_fell_158 : decode cX0_fell 158 = .ok (.iinc 5 1, 3) := dk_132 5 1 (dk_at dksX0_fell_6 18 rfl rfl)
theorem dX0_fell_161 : decode cX0_fell 161 = .ok (.iinc 7 1, 3) := dk_132 7 1 (dk_at dksX0_fell_6 21 rfl rfl)
theorem dX0_fell_164 : decode cX0_fell 164 = .ok (.goto (-106), 3) := dk_167 255 150 (dk_at dksX0_fell_7 0 rfl rfl)
theorem dX0_fell_167 : decode cX0_fell 167 = .ok (.iinc 6 1, 3) := dk_132 6 1 (dk_at dksX0_fell_7 3 rfl rfl)
theorem dX0_fell_170 : decode cX0_fell 170 = .ok (.goto (-124), 3) := dk_167 255 132 (dk_at dksX0_fell_7 6 rfl rfl)
theorem dX0_fell_173 : decode cX0_fell 173 = .ok (.iload 4, 2) := dk_21 4 (dk_at dksX0_fell_7 9 rfl rfl)
theorem dX0_fell_175 : decode cX0_fell 175 = .ok (.iconst (-1), 1) := dk_2 (dk_at dksX0_fell_7 11 rfl rfl)
theorem dX0_fell_176 : decode cX0_fell 176 = .ok (.if_icmp .ne 8, 3) := dk_160 0 8 (dk_at dksX0_fell_7 12 rfl rfl)
theorem dX0_fell_179 : decode cX0_fell 179 = .ok (.iload 5, 2) := dk_21 5 (dk_at dksX0_fell_7 15 rfl rfl)
theorem dX0_fell_181 : decode cX0_fell 181 = .ok (.goto 4, 3) := dk_167 0 4 (dk_at dksX0_fell_7 17 rfl rfl)
theorem dX0_fell_184 : decode cX0_fell 184 = .ok (.iconst (-1), 1) := dk_2 (dk_at dksX0_fell_7 20 rfl rfl)
theorem dX0_fell_185 : decode cX0_fell 185 = .ok (.ireturn, 1) := dk_172 (dk_at dksX0_fell_7 21 rfl rfl)
abbrev cX0_isSo : ByteArray := prog_1_method_53_code
def yX0_isSo : MethodName := ⟨RX0, "isSo", "(IIIIII)Z"⟩
def dkwX0_isSo_5 : List UInt8 := [132, 7, 1, 167, 255, 138, 4, 172]
abbrev dktX0_isSo_5 : List UInt8 := dkwX0_isSo_5 ++ []
def dkwX0_isSo_4 : List UInt8 := [46, 21, 9, 96, 182, 0, 230, 167, 0, 4, 3, 42, 180, 0, 108, 21, 7, 46, 159, 0, 5, 3, 172]
abbrev dktX0_isSo_4 : List UInt8 := dkwX0_isSo_4 ++ dktX0_isSo_5
def dkwX0_isSo_3 : List UInt8 := [21, 10, 153, 0, 32, 42, 180, 0, 51, 42, 180, 0, 40, 28, 21, 8, 42, 180, 0, 51, 180, 0, 210, 28]
abbrev dktX0_isSo_3 : List UInt8 := dkwX0_isSo_3 ++ dktX0_isSo_4
def dkwX0_isSo_2 : List UInt8 := [153, 0, 20, 21, 9, 3, 21, 4, 4, 100, 184, 0, 158, 153, 0, 7, 4, 167, 0, 4, 3, 54, 10]
abbrev dktX0_isSo_2 : List UInt8 := dkwX0_isSo_2 ++ dktX0_isSo_3
def dkwX0_isSo_1 : List UInt8 := [42, 180, 0, 105, 21, 7, 46, 16, 8, 108, 21, 6, 100, 54, 9, 21, 8, 3, 29, 4, 100, 184, 0, 158]
abbrev dktX0_isSo_1 : List UInt8 := dkwX0_isSo_1 ++ dktX0_isSo_2
def dkwX0_isSo_0 : List UInt8 := [3, 54, 7, 21, 7, 27, 162, 0, 118, 42, 180, 0, 105, 21, 7, 46, 16, 8, 112, 21, 5, 100, 54, 8]
abbrev dktX0_isSo_0 : List UInt8 := dkwX0_isSo_0 ++ dktX0_isSo_1
theorem dksX0_isSo_0 : cX0_isSo.data.toList.drop 0 = dktX0_isSo_0 := by decide +kernel
theorem dksX0_isSo_1 : cX0_isSo.data.toList.drop 24 = dktX0_isSo_1 := dk_seg dksX0_isSo_0 24 rfl rfl
theorem dksX0_isSo_2 : cX0_isSo.data.toList.drop 48 = dktX0_isSo_2 := dk_seg dksX0_isSo_1 24 rfl rfl
theorem dksX0_isSo_3 : cX0_isSo.data.toList.drop 71 = dktX0_isSo_3 := dk_seg dksX0_isSo_2 23 rfl rfl
theorem dksX0_isSo_4 : cX0_isSo.data.toList.drop 95 = dktX0_isSo_4 := dk_seg dksX0_isSo_3 24 rfl rfl
theorem dksX0_isSo_5 : cX0_isSo.data.toList.drop 118 = dktX0_isSo_5 := dk_seg dksX0_isSo_4 23 rfl rfl
theorem dX0_isSo_0 : decode cX0_isSo 0 = .ok (.iconst 0, 1) := dk_3 (dk_at dksX0_isSo_0 0 rfl rfl)
theorem dX0_isSo_1 : decode cX0_isSo 1 = .ok (.istore 7, 2) := dk_54 7 (dk_at dksX0_isSo_0 1 rfl rfl)
theorem dX0_isSo_3 : decode cX0_isSo 3 = .ok (.iload 7, 2) := dk_21 7 (dk_at dksX0_isSo_0 3 rfl rfl)
theorem dX0_isSo_5 : decode cX0_isSo 5 = .ok (.iload_n 1, 1) := dk_27 (dk_at dksX0_isSo_0 5 rfl rfl)
theorem dX0_isSo_6 : decode cX0_isSo 6 = .ok (.if_icmp .ge 118, 3) := dk_162 0 118 (dk_at dksX0_isSo_0 6 rfl rfl)
theorem dX0_isSo_9 : decode cX0_isSo 9 = .ok (.aload_n 0, 1) := dk_42 (dk_at dksX0_isSo_0 9 rfl rfl)
theorem dX0_isSo_10 : decode cX0_isSo 10 = .ok (.getfield 105, 3) := dk_180 0 105 (dk_at dksX0_isSo_0 10 rfl rfl)
theorem dX0_isSo_13 : decode cX0_isSo 13 = .ok (.iload 7, 2) := dk_21 7 (dk_at dksX0_isSo_0 13 rfl rfl)
theorem dX0_isSo_15 : decode cX0_isSo 15 = .ok (.iaload, 1) := dk_46 (dk_at dksX0_isSo_0 15 rfl rfl)
theorem dX0_isSo_16 : decode cX0_isSo 16 = .ok (.bipush 8, 2) := dk_16 8 (dk_at dksX0_isSo_0 16 rfl rfl)
theorem dX0_isSo_18 : decode cX0_isSo 18 = .ok (.irem, 1) := dk_112 (dk_at dksX0_isSo_0 18 rfl rfl)
theorem dX0_isSo_19 : decode cX0_isSo 19 = .ok (.iload 5, 2) := dk_21 5 (dk_at dksX0_isSo_0 19 rfl rfl)
theorem dX0_isSo_21 : decode cX0_isSo 21 = .ok (.isub, 1) := dk_100 (dk_at dksX0_isSo_0 21 rfl rfl)
theorem dX0_isSo_22 : decode cX0_isSo 22 = .ok (.istore 8, 2) := dk_54 8 (dk_at dksX0_isSo_0 22 rfl rfl)
theorem dX0_isSo_24 : decode cX0_isSo 24 = .ok (.aload_n 0, 1) := dk_42 (dk_at dksX0_isSo_1 0 rfl rfl)
theorem dX0_isSo_25 : decode cX0_isSo 25 = .ok (.getfield 105, 3) := dk_180 0 105 (dk_at dksX0_isSo_1 1 rfl rfl)
theorem dX0_isSo_28 : decode cX0_isSo 28 = .ok (.iload 7, 2) := dk_21 7 (dk_at dksX0_isSo_1 4 rfl rfl)
theorem dX0_isSo_30 : decode cX0_isSo 30 = .ok (.iaload, 1) := dk_46 (dk_at dksX0_isSo_1 6 rfl rfl)
theorem dX0_isSo_31 : decode cX0_isSo 31 = .ok (.bipush 8, 2) := dk_16 8 (dk_at dksX0_isSo_1 7 rfl rfl)
theorem dX0_isSo_33 : decode cX0_isSo 33 = .ok (.idiv, 1) := dk_108 (dk_at dksX0_isSo_1 9 rfl rfl)
theorem dX0_isSo_34 : decode cX0_isSo 34 = .ok (.iload 6, 2) := dk_21 6 (dk_at dksX0_isSo_1 10 rfl rfl)
theorem dX0_isSo_36 : decode cX0_isSo 36 = .ok (.isub, 1) := dk_100 (dk_at dksX0_isSo_1 12 rfl rfl)
theorem dX0_isSo_37 : decode cX0_isSo 37 = .ok (.istore 9, 2) := dk_54 9 (dk_at dksX0_isSo_1 13 rfl rfl)
theorem dX0_isSo_39 : decode cX0_isSo 39 = .ok (.iload 8, 2) := dk_21 8 (dk_at dksX0_isSo_1 15 rfl rfl)
theorem dX0_isSo_41 : decode cX0_isSo 41 = .ok (.iconst 0, 1) := dk_3 (dk_at dksX0_isSo_1 17 rfl rfl)
theorem dX0_isSo_42 : decode cX0_isSo 42 = .ok (.iload_n 3, 1) := dk_29 (dk_at dksX0_isSo_1 18 rfl rfl)
theorem dX0_isSo_43 : decode cX0_isSo 43 = .ok (.iconst 1, 1) := dk_4 (dk_at dksX0_isSo_1 19 rfl rfl)
theorem dX0_isSo_44 : decode cX0_isSo 44 = .ok (.isub, 1) := dk_100 (dk_at dksX0_isSo_1 20 rfl rfl)
theorem dX0_isSo_45 : decode cX0_isSo 45 = .ok (.invokestatic 158, 3) := dk_184 0 158 (dk_at dksX0_isSo_1 21 rfl rfl)
theorem dX0_isSo_48 : decode cX0_isSo 48 = .ok (.ifCond .eq 20, 3) := dk_153 0 20 (dk_at dksX0_isSo_2 0 rfl rfl)
theorem dX0_isSo_51 : decode cX0_isSo 51 = .ok (.iload 9, 2) := dk_21 9 (dk_at dksX0_isSo_2 3 rfl rfl)
theorem dX0_isSo_53 : decode cX0_isSo 53 = .ok (.iconst 0, 1) := dk_3 (dk_at dksX0_isSo_2 5 rfl rfl)
theorem dX0_isSo_54 : decode cX0_isSo 54 = .ok (.iload 4, 2) := dk_21 4 (dk_at dksX0_isSo_2 6 rfl rfl)
theorem dX0_isSo_56 : decode cX0_isSo 56 = .ok (.iconst 1, 1) := dk_4 (dk_at dksX0_isSo_2 8 rfl rfl)
theorem dX0_isSo_57 : decode cX0_isSo 57 = .ok (.isub, 1) := dk_100 (dk_at dksX0_isSo_2 9 rfl rfl)
theorem dX0_isSo_58 : decode cX0_isSo 58 = .ok (.invokestatic 158, 3) := dk_184 0 158 (dk_at dksX0_isSo_2 10 rfl rfl)
theorem dX0_isSo_61 : decode cX0_isSo 61 = .ok (.ifCond .eq 7, 3) := dk_153 0 7 (dk_at dksX0_isSo_2 13 rfl rfl)
theorem dX0_isSo_64 : decode cX0_isSo 64 = .ok (.iconst 1, 1) := dk_4 (dk_at dksX0_isSo_2 16 rfl rfl)
theorem dX0_isSo_65 : decode cX0_isSo 65 = .ok (.goto 4, 3) := dk_167 0 4 (dk_at dksX0_isSo_2 17 rfl rfl)
theorem dX0_isSo_68 : decode cX0_isSo 68 = .ok (.iconst 0, 1) := dk_3 (dk_at dksX0_isSo_2 20 rfl rfl)
theorem dX0_isSo_69 : decode cX0_isSo 69 = .ok (.istore 10, 2) := dk_54 10 (dk_at dksX0_isSo_2 21 rfl rfl)
theorem dX0_isSo_71 : decode cX0_isSo 71 = .ok (.iload 10, 2) := dk_21 10 (dk_at dksX0_isSo_3 0 rfl rfl)
theorem dX0_isSo_73 : decode cX0_isSo 73 = .ok (.ifCond .eq 32, 3) := dk_153 0 32 (dk_at dksX0_isSo_3 2 rfl rfl)
theorem dX0_isSo_76 : decode cX0_isSo 76 = .ok (.aload_n 0, 1) := dk_42 (dk_at dksX0_isSo_3 5 rfl rfl)
theorem dX0_isSo_77 : decode cX0_isSo 77 = .ok (.getfield 51, 3) := dk_180 0 51 (dk_at dksX0_isSo_3 6 rfl rfl)
theorem dX0_isSo_80 : decode cX0_isSo 80 = .ok (.aload_n 0, 1) := dk_42 (dk_at dksX0_isSo_3 9 rfl rfl)
theorem dX0_isSo_81 : decode cX0_isSo 81 = .ok (.getfield 40, 3) := dk_180 0 40 (dk_at dksX0_isSo_3 10 rfl rfl)
theorem dX0_isSo_84 : decode cX0_isSo 84 = .ok (.iload_n 2, 1) := dk_28 (dk_at dksX0_isSo_3 13 rfl rfl)
theorem dX0_isSo_85 : decode cX0_isSo 85 = .ok (.iload 8, 2) := dk_21 8 (dk_at dksX0_isSo_3 14 rfl rfl)
theorem dX0_isSo_87 : decode cX0_isSo 87 = .ok (.aload_n 0, 1) := dk_42 (dk_at dksX0_isSo_3 16 rfl rfl)
theorem dX0_isSo_88 : decode cX0_isSo 88 = .ok (.getfield 51, 3) := dk_180 0 51 (dk_at dksX0_isSo_3 17 rfl rfl)
theorem dX0_isSo_91 : decode cX0_isSo 91 = .ok (.getfield 210, 3) := dk_180 0 210 (dk_at dksX0_isSo_3 20 rfl rfl)
theorem dX0_isSo_94 : decode cX0_isSo 94 = .ok (.iload_n 2, 1) := dk_28 (dk_at dksX0_isSo_3 23 rfl rfl)
theorem dX0_isSo_95 : decode cX0_isSo 95 = .ok (.iaload, 1) := dk_46 (dk_at dksX0_isSo_4 0 rfl rfl)
theorem dX0_isSo_96 : decode cX0_isSo 96 = .ok (.iload 9, 2) := dk_21 9 (dk_at dksX0_isSo_4 1 rfl rfl)
theorem dX0_isSo_98 : decode cX0_isSo 98 = .ok (.iadd, 1) := dk_96 (dk_at dksX0_isSo_4 3 rfl rfl)
theorem dX0_isSo_99 : decode cX0_isSo 99 = .ok (.invokevirtual 230, 3) := dk_182 0 230 (dk_at dksX0_isSo_4 4 rfl rfl)
theorem dX0_isSo_102 : decode cX0_isSo 102 = .ok (.goto 4, 3) := dk_167 0 4 (dk_at dksX0_isSo_4 7 rfl rfl)
theorem dX0_isSo_105 : decode cX0_isSo 105 = .ok (.iconst 0, 1) := dk_3 (dk_at dksX0_isSo_4 10 rfl rfl)
theorem dX0_isSo_106 : decode cX0_isSo 106 = .ok (.aload_n 0, 1) := dk_42 (dk_at dksX0_isSo_4 11 rfl rfl)
theorem dX0_isSo_107 : decode cX0_isSo 107 = .ok (.getfield 108, 3) := dk_180 0 108 (dk_at dksX0_isSo_4 12 rfl rfl)
theorem dX0_isSo_110 : decode cX0_isSo 110 = .ok (.iload 7, 2) := dk_21 7 (dk_at dksX0_isSo_4 15 rfl rfl)
theorem dX0_isSo_112 : decode cX0_isSo 112 = .ok (.iaload, 1) := dk_46 (dk_at dksX0_isSo_4 17 rfl rfl)
theorem dX0_isSo_113 : decode cX0_isSo 113 = .ok (.if_icmp .eq 5, 3) := dk_159 0 5 (dk_at dksX0_isSo_4 18 rfl rfl)
theorem dX0_isSo_116 : decode cX0_isSo 116 = .ok (.iconst 0, 1) := dk_3 (dk_at dksX0_isSo_4 21 rfl rfl)
theorem dX0_isSo_117 : decode cX0_isSo 117 = .ok (.ireturn, 1) := dk_172 (dk_at dksX0_isSo_4 22 rfl rfl)
theorem dX0_isSo_118 : decode cX0_isSo 118 = .ok (.iinc 7 1, 3) := dk_132 7 1 (dk_at dksX0_isSo_5 0 rfl rfl)
theorem dX0_isSo_121 : decode cX0_isSo 121 = .ok (.goto (-118), 3) := dk_167 255 138 (dk_at dksX0_isSo_5 3 rfl rfl)
theorem dX0_isSo_124 : decode cX0_isSo 124 = .ok (.iconst 1, 1) := dk_4 (dk_at dksX0_isSo_5 6 rfl rfl)
theorem dX0_isSo_125 : decode cX0_isSo 125 = .ok (.ireturn, 1) := dk_172 (dk_at dksX0_isSo_5 7 rfl rfl)
abbrev cX0_look : ByteArray := prog_1_method_56_code
def yX0_look : MethodName := ⟨RX0, "look", "(III)I"⟩
def dkwX0_look_10 : List UInt8 := [156, 0, 8, 16, 254, 167, 0, 17, 16, 10, 21, 4, 16, 8, 108, 104, 21, 4, 16, 8, 112, 96, 172]
abbrev dktX0_look_10 : List UInt8 := dkwX0_look_10 ++ []
def dkwX0_look_9 : List UInt8 := [161, 0, 6, 167, 0, 11, 21, 6, 54, 4, 21, 7, 54, 5, 132, 6, 1, 167, 255, 180, 21, 4]
abbrev dktX0_look_9 : List UInt8 := dkwX0_look_9 ++ dktX0_look_10
def dkwX0_look_8 : List UInt8 := [132, 8, 1, 167, 255, 229, 42, 180, 0, 40, 21, 6, 182, 0, 198, 153, 0, 21, 21, 7, 21, 5]
abbrev dktX0_look_8 : List UInt8 := dkwX0_look_8 ++ dktX0_look_9
def dkwX0_look_7 : List UInt8 := [16, 9, 163, 0, 26, 21, 7, 42, 180, 0, 111, 21, 6, 50, 21, 8, 46, 184, 1, 39, 54, 7]
abbrev dktX0_look_7 : List UInt8 := dkwX0_look_7 ++ dktX0_look_8
def dkwX0_look_6 : List UInt8 := [132, 6, 1, 167, 255, 211, 3, 54, 6, 21, 6, 16, 48, 162, 0, 75, 3, 54, 7, 3, 54, 8, 21, 8]
abbrev dktX0_look_6 : List UInt8 := dkwX0_look_6 ++ dktX0_look_7
def dkwX0_look_5 : List UInt8 := [21, 8, 16, 100, 108, 28, 29, 21, 8, 16, 10, 112, 21, 8, 16, 10, 108, 16, 10, 112, 182, 1, 88]
abbrev dktX0_look_5 : List UInt8 := dkwX0_look_5 ++ dktX0_look_6
def dkwX0_look_4 : List UInt8 := [182, 1, 84, 54, 7, 21, 6, 21, 7, 162, 0, 44, 42, 27, 28, 29, 21, 6, 182, 1, 84, 54, 8, 42]
abbrev dktX0_look_4 : List UInt8 := dkwX0_look_4 ++ dktX0_look_5
def dkwX0_look_3 : List UInt8 := [3, 79, 132, 7, 1, 167, 255, 235, 132, 6, 1, 167, 255, 219, 3, 54, 6, 42, 27, 28, 29, 2]
abbrev dktX0_look_3 : List UInt8 := dkwX0_look_3 ++ dktX0_look_4
def dkwX0_look_2 : List UInt8 := [16, 48, 162, 0, 36, 3, 54, 7, 21, 7, 16, 9, 163, 0, 20, 42, 180, 0, 111, 21, 6, 50, 21, 7]
abbrev dktX0_look_2 : List UInt8 := dkwX0_look_2 ++ dktX0_look_3
def dkwX0_look_1 : List UInt8 := [16, 6, 184, 0, 158, 154, 0, 5, 2, 172, 16, 254, 54, 4, 19, 1, 52, 54, 5, 3, 54, 6, 21, 6]
abbrev dktX0_look_1 : List UInt8 := dkwX0_look_1 ++ dktX0_look_2
def dkwX0_look_0 : List UInt8 := [27, 3, 42, 180, 0, 136, 184, 0, 158, 153, 0, 23, 28, 4, 16, 8, 184, 0, 158, 153, 0, 13, 29, 4]
abbrev dktX0_look_0 : List UInt8 := dkwX0_look_0 ++ dktX0_look_1
theorem dksX0_look_0 : cX0_look.data.toList.drop 0 = dktX0_look_0 := by decide +kernel
theorem dksX0_look_1 : cX0_look.data.toList.drop 24 = dktX0_look_1 := dk_seg dksX0_look_0 24 rfl rfl
theorem dksX0_look_2 : cX0_look.data.toList.drop 48 = dktX0_look_2 := dk_seg dksX0_look_1 24 rfl rfl
theorem dksX0_look_3 : cX0_look.data.toList.drop 72 = dktX0_look_3 := dk_seg dksX0_look_2 24 rfl rfl
theorem dksX0_look_4 : cX0_look.data.toList.drop 94 = dktX0_look_4 := dk_seg dksX0_look_3 22 rfl rfl
theorem dksX0_look_5 : cX0_look.data.toList.drop 118 = dktX0_look_5 := dk_seg dksX0_look_4 24 rfl rfl
theorem dksX0_look_6 : cX0_look.data.toList.drop 141 = dktX0_look_6 := dk_seg dksX0_look_5 23 rfl rfl
theorem dksX0_look_7 : cX0_look.data.toList.drop 165 = dktX0_look_7 := dk_seg dksX0_look_6 24 rfl rfl
theorem dksX0_look_8 : cX0_look.data.toList.drop 187 = dktX0_look_8 := dk_seg dksX0_look_7 22 rfl rfl
theorem dksX0_look_9 : cX0_look.data.toList.drop 209 = dktX0_look_9 := dk_seg dksX0_look_8 22 rfl rfl
theorem dksX0_look_10 : cX0_look.data.toList.drop 231 = dktX0_look_10 := dk_seg dksX0_look_9 22 rfl rfl
theorem dX0_look_0 : decode cX0_look 0 = .ok (.iload_n 1, 1) := dk_27 (dk_at dksX0_look_0 0 rfl rfl)
theorem dX0_look_1 : decode cX0_look 1 = .ok (.iconst 0, 1) := dk_3 (dk_at dksX0_look_0 1 rfl rfl)
theorem dX0_look_2 : decode cX0_look 2 = .ok (.aload_n 0, 1) := dk_42 (dk_at dksX0_look_0 2 rfl rfl)
theorem dX0_look_3 : decode cX0_look 3 = .ok (.getfield 136, 3) := dk_180 0 136 (dk_at dksX0_look_0 3 rfl rfl)
theorem dX0_look_6 : decode cX0_look 6 = .ok (.invokestatic 158, 3) := dk_184 0 158 (dk_at dksX0_look_0 6 rfl rfl)
theorem dX0_look_9 : decode cX0_look 9 = .ok (.ifCond .eq 23, 3) := dk_153 0 23 (dk_at dksX0_look_0 9 rfl rfl)
theorem dX0_look_12 : decode cX0_look 12 = .ok (.iload_n 2, 1) := dk_28 (dk_at dksX0_look_0 12 rfl rfl)
theorem dX0_look_13 : decode cX0_look 13 = .ok (.iconst 1, 1) := dk_4 (dk_at dksX0_look_0 13 rfl rfl)
theorem dX0_look_14 : decode cX0_look 14 = .ok (.bipush 8, 2) := dk_16 8 (dk_at dksX0_look_0 14 rfl rfl)
theorem dX0_look_16 : decode cX0_look 16 = .ok (.invokestatic 158, 3) := dk_184 0 158 (dk_at dksX0_look_0 16 rfl rfl)
theorem dX0_look_19 : decode cX0_look 19 = .ok (.ifCond .eq 13, 3) := dk_153 0 13 (dk_at dksX0_look_0 19 rfl rfl)
theorem dX0_look_22 : decode cX0_look 22 = .ok (.iload_n 3, 1) := dk_29 (dk_at dksX0_look_0 22 rfl rfl)
theorem dX0_look_23 : decode cX0_look 23 = .ok (.iconst 1, 1) := dk_4 (dk_at dksX0_look_0 23 rfl rfl)
theorem dX0_look_24 : decode cX0_look 24 = .ok (.bipush 6, 2) := dk_16 6 (dk_at dksX0_look_1 0 rfl rfl)
theorem dX0_look_26 : decode cX0_look 26 = .ok (.invokestatic 158, 3) := dk_184 0 158 (dk_at dksX0_look_1 2 rfl rfl)
theorem dX0_look_29 : decode cX0_look 29 = .ok (.ifCond .ne 5, 3) := dk_154 0 5 (dk_at dksX0_look_1 5 rfl rfl)
theorem dX0_look_32 : decode cX0_look 32 = .ok (.iconst (-1), 1) := dk_2 (dk_at dksX0_look_1 8 rfl rfl)
theorem dX0_look_33 : decode cX0_look 33 = .ok (.ireturn, 1) := dk_172 (dk_at dksX0_look_1 9 rfl rfl)
theorem dX0_look_34 : decode cX0_look 34 = .ok (.bipush (-2), 2) := dk_16 254 (dk_at dksX0_look_1 10 rfl rfl)
theorem dX0_look_36 : decode cX0_look 36 = .ok (.istore 4, 2) := dk_54 4 (dk_at dksX0_look_1 12 rfl rfl)
theorem dX0_look_38 : decode cX0_look 38 = .ok (.ldc_w 308, 3) := dk_19 1 52 (dk_at dksX0_look_1 14 rfl rfl)
theorem dX0_look_41 : decode cX0_look 41 = .ok (.istore 5, 2) := dk_54 5 (dk_at dksX0_look_1 17 rfl rfl)
theorem dX0_look_43 : decode cX0_look 43 = .ok (.iconst 0, 1) := dk_3 (dk_at dksX0_look_1 19 rfl rfl)
theorem dX0_look_44 : decode cX0_look 44 = .ok (.istore 6, 2) := dk_54 6 (dk_at dksX0_look_1 20 rfl rfl)
theorem dX0_look_46 : decode cX0_look 46 = .ok (.iload 6, 2) := dk_21 6 (dk_at dksX0_look_1 22 rfl rfl)
theorem dX0_look_48 : decode cX0_look 48 = .ok (.bipush 48, 2) := dk_16 48 (dk_at dksX0_look_2 0 rfl rfl)
theorem dX0_look_50 : decode cX0_look 50 = .ok (.if_icmp .ge 36, 3) := dk_162 0 36 (dk_at dksX0_look_2 2 rfl rfl)
theorem dX0_look_53 : decode cX0_look 53 = .ok (.iconst 0, 1) := dk_3 (dk_at dksX0_look_2 5 rfl rfl)
theorem dX0_look_54 : decode cX0_look 54 = .ok (.istore 7, 2) := dk_54 7 (dk_at dksX0_look_2 6 rfl rfl)
theorem dX0_look_56 : decode cX0_look 56 = .ok (.iload 7, 2) := dk_21 7 (dk_at dksX0_look_2 8 rfl rfl)
theorem dX0_look_58 : decode cX0_look 58 = .ok (.bipush 9, 2) := dk_16 9 (dk_at dksX0_look_2 10 rfl rfl)
theorem dX0_look_60 : decode cX0_look 60 = .ok (.if_icmp .gt 20, 3) := dk_163 0 20 (dk_at dksX0_look_2 12 rfl rfl)
theorem dX0_look_63 : decode cX0_look 63 = .ok (.aload_n 0, 1) := dk_42 (dk_at dksX0_look_2 15 rfl rfl)
theorem dX0_look_64 : decode cX0_look 64 = .ok (.getfield 111, 3) := dk_180 0 111 (dk_at dksX0_look_2 16 rfl rfl)
theorem dX0_look_67 : decode cX0_look 67 = .ok (.iload 6, 2) := dk_21 6 (dk_at dksX0_look_2 19 rfl rfl)
theorem dX0_look_69 : decode cX0_look 69 = .ok (.aaload, 1) := dk_50 (dk_at dksX0_look_2 21 rfl rfl)
theorem dX0_look_70 : decode cX0_look 70 = .ok (.iload 7, 2) := dk_21 7 (dk_at dksX0_look_2 22 rfl rfl)
theorem dX0_look_72 : decode cX0_look 72 = .ok (.iconst 0, 1) := dk_3 (dk_at dksX0_look_3 0 rfl rfl)
theorem dX0_look_73 : decode cX0_look 73 = .ok (.iastore, 1) := dk_79 (dk_at dksX0_look_3 1 rfl rfl)
theorem dX0_look_74 : decode cX0_look 74 = .ok (.iinc 7 1, 3) := dk_132 7 1 (dk_at dksX0_look_3 2 rfl rfl)
theorem dX0_look_77 : decode cX0_look 77 = .ok (.goto (-21), 3) := dk_167 255 235 (dk_at dksX0_look_3 5 rfl rfl)
theorem dX0_look_80 : decode cX0_look 80 = .ok (.iinc 6 1, 3) := dk_132 6 1 (dk_at dksX0_look_3 8 rfl rfl)
theorem dX0_look_83 : decode cX0_look 83 = .ok (.goto (-37), 3) := dk_167 255 219 (dk_at dksX0_look_3 11 rfl rfl)
theorem dX0_look_86 : decode cX0_look 86 = .ok (.iconst 0, 1) := dk_3 (dk_at dksX0_look_3 14 rfl rfl)
theorem dX0_look_87 : decode cX0_look 87 = .ok (.istore 6, 2) := dk_54 6 (dk_at dksX0_look_3 15 rfl rfl)
theorem dX0_look_89 : decode cX0_look 89 = .ok (.aload_n 0, 1) := dk_42 (dk_at dksX0_look_3 17 rfl rfl)
theorem dX0_look_90 : decode cX0_look 90 = .ok (.iload_n 1, 1) := dk_27 (dk_at dksX0_look_3 18 rfl rfl)
theorem dX0_look_91 : decode cX0_look 91 = .ok (.iload_n 2, 1) := dk_28 (dk_at dksX0_look_3 19 rfl rfl)
theorem dX0_look_92 : decode cX0_look 92 = .ok (.iload_n 3, 1) := dk_29 (dk_at dksX0_look_3 20 rfl rfl)
theorem dX0_look_93 : decode cX0_look 93 = .ok (.iconst (-1), 1) := dk_2 (dk_at dksX0_look_3 21 rfl rfl)
theorem dX0_look_94 : decode cX0_look 94 = .ok (.invokevirtual 340, 3) := dk_182 1 84 (dk_at dksX0_look_4 0 rfl rfl)
theorem dX0_look_97 : decode cX0_look 97 = .ok (.istore 7, 2) := dk_54 7 (dk_at dksX0_look_4 3 rfl rfl)
theorem dX0_look_99 : decode cX0_look 99 = .ok (.iload 6, 2) := dk_21 6 (dk_at dksX0_look_4 5 rfl rfl)
theorem dX0_look_101 : decode cX0_look 101 = .ok (.iload 7, 2) := dk_21 7 (dk_at dksX0_look_4 7 rfl rfl)
theorem dX0_look_103 : decode cX0_look 103 = .ok (.if_icmp .ge 44, 3) := dk_162 0 44 (dk_at dksX0_look_4 9 rfl rfl)
theorem dX0_look_106 : decode cX0_look 106 = .ok (.aload_n 0, 1) := dk_42 (dk_at dksX0_look_4 12 rfl rfl)
theorem dX0_look_107 : decode cX0_look 107 = .ok (.iload_n 1, 1) := dk_27 (dk_at dksX0_look_4 13 rfl rfl)
theorem dX0_look_108 : decode cX0_look 108 = .ok (.iload_n 2, 1) := dk_28 (dk_at dksX0_look_4 14 rfl rfl)
theorem dX0_look_109 : decode cX0_look 109 = .ok (.iload_n 3, 1) := dk_29 (dk_at dksX0_look_4 15 rfl rfl)
theorem dX0_look_110 : decode cX0_look 110 = .ok (.iload 6, 2) := dk_21 6 (dk_at dksX0_look_4 16 rfl rfl)
theorem dX0_look_112 : decode cX0_look 112 = .ok (.invokevirtual 340, 3) := dk_182 1 84 (dk_at dksX0_look_4 18 rfl rfl)
theorem dX0_look_115 : decode cX0_look 115 = .ok (.istore 8, 2) := dk_54 8 (dk_at dksX0_look_4 21 rfl rfl)
theorem dX0_look_117 : decode cX0_look 117 = .ok (.aload_n 0, 1) := dk_42 (dk_at dksX0_look_4 23 rfl rfl)
theorem dX0_look_118 : decode cX0_look 118 = .ok (.iload 8, 2) := dk_21 8 (dk_at dksX0_look_5 0 rfl rfl)
theorem dX0_look_120 : decode cX0_look 120 = .ok (.bipush 100, 2) := dk_16 100 (dk_at dksX0_look_5 2 rfl rfl)
theorem dX0_look_122 : decode cX0_look 122 = .ok (.idiv, 1) := dk_108 (dk_at dksX0_look_5 4 rfl rfl)
theorem dX0_look_123 : decode cX0_look 123 = .ok (.iload_n 2, 1) := dk_28 (dk_at dksX0_look_5 5 rfl rfl)
theorem dX0_look_124 : decode cX0_look 124 = .ok (.iload_n 3, 1) := dk_29 (dk_at dksX0_look_5 6 rfl rfl)
theorem dX0_look_125 : decode cX0_look 125 = .ok (.iload 8, 2) := dk_21 8 (dk_at dksX0_look_5 7 rfl rfl)
theorem dX0_look_127 : decode cX0_look 127 = .ok (.bipush 10, 2) := dk_16 10 (dk_at dksX0_look_5 9 rfl rfl)
theorem dX0_look_129 : decode cX0_look 129 = .ok (.irem, 1) := dk_112 (dk_at dksX0_look_5 11 rfl rfl)
theorem dX0_look_130 : decode cX0_look 130 = .ok (.iload 8, 2) := dk_21 8 (dk_at dksX0_look_5 12 rfl rfl)
theorem dX0_look_132 : decode cX0_look 132 = .ok (.bipush 10, 2) := dk_16 10 (dk_at dksX0_look_5 14 rfl rfl)
theorem dX0_look_134 : decode cX0_look 134 = .ok (.idiv, 1) := dk_108 (dk_at dksX0_look_5 16 rfl rfl)
theorem dX0_look_135 : decode cX0_look 135 = .ok (.bipush 10, 2) := dk_16 10 (dk_at dksX0_look_5 17 rfl rfl)
theorem dX0_look_137 : decode cX0_look 137 = .ok (.irem, 1) := dk_112 (dk_at dksX0_look_5 19 rfl rfl)
theorem dX0_look_138 : decode cX0_look 138 = .ok (.invokevirtual 344, 3) := dk_182 1 88 (dk_at dksX0_look_5 20 rfl rfl)
theorem dX0_look_141 : decode cX0_look 141 = .ok (.iinc 6 1, 3) := dk_132 6 1 (dk_at dksX0_look_6 0 rfl rfl)
theorem dX0_look_144 : decode cX0_look 144 = .ok (.goto (-45), 3) := dk_167 255 211 (dk_at dksX0_look_6 3 rfl rfl)
theorem dX0_look_147 : decode cX0_look 147 = .ok (.iconst 0, 1) := dk_3 (dk_at dksX0_look_6 6 rfl rfl)
theorem dX0_look_148 : decode cX0_look 148 = .ok (.istore 6, 2) := dk_54 6 (dk_at dksX0_look_6 7 rfl rfl)
theorem dX0_look_150 : decode cX0_look 150 = .ok (.iload 6, 2) := dk_21 6 (dk_at dksX0_look_6 9 rfl rfl)
theorem dX0_look_152 : decode cX0_look 152 = .ok (.bipush 48, 2) := dk_16 48 (dk_at dksX0_look_6 11 rfl rfl)
theorem dX0_look_154 : decode cX0_look 154 = .ok (.if_icmp .ge 75, 3) := dk_162 0 75 (dk_at dksX0_look_6 13 rfl rfl)
theorem dX0_look_157 : decode cX0_look 157 = .ok (.iconst 0, 1) := dk_3 (dk_at dksX0_look_6 16 rfl rfl)
theorem dX0_look_158 : decode cX0_look 158 = .ok (.istore 7, 2) := dk_54 7 (dk_at dksX0_look_6 17 rfl rfl)
theorem dX0_look_160 : decode cX0_look 160 = .ok (.iconst 0, 1) := dk_3 (dk_at dksX0_look_6 19 rfl rfl)
theorem dX0_look_161 : decode cX0_look 161 = .ok (.istore 8, 2) := dk_54 8 (dk_at dksX0_look_6 20 rfl rfl)
theorem dX0_look_163 : decode cX0_look 163 = .ok (.iload 8, 2) := dk_21 8 (dk_at dksX0_look_6 22 rfl rfl)
theorem dX0_look_165 : decode cX0_look 165 = .ok (.bipush 9, 2) := dk_16 9 (dk_at dksX0_look_7 0 rfl rfl)
theorem dX0_look_167 : decode cX0_look 167 = .ok (.if_icmp .gt 26, 3) := dk_163 0 26 (dk_at dksX0_look_7 2 rfl rfl)
theorem dX0_look_170 : decode cX0_look 170 = .ok (.iload 7, 2) := dk_21 7 (dk_at dksX0_look_7 5 rfl rfl)
theorem dX0_look_172 : decode cX0_look 172 = .ok (.aload_n 0, 1) := dk_42 (dk_at dksX0_look_7 7 rfl rfl)
theorem dX0_look_173 : decode cX0_look 173 = .ok (.getfield 111, 3) := dk_180 0 111 (dk_at dksX0_look_7 8 rfl rfl)
theorem dX0_look_176 : decode cX0_look 176 = .ok (.iload 6, 2) := dk_21 6 (dk_at dksX0_look_7 11 rfl rfl)
theorem dX0_look_178 : decode cX0_look 178 = .ok (.aaload, 1) := dk_50 (dk_at dksX0_look_7 13 rfl rfl)
theorem dX0_look_179 : decode cX0_look 179 = .ok (.iload 8, 2) := dk_21 8 (dk_at dksX0_look_7 14 rfl rfl)
theorem dX0_look_181 : decode cX0_look 181 = .ok (.iaload, 1) := dk_46 (dk_at dksX0_look_7 16 rfl rfl)
theorem dX0_look_182 : decode cX0_look 182 = .ok (.invokestatic 295, 3) := dk_184 1 39 (dk_at dksX0_look_7 17 rfl rfl)
theorem dX0_look_185 : decode cX0_look 185 = .ok (.istore 7, 2) := dk_54 7 (dk_at dksX0_look_7 20 rfl rfl)
theorem dX0_look_187 : decode cX0_look 187 = .ok (.iinc 8 1, 3) := dk_132 8 1 (dk_at dksX0_look_8 0 rfl rfl)
theorem dX0_look_190 : decode cX0_look 190 = .ok (.goto (-27), 3) := dk_167 255 229 (dk_at dksX0_look_8 3 rfl rfl)
theorem dX0_look_193 : decode cX0_look 193 = .ok (.aload_n 0, 1) := dk_42 (dk_at dksX0_look_8 6 rfl rfl)
theorem dX0_look_194 : decode cX0_look 194 = .ok (.getfield 40, 3) := dk_180 0 40 (dk_at dksX0_look_8 7 rfl rfl)
theorem dX0_look_197 : decode cX0_look 197 = .ok (.iload 6, 2) := dk_21 6 (dk_at dksX0_look_8 10 rfl rfl)
theorem dX0_look_199 : decode cX0_look 199 = .ok (.invokevirtual 198, 3) := dk_182 0 198 (dk_at dksX0_look_8 12 rfl rfl)
theorem dX0_look_202 : decode cX0_look 202 = .ok (.ifCond .eq 21, 3) := dk_153 0 21 (dk_at dksX0_look_8 15 rfl rfl)
theorem dX0_look_205 : decode cX0_look 205 = .ok (.iload 7, 2) := dk_21 7 (dk_at dksX0_look_8 18 rfl rfl)
theorem dX0_look_207 : decode cX0_look 207 = .ok (.iload 5, 2) := dk_21 5 (dk_at dksX0_look_8 20 rfl rfl)
theorem dX0_look_209 : decode cX0_look 209 = .ok (.if_icmp .lt 6, 3) := dk_161 0 6 (dk_at dksX0_look_9 0 rfl rfl)
theorem dX0_look_212 : decode cX0_look 212 = .ok (.goto 11, 3) := dk_167 0 11 (dk_at dksX0_look_9 3 rfl rfl)
theorem dX0_look_215 : decode cX0_look 215 = .ok (.iload 6, 2) := dk_21 6 (dk_at dksX0_look_9 6 rfl rfl)
theorem dX0_look_217 : decode cX0_look 217 = .ok (.istore 4, 2) := dk_54 4 (dk_at dksX0_look_9 8 rfl rfl)
theorem dX0_look_219 : decode cX0_look 219 = .ok (.iload 7, 2) := dk_21 7 (dk_at dksX0_look_9 10 rfl rfl)
theorem dX0_look_221 : decode cX0_look 221 = .ok (.istore 5, 2) := dk_54 5 (dk_at dksX0_look_9 12 rfl rfl)
theorem dX0_look_223 : decode cX0_look 223 = .ok (.iinc 6 1, 3) := dk_132 6 1 (dk_at dksX0_look_9 14 rfl rfl)
theorem dX0_look_226 : decode cX0_look 226 = .ok (.goto (-76), 3) := dk_167 255 180 (dk_at dksX0_look_9 17 rfl rfl)
theorem dX0_look_229 : decode cX0_look 229 = .ok (.iload 4, 2) := dk_21 4 (dk_at dksX0_look_9 20 rfl rfl)
theorem dX0_look_231 : decode cX0_look 231 = .ok (.ifCond .ge 8, 3) := dk_156 0 8 (dk_at dksX0_look_10 0 rfl rfl)
theorem dX0_look_234 : decode cX0_look 234 = .ok (.bipush (-2), 2) := dk_16 254 (dk_at dksX0_look_10 3 rfl rfl)
theorem dX0_look_236 : decode cX0_look 236 = .ok (.goto 17, 3) := dk_167 0 17 (dk_at dksX0_look_10 5 rfl rfl)
theorem dX0_look_239 : decode cX0_look 239 = .ok (.bipush 10, 2) := dk_16 10 (dk_at dksX0_look_10 8 rfl rfl)
theorem dX0_look_241 : decode cX0_look 241 = .ok (.iload 4, 2) := dk_21 4 (dk_at dksX0_look_10 10 rfl rfl)
theorem dX0_look_243 : decode cX0_look 243 = .ok (.bipush 8, 2) := dk_16 8 (dk_at dksX0_look_10 12 rfl rfl)
theorem dX0_look_245 : decode cX0_look 245 = .ok (.idiv, 1) := dk_108 (dk_at dksX0_look_10 14 rfl rfl)
theorem dX0_look_246 : decode cX0_look 246 = .ok (.imul, 1) := dk_104 (dk_at dksX0_look_10 15 rfl rfl)
theorem dX0_look_247 : decode cX0_look 247 = .ok (.iload 4, 2) := dk_21 4 (dk_at dksX0_look_10 16 rfl rfl)
theorem dX0_look_249 : decode cX0_look 249 = .ok (.bipush 8, 2) := dk_16 8 (dk_at dksX0_look_10 18 rfl rfl)
theorem dX0_look_251 : decode cX0_look 251 = .ok (.irem, 1) := dk_112 (dk_at dksX0_look_10 20 rfl rfl)
theorem dX0_look_252 : decode cX0_look 252 = .ok (.iadd, 1) := dk_96 (dk_at dksX0_look_10 21 rfl rfl)
theorem dX0_look_253 : decode cX0_look 253 = .ok (.ireturn, 1) := dk_172 (dk_at dksX0_look_10 22 rfl rfl)
abbrev cX0_counts : ByteArray := prog_1_method_55_code
def yX0_counts : MethodName := ⟨RX0, "counts", "(IIIII)V"⟩
def dkwX0_counts_4 : List UInt8 := [21, 8, 96, 182, 0, 230, 167, 0, 4, 3, 92, 46, 4, 96, 79, 132, 6, 1, 167, 255, 148, 177]
abbrev dktX0_counts_4 : List UInt8 := dkwX0_counts_4 ++ []
def dkwX0_counts_3 : List UInt8 := [153, 0, 32, 42, 180, 0, 51, 42, 180, 0, 40, 27, 21, 7, 42, 180, 0, 51, 180, 0, 210, 27, 46]
abbrev dktX0_counts_3 : List UInt8 := dkwX0_counts_3 ++ dktX0_counts_4
def dkwX0_counts_2 : List UInt8 := [184, 0, 158, 153, 0, 7, 4, 167, 0, 4, 3, 54, 9, 42, 180, 0, 111, 21, 6, 50, 21, 9]
abbrev dktX0_counts_2 : List UInt8 := dkwX0_counts_2 ++ dktX0_counts_3
def dkwX0_counts_1 : List UInt8 := [108, 21, 5, 100, 54, 8, 21, 7, 3, 28, 4, 100, 184, 0, 158, 153, 0, 19, 21, 8, 3, 29, 4, 100]
abbrev dktX0_counts_1 : List UInt8 := dkwX0_counts_1 ++ dktX0_counts_2
def dkwX0_counts_0 : List UInt8 := [3, 54, 6, 21, 6, 16, 48, 162, 0, 107, 21, 6, 16, 8, 112, 21, 4, 100, 54, 7, 21, 6, 16, 8]
abbrev dktX0_counts_0 : List UInt8 := dkwX0_counts_0 ++ dktX0_counts_1
theorem dksX0_counts_0 : cX0_counts.data.toList.drop 0 = dktX0_counts_0 := by decide +kernel
theorem dksX0_counts_1 : cX0_counts.data.toList.drop 24 = dktX0_counts_1 := dk_seg dksX0_counts_0 24 rfl rfl
theorem dksX0_counts_2 : cX0_counts.data.toList.drop 48 = dktX0_counts_2 := dk_seg dksX0_counts_1 24 rfl rfl
theorem dksX0_counts_3 : cX0_counts.data.toList.drop 70 = dktX0_counts_3 := dk_seg dksX0_counts_2 22 rfl rfl
theorem dksX0_counts_4 : cX0_counts.data.toList.drop 93 = dktX0_counts_4 := dk_seg dksX0_counts_3 23 rfl rfl
theorem dX0_counts_0 : decode cX0_counts 0 = .ok (.iconst 0, 1) := dk_3 (dk_at dksX0_counts_0 0 rfl rfl)
theorem dX0_counts_1 : decode cX0_counts 1 = .ok (.istore 6, 2) := dk_54 6 (dk_at dksX0_counts_0 1 rfl rfl)
theorem dX0_counts_3 : decode cX0_counts 3 = .ok (.iload 6, 2) := dk_21 6 (dk_at dksX0_counts_0 3 rfl rfl)
theorem dX0_counts_5 : decode cX0_counts 5 = .ok (.bipush 48, 2) := dk_16 48 (dk_at dksX0_counts_0 5 rfl rfl)
theorem dX0_counts_7 : decode cX0_counts 7 = .ok (.if_icmp .ge 107, 3) := dk_162 0 107 (dk_at dksX0_counts_0 7 rfl rfl)
theorem dX0_counts_10 : decode cX0_counts 10 = .ok (.iload 6, 2) := dk_21 6 (dk_at dksX0_counts_0 10 rfl rfl)
theorem dX0_counts_12 : decode cX0_counts 12 = .ok (.bipush 8, 2) := dk_16 8 (dk_at dksX0_counts_0 12 rfl rfl)
theorem dX0_counts_14 : decode cX0_counts 14 = .ok (.irem, 1) := dk_112 (dk_at dksX0_counts_0 14 rfl rfl)
theorem dX0_counts_15 : decode cX0_counts 15 = .ok (.iload 4, 2) := dk_21 4 (dk_at dksX0_counts_0 15 rfl rfl)
theorem dX0_counts_17 : decode cX0_counts 17 = .ok (.isub, 1) := dk_100 (dk_at dksX0_counts_0 17 rfl rfl)
theorem dX0_counts_18 : decode cX0_counts 18 = .ok (.istore 7, 2) := dk_54 7 (dk_at dksX0_counts_0 18 rfl rfl)
theorem dX0_counts_20 : decode cX0_counts 20 = .ok (.iload 6, 2) := dk_21 6 (dk_at dksX0_counts_0 20 rfl rfl)
theorem dX0_counts_22 : decode cX0_counts 22 = .ok (.bipush 8, 2) := dk_16 8 (dk_at dksX0_counts_0 22 rfl rfl)
theorem dX0_counts_24 : decode cX0_counts 24 = .ok (.idiv, 1) := dk_108 (dk_at dksX0_counts_1 0 rfl rfl)
theorem dX0_counts_25 : decode cX0_counts 25 = .ok (.iload 5, 2) := dk_21 5 (dk_at dksX0_counts_1 1 rfl rfl)
theorem dX0_counts_27 : decode cX0_counts 27 = .ok (.isub, 1) := dk_100 (dk_at dksX0_counts_1 3 rfl rfl)
theorem dX0_counts_28 : decode cX0_counts 28 = .ok (.istore 8, 2) := dk_54 8 (dk_at dksX0_counts_1 4 rfl rfl)
theorem dX0_counts_30 : decode cX0_counts 30 = .ok (.iload 7, 2) := dk_21 7 (dk_at dksX0_counts_1 6 rfl rfl)
theorem dX0_counts_32 : decode cX0_counts 32 = .ok (.iconst 0, 1) := dk_3 (dk_at dksX0_counts_1 8 rfl rfl)
theorem dX0_counts_33 : decode cX0_counts 33 = .ok (.iload_n 2, 1) := dk_28 (dk_at dksX0_counts_1 9 rfl rfl)
theorem dX0_counts_34 : decode cX0_counts 34 = .ok (.iconst 1, 1) := dk_4 (dk_at dksX0_counts_1 10 rfl rfl)
theorem dX0_counts_35 : decode cX0_counts 35 = .ok (.isub, 1) := dk_100 (dk_at dksX0_counts_1 11 rfl rfl)
theorem dX0_counts_36 : decode cX0_counts 36 = .ok (.invokestatic 158, 3) := dk_184 0 158 (dk_at dksX0_counts_1 12 rfl rfl)
theorem dX0_counts_39 : decode cX0_counts 39 = .ok (.ifCond .eq 19, 3) := dk_153 0 19 (dk_at dksX0_counts_1 15 rfl rfl)
theorem dX0_counts_42 : decode cX0_counts 42 = .ok (.iload 8, 2) := dk_21 8 (dk_at dksX0_counts_1 18 rfl rfl)
theorem dX0_counts_44 : decode cX0_counts 44 = .ok (.iconst 0, 1) := dk_3 (dk_at dksX0_counts_1 20 rfl rfl)
theorem dX0_counts_45 : decode cX0_counts 45 = .ok (.iload_n 3, 1) := dk_29 (dk_at dksX0_counts_1 21 rfl rfl)
theorem dX0_counts_46 : decode cX0_counts 46 = .ok (.iconst 1, 1) := dk_4 (dk_at dksX0_counts_1 22 rfl rfl)
theorem dX0_counts_47 : decode cX0_counts 47 = .ok (.isub, 1) := dk_100 (dk_at dksX0_counts_1 23 rfl rfl)
theorem dX0_counts_48 : decode cX0_counts 48 = .ok (.invokestatic 158, 3) := dk_184 0 158 (dk_at dksX0_counts_2 0 rfl rfl)
theorem dX0_counts_51 : decode cX0_counts 51 = .ok (.ifCond .eq 7, 3) := dk_153 0 7 (dk_at dksX0_counts_2 3 rfl rfl)
theorem dX0_counts_54 : decode cX0_counts 54 = .ok (.iconst 1, 1) := dk_4 (dk_at dksX0_counts_2 6 rfl rfl)
theorem dX0_counts_55 : decode cX0_counts 55 = .ok (.goto 4, 3) := dk_167 0 4 (dk_at dksX0_counts_2 7 rfl rfl)
theorem dX0_counts_58 : decode cX0_counts 58 = .ok (.iconst 0, 1) := dk_3 (dk_at dksX0_counts_2 10 rfl rfl)
theorem dX0_counts_59 : decode cX0_counts 59 = .ok (.istore 9, 2) := dk_54 9 (dk_at dksX0_counts_2 11 rfl rfl)
theorem dX0_counts_61 : decode cX0_counts 61 = .ok (.aload_n 0, 1) := dk_42 (dk_at dksX0_counts_2 13 rfl rfl)
theorem dX0_counts_62 : decode cX0_counts 62 = .ok (.getfield 111, 3) := dk_180 0 111 (dk_at dksX0_counts_2 14 rfl rfl)
theorem dX0_counts_65 : decode cX0_counts 65 = .ok (.iload 6, 2) := dk_21 6 (dk_at dksX0_counts_2 17 rfl rfl)
theorem dX0_counts_67 : decode cX0_counts 67 = .ok (.aaload, 1) := dk_50 (dk_at dksX0_counts_2 19 rfl rfl)
theorem dX0_counts_68 : decode cX0_counts 68 = .ok (.iload 9, 2) := dk_21 9 (dk_at dksX0_counts_2 20 rfl rfl)
theorem dX0_counts_70 : decode cX0_counts 70 = .ok (.ifCond .eq 32, 3) := dk_153 0 32 (dk_at dksX0_counts_3 0 rfl rfl)
theorem dX0_counts_73 : decode cX0_counts 73 = .ok (.aload_n 0, 1) := dk_42 (dk_at dksX0_counts_3 3 rfl rfl)
theorem dX0_counts_74 : decode cX0_counts 74 = .ok (.getfield 51, 3) := dk_180 0 51 (dk_at dksX0_counts_3 4 rfl rfl)
theorem dX0_counts_77 : decode cX0_counts 77 = .ok (.aload_n 0, 1) := dk_42 (dk_at dksX0_counts_3 7 rfl rfl)
theorem dX0_counts_78 : decode cX0_counts 78 = .ok (.getfield 40, 3) := dk_180 0 40 (dk_at dksX0_counts_3 8 rfl rfl)
theorem dX0_counts_81 : decode cX0_counts 81 = .ok (.iload_n 1, 1) := dk_27 (dk_at dksX0_counts_3 11 rfl rfl)
theorem dX0_counts_82 : decode cX0_counts 82 = .ok (.iload 7, 2) := dk_21 7 (dk_at dksX0_counts_3 12 rfl rfl)
theorem dX0_counts_84 : decode cX0_counts 84 = .ok (.aload_n 0, 1) := dk_42 (dk_at dksX0_counts_3 14 rfl rfl)
theorem dX0_counts_85 : decode cX0_counts 85 = .ok (.getfield 51, 3) := dk_180 0 51 (dk_at dksX0_counts_3 15 rfl rfl)
theorem dX0_counts_88 : decode cX0_counts 88 = .ok (.getfield 210, 3) := dk_180 0 210 (dk_at dksX0_counts_3 18 rfl rfl)
theorem dX0_counts_91 : decode cX0_counts 91 = .ok (.iload_n 1, 1) := dk_27 (dk_at dksX0_counts_3 21 rfl rfl)
theorem dX0_counts_92 : decode cX0_counts 92 = .ok (.iaload, 1) := dk_46 (dk_at dksX0_counts_3 22 rfl rfl)
theorem dX0_counts_93 : decode cX0_counts 93 = .ok (.iload 8, 2) := dk_21 8 (dk_at dksX0_counts_4 0 rfl rfl)
theorem dX0_counts_95 : decode cX0_counts 95 = .ok (.iadd, 1) := dk_96 (dk_at dksX0_counts_4 2 rfl rfl)
theorem dX0_counts_96 : decode cX0_counts 96 = .ok (.invokevirtual 230, 3) := dk_182 0 230 (dk_at dksX0_counts_4 3 rfl rfl)
theorem dX0_counts_99 : decode cX0_counts 99 = .ok (.goto 4, 3) := dk_167 0 4 (dk_at dksX0_counts_4 6 rfl rfl)
theorem dX0_counts_102 : decode cX0_counts 102 = .ok (.iconst 0, 1) := dk_3 (dk_at dksX0_counts_4 9 rfl rfl)
theorem dX0_counts_103 : decode cX0_counts 103 = .ok (.dup2, 1) := dk_92 (dk_at dksX0_counts_4 10 rfl rfl)
theorem dX0_counts_104 : decode cX0_counts 104 = .ok (.iaload, 1) := dk_46 (dk_at dksX0_counts_4 11 rfl rfl)
theorem dX0_counts_105 : decode cX0_counts 105 = .ok (.iconst 1, 1) := dk_4 (dk_at dksX0_counts_4 12 rfl rfl)
theorem dX0_counts_106 : decode cX0_counts 106 = .ok (.iadd, 1) := dk_96 (dk_at dksX0_counts_4 13 rfl rfl)
theorem dX0_counts_107 : decode cX0_counts 107 = .ok (.iastore, 1) := dk_79 (dk_at dksX0_counts_4 14 rfl rfl)
theorem dX0_counts_108 : decode cX0_counts 108 = .ok (.iinc 6 1, 3) := dk_132 6 1 (dk_at dksX0_counts_4 15 rfl rfl)
theorem dX0_counts_111 : decode cX0_counts 111 = .ok (.goto (-108), 3) := dk_167 255 148 (dk_at dksX0_counts_4 18 rfl rfl)
theorem dX0_counts_114 : decode cX0_counts 114 = .ok (.return_, 1) := dk_177 (dk_at dksX0_counts_4 21 rfl rfl)
abbrev cX0_hold : ByteArray := prog_1_method_57_code
def yX0_hold : MethodName := ⟨RX0, "hold", "(I)Z"⟩
def dkwX0_hold_1 : List UInt8 := [42, 180, 0, 83, 27, 4, 84, 4, 172]
abbrev dktX0_hold_1 : List UInt8 := dkwX0_hold_1 ++ []
def dkwX0_hold_0 : List UInt8 := [27, 3, 5, 184, 0, 158, 154, 0, 5, 3, 172, 42, 180, 0, 62, 27, 50, 42, 180, 0, 51, 182, 0, 237]
abbrev dktX0_hold_0 : List UInt8 := dkwX0_hold_0 ++ dktX0_hold_1
theorem dksX0_hold_0 : cX0_hold.data.toList.drop 0 = dktX0_hold_0 := by decide +kernel
theorem dksX0_hold_1 : cX0_hold.data.toList.drop 24 = dktX0_hold_1 := dk_seg dksX0_hold_0 24 rfl rfl
theorem dX0_hold_0 : decode cX0_hold 0 = .ok (.iload_n 1, 1) := dk_27 (dk_at dksX0_hold_0 0 rfl rfl)
theorem dX0_hold_1 : decode cX0_hold 1 = .ok (.iconst 0, 1) := dk_3 (dk_at dksX0_hold_0 1 rfl rfl)
theorem dX0_hold_2 : decode cX0_hold 2 = .ok (.iconst 2, 1) := dk_5 (dk_at dksX0_hold_0 2 rfl rfl)
theorem dX0_hold_3 : decode cX0_hold 3 = .ok (.invokestatic 158, 3) := dk_184 0 158 (dk_at dksX0_hold_0 3 rfl rfl)
theorem dX0_hold_6 : decode cX0_hold 6 = .ok (.ifCond .ne 5, 3) := dk_154 0 5 (dk_at dksX0_hold_0 6 rfl rfl)
theorem dX0_hold_9 : decode cX0_hold 9 = .ok (.iconst 0, 1) := dk_3 (dk_at dksX0_hold_0 9 rfl rfl)
theorem dX0_hold_10 : decode cX0_hold 10 = .ok (.ireturn, 1) := dk_172 (dk_at dksX0_hold_0 10 rfl rfl)
theorem dX0_hold_11 : decode cX0_hold 11 = .ok (.aload_n 0, 1) := dk_42 (dk_at dksX0_hold_0 11 rfl rfl)
theorem dX0_hold_12 : decode cX0_hold 12 = .ok (.getfield 62, 3) := dk_180 0 62 (dk_at dksX0_hold_0 12 rfl rfl)
theorem dX0_hold_15 : decode cX0_hold 15 = .ok (.iload_n 1, 1) := dk_27 (dk_at dksX0_hold_0 15 rfl rfl)
theorem dX0_hold_16 : decode cX0_hold 16 = .ok (.aaload, 1) := dk_50 (dk_at dksX0_hold_0 16 rfl rfl)
theorem dX0_hold_17 : decode cX0_hold 17 = .ok (.aload_n 0, 1) := dk_42 (dk_at dksX0_hold_0 17 rfl rfl)
theorem dX0_hold_18 : decode cX0_hold 18 = .ok (.getfield 51, 3) := dk_180 0 51 (dk_at dksX0_hold_0 18 rfl rfl)
theorem dX0_hold_21 : decode cX0_hold 21 = .ok (.invokevirtual 237, 3) := dk_182 0 237 (dk_at dksX0_hold_0 21 rfl rfl)
theorem dX0_hold_24 : decode cX0_hold 24 = .ok (.aload_n 0, 1) := dk_42 (dk_at dksX0_hold_1 0 rfl rfl)
theorem dX0_hold_25 : decode cX0_hold 25 = .ok (.getfield 83, 3) := dk_180 0 83 (dk_at dksX0_hold_1 1 rfl rfl)
theorem dX0_hold_28 : decode cX0_hold 28 = .ok (.iload_n 1, 1) := dk_27 (dk_at dksX0_hold_1 4 rfl rfl)
theorem dX0_hold_29 : decode cX0_hold 29 = .ok (.iconst 1, 1) := dk_4 (dk_at dksX0_hold_1 5 rfl rfl)
theorem dX0_hold_30 : decode cX0_hold 30 = .ok (.bastore, 1) := dk_84 (dk_at dksX0_hold_1 6 rfl rfl)
theorem dX0_hold_31 : decode cX0_hold 31 = .ok (.iconst 1, 1) := dk_4 (dk_at dksX0_hold_1 7 rfl rfl)
theorem dX0_hold_32 : decode cX0_hold 32 = .ok (.ireturn, 1) := dk_172 (dk_at dksX0_hold_1 8 rfl rfl)
abbrev cX0_restore : ByteArray := prog_1_method_58_code
def yX0_restore : MethodName := ⟨RX0, "restore", "(I)Z"⟩
def dkwX0_restore_1 : List UInt8 := [42, 180, 0, 62, 27, 50, 182, 0, 237, 42, 3, 181, 0, 133, 4, 172]
abbrev dktX0_restore_1 : List UInt8 := dkwX0_restore_1 ++ []
def dkwX0_restore_0 : List UInt8 := [27, 3, 5, 184, 0, 158, 153, 0, 12, 42, 180, 0, 83, 27, 51, 154, 0, 5, 3, 172, 42, 180, 0, 51]
abbrev dktX0_restore_0 : List UInt8 := dkwX0_restore_0 ++ dktX0_restore_1
theorem dksX0_restore_0 : cX0_restore.data.toList.drop 0 = dktX0_restore_0 := by decide +kernel
theorem dksX0_restore_1 : cX0_restore.data.toList.drop 24 = dktX0_restore_1 := dk_seg dksX0_restore_0 24 rfl rfl
theorem dX0_restore_0 : decode cX0_restore 0 = .ok (.iload_n 1, 1) := dk_27 (dk_at dksX0_restore_0 0 rfl rfl)
theorem dX0_restore_1 : decode cX0_restore 1 = .ok (.iconst 0, 1) := dk_3 (dk_at dksX0_restore_0 1 rfl rfl)
theorem dX0_restore_2 : decode cX0_restore 2 = .ok (.iconst 2, 1) := dk_5 (dk_at dksX0_restore_0 2 rfl rfl)
theorem dX0_restore_3 : decode cX0_restore 3 = .ok (.invokestatic 158, 3) := dk_184 0 158 (dk_at dksX0_restore_0 3 rfl rfl)
theorem dX0_restore_6 : decode cX0_restore 6 = .ok (.ifCond .eq 12, 3) := dk_153 0 12 (dk_at dksX0_restore_0 6 rfl rfl)
theorem dX0_restore_9 : decode cX0_restore 9 = .ok (.aload_n 0, 1) := dk_42 (dk_at dksX0_restore_0 9 rfl rfl)
theorem dX0_restore_10 : decode cX0_restore 10 = .ok (.getfield 83, 3) := dk_180 0 83 (dk_at dksX0_restore_0 10 rfl rfl)
theorem dX0_restore_13 : decode cX0_restore 13 = .ok (.iload_n 1, 1) := dk_27 (dk_at dksX0_restore_0 13 rfl rfl)
theorem dX0_restore_14 : decode cX0_restore 14 = .ok (.baload, 1) := dk_51 (dk_at dksX0_restore_0 14 rfl rfl)
theorem dX0_restore_15 : decode cX0_restore 15 = .ok (.ifCond .ne 5, 3) := dk_154 0 5 (dk_at dksX0_restore_0 15 rfl rfl)
theorem dX0_restore_18 : decode cX0_restore 18 = .ok (.iconst 0, 1) := dk_3 (dk_at dksX0_restore_0 18 rfl rfl)
theorem dX0_restore_19 : decode cX0_restore 19 = .ok (.ireturn, 1) := dk_172 (dk_at dksX0_restore_0 19 rfl rfl)
theorem dX0_restore_20 : decode cX0_restore 20 = .ok (.aload_n 0, 1) := dk_42 (dk_at dksX0_restore_0 20 rfl rfl)
theorem dX0_restore_21 : decode cX0_restore 21 = .ok (.getfield 51, 3) := dk_180 0 51 (dk_at dksX0_restore_0 21 rfl rfl)
theorem dX0_restore_24 : decode cX0_restore 24 = .ok (.aload_n 0, 1) := dk_42 (dk_at dksX0_restore_1 0 rfl rfl)
theorem dX0_restore_25 : decode cX0_restore 25 = .ok (.getfield 62, 3) := dk_180 0 62 (dk_at dksX0_restore_1 1 rfl rfl)
theorem dX0_restore_28 : decode cX0_restore 28 = .ok (.iload_n 1, 1) := dk_27 (dk_at dksX0_restore_1 4 rfl rfl)
theorem dX0_restore_29 : decode cX0_restore 29 = .ok (.aaload, 1) := dk_50 (dk_at dksX0_restore_1 5 rfl rfl)
theorem dX0_restore_30 : decode cX0_restore 30 = .ok (.invokevirtual 237, 3) := dk_182 0 237 (dk_at dksX0_restore_1 6 rfl rfl)
theorem dX0_restore_33 : decode cX0_restore 33 = .ok (.aload_n 0, 1) := dk_42 (dk_at dksX0_restore_1 9 rfl rfl)
theorem dX0_restore_34 : decode cX0_restore 34 = .ok (.iconst 0, 1) := dk_3 (dk_at dksX0_restore_1 10 rfl rfl)
theorem dX0_restore_35 : decode cX0_restore 35 = .ok (.putfield 133, 3) := dk_181 0 133 (dk_at dksX0_restore_1 11 rfl rfl)
theorem dX0_restore_38 : decode cX0_restore 38 = .ok (.iconst 1, 1) := dk_4 (dk_at dksX0_restore_1 14 rfl rfl)
theorem dX0_restore_39 : decode cX0_restore 39 = .ok (.ireturn, 1) := dk_172 (dk_at dksX0_restore_1 15 rfl rfl)
abbrev cX0_count : ByteArray := prog_1_method_59_code
def yX0_count : MethodName := ⟨RX0, "count", "(I)I"⟩
def dkwX0_count_8 : List UInt8 := [180, 0, 51, 180, 0, 204, 184, 1, 56, 172, 2, 172]
abbrev dktX0_count_8 : List UInt8 := dkwX0_count_8 ++ []
def dkwX0_count_7 : List UInt8 := [51, 153, 0, 7, 4, 167, 0, 4, 3, 96, 172, 42, 180, 0, 51, 180, 0, 201, 184, 1, 56, 172, 42]
abbrev dktX0_count_7 : List UInt8 := dkwX0_count_7 ++ dktX0_count_8
def dkwX0_count_6 : List UInt8 := [167, 0, 4, 3, 42, 180, 0, 83, 4, 51, 153, 0, 7, 4, 167, 0, 4, 3, 96, 42, 180, 0, 83, 5]
abbrev dktX0_count_6 : List UInt8 := dkwX0_count_6 ++ dktX0_count_7
def dkwX0_count_5 : List UInt8 := [180, 0, 118, 172, 42, 180, 0, 133, 172, 42, 180, 0, 136, 172, 42, 180, 0, 83, 3, 51, 153, 0, 7, 4]
abbrev dktX0_count_5 : List UInt8 := dkwX0_count_5 ++ dktX0_count_6
def dkwX0_count_4 : List UInt8 := [180, 0, 186, 184, 1, 56, 172, 42, 180, 0, 51, 180, 0, 224, 184, 1, 56, 172, 42, 180, 0, 24]
abbrev dktX0_count_4 : List UInt8 := dkwX0_count_4 ++ dktX0_count_5
def dkwX0_count_3 : List UInt8 := [182, 0, 156, 172, 42, 180, 0, 51, 180, 1, 14, 172, 42, 180, 0, 51, 180, 1, 53, 172, 42, 180, 0, 51]
abbrev dktX0_count_3 : List UInt8 := dkwX0_count_3 ++ dktX0_count_4
def dkwX0_count_2 : List UInt8 := [42, 180, 0, 40, 180, 1, 29, 172, 42, 180, 0, 40, 180, 1, 26, 172, 42, 182, 0, 196, 172, 42]
abbrev dktX0_count_2 : List UInt8 := dkwX0_count_2 ++ dktX0_count_3
def dkwX0_count_1 : List UInt8 := [170, 0, 0, 0, 0, 0, 220, 0, 0, 0, 0, 0, 0, 0, 13, 0, 0, 0, 71, 0, 0, 0, 79, 0, 0, 0, 87, 0, 0, 0, 92, 0, 0, 0, 97, 0, 0, 0, 105, 0, 0, 0, 113, 0, 0, 0, 124, 0, 0, 0, 135, 0, 0, 0, 143, 0, 0, 0, 148, 0, 0, 0, 153, 0, 0, 0, 198, 0, 0, 0, 209]
abbrev dktX0_count_1 : List UInt8 := dkwX0_count_1 ++ dktX0_count_2
def dkwX0_count_0 : List UInt8 := [27]
abbrev dktX0_count_0 : List UInt8 := dkwX0_count_0 ++ dktX0_count_1
theorem dksX0_count_0 : cX0_count.data.toList.drop 0 = dktX0_count_0 := by decide +kernel
theorem dksX0_count_1 : cX0_count.data.toList.drop 1 = dktX0_count_1 := dk_seg dksX0_count_0 1 rfl rfl
theorem dksX0_count_2 : cX0_count.data.toList.drop 72 = dktX0_count_2 := dk_seg dksX0_count_1 71 rfl rfl
theorem dksX0_count_3 : cX0_count.data.toList.drop 94 = dktX0_count_3 := dk_seg dksX0_count_2 22 rfl rfl
theorem dksX0_count_4 : cX0_count.data.toList.drop 118 = dktX0_count_4 := dk_seg dksX0_count_3 24 rfl rfl
theorem dksX0_count_5 : cX0_count.data.toList.drop 140 = dktX0_count_5 := dk_seg dksX0_count_4 22 rfl rfl
theorem dksX0_count_6 : cX0_count.data.toList.drop 164 = dktX0_count_6 := dk_seg dksX0_count_5 24 rfl rfl
theorem dksX0_count_7 : cX0_count.data.toList.drop 188 = dktX0_count_7 := dk_seg dksX0_count_6 24 rfl rfl
theorem dksX0_count_8 : cX0_count.data.toList.drop 211 = dktX0_count_8 := dk_seg dksX0_count_7 23 rfl rfl
theorem dX0_count_0 : decode cX0_count 0 = .ok (.iload_n 1, 1) := dk_27 (dk_at dksX0_count_0 0 rfl rfl)
theorem dX0_count_1 : decode cX0_count 1 = .ok (.tableswitch 220 0 13 #[71, 79, 87, 92, 97, 105, 113, 124, 135, 143, 148, 153, 198, 209], 71) := by decide +kernel
theorem dX0_count_72 : decode cX0_count 72 = .ok (.aload_n 0, 1) := dk_42 (dk_at dksX0_count_2 0 rfl rfl)
theorem dX0_count_73 : decode cX0_count 73 = .ok (.getfield 40, 3) := dk_180 0 40 (dk_at dksX0_count_2 1 rfl rfl)
theorem dX0_count_76 : decode cX0_count 76 = .ok (.getfield 285, 3) := dk_180 1 29 (dk_at dksX0_count_2 4 rfl rfl)
theorem dX0_count_79 : decode cX0_count 79 = .ok (.ireturn, 1) := dk_172 (dk_at dksX0_count_2 7 rfl rfl)
theorem dX0_count_80 : decode cX0_count 80 = .ok (.aload_n 0, 1) := dk_42 (dk_at dksX0_count_2 8 rfl rfl)
theorem dX0_count_81 : decode cX0_count 81 = .ok (.getfield 40, 3) := dk_180 0 40 (dk_at dksX0_count_2 9 rfl rfl)
theorem dX0_count_84 : decode cX0_count 84 = .ok (.getfield 282, 3) := dk_180 1 26 (dk_at dksX0_count_2 12 rfl rfl)
theorem dX0_count_87 : decode cX0_count 87 = .ok (.ireturn, 1) := dk_172 (dk_at dksX0_count_2 15 rfl rfl)
theorem dX0_count_88 : decode cX0_count 88 = .ok (.aload_n 0, 1) := dk_42 (dk_at dksX0_count_2 16 rfl rfl)
theorem dX0_count_89 : decode cX0_count 89 = .ok (.invokevirtual 196, 3) := dk_182 0 196 (dk_at dksX0_count_2 17 rfl rfl)
theorem dX0_count_92 : decode cX0_count 92 = .ok (.ireturn, 1) := dk_172 (dk_at dksX0_count_2 20 rfl rfl)
theorem dX0_count_93 : decode cX0_count 93 = .ok (.aload_n 0, 1) := dk_42 (dk_at dksX0_count_2 21 rfl rfl)
theorem dX0_count_94 : decode cX0_count 94 = .ok (.invokevirtual 156, 3) := dk_182 0 156 (dk_at dksX0_count_3 0 rfl rfl)
theorem dX0_count_97 : decode cX0_count 97 = .ok (.ireturn, 1) := dk_172 (dk_at dksX0_count_3 3 rfl rfl)
theorem dX0_count_98 : decode cX0_count 98 = .ok (.aload_n 0, 1) := dk_42 (dk_at dksX0_count_3 4 rfl rfl)
theorem dX0_count_99 : decode cX0_count 99 = .ok (.getfield 51, 3) := dk_180 0 51 (dk_at dksX0_count_3 5 rfl rfl)
theorem dX0_count_102 : decode cX0_count 102 = .ok (.getfield 270, 3) := dk_180 1 14 (dk_at dksX0_count_3 8 rfl rfl)
theorem dX0_count_105 : decode cX0_count 105 = .ok (.ireturn, 1) := dk_172 (dk_at dksX0_count_3 11 rfl rfl)
theorem dX0_count_106 : decode cX0_count 106 = .ok (.aload_n 0, 1) := dk_42 (dk_at dksX0_count_3 12 rfl rfl)
theorem dX0_count_107 : decode cX0_count 107 = .ok (.getfield 51, 3) := dk_180 0 51 (dk_at dksX0_count_3 13 rfl rfl)
theorem dX0_count_110 : decode cX0_count 110 = .ok (.getfield 309, 3) := dk_180 1 53 (dk_at dksX0_count_3 16 rfl rfl)
theorem dX0_count_113 : decode cX0_count 113 = .ok (.ireturn, 1) := dk_172 (dk_at dksX0_count_3 19 rfl rfl)
theorem dX0_count_114 : decode cX0_count 114 = .ok (.aload_n 0, 1) := dk_42 (dk_at dksX0_count_3 20 rfl rfl)
theorem dX0_count_115 : decode cX0_count 115 = .ok (.getfield 51, 3) := dk_180 0 51 (dk_at dksX0_count_3 21 rfl rfl)
theorem dX0_count_118 : decode cX0_count 118 = .ok (.getfield 186, 3) := dk_180 0 186 (dk_at dksX0_count_4 0 rfl rfl)
theorem dX0_count_121 : decode cX0_count 121 = .ok (.invokestatic 312, 3) := dk_184 1 56 (dk_at dksX0_count_4 3 rfl rfl)
theorem dX0_count_124 : decode cX0_count 124 = .ok (.ireturn, 1) := dk_172 (dk_at dksX0_count_4 6 rfl rfl)
theorem dX0_count_125 : decode cX0_count 125 = .ok (.aload_n 0, 1) := dk_42 (dk_at dksX0_count_4 7 rfl rfl)
theorem dX0_count_126 : decode cX0_count 126 = .ok (.getfield 51, 3) := dk_180 0 51 (dk_at dksX0_count_4 8 rfl rfl)
theorem dX0_count_129 : decode cX0_count 129 = .ok (.getfield 224, 3) := dk_180 0 224 (dk_at dksX0_count_4 11 rfl rfl)
theorem dX0_count_132 : decode cX0_count 132 = .ok (.invokestatic 312, 3) := dk_184 1 56 (dk_at dksX0_count_4 14 rfl rfl)
theorem dX0_count_135 : decode cX0_count 135 = .ok (.ireturn, 1) := dk_172 (dk_at dksX0_count_4 17 rfl rfl)
theorem dX0_count_136 : decode cX0_count 136 = .ok (.aload_n 0, 1) := dk_42 (dk_at dksX0_count_4 18 rfl rfl)
theorem dX0_count_137 : decode cX0_count 137 = .ok (.getfield 24, 3) := dk_180 0 24 (dk_at dksX0_count_4 19 rfl rfl)
theorem dX0_count_140 : decode cX0_count 140 = .ok (.getfield 118, 3) := dk_180 0 118 (dk_at dksX0_count_5 0 rfl rfl)
theorem dX0_count_143 : decode cX0_count 143 = .ok (.ireturn, 1) := dk_172 (dk_at dksX0_count_5 3 rfl rfl)
theorem dX0_count_144 : decode cX0_count 144 = .ok (.aload_n 0, 1) := dk_42 (dk_at dksX0_count_5 4 rfl rfl)
theorem dX0_count_145 : decode cX0_count 145 = .ok (.getfield 133, 3) := dk_180 0 133 (dk_at dksX0_count_5 5 rfl rfl)
theorem dX0_count_148 : decode cX0_count 148 = .ok (.ireturn, 1) := dk_172 (dk_at dksX0_count_5 8 rfl rfl)
theorem dX0_count_149 : decode cX0_count 149 = .ok (.aload_n 0, 1) := dk_42 (dk_at dksX0_count_5 9 rfl rfl)
theorem dX0_count_150 : decode cX0_count 150 = .ok (.getfield 136, 3) := dk_180 0 136 (dk_at dksX0_count_5 10 rfl rfl)
theorem dX0_count_153 : decode cX0_count 153 = .ok (.ireturn, 1) := dk_172 (dk_at dksX0_count_5 13 rfl rfl)
theorem dX0_count_154 : decode cX0_count 154 = .ok (.aload_n 0, 1) := dk_42 (dk_at dksX0_count_5 14 rfl rfl)
theorem dX0_count_155 : decode cX0_count 155 = .ok (.getfield 83, 3) := dk_180 0 83 (dk_at dksX0_count_5 15 rfl rfl)
theorem dX0_count_158 : decode cX0_count 158 = .ok (.iconst 0, 1) := dk_3 (dk_at dksX0_count_5 18 rfl rfl)
theorem dX0_count_159 : decode cX0_count 159 = .ok (.baload, 1) := dk_51 (dk_at dksX0_count_5 19 rfl rfl)
theorem dX0_count_160 : decode cX0_count 160 = .ok (.ifCond .eq 7, 3) := dk_153 0 7 (dk_at dksX0_count_5 20 rfl rfl)
theorem dX0_count_163 : decode cX0_count 163 = .ok (.iconst 1, 1) := dk_4 (dk_at dksX0_count_5 23 rfl rfl)
theorem dX0_count_164 : decode cX0_count 164 = .ok (.goto 4, 3) := dk_167 0 4 (dk_at dksX0_count_6 0 rfl rfl)
theorem dX0_count_167 : decode cX0_count 167 = .ok (.iconst 0, 1) := dk_3 (dk_at dksX0_count_6 3 rfl rfl)
theorem dX0_count_168 : decode cX0_count 168 = .ok (.aload_n 0, 1) := dk_42 (dk_at dksX0_count_6 4 rfl rfl)
theorem dX0_count_169 : decode cX0_count 169 = .ok (.getfield 83, 3) := dk_180 0 83 (dk_at dksX0_count_6 5 rfl rfl)
theorem dX0_count_172 : decode cX0_count 172 = .ok (.iconst 1, 1) := dk_4 (dk_at dksX0_count_6 8 rfl rfl)
theorem dX0_count_173 : decode cX0_count 173 = .ok (.baload, 1) := dk_51 (dk_at dksX0_count_6 9 rfl rfl)
theorem dX0_count_174 : decode cX0_count 174 = .ok (.ifCond .eq 7, 3) := dk_153 0 7 (dk_at dksX0_count_6 10 rfl rfl)
theorem dX0_count_177 : decode cX0_count 177 = .ok (.iconst 1, 1) := dk_4 (dk_at dksX0_count_6 13 rfl rfl)
theorem dX0_count_178 : decode cX0_count 178 = .ok (.goto 4, 3) := dk_167 0 4 (dk_at dksX0_count_6 14 rfl rfl)
theorem dX0_count_181 : decode cX0_count 181 = .ok (.iconst 0, 1) := dk_3 (dk_at dksX0_count_6 17 rfl rfl)
theorem dX0_count_182 : decode cX0_count 182 = .ok (.iadd, 1) := dk_96 (dk_at dksX0_count_6 18 rfl rfl)
theorem dX0_count_183 : decode cX0_count 183 = .ok (.aload_n 0, 1) := dk_42 (dk_at dksX0_count_6 19 rfl rfl)
theorem dX0_count_184 : decode cX0_count 184 = .ok (.getfield 83, 3) := dk_180 0 83 (dk_at dksX0_count_6 20 rfl rfl)
theorem dX0_count_187 : decode cX0_count 187 = .ok (.iconst 2, 1) := dk_5 (dk_at dksX0_count_6 23 rfl rfl)
theorem dX0_count_188 : decode cX0_count 188 = .ok (.baload, 1) := dk_51 (dk_at dksX0_count_7 0 rfl rfl)
theorem dX0_count_189 : decode cX0_count 189 = .ok (.ifCond .eq 7, 3) := dk_153 0 7 (dk_at dksX0_count_7 1 rfl rfl)
theorem dX0_count_192 : decode cX0_count 192 = .ok (.iconst 1, 1) := dk_4 (dk_at dksX0_count_7 4 rfl rfl)
theorem dX0_count_193 : decode cX0_count 193 = .ok (.goto 4, 3) := dk_167 0 4 (dk_at dksX0_count_7 5 rfl rfl)
theorem dX0_count_196 : decode cX0_count 196 = .ok (.iconst 0, 1) := dk_3 (dk_at dksX0_count_7 8 rfl rfl)
theorem dX0_count_197 : decode cX0_count 197 = .ok (.iadd, 1) := dk_96 (dk_at dksX0_count_7 9 rfl rfl)
theorem dX0_count_198 : decode cX0_count 198 = .ok (.ireturn, 1) := dk_172 (dk_at dksX0_count_7 10 rfl rfl)
theorem dX0_count_199 : decode cX0_count 199 = .ok (.aload_n 0, 1) := dk_42 (dk_at dksX0_count_7 11 rfl rfl)
theorem dX0_count_200 : decode cX0_count 200 = .ok (.getfield 51, 3) := dk_180 0 51 (dk_at dksX0_count_7 12 rfl rfl)
theorem dX0_count_203 : decode cX0_count 203 = .ok (.getfield 201, 3) := dk_180 0 201 (dk_at dksX0_count_7 15 rfl rfl)
theorem dX0_count_206 : decode cX0_count 206 = .ok (.invokestatic 312, 3) := dk_184 1 56 (dk_at dksX0_count_7 18 rfl rfl)
theorem dX0_count_209 : decode cX0_count 209 = .ok (.ireturn, 1) := dk_172 (dk_at dksX0_count_7 21 rfl rfl)
theorem dX0_count_210 : decode cX0_count 210 = .ok (.aload_n 0, 1) := dk_42 (dk_at dksX0_count_7 22 rfl rfl)
theorem dX0_count_211 : decode cX0_count 211 = .ok (.getfield 51, 3) := dk_180 0 51 (dk_at dksX0_count_8 0 rfl rfl)
theorem dX0_count_214 : decode cX0_count 214 = .ok (.getfield 204, 3) := dk_180 0 204 (dk_at dksX0_count_8 3 rfl rfl)
theorem dX0_count_217 : decode cX0_count 217 = .ok (.invokestatic 312, 3) := dk_184 1 56 (dk_at dksX0_count_8 6 rfl rfl)
theorem dX0_count_220 : decode cX0_count 220 = .ok (.ireturn, 1) := dk_172 (dk_at dksX0_count_8 9 rfl rfl)
theorem dX0_count_221 : decode cX0_count 221 = .ok (.iconst (-1), 1) := dk_2 (dk_at dksX0_count_8 10 rfl rfl)
theorem dX0_count_222 : decode cX0_count 222 = .ok (.ireturn, 1) := dk_172 (dk_at dksX0_count_8 11 rfl rfl)
theorem q119 : (Jvm.Cond.initialized "RainLoom") ∈ lw_all := lw_g (lw_at lw_m1 1 rfl) rfl
theorem q158 : (Jvm.Cond.instantiable "RainLoom" (25 : Nat)) ∈ lw_all := lw_g (lw_at lw_m1 40 rfl) rfl
theorem q160 : (Jvm.Cond.instanceMethod ({ cls := "RainLoom", name := "<init>", desc := "()V" } : Jvm.MethodName)) ∈ lw_all := lw_g (lw_at lw_m1 42 rfl) rfl
theorem q161 : (Jvm.Cond.code ({ cls := "RainLoom", name := "<init>", desc := "()V" } : Jvm.MethodName) prog_1_method_3_code (2 : Nat) (Option.none : Option Jvm.ClassFile.FieldType)) ∈ lw_all := lw_g (lw_at lw_m1 43 rfl) rfl
theorem q162 : (Jvm.Cond.methodLink "RainLoom" (8 : Nat) ({ cls := "java/lang/Object", name := "<init>", desc := "()V" } : Jvm.MethodName)) ∈ lw_all := lw_g (lw_at lw_m1 44 rfl) rfl
theorem q165 : (Jvm.Cond.classLink "RainLoom" (14 : Nat) "RainLoom$Fault") ∈ lw_all := lw_g (lw_at lw_m1 47 rfl) rfl
theorem q204 : (Jvm.Cond.methodLink "RainLoom" (16 : Nat) ({ cls := "RainLoom$Fault", name := "<init>", desc := "()V" } : Jvm.MethodName)) ∈ lw_all := lw_g (lw_at lw_m1 86 rfl) rfl
theorem q218 : (Jvm.Cond.fieldLink "RainLoom" (139 : Nat) "RainLoom$Fault" "number" "I") ∈ lw_all := lw_g (lw_at lw_m1 100 rfl) rfl
theorem q220 : (Jvm.Cond.fieldLink "RainLoom" (142 : Nat) "RainLoom$Fault" "place" "I") ∈ lw_all := lw_g (lw_at lw_m1 102 rfl) rfl
theorem q239 : (Jvm.Cond.classLink "RainLoom" (21 : Nat) "RainLoom$Tokens") ∈ lw_all := lw_g (lw_at lw_m1 121 rfl) rfl
theorem q241 : (Jvm.Cond.methodLinkNest "RainLoom" (23 : Nat) ({ cls := "RainLoom$Tokens", name := "<init>", desc := "()V" } : Jvm.MethodName) "RainLoom") ∈ lw_tbl := lw_at lw_m1 123 rfl
theorem q270 : (Jvm.Cond.fieldLink "RainLoom" (125 : Nat) "RainLoom$Tokens" "tape" "[B") ∈ lw_all := lw_g (lw_at lw_m1 152 rfl) rfl
theorem q272 : (Jvm.Cond.fieldLink "RainLoom" (118 : Nat) "RainLoom$Tokens" "taped" "I") ∈ lw_all := lw_g (lw_at lw_m1 154 rfl) rfl
theorem q299 : (Jvm.Cond.classLink "RainLoom" (28 : Nat) "RainLoom$Parser") ∈ lw_all := lw_g (lw_at lw_m1 181 rfl) rfl
theorem q301 : (Jvm.Cond.methodLink "RainLoom" (30 : Nat) ({ cls := "RainLoom$Parser", name := "<init>", desc := "(LRainLoom$Tokens;LRainLoom$Fault;)V" } : Jvm.MethodName)) ∈ lw_all := lw_g (lw_at lw_m1 183 rfl) rfl
theorem q327 : (Jvm.Cond.classLink "RainLoom" (37 : Nat) "RainLoom$Text") ∈ lw_all := lw_g (lw_at lw_m1 209 rfl) rfl
theorem q329 : (Jvm.Cond.methodLinkNest "RainLoom" (39 : Nat) ({ cls := "RainLoom$Text", name := "<init>", desc := "()V" } : Jvm.MethodName) "RainLoom") ∈ lw_tbl := lw_at lw_m1 211 rfl
theorem q365 : (Jvm.Cond.fieldLink "RainLoom" (183 : Nat) "RainLoom$Text" "field" "[I") ∈ lw_all := lw_g (lw_at lw_m2 7 rfl) rfl
theorem q368 : (Jvm.Cond.fieldLink "RainLoom" (143 : Nat) "RainLoom$Text" "fields" "Ljava/util/ArrayList;") ∈ lw_all := lw_g (lw_at lw_m2 10 rfl) rfl
theorem q373 : (Jvm.Cond.fieldLink "RainLoom" (153 : Nat) "RainLoom$Text" "looms" "Ljava/util/ArrayList;") ∈ lw_all := lw_g (lw_at lw_m2 15 rfl) rfl
theorem q380 : (Jvm.Cond.fieldLink "RainLoom" (282 : Nat) "RainLoom$Text" "rows" "I") ∈ lw_all := lw_g (lw_at lw_m2 22 rfl) rfl
theorem q383 : (Jvm.Cond.fieldLink "RainLoom" (285 : Nat) "RainLoom$Text" "wide" "I") ∈ lw_all := lw_g (lw_at lw_m2 25 rfl) rfl
theorem q391 : (Jvm.Cond.fieldLink "RainLoom" (316 : Nat) "RainLoom$Text" "seed" "I") ∈ lw_all := lw_g (lw_at lw_m2 33 rfl) rfl
theorem q411 : (Jvm.Cond.classLink "RainLoom" (48 : Nat) "RainLoom$Land") ∈ lw_all := lw_g (lw_at lw_m2 53 rfl) rfl
theorem q413 : (Jvm.Cond.methodLinkNest "RainLoom" (50 : Nat) ({ cls := "RainLoom$Land", name := "<init>", desc := "()V" } : Jvm.MethodName) "RainLoom") ∈ lw_tbl := lw_at lw_m2 55 rfl
theorem q435 : (Jvm.Cond.fieldLink "RainLoom" (186 : Nat) "RainLoom$Land" "water" "[I") ∈ lw_all := lw_g (lw_at lw_m2 77 rfl) rfl
theorem q438 : (Jvm.Cond.fieldLink "RainLoom" (201 : Nat) "RainLoom$Land" "lacked" "[I") ∈ lw_all := lw_g (lw_at lw_m2 80 rfl) rfl
theorem q441 : (Jvm.Cond.fieldLink "RainLoom" (204 : Nat) "RainLoom$Land" "flooded" "[I") ∈ lw_all := lw_g (lw_at lw_m2 83 rfl) rfl
theorem q443 : (Jvm.Cond.fieldLink "RainLoom" (210 : Nat) "RainLoom$Land" "pick" "[I") ∈ lw_all := lw_g (lw_at lw_m2 85 rfl) rfl
theorem q445 : (Jvm.Cond.fieldLink "RainLoom" (224 : Nat) "RainLoom$Land" "wove" "[I") ∈ lw_all := lw_g (lw_at lw_m2 87 rfl) rfl
theorem q447 : (Jvm.Cond.fieldLink "RainLoom" (227 : Nat) "RainLoom$Land" "torn" "[I") ∈ lw_all := lw_g (lw_at lw_m2 89 rfl) rfl
theorem q450 : (Jvm.Cond.fieldLink "RainLoom" (213 : Nat) "RainLoom$Land" "wide" "[I") ∈ lw_all := lw_g (lw_at lw_m2 92 rfl) rfl
theorem q453 : (Jvm.Cond.fieldLink "RainLoom" (215 : Nat) "RainLoom$Land" "high" "[I") ∈ lw_all := lw_g (lw_at lw_m2 95 rfl) rfl
theorem q456 : (Jvm.Cond.fieldLink "RainLoom" (218 : Nat) "RainLoom$Land" "toX" "[I") ∈ lw_all := lw_g (lw_at lw_m2 98 rfl) rfl
theorem q459 : (Jvm.Cond.fieldLink "RainLoom" (221 : Nat) "RainLoom$Land" "toY" "[I") ∈ lw_all := lw_g (lw_at lw_m2 101 rfl) rfl
theorem q462 : (Jvm.Cond.fieldLink "RainLoom" (309 : Nat) "RainLoom$Land" "store" "I") ∈ lw_all := lw_g (lw_at lw_m2 104 rfl) rfl
theorem q466 : (Jvm.Cond.fieldLink "RainLoom" (270 : Nat) "RainLoom$Land" "day" "I") ∈ lw_all := lw_g (lw_at lw_m2 108 rfl) rfl
theorem q469 : (Jvm.Cond.fieldLink "RainLoom" (319 : Nat) "RainLoom$Land" "seed" "I") ∈ lw_all := lw_g (lw_at lw_m2 111 rfl) rfl
theorem q501 : (Jvm.Cond.classLink "RainLoom" (65 : Nat) "RainLoom$Part") ∈ lw_all := lw_g (lw_at lw_m2 143 rfl) rfl
theorem q503 : (Jvm.Cond.classLink "RainLoom" (67 : Nat) "RainLoom$Falling") ∈ lw_all := lw_g (lw_at lw_m2 145 rfl) rfl
theorem q505 : (Jvm.Cond.methodLinkNest "RainLoom" (69 : Nat) ({ cls := "RainLoom$Falling", name := "<init>", desc := "()V" } : Jvm.MethodName) "RainLoom") ∈ lw_tbl := lw_at lw_m2 147 rfl
theorem q513 : (Jvm.Cond.classLink "RainLoom" (70 : Nat) "RainLoom$Counting") ∈ lw_all := lw_g (lw_at lw_m2 155 rfl) rfl
theorem q515 : (Jvm.Cond.methodLinkNest "RainLoom" (72 : Nat) ({ cls := "RainLoom$Counting", name := "<init>", desc := "()V" } : Jvm.MethodName) "RainLoom") ∈ lw_tbl := lw_at lw_m2 157 rfl
theorem q520 : (Jvm.Cond.classLink "RainLoom" (73 : Nat) "RainLoom$Drying") ∈ lw_all := lw_g (lw_at lw_m2 162 rfl) rfl
theorem q522 : (Jvm.Cond.methodLinkNest "RainLoom" (75 : Nat) ({ cls := "RainLoom$Drying", name := "<init>", desc := "()V" } : Jvm.MethodName) "RainLoom") ∈ lw_tbl := lw_at lw_m2 164 rfl
theorem q527 : (Jvm.Cond.classLink "RainLoom" (76 : Nat) "RainLoom$Gathering") ∈ lw_all := lw_g (lw_at lw_m2 169 rfl) rfl
theorem q529 : (Jvm.Cond.methodLinkNest "RainLoom" (78 : Nat) ({ cls := "RainLoom$Gathering", name := "<init>", desc := "()V" } : Jvm.MethodName) "RainLoom") ∈ lw_tbl := lw_at lw_m2 171 rfl
theorem q534 : (Jvm.Cond.classLink "RainLoom" (94 : Nat) "[[I") ∈ lw_all := lw_g (lw_at lw_m2 176 rfl) rfl
theorem q536 : (Jvm.Cond.methodLink "RainLoom" (114 : Nat) ({ cls := "RainLoom$Land", name := "begins", desc := "(LRainLoom$Text;)V" } : Jvm.MethodName)) ∈ lw_all := lw_g (lw_at lw_m2 178 rfl) rfl
theorem q563 : (Jvm.Cond.fieldLink "RainLoom" (17 : Nat) "RainLoom" "fault" "LRainLoom$Fault;") ∈ lw_all := lw_g (lw_at lw_m2 205 rfl) rfl
theorem q564 : (Jvm.Cond.fieldLink "RainLoom" (24 : Nat) "RainLoom" "tokens" "LRainLoom$Tokens;") ∈ lw_all := lw_g (lw_at lw_m2 206 rfl) rfl
theorem q565 : (Jvm.Cond.fieldLink "RainLoom" (33 : Nat) "RainLoom" "parser" "LRainLoom$Parser;") ∈ lw_all := lw_g (lw_at lw_m2 207 rfl) rfl
theorem q566 : (Jvm.Cond.fieldLink "RainLoom" (40 : Nat) "RainLoom" "text" "LRainLoom$Text;") ∈ lw_all := lw_g (lw_at lw_m2 208 rfl) rfl
theorem q567 : (Jvm.Cond.fieldLink "RainLoom" (44 : Nat) "RainLoom" "place" "I") ∈ lw_all := lw_g (lw_at lw_m2 209 rfl) rfl
theorem q568 : (Jvm.Cond.fieldLink "RainLoom" (133 : Nat) "RainLoom" "undos" "I") ∈ lw_all := lw_g (lw_at lw_m2 210 rfl) rfl
theorem q569 : (Jvm.Cond.fieldLink "RainLoom" (234 : Nat) "RainLoom" "undoAt" "I") ∈ lw_all := lw_g (lw_at lw_m2 211 rfl) rfl
theorem q570 : (Jvm.Cond.fieldLink "RainLoom" (51 : Nat) "RainLoom" "land" "LRainLoom$Land;") ∈ lw_all := lw_g (lw_at lw_m2 212 rfl) rfl
theorem q571 : (Jvm.Cond.fieldLink "RainLoom" (55 : Nat) "RainLoom" "trial" "LRainLoom$Land;") ∈ lw_all := lw_g (lw_at lw_m2 213 rfl) rfl
theorem q572 : (Jvm.Cond.fieldLink "RainLoom" (58 : Nat) "RainLoom" "past" "[LRainLoom$Land;") ∈ lw_all := lw_g (lw_at lw_m2 214 rfl) rfl
theorem q573 : (Jvm.Cond.fieldLink "RainLoom" (62 : Nat) "RainLoom" "slots" "[LRainLoom$Land;") ∈ lw_all := lw_g (lw_at lw_m2 215 rfl) rfl
theorem q574 : (Jvm.Cond.fieldLink "RainLoom" (79 : Nat) "RainLoom" "parts" "[LRainLoom$Part;") ∈ lw_all := lw_g (lw_at lw_m2 216 rfl) rfl
theorem q575 : (Jvm.Cond.fieldLink "RainLoom" (83 : Nat) "RainLoom" "held" "[Z") ∈ lw_all := lw_g (lw_at lw_m2 217 rfl) rfl
theorem q576 : (Jvm.Cond.fieldLink "RainLoom" (87 : Nat) "RainLoom" "pieceWide" "[I") ∈ lw_all := lw_g (lw_at lw_m2 218 rfl) rfl
theorem q577 : (Jvm.Cond.fieldLink "RainLoom" (91 : Nat) "RainLoom" "pieceLong" "[I") ∈ lw_all := lw_g (lw_at lw_m2 219 rfl) rfl
theorem q578 : (Jvm.Cond.fieldLink "RainLoom" (96 : Nat) "RainLoom" "used" "[[I") ∈ lw_all := lw_g (lw_at lw_m2 220 rfl) rfl
theorem q579 : (Jvm.Cond.fieldLink "RainLoom" (292 : Nat) "RainLoom" "pieces" "I") ∈ lw_all := lw_g (lw_at lw_m2 221 rfl) rfl
theorem q580 : (Jvm.Cond.fieldLink "RainLoom" (289 : Nat) "RainLoom" "least" "I") ∈ lw_all := lw_g (lw_at lw_m2 222 rfl) rfl
theorem q581 : (Jvm.Cond.fieldLink "RainLoom" (99 : Nat) "RainLoom" "serves" "[I") ∈ lw_all := lw_g (lw_at lw_m2 223 rfl) rfl
theorem q582 : (Jvm.Cond.fieldLink "RainLoom" (102 : Nat) "RainLoom" "bestServes" "[I") ∈ lw_all := lw_g (lw_at lw_m2 224 rfl) rfl
theorem q583 : (Jvm.Cond.fieldLink "RainLoom" (320 : Nat) "RainLoom" "bestSum" "I") ∈ lw_all := lw_g (lw_at lw_m2 225 rfl) rfl
theorem q584 : (Jvm.Cond.fieldLink "RainLoom" (136 : Nat) "RainLoom" "tolds" "I") ∈ lw_all := lw_g (lw_at lw_m2 226 rfl) rfl
theorem q585 : (Jvm.Cond.fieldLink "RainLoom" (105 : Nat) "RainLoom" "toldCell" "[I") ∈ lw_all := lw_g (lw_at lw_m2 227 rfl) rfl
theorem q586 : (Jvm.Cond.fieldLink "RainLoom" (108 : Nat) "RainLoom" "toldWater" "[I") ∈ lw_all := lw_g (lw_at lw_m2 228 rfl) rfl
theorem q587 : (Jvm.Cond.fieldLink "RainLoom" (111 : Nat) "RainLoom" "waysWet" "[[I") ∈ lw_all := lw_g (lw_at lw_m2 229 rfl) rfl
theorem q588 : (Jvm.Cond.laysFinal "RainLoom" "RainLoom" "fault" "LRainLoom$Fault;") ∈ lw_all := lw_g (lw_at lw_m2 230 rfl) rfl
theorem q589 : (Jvm.Cond.soleField "RainLoom" "fault") ∈ lw_all := lw_g (lw_at lw_m2 231 rfl) rfl
theorem q590 : (Jvm.Cond.laysFinal "RainLoom" "RainLoom" "tokens" "LRainLoom$Tokens;") ∈ lw_all := lw_g (lw_at lw_m2 232 rfl) rfl
theorem q591 : (Jvm.Cond.soleField "RainLoom" "tokens") ∈ lw_all := lw_g (lw_at lw_m2 233 rfl) rfl
theorem q592 : (Jvm.Cond.laysFinal "RainLoom" "RainLoom" "parser" "LRainLoom$Parser;") ∈ lw_all := lw_g (lw_at lw_m2 234 rfl) rfl
theorem q593 : (Jvm.Cond.soleField "RainLoom" "parser") ∈ lw_all := lw_g (lw_at lw_m2 235 rfl) rfl
theorem q594 : (Jvm.Cond.lays "RainLoom" "RainLoom" "text" "LRainLoom$Text;") ∈ lw_all := lw_g (lw_at lw_m2 236 rfl) rfl
theorem q595 : (Jvm.Cond.soleField "RainLoom" "text") ∈ lw_all := lw_g (lw_at lw_m2 237 rfl) rfl
theorem q596 : (Jvm.Cond.lays "RainLoom" "RainLoom" "place" "I") ∈ lw_all := lw_g (lw_at lw_m2 238 rfl) rfl
theorem q597 : (Jvm.Cond.soleField "RainLoom" "place") ∈ lw_all := lw_g (lw_at lw_m2 239 rfl) rfl
theorem q598 : (Jvm.Cond.lays "RainLoom" "RainLoom" "undos" "I") ∈ lw_all := lw_g (lw_at lw_m3 0 rfl) rfl
theorem q599 : (Jvm.Cond.soleField "RainLoom" "undos") ∈ lw_all := lw_g (lw_at lw_m3 1 rfl) rfl
theorem q600 : (Jvm.Cond.lays "RainLoom" "RainLoom" "undoAt" "I") ∈ lw_all := lw_g (lw_at lw_m3 2 rfl) rfl
theorem q601 : (Jvm.Cond.soleField "RainLoom" "undoAt") ∈ lw_all := lw_g (lw_at lw_m3 3 rfl) rfl
theorem q602 : (Jvm.Cond.laysFinal "RainLoom" "RainLoom" "land" "LRainLoom$Land;") ∈ lw_all := lw_g (lw_at lw_m3 4 rfl) rfl
theorem q603 : (Jvm.Cond.soleField "RainLoom" "land") ∈ lw_all := lw_g (lw_at lw_m3 5 rfl) rfl
theorem q604 : (Jvm.Cond.laysFinal "RainLoom" "RainLoom" "trial" "LRainLoom$Land;") ∈ lw_all := lw_g (lw_at lw_m3 6 rfl) rfl
theorem q605 : (Jvm.Cond.soleField "RainLoom" "trial") ∈ lw_all := lw_g (lw_at lw_m3 7 rfl) rfl
theorem q606 : (Jvm.Cond.laysFinal "RainLoom" "RainLoom" "past" "[LRainLoom$Land;") ∈ lw_all := lw_g (lw_at lw_m3 8 rfl) rfl
theorem q607 : (Jvm.Cond.soleField "RainLoom" "past") ∈ lw_all := lw_g (lw_at lw_m3 9 rfl) rfl
theorem q608 : (Jvm.Cond.laysFinal "RainLoom" "RainLoom" "slots" "[LRainLoom$Land;") ∈ lw_all := lw_g (lw_at lw_m3 10 rfl) rfl
theorem q609 : (Jvm.Cond.soleField "RainLoom" "slots") ∈ lw_all := lw_g (lw_at lw_m3 11 rfl) rfl
theorem q610 : (Jvm.Cond.laysFinal "RainLoom" "RainLoom" "parts" "[LRainLoom$Part;") ∈ lw_all := lw_g (lw_at lw_m3 12 rfl) rfl
theorem q611 : (Jvm.Cond.soleField "RainLoom" "parts") ∈ lw_all := lw_g (lw_at lw_m3 13 rfl) rfl
theorem q612 : (Jvm.Cond.laysFinal "RainLoom" "RainLoom" "held" "[Z") ∈ lw_all := lw_g (lw_at lw_m3 14 rfl) rfl
theorem q613 : (Jvm.Cond.soleField "RainLoom" "held") ∈ lw_all := lw_g (lw_at lw_m3 15 rfl) rfl
theorem q614 : (Jvm.Cond.laysFinal "RainLoom" "RainLoom" "pieceWide" "[I") ∈ lw_all := lw_g (lw_at lw_m3 16 rfl) rfl
theorem q615 : (Jvm.Cond.soleField "RainLoom" "pieceWide") ∈ lw_all := lw_g (lw_at lw_m3 17 rfl) rfl
theorem q616 : (Jvm.Cond.laysFinal "RainLoom" "RainLoom" "pieceLong" "[I") ∈ lw_all := lw_g (lw_at lw_m3 18 rfl) rfl
theorem q617 : (Jvm.Cond.soleField "RainLoom" "pieceLong") ∈ lw_all := lw_g (lw_at lw_m3 19 rfl) rfl
theorem q618 : (Jvm.Cond.laysFinal "RainLoom" "RainLoom" "used" "[[I") ∈ lw_all := lw_g (lw_at lw_m3 20 rfl) rfl
theorem q619 : (Jvm.Cond.soleField "RainLoom" "used") ∈ lw_all := lw_g (lw_at lw_m3 21 rfl) rfl
theorem q620 : (Jvm.Cond.lays "RainLoom" "RainLoom" "pieces" "I") ∈ lw_all := lw_g (lw_at lw_m3 22 rfl) rfl
theorem q621 : (Jvm.Cond.soleField "RainLoom" "pieces") ∈ lw_all := lw_g (lw_at lw_m3 23 rfl) rfl
theorem q622 : (Jvm.Cond.lays "RainLoom" "RainLoom" "least" "I") ∈ lw_all := lw_g (lw_at lw_m3 24 rfl) rfl
theorem q623 : (Jvm.Cond.soleField "RainLoom" "least") ∈ lw_all := lw_g (lw_at lw_m3 25 rfl) rfl
theorem q624 : (Jvm.Cond.laysFinal "RainLoom" "RainLoom" "serves" "[I") ∈ lw_all := lw_g (lw_at lw_m3 26 rfl) rfl
theorem q625 : (Jvm.Cond.soleField "RainLoom" "serves") ∈ lw_all := lw_g (lw_at lw_m3 27 rfl) rfl
theorem q626 : (Jvm.Cond.laysFinal "RainLoom" "RainLoom" "bestServes" "[I") ∈ lw_all := lw_g (lw_at lw_m3 28 rfl) rfl
theorem q627 : (Jvm.Cond.soleField "RainLoom" "bestServes") ∈ lw_all := lw_g (lw_at lw_m3 29 rfl) rfl
theorem q628 : (Jvm.Cond.lays "RainLoom" "RainLoom" "bestSum" "I") ∈ lw_all := lw_g (lw_at lw_m3 30 rfl) rfl
theorem q629 : (Jvm.Cond.soleField "RainLoom" "bestSum") ∈ lw_all := lw_g (lw_at lw_m3 31 rfl) rfl
theorem q630 : (Jvm.Cond.lays "RainLoom" "RainLoom" "tolds" "I") ∈ lw_all := lw_g (lw_at lw_m3 32 rfl) rfl
theorem q631 : (Jvm.Cond.soleField "RainLoom" "tolds") ∈ lw_all := lw_g (lw_at lw_m3 33 rfl) rfl
theorem q632 : (Jvm.Cond.laysFinal "RainLoom" "RainLoom" "toldCell" "[I") ∈ lw_all := lw_g (lw_at lw_m3 34 rfl) rfl
theorem q633 : (Jvm.Cond.soleField "RainLoom" "toldCell") ∈ lw_all := lw_g (lw_at lw_m3 35 rfl) rfl
theorem q634 : (Jvm.Cond.laysFinal "RainLoom" "RainLoom" "toldWater" "[I") ∈ lw_all := lw_g (lw_at lw_m3 36 rfl) rfl
theorem q635 : (Jvm.Cond.soleField "RainLoom" "toldWater") ∈ lw_all := lw_g (lw_at lw_m3 37 rfl) rfl
theorem q636 : (Jvm.Cond.laysFinal "RainLoom" "RainLoom" "waysWet" "[[I") ∈ lw_all := lw_g (lw_at lw_m3 38 rfl) rfl
theorem q637 : (Jvm.Cond.soleField "RainLoom" "waysWet") ∈ lw_all := lw_g (lw_at lw_m3 39 rfl) rfl
theorem q638 : (Jvm.Cond.superclass "RainLoom" "java/lang/Object") ∈ lw_all := lw_g (lw_at lw_m3 40 rfl) rfl
theorem q641 : (Jvm.Cond.instanceMethod ({ cls := "RainLoom", name := "feed", desc := "(IIIII)I" } : Jvm.MethodName)) ∈ lw_all := lw_g (lw_at lw_m3 43 rfl) rfl
theorem q642 : (Jvm.Cond.selects "RainLoom" ({ cls := "RainLoom", name := "feed", desc := "(IIIII)I" } : Jvm.MethodName) ({ cls := "RainLoom", name := "feed", desc := "(IIIII)I" } : Jvm.MethodName)) ∈ lw_all := lw_g (lw_at lw_m3 44 rfl) rfl
theorem q643 : (Jvm.Cond.code ({ cls := "RainLoom", name := "feed", desc := "(IIIII)I" } : Jvm.MethodName) prog_1_method_4_code (6 : Nat) (Option.some Jvm.ClassFile.FieldType.int)) ∈ lw_all := lw_g (lw_at lw_m3 45 rfl) rfl
theorem q644 : (Jvm.Cond.methodLink "RainLoom" (121 : Nat) ({ cls := "RainLoom", name := "typed", desc := "(I)V" } : Jvm.MethodName)) ∈ lw_all := lw_g (lw_at lw_m3 46 rfl) rfl
theorem q645 : (Jvm.Cond.privateMethod ({ cls := "RainLoom", name := "typed", desc := "(I)V" } : Jvm.MethodName)) ∈ lw_tbl := lw_at lw_m3 47 rfl
theorem q646 : (Jvm.Cond.instanceMethod ({ cls := "RainLoom", name := "typed", desc := "(I)V" } : Jvm.MethodName)) ∈ lw_all := lw_g (lw_at lw_m3 48 rfl) rfl
theorem q647 : (Jvm.Cond.code ({ cls := "RainLoom", name := "typed", desc := "(I)V" } : Jvm.MethodName) prog_1_method_5_code (3 : Nat) (Option.none : Option Jvm.ClassFile.FieldType)) ∈ lw_all := lw_g (lw_at lw_m3 49 rfl) rfl
theorem q649 : (Jvm.Cond.instanceMethod ({ cls := "RainLoom", name := "back", desc := "(I)I" } : Jvm.MethodName)) ∈ lw_all := lw_g (lw_at lw_m3 51 rfl) rfl
theorem q650 : (Jvm.Cond.selects "RainLoom" ({ cls := "RainLoom", name := "back", desc := "(I)I" } : Jvm.MethodName) ({ cls := "RainLoom", name := "back", desc := "(I)I" } : Jvm.MethodName)) ∈ lw_all := lw_g (lw_at lw_m3 52 rfl) rfl
theorem q651 : (Jvm.Cond.code ({ cls := "RainLoom", name := "back", desc := "(I)I" } : Jvm.MethodName) prog_1_method_6_code (2 : Nat) (Option.some Jvm.ClassFile.FieldType.int)) ∈ lw_all := lw_g (lw_at lw_m3 53 rfl) rfl
theorem q653 : (Jvm.Cond.instanceMethod ({ cls := "RainLoom", name := "read", desc := "()I" } : Jvm.MethodName)) ∈ lw_all := lw_g (lw_at lw_m3 55 rfl) rfl
theorem q654 : (Jvm.Cond.selects "RainLoom" ({ cls := "RainLoom", name := "read", desc := "()I" } : Jvm.MethodName) ({ cls := "RainLoom", name := "read", desc := "()I" } : Jvm.MethodName)) ∈ lw_all := lw_g (lw_at lw_m3 56 rfl) rfl
theorem q655 : (Jvm.Cond.codeWith ({ cls := "RainLoom", name := "read", desc := "()I" } : Jvm.MethodName) prog_1_method_7_code (3 : Nat) (Option.some Jvm.ClassFile.FieldType.int) [((7 : Nat), (59 : Nat), (62 : Nat), (14 : Nat))]) ∈ lw_all := lw_g (lw_at lw_m3 57 rfl) rfl
theorem q656 : (Jvm.Cond.methodLink "RainLoom" (129 : Nat) ({ cls := "RainLoom$Parser", name := "read", desc := "()LRainLoom$Text;" } : Jvm.MethodName)) ∈ lw_all := lw_g (lw_at lw_m3 58 rfl) rfl
theorem q1116 : (Jvm.Cond.selects "RainLoom" ({ cls := "java/lang/Object", name := "getClass", desc := "()Ljava/lang/Class;" } : Jvm.MethodName) ({ cls := "java/lang/Object", name := "getClass", desc := "()Ljava/lang/Class;" } : Jvm.MethodName)) ∈ lw_all := lw_g (lw_at lw_m5 38 rfl) rfl
theorem q1153 : (Jvm.Cond.fieldLink "RainLoom" (168 : Nat) "RainLoom$Loom" "wide" "I") ∈ lw_all := lw_g (lw_at lw_m5 75 rfl) rfl
theorem q1176 : (Jvm.Cond.instanceMethod ({ cls := "RainLoom", name := "place", desc := "()I" } : Jvm.MethodName)) ∈ lw_all := lw_g (lw_at lw_m5 98 rfl) rfl
theorem q1177 : (Jvm.Cond.selects "RainLoom" ({ cls := "RainLoom", name := "place", desc := "()I" } : Jvm.MethodName) ({ cls := "RainLoom", name := "place", desc := "()I" } : Jvm.MethodName)) ∈ lw_all := lw_g (lw_at lw_m5 99 rfl) rfl
theorem q1178 : (Jvm.Cond.code ({ cls := "RainLoom", name := "place", desc := "()I" } : Jvm.MethodName) prog_1_method_8_code (1 : Nat) (Option.some Jvm.ClassFile.FieldType.int)) ∈ lw_all := lw_g (lw_at lw_m5 100 rfl) rfl
theorem q1180 : (Jvm.Cond.instanceMethod ({ cls := "RainLoom", name := "cell", desc := "(III)I" } : Jvm.MethodName)) ∈ lw_all := lw_g (lw_at lw_m5 102 rfl) rfl
theorem q1181 : (Jvm.Cond.selects "RainLoom" ({ cls := "RainLoom", name := "cell", desc := "(III)I" } : Jvm.MethodName) ({ cls := "RainLoom", name := "cell", desc := "(III)I" } : Jvm.MethodName)) ∈ lw_all := lw_g (lw_at lw_m5 103 rfl) rfl
theorem q1182 : (Jvm.Cond.code ({ cls := "RainLoom", name := "cell", desc := "(III)I" } : Jvm.MethodName) prog_1_method_15_code (5 : Nat) (Option.some Jvm.ClassFile.FieldType.int)) ∈ lw_all := lw_g (lw_at lw_m5 104 rfl) rfl
theorem q1183 : (Jvm.Cond.methodLink "RainLoom" (179 : Nat) ({ cls := "RainLoom$Text", name := "isCell", desc := "(II)Z" } : Jvm.MethodName)) ∈ lw_all := lw_g (lw_at lw_m5 105 rfl) rfl
theorem q1184 : (Jvm.Cond.methodLink "RainLoom" (189 : Nat) ({ cls := "RainLoom$Land", name := "isLacking", desc := "(LRainLoom$Text;I)Z" } : Jvm.MethodName)) ∈ lw_all := lw_g (lw_at lw_m5 106 rfl) rfl
theorem q1193 : (Jvm.Cond.methodLink "RainLoom" (193 : Nat) ({ cls := "RainLoom$Land", name := "isFlooded", desc := "(LRainLoom$Text;I)Z" } : Jvm.MethodName)) ∈ lw_all := lw_g (lw_at lw_m5 115 rfl) rfl
theorem q1202 : (Jvm.Cond.instanceMethod ({ cls := "RainLoom", name := "field", desc := "(II)I" } : Jvm.MethodName)) ∈ lw_all := lw_g (lw_at lw_m5 124 rfl) rfl
theorem q1203 : (Jvm.Cond.selects "RainLoom" ({ cls := "RainLoom", name := "field", desc := "(II)I" } : Jvm.MethodName) ({ cls := "RainLoom", name := "field", desc := "(II)I" } : Jvm.MethodName)) ∈ lw_all := lw_g (lw_at lw_m5 125 rfl) rfl
theorem q1204 : (Jvm.Cond.code ({ cls := "RainLoom", name := "field", desc := "(II)I" } : Jvm.MethodName) prog_1_method_16_code (6 : Nat) (Option.some Jvm.ClassFile.FieldType.int)) ∈ lw_all := lw_g (lw_at lw_m5 126 rfl) rfl
theorem q1205 : (Jvm.Cond.methodLink "RainLoom" (196 : Nat) ({ cls := "RainLoom", name := "fields", desc := "()I" } : Jvm.MethodName)) ∈ lw_all := lw_g (lw_at lw_m5 127 rfl) rfl
theorem q1206 : (Jvm.Cond.privateMethod ({ cls := "RainLoom", name := "fields", desc := "()I" } : Jvm.MethodName)) ∈ lw_tbl := lw_at lw_m5 128 rfl
theorem q1207 : (Jvm.Cond.instanceMethod ({ cls := "RainLoom", name := "fields", desc := "()I" } : Jvm.MethodName)) ∈ lw_all := lw_g (lw_at lw_m5 129 rfl) rfl
theorem q1208 : (Jvm.Cond.code ({ cls := "RainLoom", name := "fields", desc := "()I" } : Jvm.MethodName) prog_1_method_10_code (1 : Nat) (Option.some Jvm.ClassFile.FieldType.int)) ∈ lw_all := lw_g (lw_at lw_m5 130 rfl) rfl
theorem q1209 : (Jvm.Cond.methodLink "RainLoom" (147 : Nat) ({ cls := "java/util/ArrayList", name := "size", desc := "()I" } : Jvm.MethodName)) ∈ lw_all := lw_g (lw_at lw_m5 131 rfl) rfl
theorem q1210 : (Jvm.Cond.methodLink "RainLoom" (158 : Nat) ({ cls := "RainLoom", name := "isIn", desc := "(III)Z" } : Jvm.MethodName)) ∈ lw_all := lw_g (lw_at lw_m5 132 rfl) rfl
theorem q1211 : (Jvm.Cond.static ({ cls := "RainLoom", name := "isIn", desc := "(III)Z" } : Jvm.MethodName)) ∈ lw_all := lw_g (lw_at lw_m5 133 rfl) rfl
theorem q1212 : (Jvm.Cond.code ({ cls := "RainLoom", name := "isIn", desc := "(III)Z" } : Jvm.MethodName) prog_1_method_9_code (3 : Nat) (Option.some Jvm.ClassFile.FieldType.boolean)) ∈ lw_all := lw_g (lw_at lw_m5 134 rfl) rfl
theorem q1213 : (Jvm.Cond.methodLink "RainLoom" (198 : Nat) ({ cls := "RainLoom$Text", name := "isOn", desc := "(I)Z" } : Jvm.MethodName)) ∈ lw_all := lw_g (lw_at lw_m5 135 rfl) rfl
theorem q1214 : (Jvm.Cond.methodLink "RainLoom" (207 : Nat) ({ cls := "RainLoom$Text", name := "needsOf", desc := "(I)I" } : Jvm.MethodName)) ∈ lw_all := lw_g (lw_at lw_m5 136 rfl) rfl
theorem q1220 : (Jvm.Cond.instanceMethod ({ cls := "RainLoom", name := "loom", desc := "(II)I" } : Jvm.MethodName)) ∈ lw_all := lw_g (lw_at lw_m5 142 rfl) rfl
theorem q1221 : (Jvm.Cond.selects "RainLoom" ({ cls := "RainLoom", name := "loom", desc := "(II)I" } : Jvm.MethodName) ({ cls := "RainLoom", name := "loom", desc := "(II)I" } : Jvm.MethodName)) ∈ lw_all := lw_g (lw_at lw_m5 143 rfl) rfl
theorem q1222 : (Jvm.Cond.code ({ cls := "RainLoom", name := "loom", desc := "(II)I" } : Jvm.MethodName) prog_1_method_17_code (3 : Nat) (Option.some Jvm.ClassFile.FieldType.int)) ∈ lw_all := lw_g (lw_at lw_m5 144 rfl) rfl
theorem q1223 : (Jvm.Cond.methodLink "RainLoom" (171 : Nat) ({ cls := "RainLoom", name := "isLoom", desc := "(I)Z" } : Jvm.MethodName)) ∈ lw_all := lw_g (lw_at lw_m5 145 rfl) rfl
theorem q1224 : (Jvm.Cond.privateMethod ({ cls := "RainLoom", name := "isLoom", desc := "(I)Z" } : Jvm.MethodName)) ∈ lw_tbl := lw_at lw_m5 146 rfl
theorem q1225 : (Jvm.Cond.instanceMethod ({ cls := "RainLoom", name := "isLoom", desc := "(I)Z" } : Jvm.MethodName)) ∈ lw_all := lw_g (lw_at lw_m5 147 rfl) rfl
theorem q1226 : (Jvm.Cond.code ({ cls := "RainLoom", name := "isLoom", desc := "(I)Z" } : Jvm.MethodName) prog_1_method_12_code (2 : Nat) (Option.some Jvm.ClassFile.FieldType.boolean)) ∈ lw_all := lw_g (lw_at lw_m5 148 rfl) rfl
theorem q1227 : (Jvm.Cond.methodLink "RainLoom" (156 : Nat) ({ cls := "RainLoom", name := "looms", desc := "()I" } : Jvm.MethodName)) ∈ lw_all := lw_g (lw_at lw_m5 149 rfl) rfl
theorem q1228 : (Jvm.Cond.privateMethod ({ cls := "RainLoom", name := "looms", desc := "()I" } : Jvm.MethodName)) ∈ lw_tbl := lw_at lw_m5 150 rfl
theorem q1229 : (Jvm.Cond.instanceMethod ({ cls := "RainLoom", name := "looms", desc := "()I" } : Jvm.MethodName)) ∈ lw_all := lw_g (lw_at lw_m5 151 rfl) rfl
theorem q1230 : (Jvm.Cond.code ({ cls := "RainLoom", name := "looms", desc := "()I" } : Jvm.MethodName) prog_1_method_11_code (1 : Nat) (Option.some Jvm.ClassFile.FieldType.int)) ∈ lw_all := lw_g (lw_at lw_m5 152 rfl) rfl
theorem q1231 : (Jvm.Cond.methodLink "RainLoom" (175 : Nat) ({ cls := "RainLoom", name := "wideOf", desc := "(I)I" } : Jvm.MethodName)) ∈ lw_all := lw_g (lw_at lw_m5 153 rfl) rfl
theorem q1232 : (Jvm.Cond.privateMethod ({ cls := "RainLoom", name := "wideOf", desc := "(I)I" } : Jvm.MethodName)) ∈ lw_tbl := lw_at lw_m5 154 rfl
theorem q1233 : (Jvm.Cond.instanceMethod ({ cls := "RainLoom", name := "wideOf", desc := "(I)I" } : Jvm.MethodName)) ∈ lw_all := lw_g (lw_at lw_m5 155 rfl) rfl
theorem q1234 : (Jvm.Cond.code ({ cls := "RainLoom", name := "wideOf", desc := "(I)I" } : Jvm.MethodName) prog_1_method_13_code (2 : Nat) (Option.some Jvm.ClassFile.FieldType.int)) ∈ lw_all := lw_g (lw_at lw_m5 156 rfl) rfl
theorem q1235 : (Jvm.Cond.methodLink "RainLoom" (162 : Nat) ({ cls := "java/util/ArrayList", name := "get", desc := "(I)Ljava/lang/Object;" } : Jvm.MethodName)) ∈ lw_all := lw_g (lw_at lw_m5 157 rfl) rfl
theorem q1236 : (Jvm.Cond.classLink "RainLoom" (166 : Nat) "RainLoom$Loom") ∈ lw_all := lw_g (lw_at lw_m5 158 rfl) rfl
theorem q1238 : (Jvm.Cond.instanceMethod ({ cls := "RainLoom", name := "thread", desc := "(III)I" } : Jvm.MethodName)) ∈ lw_all := lw_g (lw_at lw_m5 160 rfl) rfl
theorem q1239 : (Jvm.Cond.selects "RainLoom" ({ cls := "RainLoom", name := "thread", desc := "(III)I" } : Jvm.MethodName) ({ cls := "RainLoom", name := "thread", desc := "(III)I" } : Jvm.MethodName)) ∈ lw_all := lw_g (lw_at lw_m5 161 rfl) rfl
theorem q1240 : (Jvm.Cond.code ({ cls := "RainLoom", name := "thread", desc := "(III)I" } : Jvm.MethodName) prog_1_method_18_code (4 : Nat) (Option.some Jvm.ClassFile.FieldType.int)) ∈ lw_all := lw_g (lw_at lw_m5 162 rfl) rfl
theorem q1241 : (Jvm.Cond.methodLink "RainLoom" (230 : Nat) ({ cls := "RainLoom$Land", name := "thread", desc := "(LRainLoom$Text;III)I" } : Jvm.MethodName)) ∈ lw_all := lw_g (lw_at lw_m5 163 rfl) rfl
theorem q1269 : (Jvm.Cond.instanceMethod ({ cls := "RainLoom", name := "order", desc := "(IIIII)Z" } : Jvm.MethodName)) ∈ lw_all := lw_g (lw_at lw_m5 191 rfl) rfl
theorem q1270 : (Jvm.Cond.selects "RainLoom" ({ cls := "RainLoom", name := "order", desc := "(IIIII)Z" } : Jvm.MethodName) ({ cls := "RainLoom", name := "order", desc := "(IIIII)Z" } : Jvm.MethodName)) ∈ lw_all := lw_g (lw_at lw_m5 192 rfl) rfl
theorem q1271 : (Jvm.Cond.code ({ cls := "RainLoom", name := "order", desc := "(IIIII)Z" } : Jvm.MethodName) prog_1_method_22_code (6 : Nat) (Option.some Jvm.ClassFile.FieldType.boolean)) ∈ lw_all := lw_g (lw_at lw_m5 193 rfl) rfl
theorem q1272 : (Jvm.Cond.methodLink "RainLoom" (253 : Nat) ({ cls := "RainLoom", name := "isPiece", desc := "(III)Z" } : Jvm.MethodName)) ∈ lw_all := lw_g (lw_at lw_m5 194 rfl) rfl
theorem q1273 : (Jvm.Cond.privateMethod ({ cls := "RainLoom", name := "isPiece", desc := "(III)Z" } : Jvm.MethodName)) ∈ lw_tbl := lw_at lw_m5 195 rfl
theorem q1274 : (Jvm.Cond.instanceMethod ({ cls := "RainLoom", name := "isPiece", desc := "(III)Z" } : Jvm.MethodName)) ∈ lw_all := lw_g (lw_at lw_m5 196 rfl) rfl
theorem q1275 : (Jvm.Cond.code ({ cls := "RainLoom", name := "isPiece", desc := "(III)Z" } : Jvm.MethodName) prog_1_method_14_code (4 : Nat) (Option.some Jvm.ClassFile.FieldType.boolean)) ∈ lw_all := lw_g (lw_at lw_m5 197 rfl) rfl
theorem q1276 : (Jvm.Cond.methodLink "RainLoom" (256 : Nat) ({ cls := "RainLoom", name := "keeps", desc := "()V" } : Jvm.MethodName)) ∈ lw_all := lw_g (lw_at lw_m5 198 rfl) rfl
theorem q1277 : (Jvm.Cond.privateMethod ({ cls := "RainLoom", name := "keeps", desc := "()V" } : Jvm.MethodName)) ∈ lw_tbl := lw_at lw_m5 199 rfl
theorem q1278 : (Jvm.Cond.instanceMethod ({ cls := "RainLoom", name := "keeps", desc := "()V" } : Jvm.MethodName)) ∈ lw_all := lw_g (lw_at lw_m5 200 rfl) rfl
theorem q1279 : (Jvm.Cond.code ({ cls := "RainLoom", name := "keeps", desc := "()V" } : Jvm.MethodName) prog_1_method_19_code (1 : Nat) (Option.none : Option Jvm.ClassFile.FieldType)) ∈ lw_all := lw_g (lw_at lw_m5 201 rfl) rfl
theorem q1280 : (Jvm.Cond.methodLink "RainLoom" (237 : Nat) ({ cls := "RainLoom$Land", name := "takes", desc := "(LRainLoom$Land;)V" } : Jvm.MethodName)) ∈ lw_all := lw_g (lw_at lw_m5 202 rfl) rfl
theorem q1288 : (Jvm.Cond.methodLink "RainLoom" (241 : Nat) ({ cls := "java/lang/Math", name := "min", desc := "(II)I" } : Jvm.MethodName)) ∈ lw_all := lw_g (lw_at lw_m5 210 rfl) rfl
theorem q1290 : (Jvm.Cond.instanceMethod ({ cls := "RainLoom", name := "stop", desc := "(I)Z" } : Jvm.MethodName)) ∈ lw_all := lw_g (lw_at lw_m5 212 rfl) rfl
theorem q1291 : (Jvm.Cond.selects "RainLoom" ({ cls := "RainLoom", name := "stop", desc := "(I)Z" } : Jvm.MethodName) ({ cls := "RainLoom", name := "stop", desc := "(I)Z" } : Jvm.MethodName)) ∈ lw_all := lw_g (lw_at lw_m5 213 rfl) rfl
theorem q1292 : (Jvm.Cond.code ({ cls := "RainLoom", name := "stop", desc := "(I)Z" } : Jvm.MethodName) prog_1_method_23_code (2 : Nat) (Option.some Jvm.ClassFile.FieldType.boolean)) ∈ lw_all := lw_g (lw_at lw_m5 214 rfl) rfl
theorem q1293 : (Jvm.Cond.methodLink "RainLoom" (259 : Nat) ({ cls := "RainLoom$Land", name := "stops", desc := "(I)V" } : Jvm.MethodName)) ∈ lw_all := lw_g (lw_at lw_m5 215 rfl) rfl
theorem q1295 : (Jvm.Cond.instanceMethod ({ cls := "RainLoom", name := "fall", desc := "(IIIII)I" } : Jvm.MethodName)) ∈ lw_all := lw_g (lw_at lw_m5 217 rfl) rfl
theorem q1296 : (Jvm.Cond.selects "RainLoom" ({ cls := "RainLoom", name := "fall", desc := "(IIIII)I" } : Jvm.MethodName) ({ cls := "RainLoom", name := "fall", desc := "(IIIII)I" } : Jvm.MethodName)) ∈ lw_all := lw_g (lw_at lw_m5 218 rfl) rfl
theorem q1297 : (Jvm.Cond.code ({ cls := "RainLoom", name := "fall", desc := "(IIIII)I" } : Jvm.MethodName) prog_1_method_24_code (6 : Nat) (Option.some Jvm.ClassFile.FieldType.int)) ∈ lw_all := lw_g (lw_at lw_m5 219 rfl) rfl
theorem q1298 : (Jvm.Cond.methodLink "RainLoom" (262 : Nat) ({ cls := "RainLoom$Land", name := "falls", desc := "(LRainLoom$Text;IIIII)I" } : Jvm.MethodName)) ∈ lw_all := lw_g (lw_at lw_m5 220 rfl) rfl
theorem q1305 : (Jvm.Cond.instanceMethod ({ cls := "RainLoom", name := "turn", desc := "(II)I" } : Jvm.MethodName)) ∈ lw_all := lw_g (lw_at lw_m5 227 rfl) rfl
theorem q1306 : (Jvm.Cond.selects "RainLoom" ({ cls := "RainLoom", name := "turn", desc := "(II)I" } : Jvm.MethodName) ({ cls := "RainLoom", name := "turn", desc := "(II)I" } : Jvm.MethodName)) ∈ lw_all := lw_g (lw_at lw_m5 228 rfl) rfl
theorem q1307 : (Jvm.Cond.code ({ cls := "RainLoom", name := "turn", desc := "(II)I" } : Jvm.MethodName) prog_1_method_25_code (3 : Nat) (Option.some Jvm.ClassFile.FieldType.int)) ∈ lw_all := lw_g (lw_at lw_m5 229 rfl) rfl
theorem q1309 : (Jvm.Cond.instanceMethod ({ cls := "RainLoom", name := "days", desc := "(I)I" } : Jvm.MethodName)) ∈ lw_all := lw_g (lw_at lw_m5 231 rfl) rfl
theorem q1310 : (Jvm.Cond.selects "RainLoom" ({ cls := "RainLoom", name := "days", desc := "(I)I" } : Jvm.MethodName) ({ cls := "RainLoom", name := "days", desc := "(I)I" } : Jvm.MethodName)) ∈ lw_all := lw_g (lw_at lw_m5 232 rfl) rfl
theorem q1311 : (Jvm.Cond.code ({ cls := "RainLoom", name := "days", desc := "(I)I" } : Jvm.MethodName) prog_1_method_26_code (2 : Nat) (Option.some Jvm.ClassFile.FieldType.int)) ∈ lw_all := lw_g (lw_at lw_m5 233 rfl) rfl
theorem q1312 : (Jvm.Cond.methodLink "RainLoom" (266 : Nat) ({ cls := "RainLoom", name := "runs", desc := "(LRainLoom$Land;I)V" } : Jvm.MethodName)) ∈ lw_all := lw_g (lw_at lw_m5 234 rfl) rfl
theorem q1313 : (Jvm.Cond.privateMethod ({ cls := "RainLoom", name := "runs", desc := "(LRainLoom$Land;I)V" } : Jvm.MethodName)) ∈ lw_tbl := lw_at lw_m5 235 rfl
theorem q1314 : (Jvm.Cond.instanceMethod ({ cls := "RainLoom", name := "runs", desc := "(LRainLoom$Land;I)V" } : Jvm.MethodName)) ∈ lw_all := lw_g (lw_at lw_m5 236 rfl) rfl
theorem q1315 : (Jvm.Cond.code ({ cls := "RainLoom", name := "runs", desc := "(LRainLoom$Land;I)V" } : Jvm.MethodName) prog_1_method_21_code (4 : Nat) (Option.none : Option Jvm.ClassFile.FieldType)) ∈ lw_all := lw_g (lw_at lw_m5 237 rfl) rfl
theorem q1316 : (Jvm.Cond.methodLink "RainLoom" (250 : Nat) ({ cls := "RainLoom", name := "day", desc := "(LRainLoom$Land;)V" } : Jvm.MethodName)) ∈ lw_all := lw_g (lw_at lw_m5 238 rfl) rfl
theorem q1317 : (Jvm.Cond.privateMethod ({ cls := "RainLoom", name := "day", desc := "(LRainLoom$Land;)V" } : Jvm.MethodName)) ∈ lw_tbl := lw_at lw_m5 239 rfl
theorem q1318 : (Jvm.Cond.instanceMethod ({ cls := "RainLoom", name := "day", desc := "(LRainLoom$Land;)V" } : Jvm.MethodName)) ∈ lw_all := lw_g (lw_at lw_m6 0 rfl) rfl
theorem q1319 : (Jvm.Cond.code ({ cls := "RainLoom", name := "day", desc := "(LRainLoom$Land;)V" } : Jvm.MethodName) prog_1_method_20_code (3 : Nat) (Option.none : Option Jvm.ClassFile.FieldType)) ∈ lw_all := lw_g (lw_at lw_m6 1 rfl) rfl
theorem q1320 : (Jvm.Cond.methodLink "RainLoom" (246 : Nat) ({ cls := "RainLoom$Part", name := "goes", desc := "(LRainLoom$Land;LRainLoom$Text;)V" } : Jvm.MethodName)) ∈ lw_all := lw_g (lw_at lw_m6 2 rfl) rfl
theorem q1343 : (Jvm.Cond.static ({ cls := "RainLoom", name := "lot", desc := "(III)I" } : Jvm.MethodName)) ∈ lw_all := lw_g (lw_at lw_m6 25 rfl) rfl
theorem q1344 : (Jvm.Cond.code ({ cls := "RainLoom", name := "lot", desc := "(III)I" } : Jvm.MethodName) prog_1_method_2_code (3 : Nat) (Option.some Jvm.ClassFile.FieldType.int)) ∈ lw_all := lw_g (lw_at lw_m6 26 rfl) rfl
theorem q1345 : (Jvm.Cond.methodLink "RainLoom" (2 : Nat) ({ cls := "RainLoom", name := "mixed", desc := "(II)I" } : Jvm.MethodName)) ∈ lw_all := lw_g (lw_at lw_m6 27 rfl) rfl
theorem q1346 : (Jvm.Cond.static ({ cls := "RainLoom", name := "mixed", desc := "(II)I" } : Jvm.MethodName)) ∈ lw_all := lw_g (lw_at lw_m6 28 rfl) rfl
theorem q1347 : (Jvm.Cond.code ({ cls := "RainLoom", name := "mixed", desc := "(II)I" } : Jvm.MethodName) prog_1_method_1_code (3 : Nat) (Option.some Jvm.ClassFile.FieldType.int)) ∈ lw_all := lw_g (lw_at lw_m6 29 rfl) rfl
theorem q1348 : (Jvm.Cond.constant "RainLoom" (1 : Nat) (1103515245 : Int32)) ∈ lw_all := lw_g (lw_at lw_m6 30 rfl) rfl
theorem q1359 : (Jvm.Cond.instanceMethod ({ cls := "RainLoom", name := "undo", desc := "()Z" } : Jvm.MethodName)) ∈ lw_all := lw_g (lw_at lw_m6 41 rfl) rfl
theorem q1360 : (Jvm.Cond.selects "RainLoom" ({ cls := "RainLoom", name := "undo", desc := "()Z" } : Jvm.MethodName) ({ cls := "RainLoom", name := "undo", desc := "()Z" } : Jvm.MethodName)) ∈ lw_all := lw_g (lw_at lw_m6 42 rfl) rfl
theorem q1361 : (Jvm.Cond.code ({ cls := "RainLoom", name := "undo", desc := "()Z" } : Jvm.MethodName) prog_1_method_27_code (1 : Nat) (Option.some Jvm.ClassFile.FieldType.boolean)) ∈ lw_all := lw_g (lw_at lw_m6 43 rfl) rfl
theorem q1363 : (Jvm.Cond.instanceMethod ({ cls := "RainLoom", name := "holds", desc := "(IIIZ)I" } : Jvm.MethodName)) ∈ lw_all := lw_g (lw_at lw_m6 45 rfl) rfl
theorem q1364 : (Jvm.Cond.selects "RainLoom" ({ cls := "RainLoom", name := "holds", desc := "(IIIZ)I" } : Jvm.MethodName) ({ cls := "RainLoom", name := "holds", desc := "(IIIZ)I" } : Jvm.MethodName)) ∈ lw_all := lw_g (lw_at lw_m6 46 rfl) rfl
theorem q1365 : (Jvm.Cond.code ({ cls := "RainLoom", name := "holds", desc := "(IIIZ)I" } : Jvm.MethodName) prog_1_method_29_code (5 : Nat) (Option.some Jvm.ClassFile.FieldType.int)) ∈ lw_all := lw_g (lw_at lw_m6 47 rfl) rfl
theorem q1366 : (Jvm.Cond.methodLink "RainLoom" (272 : Nat) ({ cls := "RainLoom", name := "holdsOf", desc := "(IIIZ)I" } : Jvm.MethodName)) ∈ lw_all := lw_g (lw_at lw_m6 48 rfl) rfl
theorem q1367 : (Jvm.Cond.privateMethod ({ cls := "RainLoom", name := "holdsOf", desc := "(IIIZ)I" } : Jvm.MethodName)) ∈ lw_tbl := lw_at lw_m6 49 rfl
theorem q1368 : (Jvm.Cond.instanceMethod ({ cls := "RainLoom", name := "holdsOf", desc := "(IIIZ)I" } : Jvm.MethodName)) ∈ lw_all := lw_g (lw_at lw_m6 50 rfl) rfl
theorem q1369 : (Jvm.Cond.code ({ cls := "RainLoom", name := "holdsOf", desc := "(IIIZ)I" } : Jvm.MethodName) prog_1_method_28_code (8 : Nat) (Option.some Jvm.ClassFile.FieldType.int)) ∈ lw_all := lw_g (lw_at lw_m6 51 rfl) rfl
theorem q1371 : (Jvm.Cond.instanceMethod ({ cls := "RainLoom", name := "comes", desc := "(III)I" } : Jvm.MethodName)) ∈ lw_all := lw_g (lw_at lw_m6 53 rfl) rfl
theorem q1372 : (Jvm.Cond.selects "RainLoom" ({ cls := "RainLoom", name := "comes", desc := "(III)I" } : Jvm.MethodName) ({ cls := "RainLoom", name := "comes", desc := "(III)I" } : Jvm.MethodName)) ∈ lw_all := lw_g (lw_at lw_m6 54 rfl) rfl
theorem q1373 : (Jvm.Cond.code ({ cls := "RainLoom", name := "comes", desc := "(III)I" } : Jvm.MethodName) prog_1_method_30_code (7 : Nat) (Option.some Jvm.ClassFile.FieldType.int)) ∈ lw_all := lw_g (lw_at lw_m6 55 rfl) rfl
theorem q1375 : (Jvm.Cond.instanceMethod ({ cls := "RainLoom", name := "agree", desc := "(II)I" } : Jvm.MethodName)) ∈ lw_all := lw_g (lw_at lw_m6 57 rfl) rfl
theorem q1376 : (Jvm.Cond.selects "RainLoom" ({ cls := "RainLoom", name := "agree", desc := "(II)I" } : Jvm.MethodName) ({ cls := "RainLoom", name := "agree", desc := "(II)I" } : Jvm.MethodName)) ∈ lw_all := lw_g (lw_at lw_m6 58 rfl) rfl
theorem q1377 : (Jvm.Cond.code ({ cls := "RainLoom", name := "agree", desc := "(II)I" } : Jvm.MethodName) prog_1_method_32_code (4 : Nat) (Option.some Jvm.ClassFile.FieldType.int)) ∈ lw_all := lw_g (lw_at lw_m6 59 rfl) rfl
theorem q1378 : (Jvm.Cond.methodLink "RainLoom" (276 : Nat) ({ cls := "RainLoom", name := "areSame", desc := "(III)Z" } : Jvm.MethodName)) ∈ lw_all := lw_g (lw_at lw_m6 60 rfl) rfl
theorem q1379 : (Jvm.Cond.privateMethod ({ cls := "RainLoom", name := "areSame", desc := "(III)Z" } : Jvm.MethodName)) ∈ lw_tbl := lw_at lw_m6 61 rfl
theorem q1380 : (Jvm.Cond.instanceMethod ({ cls := "RainLoom", name := "areSame", desc := "(III)Z" } : Jvm.MethodName)) ∈ lw_all := lw_g (lw_at lw_m6 62 rfl) rfl
theorem q1381 : (Jvm.Cond.code ({ cls := "RainLoom", name := "areSame", desc := "(III)Z" } : Jvm.MethodName) prog_1_method_31_code (5 : Nat) (Option.some Jvm.ClassFile.FieldType.boolean)) ∈ lw_all := lw_g (lw_at lw_m6 63 rfl) rfl
theorem q1383 : (Jvm.Cond.instanceMethod ({ cls := "RainLoom", name := "round", desc := "(I)I" } : Jvm.MethodName)) ∈ lw_all := lw_g (lw_at lw_m6 65 rfl) rfl
theorem q1384 : (Jvm.Cond.selects "RainLoom" ({ cls := "RainLoom", name := "round", desc := "(I)I" } : Jvm.MethodName) ({ cls := "RainLoom", name := "round", desc := "(I)I" } : Jvm.MethodName)) ∈ lw_all := lw_g (lw_at lw_m6 66 rfl) rfl
theorem q1385 : (Jvm.Cond.code ({ cls := "RainLoom", name := "round", desc := "(I)I" } : Jvm.MethodName) prog_1_method_34_code (3 : Nat) (Option.some Jvm.ClassFile.FieldType.int)) ∈ lw_all := lw_g (lw_at lw_m6 67 rfl) rfl
theorem q1386 : (Jvm.Cond.methodLink "RainLoom" (279 : Nat) ({ cls := "RainLoom", name := "isRound", desc := "(II)Z" } : Jvm.MethodName)) ∈ lw_all := lw_g (lw_at lw_m6 68 rfl) rfl
theorem q1387 : (Jvm.Cond.privateMethod ({ cls := "RainLoom", name := "isRound", desc := "(II)Z" } : Jvm.MethodName)) ∈ lw_tbl := lw_at lw_m6 69 rfl
theorem q1388 : (Jvm.Cond.instanceMethod ({ cls := "RainLoom", name := "isRound", desc := "(II)Z" } : Jvm.MethodName)) ∈ lw_all := lw_g (lw_at lw_m6 70 rfl) rfl
theorem q1389 : (Jvm.Cond.code ({ cls := "RainLoom", name := "isRound", desc := "(II)Z" } : Jvm.MethodName) prog_1_method_33_code (5 : Nat) (Option.some Jvm.ClassFile.FieldType.boolean)) ∈ lw_all := lw_g (lw_at lw_m6 71 rfl) rfl
theorem q1391 : (Jvm.Cond.instanceMethod ({ cls := "RainLoom", name := "where", desc := "(IIII)I" } : Jvm.MethodName)) ∈ lw_all := lw_g (lw_at lw_m6 73 rfl) rfl
theorem q1392 : (Jvm.Cond.selects "RainLoom" ({ cls := "RainLoom", name := "where", desc := "(IIII)I" } : Jvm.MethodName) ({ cls := "RainLoom", name := "where", desc := "(IIII)I" } : Jvm.MethodName)) ∈ lw_all := lw_g (lw_at lw_m6 74 rfl) rfl
theorem q1393 : (Jvm.Cond.code ({ cls := "RainLoom", name := "where", desc := "(IIII)I" } : Jvm.MethodName) prog_1_method_36_code (12 : Nat) (Option.some Jvm.ClassFile.FieldType.int)) ∈ lw_all := lw_g (lw_at lw_m6 75 rfl) rfl
theorem q1394 : (Jvm.Cond.methodLink "RainLoom" (286 : Nat) ({ cls := "RainLoom", name := "gains", desc := "()I" } : Jvm.MethodName)) ∈ lw_all := lw_g (lw_at lw_m6 76 rfl) rfl
theorem q1395 : (Jvm.Cond.privateMethod ({ cls := "RainLoom", name := "gains", desc := "()I" } : Jvm.MethodName)) ∈ lw_tbl := lw_at lw_m6 77 rfl
theorem q1396 : (Jvm.Cond.instanceMethod ({ cls := "RainLoom", name := "gains", desc := "()I" } : Jvm.MethodName)) ∈ lw_all := lw_g (lw_at lw_m6 78 rfl) rfl
theorem q1397 : (Jvm.Cond.code ({ cls := "RainLoom", name := "gains", desc := "()I" } : Jvm.MethodName) prog_1_method_35_code (3 : Nat) (Option.some Jvm.ClassFile.FieldType.int)) ∈ lw_all := lw_g (lw_at lw_m6 79 rfl) rfl
theorem q1399 : (Jvm.Cond.instanceMethod ({ cls := "RainLoom", name := "cut", desc := "(IIII)I" } : Jvm.MethodName)) ∈ lw_all := lw_g (lw_at lw_m6 81 rfl) rfl
theorem q1400 : (Jvm.Cond.selects "RainLoom" ({ cls := "RainLoom", name := "cut", desc := "(IIII)I" } : Jvm.MethodName) ({ cls := "RainLoom", name := "cut", desc := "(IIII)I" } : Jvm.MethodName)) ∈ lw_all := lw_g (lw_at lw_m6 82 rfl) rfl
theorem q1401 : (Jvm.Cond.code ({ cls := "RainLoom", name := "cut", desc := "(IIII)I" } : Jvm.MethodName) prog_1_method_40_code (6 : Nat) (Option.some Jvm.ClassFile.FieldType.int)) ∈ lw_all := lw_g (lw_at lw_m6 83 rfl) rfl
theorem q1402 : (Jvm.Cond.methodLink "RainLoom" (305 : Nat) ({ cls := "RainLoom", name := "takesCut", desc := "(I)Z" } : Jvm.MethodName)) ∈ lw_all := lw_g (lw_at lw_m6 84 rfl) rfl
theorem q1403 : (Jvm.Cond.privateMethod ({ cls := "RainLoom", name := "takesCut", desc := "(I)Z" } : Jvm.MethodName)) ∈ lw_tbl := lw_at lw_m6 85 rfl
theorem q1404 : (Jvm.Cond.instanceMethod ({ cls := "RainLoom", name := "takesCut", desc := "(I)Z" } : Jvm.MethodName)) ∈ lw_all := lw_g (lw_at lw_m6 86 rfl) rfl
theorem q1405 : (Jvm.Cond.code ({ cls := "RainLoom", name := "takesCut", desc := "(I)Z" } : Jvm.MethodName) prog_1_method_39_code (2 : Nat) (Option.some Jvm.ClassFile.FieldType.boolean)) ∈ lw_all := lw_g (lw_at lw_m6 87 rfl) rfl
theorem q1406 : (Jvm.Cond.methodLink "RainLoom" (302 : Nat) ({ cls := "RainLoom", name := "isCut", desc := "(I)Z" } : Jvm.MethodName)) ∈ lw_all := lw_g (lw_at lw_m6 88 rfl) rfl
theorem q1407 : (Jvm.Cond.privateMethod ({ cls := "RainLoom", name := "isCut", desc := "(I)Z" } : Jvm.MethodName)) ∈ lw_tbl := lw_at lw_m6 89 rfl
theorem q1408 : (Jvm.Cond.instanceMethod ({ cls := "RainLoom", name := "isCut", desc := "(I)Z" } : Jvm.MethodName)) ∈ lw_all := lw_g (lw_at lw_m6 90 rfl) rfl
theorem q1409 : (Jvm.Cond.code ({ cls := "RainLoom", name := "isCut", desc := "(I)Z" } : Jvm.MethodName) prog_1_method_38_code (2 : Nat) (Option.some Jvm.ClassFile.FieldType.boolean)) ∈ lw_all := lw_g (lw_at lw_m6 91 rfl) rfl
theorem q1410 : (Jvm.Cond.constant "RainLoom" (308 : Nat) (1000000 : Int32)) ∈ lw_all := lw_g (lw_at lw_m6 92 rfl) rfl
theorem q1411 : (Jvm.Cond.methodLink "RainLoom" (298 : Nat) ({ cls := "RainLoom", name := "laysCut", desc := "(III)V" } : Jvm.MethodName)) ∈ lw_all := lw_g (lw_at lw_m6 93 rfl) rfl
theorem q1412 : (Jvm.Cond.privateMethod ({ cls := "RainLoom", name := "laysCut", desc := "(III)V" } : Jvm.MethodName)) ∈ lw_tbl := lw_at lw_m6 94 rfl
theorem q1413 : (Jvm.Cond.instanceMethod ({ cls := "RainLoom", name := "laysCut", desc := "(III)V" } : Jvm.MethodName)) ∈ lw_all := lw_g (lw_at lw_m6 95 rfl) rfl
theorem q1414 : (Jvm.Cond.code ({ cls := "RainLoom", name := "laysCut", desc := "(III)V" } : Jvm.MethodName) prog_1_method_37_code (8 : Nat) (Option.none : Option Jvm.ClassFile.FieldType)) ∈ lw_all := lw_g (lw_at lw_m6 96 rfl) rfl
theorem q1415 : (Jvm.Cond.methodLink "RainLoom" (295 : Nat) ({ cls := "java/lang/Math", name := "max", desc := "(II)I" } : Jvm.MethodName)) ∈ lw_all := lw_g (lw_at lw_m6 97 rfl) rfl
theorem q1417 : (Jvm.Cond.instanceMethod ({ cls := "RainLoom", name := "then", desc := "(III)I" } : Jvm.MethodName)) ∈ lw_all := lw_g (lw_at lw_m6 99 rfl) rfl
theorem q1418 : (Jvm.Cond.selects "RainLoom" ({ cls := "RainLoom", name := "then", desc := "(III)I" } : Jvm.MethodName) ({ cls := "RainLoom", name := "then", desc := "(III)I" } : Jvm.MethodName)) ∈ lw_all := lw_g (lw_at lw_m6 100 rfl) rfl
theorem q1419 : (Jvm.Cond.code ({ cls := "RainLoom", name := "then", desc := "(III)I" } : Jvm.MethodName) prog_1_method_41_code (4 : Nat) (Option.some Jvm.ClassFile.FieldType.int)) ∈ lw_all := lw_g (lw_at lw_m6 101 rfl) rfl
theorem q1421 : (Jvm.Cond.instanceMethod ({ cls := "RainLoom", name := "all", desc := "(II)I" } : Jvm.MethodName)) ∈ lw_all := lw_g (lw_at lw_m6 103 rfl) rfl
theorem q1422 : (Jvm.Cond.selects "RainLoom" ({ cls := "RainLoom", name := "all", desc := "(II)I" } : Jvm.MethodName) ({ cls := "RainLoom", name := "all", desc := "(II)I" } : Jvm.MethodName)) ∈ lw_all := lw_g (lw_at lw_m6 104 rfl) rfl
theorem q1423 : (Jvm.Cond.code ({ cls := "RainLoom", name := "all", desc := "(II)I" } : Jvm.MethodName) prog_1_method_42_code (3 : Nat) (Option.some Jvm.ClassFile.FieldType.int)) ∈ lw_all := lw_g (lw_at lw_m6 105 rfl) rfl
theorem q1424 : (Jvm.Cond.methodLink "RainLoom" (312 : Nat) ({ cls := "RainLoom$Land", name := "sum", desc := "([I)I" } : Jvm.MethodName)) ∈ lw_all := lw_g (lw_at lw_m6 106 rfl) rfl
theorem q1428 : (Jvm.Cond.instanceMethod ({ cls := "RainLoom", name := "wettest", desc := "(II)I" } : Jvm.MethodName)) ∈ lw_all := lw_g (lw_at lw_m6 110 rfl) rfl
theorem q1429 : (Jvm.Cond.selects "RainLoom" ({ cls := "RainLoom", name := "wettest", desc := "(II)I" } : Jvm.MethodName) ({ cls := "RainLoom", name := "wettest", desc := "(II)I" } : Jvm.MethodName)) ∈ lw_all := lw_g (lw_at lw_m6 111 rfl) rfl
theorem q1430 : (Jvm.Cond.code ({ cls := "RainLoom", name := "wettest", desc := "(II)I" } : Jvm.MethodName) prog_1_method_43_code (5 : Nat) (Option.some Jvm.ClassFile.FieldType.int)) ∈ lw_all := lw_g (lw_at lw_m6 112 rfl) rfl
theorem q1432 : (Jvm.Cond.instanceMethod ({ cls := "RainLoom", name := "dry", desc := "(I)I" } : Jvm.MethodName)) ∈ lw_all := lw_g (lw_at lw_m6 114 rfl) rfl
theorem q1433 : (Jvm.Cond.selects "RainLoom" ({ cls := "RainLoom", name := "dry", desc := "(I)I" } : Jvm.MethodName) ({ cls := "RainLoom", name := "dry", desc := "(I)I" } : Jvm.MethodName)) ∈ lw_all := lw_g (lw_at lw_m6 115 rfl) rfl
theorem q1434 : (Jvm.Cond.code ({ cls := "RainLoom", name := "dry", desc := "(I)I" } : Jvm.MethodName) prog_1_method_44_code (4 : Nat) (Option.some Jvm.ClassFile.FieldType.int)) ∈ lw_all := lw_g (lw_at lw_m6 116 rfl) rfl
theorem q1436 : (Jvm.Cond.instanceMethod ({ cls := "RainLoom", name := "emptyBy", desc := "()I" } : Jvm.MethodName)) ∈ lw_all := lw_g (lw_at lw_m6 118 rfl) rfl
theorem q1437 : (Jvm.Cond.selects "RainLoom" ({ cls := "RainLoom", name := "emptyBy", desc := "()I" } : Jvm.MethodName) ({ cls := "RainLoom", name := "emptyBy", desc := "()I" } : Jvm.MethodName)) ∈ lw_all := lw_g (lw_at lw_m6 119 rfl) rfl
theorem q1438 : (Jvm.Cond.code ({ cls := "RainLoom", name := "emptyBy", desc := "()I" } : Jvm.MethodName) prog_1_method_45_code (2 : Nat) (Option.some Jvm.ClassFile.FieldType.int)) ∈ lw_all := lw_g (lw_at lw_m6 120 rfl) rfl
theorem q1440 : (Jvm.Cond.instanceMethod ({ cls := "RainLoom", name := "year", desc := "(II)I" } : Jvm.MethodName)) ∈ lw_all := lw_g (lw_at lw_m6 122 rfl) rfl
theorem q1441 : (Jvm.Cond.selects "RainLoom" ({ cls := "RainLoom", name := "year", desc := "(II)I" } : Jvm.MethodName) ({ cls := "RainLoom", name := "year", desc := "(II)I" } : Jvm.MethodName)) ∈ lw_all := lw_g (lw_at lw_m6 123 rfl) rfl
theorem q1442 : (Jvm.Cond.code ({ cls := "RainLoom", name := "year", desc := "(II)I" } : Jvm.MethodName) prog_1_method_46_code (5 : Nat) (Option.some Jvm.ClassFile.FieldType.int)) ∈ lw_all := lw_g (lw_at lw_m6 124 rfl) rfl
theorem q1444 : (Jvm.Cond.instanceMethod ({ cls := "RainLoom", name := "serve", desc := "(III)I" } : Jvm.MethodName)) ∈ lw_all := lw_g (lw_at lw_m6 126 rfl) rfl
theorem q1445 : (Jvm.Cond.selects "RainLoom" ({ cls := "RainLoom", name := "serve", desc := "(III)I" } : Jvm.MethodName) ({ cls := "RainLoom", name := "serve", desc := "(III)I" } : Jvm.MethodName)) ∈ lw_all := lw_g (lw_at lw_m6 127 rfl) rfl
theorem q1446 : (Jvm.Cond.code ({ cls := "RainLoom", name := "serve", desc := "(III)I" } : Jvm.MethodName) prog_1_method_48_code (5 : Nat) (Option.some Jvm.ClassFile.FieldType.int)) ∈ lw_all := lw_g (lw_at lw_m6 128 rfl) rfl
theorem q1447 : (Jvm.Cond.methodLink "RainLoom" (332 : Nat) ({ cls := "RainLoom", name := "laysServe", desc := "(IIIII)V" } : Jvm.MethodName)) ∈ lw_all := lw_g (lw_at lw_m6 129 rfl) rfl
theorem q1448 : (Jvm.Cond.privateMethod ({ cls := "RainLoom", name := "laysServe", desc := "(IIIII)V" } : Jvm.MethodName)) ∈ lw_tbl := lw_at lw_m6 130 rfl
theorem q1449 : (Jvm.Cond.instanceMethod ({ cls := "RainLoom", name := "laysServe", desc := "(IIIII)V" } : Jvm.MethodName)) ∈ lw_all := lw_g (lw_at lw_m6 131 rfl) rfl
theorem q1450 : (Jvm.Cond.code ({ cls := "RainLoom", name := "laysServe", desc := "(IIIII)V" } : Jvm.MethodName) prog_1_method_47_code (7 : Nat) (Option.none : Option Jvm.ClassFile.FieldType)) ∈ lw_all := lw_g (lw_at lw_m6 132 rfl) rfl
theorem q1451 : (Jvm.Cond.methodLink "RainLoom" (323 : Nat) ({ cls := "java/lang/System", name := "arraycopy", desc := "(Ljava/lang/Object;ILjava/lang/Object;II)V" } : Jvm.MethodName)) ∈ lw_all := lw_g (lw_at lw_m6 133 rfl) rfl
theorem q1452 : (Jvm.Cond.methodLink "RainLoom" (329 : Nat) ({ cls := "java/lang/Math", name := "abs", desc := "(I)I" } : Jvm.MethodName)) ∈ lw_all := lw_g (lw_at lw_m6 134 rfl) rfl
theorem q1456 : (Jvm.Cond.instanceMethod ({ cls := "RainLoom", name := "suits", desc := "(III)I" } : Jvm.MethodName)) ∈ lw_all := lw_g (lw_at lw_m6 138 rfl) rfl
theorem q1457 : (Jvm.Cond.selects "RainLoom" ({ cls := "RainLoom", name := "suits", desc := "(III)I" } : Jvm.MethodName) ({ cls := "RainLoom", name := "suits", desc := "(III)I" } : Jvm.MethodName)) ∈ lw_all := lw_g (lw_at lw_m6 139 rfl) rfl
theorem q1458 : (Jvm.Cond.code ({ cls := "RainLoom", name := "suits", desc := "(III)I" } : Jvm.MethodName) prog_1_method_49_code (8 : Nat) (Option.some Jvm.ClassFile.FieldType.int)) ∈ lw_all := lw_g (lw_at lw_m6 140 rfl) rfl
theorem q1460 : (Jvm.Cond.instanceMethod ({ cls := "RainLoom", name := "now", desc := "(IZ)I" } : Jvm.MethodName)) ∈ lw_all := lw_g (lw_at lw_m6 142 rfl) rfl
theorem q1461 : (Jvm.Cond.selects "RainLoom" ({ cls := "RainLoom", name := "now", desc := "(IZ)I" } : Jvm.MethodName) ({ cls := "RainLoom", name := "now", desc := "(IZ)I" } : Jvm.MethodName)) ∈ lw_all := lw_g (lw_at lw_m6 143 rfl) rfl
theorem q1462 : (Jvm.Cond.code ({ cls := "RainLoom", name := "now", desc := "(IZ)I" } : Jvm.MethodName) prog_1_method_50_code (5 : Nat) (Option.some Jvm.ClassFile.FieldType.int)) ∈ lw_all := lw_g (lw_at lw_m6 144 rfl) rfl
theorem q1464 : (Jvm.Cond.instanceMethod ({ cls := "RainLoom", name := "tell", desc := "(III)I" } : Jvm.MethodName)) ∈ lw_all := lw_g (lw_at lw_m6 146 rfl) rfl
theorem q1465 : (Jvm.Cond.selects "RainLoom" ({ cls := "RainLoom", name := "tell", desc := "(III)I" } : Jvm.MethodName) ({ cls := "RainLoom", name := "tell", desc := "(III)I" } : Jvm.MethodName)) ∈ lw_all := lw_g (lw_at lw_m6 147 rfl) rfl
theorem q1466 : (Jvm.Cond.code ({ cls := "RainLoom", name := "tell", desc := "(III)I" } : Jvm.MethodName) prog_1_method_51_code (4 : Nat) (Option.some Jvm.ClassFile.FieldType.int)) ∈ lw_all := lw_g (lw_at lw_m6 148 rfl) rfl
theorem q1468 : (Jvm.Cond.instanceMethod ({ cls := "RainLoom", name := "forget", desc := "()I" } : Jvm.MethodName)) ∈ lw_all := lw_g (lw_at lw_m6 150 rfl) rfl
theorem q1469 : (Jvm.Cond.selects "RainLoom" ({ cls := "RainLoom", name := "forget", desc := "()I" } : Jvm.MethodName) ({ cls := "RainLoom", name := "forget", desc := "()I" } : Jvm.MethodName)) ∈ lw_all := lw_g (lw_at lw_m6 151 rfl) rfl
theorem q1470 : (Jvm.Cond.code ({ cls := "RainLoom", name := "forget", desc := "()I" } : Jvm.MethodName) prog_1_method_52_code (2 : Nat) (Option.some Jvm.ClassFile.FieldType.int)) ∈ lw_all := lw_g (lw_at lw_m6 152 rfl) rfl
theorem q1472 : (Jvm.Cond.instanceMethod ({ cls := "RainLoom", name := "fell", desc := "(IIII)I" } : Jvm.MethodName)) ∈ lw_all := lw_g (lw_at lw_m6 154 rfl) rfl
theorem q1473 : (Jvm.Cond.selects "RainLoom" ({ cls := "RainLoom", name := "fell", desc := "(IIII)I" } : Jvm.MethodName) ({ cls := "RainLoom", name := "fell", desc := "(IIII)I" } : Jvm.MethodName)) ∈ lw_all := lw_g (lw_at lw_m6 155 rfl) rfl
theorem q1474 : (Jvm.Cond.code ({ cls := "RainLoom", name := "fell", desc := "(IIII)I" } : Jvm.MethodName) prog_1_method_54_code (10 : Nat) (Option.some Jvm.ClassFile.FieldType.int)) ∈ lw_all := lw_g (lw_at lw_m6 156 rfl) rfl
theorem q1475 : (Jvm.Cond.methodLink "RainLoom" (336 : Nat) ({ cls := "RainLoom", name := "isSo", desc := "(IIIIII)Z" } : Jvm.MethodName)) ∈ lw_all := lw_g (lw_at lw_m6 157 rfl) rfl
theorem q1476 : (Jvm.Cond.privateMethod ({ cls := "RainLoom", name := "isSo", desc := "(IIIIII)Z" } : Jvm.MethodName)) ∈ lw_tbl := lw_at lw_m6 158 rfl
theorem q1477 : (Jvm.Cond.instanceMethod ({ cls := "RainLoom", name := "isSo", desc := "(IIIIII)Z" } : Jvm.MethodName)) ∈ lw_all := lw_g (lw_at lw_m6 159 rfl) rfl
theorem q1478 : (Jvm.Cond.code ({ cls := "RainLoom", name := "isSo", desc := "(IIIIII)Z" } : Jvm.MethodName) prog_1_method_53_code (11 : Nat) (Option.some Jvm.ClassFile.FieldType.boolean)) ∈ lw_all := lw_g (lw_at lw_m6 160 rfl) rfl
theorem q1480 : (Jvm.Cond.instanceMethod ({ cls := "RainLoom", name := "look", desc := "(III)I" } : Jvm.MethodName)) ∈ lw_all := lw_g (lw_at lw_m6 162 rfl) rfl
theorem q1481 : (Jvm.Cond.selects "RainLoom" ({ cls := "RainLoom", name := "look", desc := "(III)I" } : Jvm.MethodName) ({ cls := "RainLoom", name := "look", desc := "(III)I" } : Jvm.MethodName)) ∈ lw_all := lw_g (lw_at lw_m6 163 rfl) rfl
theorem q1482 : (Jvm.Cond.code ({ cls := "RainLoom", name := "look", desc := "(III)I" } : Jvm.MethodName) prog_1_method_56_code (9 : Nat) (Option.some Jvm.ClassFile.FieldType.int)) ∈ lw_all := lw_g (lw_at lw_m6 164 rfl) rfl
theorem q1483 : (Jvm.Cond.methodLink "RainLoom" (340 : Nat) ({ cls := "RainLoom", name := "fell", desc := "(IIII)I" } : Jvm.MethodName)) ∈ lw_all := lw_g (lw_at lw_m6 165 rfl) rfl
theorem q1484 : (Jvm.Cond.methodLink "RainLoom" (344 : Nat) ({ cls := "RainLoom", name := "counts", desc := "(IIIII)V" } : Jvm.MethodName)) ∈ lw_all := lw_g (lw_at lw_m6 166 rfl) rfl
theorem q1485 : (Jvm.Cond.privateMethod ({ cls := "RainLoom", name := "counts", desc := "(IIIII)V" } : Jvm.MethodName)) ∈ lw_tbl := lw_at lw_m6 167 rfl
theorem q1486 : (Jvm.Cond.instanceMethod ({ cls := "RainLoom", name := "counts", desc := "(IIIII)V" } : Jvm.MethodName)) ∈ lw_all := lw_g (lw_at lw_m6 168 rfl) rfl
theorem q1487 : (Jvm.Cond.code ({ cls := "RainLoom", name := "counts", desc := "(IIIII)V" } : Jvm.MethodName) prog_1_method_55_code (10 : Nat) (Option.none : Option Jvm.ClassFile.FieldType)) ∈ lw_all := lw_g (lw_at lw_m6 169 rfl) rfl
theorem q1489 : (Jvm.Cond.instanceMethod ({ cls := "RainLoom", name := "hold", desc := "(I)Z" } : Jvm.MethodName)) ∈ lw_all := lw_g (lw_at lw_m6 171 rfl) rfl
theorem q1490 : (Jvm.Cond.selects "RainLoom" ({ cls := "RainLoom", name := "hold", desc := "(I)Z" } : Jvm.MethodName) ({ cls := "RainLoom", name := "hold", desc := "(I)Z" } : Jvm.MethodName)) ∈ lw_all := lw_g (lw_at lw_m6 172 rfl) rfl
theorem q1491 : (Jvm.Cond.code ({ cls := "RainLoom", name := "hold", desc := "(I)Z" } : Jvm.MethodName) prog_1_method_57_code (2 : Nat) (Option.some Jvm.ClassFile.FieldType.boolean)) ∈ lw_all := lw_g (lw_at lw_m6 173 rfl) rfl
theorem q1493 : (Jvm.Cond.instanceMethod ({ cls := "RainLoom", name := "restore", desc := "(I)Z" } : Jvm.MethodName)) ∈ lw_all := lw_g (lw_at lw_m6 175 rfl) rfl
theorem q1494 : (Jvm.Cond.selects "RainLoom" ({ cls := "RainLoom", name := "restore", desc := "(I)Z" } : Jvm.MethodName) ({ cls := "RainLoom", name := "restore", desc := "(I)Z" } : Jvm.MethodName)) ∈ lw_all := lw_g (lw_at lw_m6 176 rfl) rfl
theorem q1495 : (Jvm.Cond.code ({ cls := "RainLoom", name := "restore", desc := "(I)Z" } : Jvm.MethodName) prog_1_method_58_code (2 : Nat) (Option.some Jvm.ClassFile.FieldType.boolean)) ∈ lw_all := lw_g (lw_at lw_m6 177 rfl) rfl
theorem q1497 : (Jvm.Cond.instanceMethod ({ cls := "RainLoom", name := "count", desc := "(I)I" } : Jvm.MethodName)) ∈ lw_all := lw_g (lw_at lw_m6 179 rfl) rfl
theorem q1498 : (Jvm.Cond.selects "RainLoom" ({ cls := "RainLoom", name := "count", desc := "(I)I" } : Jvm.MethodName) ({ cls := "RainLoom", name := "count", desc := "(I)I" } : Jvm.MethodName)) ∈ lw_all := lw_g (lw_at lw_m6 180 rfl) rfl
theorem q1499 : (Jvm.Cond.code ({ cls := "RainLoom", name := "count", desc := "(I)I" } : Jvm.MethodName) prog_1_method_59_code (2 : Nat) (Option.some Jvm.ClassFile.FieldType.int)) ∈ lw_all := lw_g (lw_at lw_m6 181 rfl) rfl
theorem q2182 : (Jvm.Cond.castable "RainLoom" "java/lang/Object") ∈ lw_tbl := lw_at lw_m9 144 rfl
theorem in_X0 : ∀ w ∈ wsX00, w ∈ lw_all := lw_in wsX00 [588, 590, 592, 594, 596, 598, 600, 602, 604, 606, 608, 610, 612, 614, 616, 618, 620, 622, 624, 626, 628, 630, 632, 634, 636] (by decide +kernel) (by decide +kernel)
