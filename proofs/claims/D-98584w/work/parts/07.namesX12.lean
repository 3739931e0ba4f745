/-! RainLoomModel -/
set_option maxRecDepth 100000
def RX12 : String := "RainLoomModel"
def TX12 : u_T := fun k => match k with
  | 0 => ("RainLoomModel", "thrown", "I", false)
  | 1 => ("RainLoomModel", "tape", "[B", true)
  | 2 => ("RainLoomModel", "taped", "I", false)
  | 3 => ("RainLoomModel", "text", "[B", true)
  | 4 => ("RainLoomModel", "size", "I", false)
  | 5 => ("RainLoomModel", "tKind", "[I", true)
  | 6 => ("RainLoomModel", "tPlace", "[I", true)
  | 7 => ("RainLoomModel", "tValue", "[I", true)
  | 8 => ("RainLoomModel", "tName", "[J", true)
  | 9 => ("RainLoomModel", "keys", "[J", true)
  | 10 => ("RainLoomModel", "tokens", "I", false)
  | 11 => ("RainLoomModel", "t", "I", false)
  | 12 => ("RainLoomModel", "open", "I", false)
  | 13 => ("RainLoomModel", "fault", "I", false)
  | 14 => ("RainLoomModel", "faultPlace", "I", false)
  | 15 => ("RainLoomModel", "worst", "I", false)
  | 16 => ("RainLoomModel", "worstPlace", "I", false)
  | 17 => ("RainLoomModel", "place", "I", false)
  | 18 => ("RainLoomModel", "live", "I", false)
  | 19 => ("RainLoomModel", "side", "I", false)
  | 20 => ("RainLoomModel", "names", "I", false)
  | 21 => ("RainLoomModel", "nameOf", "[J", true)
  | 22 => ("RainLoomModel", "rows", "[I", true)
  | 23 => ("RainLoomModel", "wide", "[I", true)
  | 24 => ("RainLoomModel", "fieldOf", "[I", true)
  | 25 => ("RainLoomModel", "fields", "[I", true)
  | 26 => ("RainLoomModel", "needsOf", "[I", true)
  | 27 => ("RainLoomModel", "drownsOf", "[I", true)
  | 28 => ("RainLoomModel", "looms", "[I", true)
  | 29 => ("RainLoomModel", "wideOf", "[I", true)
  | 30 => ("RainLoomModel", "pickTold", "[I", true)
  | 31 => ("RainLoomModel", "storeTold", "[I", true)
  | 32 => ("RainLoomModel", "gusts", "[I", true)
  | 33 => ("RainLoomModel", "seed", "[I", true)
  | 34 => ("RainLoomModel", "lawFirst", "[I", true)
  | 35 => ("RainLoomModel", "lawLast", "[I", true)
  | 36 => ("RainLoomModel", "branches", "I", false)
  | 37 => ("RainLoomModel", "hasTest", "[Z", true)
  | 38 => ("RainLoomModel", "testFrom", "[I", true)
  | 39 => ("RainLoomModel", "testMid", "[I", true)
  | 40 => ("RainLoomModel", "testTo", "[I", true)
  | 41 => ("RainLoomModel", "termTo", "[I", true)
  | 42 => ("RainLoomModel", "codes", "I", false)
  | 43 => ("RainLoomModel", "code", "[I", true)
  | 44 => ("RainLoomModel", "codeInt", "[I", true)
  | 45 => ("RainLoomModel", "waits", "[I", true)
  | 46 => ("RainLoomModel", "waiting", "I", false)
  | 47 => ("RainLoomModel", "variables", "[I", true)
  | 48 => ("RainLoomModel", "pile", "[I", true)
  | 49 => ("RainLoomModel", "isBroken", "Z", false)
  | 50 => ("RainLoomModel", "now", "[I", true)
  | 51 => ("RainLoomModel", "row", "[I", true)
  | 52 => ("RainLoomModel", "lots", "I", false)
  | 53 => ("RainLoomModel", "undos", "I", false)
  | 54 => ("RainLoomModel", "history", "[I", true)
  | 55 => ("RainLoomModel", "bestMore", "I", false)
  | 56 => ("RainLoomModel", "bestCell", "I", false)
  | 57 => ("RainLoomModel", "pieceWide", "[I", true)
  | 58 => ("RainLoomModel", "pieceLong", "[I", true)
  | 59 => ("RainLoomModel", "lies", "[I", true)
  | 60 => ("RainLoomModel", "taken", "[I", true)
  | 61 => ("RainLoomModel", "pieces", "I", false)
  | 62 => ("RainLoomModel", "bestOff", "I", false)
  | 63 => ("RainLoomModel", "bestWay", "I", false)
  | 64 => ("RainLoomModel", "offOf", "[I", true)
  | 65 => ("RainLoomModel", "told", "I", false)
  | 66 => ("RainLoomModel", "toldCell", "[I", true)
  | 67 => ("RainLoomModel", "toldWater", "[I", true)
  | 68 => ("RainLoomModel", "isOne", "[Z", true)
  | 69 => ("RainLoomModel", "waysBy", "[I", true)
  | 70 => ("RainLoomModel", "isHeld", "[Z", true)
  | _ => ("RainLoomModel", "heldRows", "[I", true)
def tyX12 : Nat → FieldType := fun k => match k with
  | 0 => .int
  | 1 => .array .byte
  | 2 => .int
  | 3 => .array .byte
  | 4 => .int
  | 5 => .array .int
  | 6 => .array .int
  | 7 => .array .int
  | 8 => .array .long
  | 9 => .array .long
  | 10 => .int
  | 11 => .int
  | 12 => .int
  | 13 => .int
  | 14 => .int
  | 15 => .int
  | 16 => .int
  | 17 => .int
  | 18 => .int
  | 19 => .int
  | 20 => .int
  | 21 => .array .long
  | 22 => .array .int
  | 23 => .array .int
  | 24 => .array .int
  | 25 => .array .int
  | 26 => .array .int
  | 27 => .array .int
  | 28 => .array .int
  | 29 => .array .int
  | 30 => .array .int
  | 31 => .array .int
  | 32 => .array .int
  | 33 => .array .int
  | 34 => .array .int
  | 35 => .array .int
  | 36 => .int
  | 37 => .array .boolean
  | 38 => .array .int
  | 39 => .array .int
  | 40 => .array .int
  | 41 => .array .int
  | 42 => .int
  | 43 => .array .int
  | 44 => .array .int
  | 45 => .array .int
  | 46 => .int
  | 47 => .array .int
  | 48 => .array .int
  | 49 => .boolean
  | 50 => .array .int
  | 51 => .array .int
  | 52 => .int
  | 53 => .int
  | 54 => .array .int
  | 55 => .int
  | 56 => .int
  | 57 => .array .int
  | 58 => .array .int
  | 59 => .array .int
  | 60 => .array .int
  | 61 => .int
  | 62 => .int
  | 63 => .int
  | 64 => .array .int
  | 65 => .int
  | 66 => .array .int
  | 67 => .array .int
  | 68 => .array .boolean
  | 69 => .array .int
  | 70 => .array .boolean
  | _ => .array .int
abbrev wsX120 : List Cond := u_ws RX12 TX12 72
set_option maxRecDepth 100000 in
theorem nmX12 : ∀ a, a < 72 → ∀ b, b < 72 → a ≠ b → (TX12 a).2.1 ≠ (TX12 b).2.1 := by decide +kernel
set_option maxRecDepth 100000 in
theorem tyX12_ok : ∀ k, k < 72 → parseFieldDescriptor (TX12 k).2.2.1 = some (tyX12 k) := by decide +kernel
abbrev cX12_init : ByteArray := prog_22_method_2_code
def yX12_init : MethodName := ⟨RX12, "<init>", "()V"⟩
def dkwX12_init_36 : List UInt8 := [42, 182, 0, 169, 177]
abbrev dktX12_init_36 : List UInt8 := dkwX12_init_36 ++ []
def dkwX12_init_35 : List UInt8 := [180, 0, 34, 16, 20, 16, 119, 16, 105, 16, 100, 16, 101, 3, 3, 3, 184, 0, 162, 80, 42, 182, 0, 166]
abbrev dktX12_init_35 : List UInt8 := dkwX12_init_35 ++ dktX12_init_36
def dkwX12_init_34 : List UInt8 := [80, 42, 180, 0, 34, 16, 19, 16, 119, 16, 104, 16, 105, 16, 99, 16, 104, 3, 3, 184, 0, 162, 80, 42]
abbrev dktX12_init_34 : List UInt8 := dkwX12_init_34 ++ dktX12_init_35
def dkwX12_init_33 : List UInt8 := [3, 184, 0, 162, 80, 42, 180, 0, 34, 16, 18, 16, 100, 16, 97, 16, 121, 3, 3, 3, 3, 184, 0, 162]
abbrev dktX12_init_33 : List UInt8 := dkwX12_init_33 ++ dktX12_init_34
def dkwX12_init_32 : List UInt8 := [3, 3, 184, 0, 162, 80, 42, 180, 0, 34, 16, 17, 16, 100, 16, 114, 16, 111, 16, 119, 16, 110, 16, 115]
abbrev dktX12_init_32 : List UInt8 := dkwX12_init_32 ++ dktX12_init_33
def dkwX12_init_31 : List UInt8 := [16, 114, 3, 3, 184, 0, 162, 80, 42, 180, 0, 34, 16, 16, 16, 110, 16, 101, 16, 101, 16, 100, 16, 115]
abbrev dktX12_init_31 : List UInt8 := dkwX12_init_31 ++ dktX12_init_32
def dkwX12_init_30 : List UInt8 := [16, 107, 3, 3, 3, 184, 0, 162, 80, 42, 180, 0, 34, 16, 15, 16, 119, 16, 97, 16, 116, 16, 101]
abbrev dktX12_init_30 : List UInt8 := dkwX12_init_30 ++ dktX12_init_31
def dkwX12_init_29 : List UInt8 := [16, 114, 16, 112, 3, 3, 3, 184, 0, 162, 80, 42, 180, 0, 34, 16, 14, 16, 112, 16, 105, 16, 99]
abbrev dktX12_init_29 : List UInt8 := dkwX12_init_29 ++ dktX12_init_30
def dkwX12_init_28 : List UInt8 := [16, 104, 16, 101, 16, 100, 3, 3, 3, 184, 0, 162, 80, 42, 180, 0, 34, 16, 13, 16, 119, 16, 97]
abbrev dktX12_init_28 : List UInt8 := dkwX12_init_28 ++ dktX12_init_29
def dkwX12_init_27 : List UInt8 := [16, 101, 16, 108, 16, 115, 16, 101, 3, 3, 3, 184, 0, 162, 80, 42, 180, 0, 34, 16, 12, 16, 115]
abbrev dktX12_init_27 : List UInt8 := dkwX12_init_27 ++ dktX12_init_28
def dkwX12_init_26 : List UInt8 := [16, 10, 16, 116, 16, 104, 16, 101, 16, 110, 3, 3, 3, 184, 0, 162, 80, 42, 180, 0, 34, 16, 11]
abbrev dktX12_init_26 : List UInt8 := dkwX12_init_26 ++ dktX12_init_27
def dkwX12_init_25 : List UInt8 := [80, 42, 180, 0, 34, 16, 9, 16, 105, 16, 102, 3, 3, 3, 3, 3, 184, 0, 162, 80, 42, 180, 0, 34]
abbrev dktX12_init_25 : List UInt8 := dkwX12_init_25 ++ dktX12_init_26
def dkwX12_init_24 : List UInt8 := [184, 0, 162, 80, 42, 180, 0, 34, 16, 8, 16, 115, 16, 101, 16, 101, 16, 100, 3, 3, 3, 184, 0, 162]
abbrev dktX12_init_24 : List UInt8 := dkwX12_init_24 ++ dktX12_init_25
def dkwX12_init_23 : List UInt8 := [184, 0, 162, 80, 42, 180, 0, 34, 16, 7, 16, 103, 16, 117, 16, 115, 16, 116, 16, 115, 3, 3]
abbrev dktX12_init_23 : List UInt8 := dkwX12_init_23 ++ dktX12_init_24
def dkwX12_init_22 : List UInt8 := [184, 0, 162, 80, 42, 180, 0, 34, 16, 6, 16, 115, 16, 116, 16, 111, 16, 114, 16, 101, 3, 3]
abbrev dktX12_init_22 : List UInt8 := dkwX12_init_22 ++ dktX12_init_23
def dkwX12_init_21 : List UInt8 := [184, 0, 162, 80, 42, 180, 0, 34, 8, 16, 103, 16, 97, 16, 116, 16, 104, 16, 101, 16, 114, 16, 115]
abbrev dktX12_init_21 : List UInt8 := dkwX12_init_21 ++ dktX12_init_22
def dkwX12_init_20 : List UInt8 := [16, 115, 3, 184, 0, 162, 80, 42, 180, 0, 34, 7, 16, 100, 16, 114, 16, 105, 16, 101, 16, 115, 3, 3]
abbrev dktX12_init_20 : List UInt8 := dkwX12_init_20 ++ dktX12_init_21
def dkwX12_init_19 : List UInt8 := [16, 109, 3, 3, 3, 184, 0, 162, 80, 42, 180, 0, 34, 6, 16, 119, 16, 101, 16, 97, 16, 118, 16, 101]
abbrev dktX12_init_19 : List UInt8 := dkwX12_init_19 ++ dktX12_init_20
def dkwX12_init_18 : List UInt8 := [16, 101, 16, 108, 16, 100, 3, 3, 184, 0, 162, 80, 42, 180, 0, 34, 5, 16, 108, 16, 111, 16, 111]
abbrev dktX12_init_18 : List UInt8 := dkwX12_init_18 ++ dktX12_init_19
def dkwX12_init_17 : List UInt8 := [16, 114, 16, 111, 16, 119, 3, 3, 3, 3, 184, 0, 162, 80, 42, 180, 0, 34, 4, 16, 102, 16, 105]
abbrev dktX12_init_17 : List UInt8 := dkwX12_init_17 ++ dktX12_init_18
def dkwX12_init_16 : List UInt8 := [188, 4, 181, 0, 152, 42, 17, 1, 20, 188, 10, 181, 0, 155, 42, 3, 182, 0, 158, 42, 180, 0, 34, 3]
abbrev dktX12_init_16 : List UInt8 := dkwX12_init_16 ++ dktX12_init_17
def dkwX12_init_15 : List UInt8 := [188, 10, 181, 0, 143, 42, 17, 1, 0, 188, 4, 181, 0, 146, 42, 16, 10, 188, 10, 181, 0, 149, 42, 6]
abbrev dktX12_init_15 : List UInt8 := dkwX12_init_15 ++ dktX12_init_16
def dkwX12_init_14 : List UInt8 := [188, 10, 181, 0, 134, 42, 16, 24, 188, 10, 181, 0, 137, 42, 16, 20, 188, 10, 181, 0, 140, 42, 16, 20]
abbrev dktX12_init_14 : List UInt8 := dkwX12_init_14 ++ dktX12_init_15
def dkwX12_init_13 : List UInt8 := [42, 7, 188, 10, 181, 0, 125, 42, 7, 188, 10, 181, 0, 128, 42, 7, 188, 10, 181, 0, 131, 42, 16, 24]
abbrev dktX12_init_13 : List UInt8 := dkwX12_init_13 ++ dktX12_init_14
def dkwX12_init_12 : List UInt8 := [16, 92, 188, 10, 181, 0, 116, 42, 16, 92, 188, 10, 181, 0, 119, 42, 17, 10, 200, 188, 10, 181, 0, 122]
abbrev dktX12_init_12 : List UInt8 := dkwX12_init_12 ++ dktX12_init_13
def dkwX12_init_11 : List UInt8 := [188, 10, 181, 0, 107, 42, 16, 9, 188, 10, 181, 0, 110, 42, 17, 1, 144, 188, 10, 181, 0, 113, 42]
abbrev dktX12_init_11 : List UInt8 := dkwX12_init_11 ++ dktX12_init_12
def dkwX12_init_10 : List UInt8 := [181, 0, 98, 42, 17, 3, 72, 188, 10, 181, 0, 101, 42, 17, 3, 72, 188, 10, 181, 0, 104, 42, 16, 64]
abbrev dktX12_init_10 : List UInt8 := dkwX12_init_10 ++ dktX12_init_11
def dkwX12_init_9 : List UInt8 := [17, 1, 4, 188, 10, 181, 0, 92, 42, 17, 1, 4, 188, 10, 181, 0, 95, 42, 17, 1, 4, 188, 10]
abbrev dktX12_init_9 : List UInt8 := dkwX12_init_9 ++ dktX12_init_10
def dkwX12_init_8 : List UInt8 := [181, 0, 82, 42, 17, 1, 4, 188, 4, 181, 0, 85, 42, 17, 1, 4, 188, 10, 181, 0, 89, 42]
abbrev dktX12_init_8 : List UInt8 := dkwX12_init_8 ++ dktX12_init_9
def dkwX12_init_7 : List UInt8 := [181, 0, 73, 42, 5, 188, 10, 181, 0, 76, 42, 16, 6, 188, 10, 181, 0, 79, 42, 16, 6, 188, 10]
abbrev dktX12_init_7 : List UInt8 := dkwX12_init_7 ++ dktX12_init_8
def dkwX12_init_6 : List UInt8 := [181, 0, 64, 42, 16, 8, 188, 10, 181, 0, 67, 42, 5, 188, 10, 181, 0, 70, 42, 5, 188, 10]
abbrev dktX12_init_6 : List UInt8 := dkwX12_init_6 ++ dktX12_init_7
def dkwX12_init_5 : List UInt8 := [181, 0, 55, 42, 16, 12, 188, 10, 181, 0, 58, 42, 5, 188, 10, 181, 0, 61, 42, 16, 8, 188, 10]
abbrev dktX12_init_5 : List UInt8 := dkwX12_init_5 ++ dktX12_init_6
def dkwX12_init_4 : List UInt8 := [181, 0, 46, 42, 16, 96, 188, 10, 181, 0, 49, 42, 5, 188, 10, 181, 0, 52, 42, 16, 12, 188, 10]
abbrev dktX12_init_4 : List UInt8 := dkwX12_init_4 ++ dktX12_init_5
def dkwX12_init_3 : List UInt8 := [181, 0, 37, 42, 16, 10, 188, 11, 181, 0, 40, 42, 5, 188, 10, 181, 0, 43, 42, 5, 188, 10]
abbrev dktX12_init_3 : List UInt8 := dkwX12_init_3 ++ dktX12_init_4
def dkwX12_init_2 : List UInt8 := [181, 0, 27, 42, 17, 1, 147, 188, 11, 181, 0, 30, 42, 16, 21, 188, 11, 181, 0, 34, 42, 2]
abbrev dktX12_init_2 : List UInt8 := dkwX12_init_2 ++ dktX12_init_3
def dkwX12_init_1 : List UInt8 := [17, 1, 147, 188, 10, 181, 0, 20, 42, 17, 1, 147, 188, 10, 181, 0, 24, 42, 17, 1, 147, 188, 10]
abbrev dktX12_init_1 : List UInt8 := dkwX12_init_1 ++ dktX12_init_2
def dkwX12_init_0 : List UInt8 := [42, 183, 0, 7, 42, 17, 7, 208, 188, 8, 181, 0, 13, 42, 17, 7, 208, 188, 8, 181, 0, 17, 42]
abbrev dktX12_init_0 : List UInt8 := dkwX12_init_0 ++ dktX12_init_1
theorem dksX12_init_0 : cX12_init.data.toList.drop 0 = dktX12_init_0 := by decide +kernel
theorem dksX12_init_1 : cX12_init.data.toList.drop 23 = dktX12_init_1 := dk_seg dksX12_init_0 23 rfl rfl
theorem dksX12_init_2 : cX12_init.data.toList.drop 46 = dktX12_init_2 := dk_seg dksX12_init_1 23 rfl rfl
theorem dksX12_init_3 : cX12_init.data.toList.drop 68 = dktX12_init_3 := dk_seg dksX12_init_2 22 rfl rfl
theorem dksX12_init_4 : cX12_init.data.toList.drop 90 = dktX12_init_4 := dk_seg dksX12_init_3 22 rfl rfl
theorem dksX12_init_5 : cX12_init.data.toList.drop 113 = dktX12_init_5 := dk_seg dksX12_init_4 23 rfl rfl
theorem dksX12_init_6 : cX12_init.data.toList.drop 136 = dktX12_init_6 := dk_seg dksX12_init_5 23 rfl rfl
theorem dksX12_init_7 : cX12_init.data.toList.drop 158 = dktX12_init_7 := dk_seg dksX12_init_6 22 rfl rfl
theorem dksX12_init_8 : cX12_init.data.toList.drop 181 = dktX12_init_8 := dk_seg dksX12_init_7 23 rfl rfl
theorem dksX12_init_9 : cX12_init.data.toList.drop 203 = dktX12_init_9 := dk_seg dksX12_init_8 22 rfl rfl
theorem dksX12_init_10 : cX12_init.data.toList.drop 226 = dktX12_init_10 := dk_seg dksX12_init_9 23 rfl rfl
theorem dksX12_init_11 : cX12_init.data.toList.drop 250 = dktX12_init_11 := dk_seg dksX12_init_10 24 rfl rfl
theorem dksX12_init_12 : cX12_init.data.toList.drop 273 = dktX12_init_12 := dk_seg dksX12_init_11 23 rfl rfl
theorem dksX12_init_13 : cX12_init.data.toList.drop 297 = dktX12_init_13 := dk_seg dksX12_init_12 24 rfl rfl
theorem dksX12_init_14 : cX12_init.data.toList.drop 321 = dktX12_init_14 := dk_seg dksX12_init_13 24 rfl rfl
theorem dksX12_init_15 : cX12_init.data.toList.drop 345 = dktX12_init_15 := dk_seg dksX12_init_14 24 rfl rfl
theorem dksX12_init_16 : cX12_init.data.toList.drop 369 = dktX12_init_16 := dk_seg dksX12_init_15 24 rfl rfl
theorem dksX12_init_17 : cX12_init.data.toList.drop 393 = dktX12_init_17 := dk_seg dksX12_init_16 24 rfl rfl
theorem dksX12_init_18 : cX12_init.data.toList.drop 416 = dktX12_init_18 := dk_seg dksX12_init_17 23 rfl rfl
theorem dksX12_init_19 : cX12_init.data.toList.drop 439 = dktX12_init_19 := dk_seg dksX12_init_18 23 rfl rfl
theorem dksX12_init_20 : cX12_init.data.toList.drop 463 = dktX12_init_20 := dk_seg dksX12_init_19 24 rfl rfl
theorem dksX12_init_21 : cX12_init.data.toList.drop 487 = dktX12_init_21 := dk_seg dksX12_init_20 24 rfl rfl
theorem dksX12_init_22 : cX12_init.data.toList.drop 510 = dktX12_init_22 := dk_seg dksX12_init_21 23 rfl rfl
theorem dksX12_init_23 : cX12_init.data.toList.drop 532 = dktX12_init_23 := dk_seg dksX12_init_22 22 rfl rfl
theorem dksX12_init_24 : cX12_init.data.toList.drop 554 = dktX12_init_24 := dk_seg dksX12_init_23 22 rfl rfl
theorem dksX12_init_25 : cX12_init.data.toList.drop 578 = dktX12_init_25 := dk_seg dksX12_init_24 24 rfl rfl
theorem dksX12_init_26 : cX12_init.data.toList.drop 602 = dktX12_init_26 := dk_seg dksX12_init_25 24 rfl rfl
theorem dksX12_init_27 : cX12_init.data.toList.drop 625 = dktX12_init_27 := dk_seg dksX12_init_26 23 rfl rfl
theorem dksX12_init_28 : cX12_init.data.toList.drop 648 = dktX12_init_28 := dk_seg dksX12_init_27 23 rfl rfl
theorem dksX12_init_29 : cX12_init.data.toList.drop 671 = dktX12_init_29 := dk_seg dksX12_init_28 23 rfl rfl
theorem dksX12_init_30 : cX12_init.data.toList.drop 694 = dktX12_init_30 := dk_seg dksX12_init_29 23 rfl rfl
theorem dksX12_init_31 : cX12_init.data.toList.drop 717 = dktX12_init_31 := dk_seg dksX12_init_30 23 rfl rfl
theorem dksX12_init_32 : cX12_init.data.toList.drop 741 = dktX12_init_32 := dk_seg dksX12_init_31 24 rfl rfl
theorem dksX12_init_33 : cX12_init.data.toList.drop 765 = dktX12_init_33 := dk_seg dksX12_init_32 24 rfl rfl
theorem dksX12_init_34 : cX12_init.data.toList.drop 789 = dktX12_init_34 := dk_seg dksX12_init_33 24 rfl rfl
theorem dksX12_init_35 : cX12_init.data.toList.drop 813 = dktX12_init_35 := dk_seg dksX12_init_34 24 rfl rfl
theorem dksX12_init_36 : cX12_init.data.toList.drop 837 = dktX12_init_36 := dk_seg dksX12_init_35 24 rfl rfl
theorem dX12_init_0 : decode cX12_init 0 = .ok (.aload_n 0, 1) := dk_42 (dk_at dksX12_init_0 0 rfl rfl)
theorem dX12_init_1 : decode cX12_init 1 = .ok (.invokespecial 7, 3) := dk_183 0 7 (dk_at dksX12_init_0 1 rfl rfl)
theorem dX12_init_4 : decode cX12_init 4 = .ok (.aload_n 0, 1) := dk_42 (dk_at dksX12_init_0 4 rfl rfl)
theorem dX12_init_5 : decode cX12_init 5 = .ok (.sipush 2000, 3) := dk_17 7 208 (dk_at dksX12_init_0 5 rfl rfl)
theorem dX12_init_8 : decode cX12_init 8 = .ok (.newarray .byte, 2) := dk_188_8 (dk_at dksX12_init_0 8 rfl rfl)
theorem dX12_init_10 : decode cX12_init 10 = .ok (.putfield 13, 3) := dk_181 0 13 (dk_at dksX12_init_0 10 rfl rfl)
theorem dX12_init_13 : decode cX12_init 13 = .ok (.aload_n 0, 1) := dk_42 (dk_at dksX12_init_0 13 rfl rfl)
theorem dX12_init_14 : decode cX12_init 14 = .ok (.sipush 2000, 3) := dk_17 7 208 (dk_at dksX12_init_0 14 rfl rfl)
theorem dX12_init_17 : decode cX12_init 17 = .ok (.newarray .byte, 2) := dk_188_8 (dk_at dksX12_init_0 17 rfl rfl)
theorem dX12_init_19 : decode cX12_init 19 = .ok (.putfield 17, 3) := dk_181 0 17 (dk_at dksX12_init_0 19 rfl rfl)
theorem dX12_init_22 : decode cX12_init 22 = .ok (.aload_n 0, 1) := dk_42 (dk_at dksX12_init_0 22 rfl rfl)
theorem dX12_init_23 : decode cX12_init 23 = .ok (.sipush 403, 3) := dk_17 1 147 (dk_at dksX12_init_1 0 rfl rfl)
theorem dX12_init_26 : decode cX12_init 26 = .ok (.newarray .int, 2) := dk_188_10 (dk_at dksX12_init_1 3 rfl rfl)
theorem dX12_init_28 : decode cX12_init 28 = .ok (.putfield 20, 3) := dk_181 0 20 (dk_at dksX12_init_1 5 rfl rfl)
theorem dX12_init_31 : decode cX12_init 31 = .ok (.aload_n 0, 1) := dk_42 (dk_at dksX12_init_1 8 rfl rfl)
theorem dX12_init_32 : decode cX12_init 32 = .ok (.sipush 403, 3) := dk_17 1 147 (dk_at dksX12_init_1 9 rfl rfl)
theorem dX12_init_35 : decode cX12_init 35 = .ok (.newarray .int, 2) := dk_188_10 (dk_at dksX12_init_1 12 rfl rfl)
theorem dX12_init_37 : decode cX12_init 37 = .ok (.putfield 24, 3) := dk_181 0 24 (dk_at dksX12_init_1 14 rfl rfl)
theorem dX12_init_40 : decode cX12_init 40 = .ok (.aload_n 0, 1) := dk_42 (dk_at dksX12_init_1 17 rfl rfl)
theorem dX12_init_41 : decode cX12_init 41 = .ok (.sipush 403, 3) := dk_17 1 147 (dk_at dksX12_init_1 18 rfl rfl)
theorem dX12_init_44 : decode cX12_init 44 = .ok (.newarray .int, 2) := dk_188_10 (dk_at dksX12_init_1 21 rfl rfl)
theorem dX12_init_46 : decode cX12_init 46 = .ok (.putfield 27, 3) := dk_181 0 27 (dk_at dksX12_init_2 0 rfl rfl)
theorem dX12_init_49 : decode cX12_init 49 = .ok (.aload_n 0, 1) := dk_42 (dk_at dksX12_init_2 3 rfl rfl)
theorem dX12_init_50 : decode cX12_init 50 = .ok (.sipush 403, 3) := dk_17 1 147 (dk_at dksX12_init_2 4 rfl rfl)
theorem dX12_init_53 : decode cX12_init 53 = .ok (.newarray .long, 2) := dk_188_11 (dk_at dksX12_init_2 7 rfl rfl)
theorem dX12_init_55 : decode cX12_init 55 = .ok (.putfield 30, 3) := dk_181 0 30 (dk_at dksX12_init_2 9 rfl rfl)
theorem dX12_init_58 : decode cX12_init 58 = .ok (.aload_n 0, 1) := dk_42 (dk_at dksX12_init_2 12 rfl rfl)
theorem dX12_init_59 : decode cX12_init 59 = .ok (.bipush 21, 2) := dk_16 21 (dk_at dksX12_init_2 13 rfl rfl)
theorem dX12_init_61 : decode cX12_init 61 = .ok (.newarray .long, 2) := dk_188_11 (dk_at dksX12_init_2 15 rfl rfl)
theorem dX12_init_63 : decode cX12_init 63 = .ok (.putfield 34, 3) := dk_181 0 34 (dk_at dksX12_init_2 17 rfl rfl)
theorem dX12_init_66 : decode cX12_init 66 = .ok (.aload_n 0, 1) := dk_42 (dk_at dksX12_init_2 20 rfl rfl)
theorem dX12_init_67 : decode cX12_init 67 = .ok (.iconst (-1), 1) := dk_2 (dk_at dksX12_init_2 21 rfl rfl)
theorem dX12_init_68 : decode cX12_init 68 = .ok (.putfield 37, 3) := dk_181 0 37 (dk_at dksX12_init_3 0 rfl rfl)
theorem dX12_init_71 : decode cX12_init 71 = .ok (.aload_n 0, 1) := dk_42 (dk_at dksX12_init_3 3 rfl rfl)
theorem dX12_init_72 : decode cX12_init 72 = .ok (.bipush 10, 2) := dk_16 10 (dk_at dksX12_init_3 4 rfl rfl)
theorem dX12_init_74 : decode cX12_init 74 = .ok (.newarray .long, 2) := dk_188_11 (dk_at dksX12_init_3 6 rfl rfl)
theorem dX12_init_76 : decode cX12_init 76 = .ok (.putfield 40, 3) := dk_181 0 40 (dk_at dksX12_init_3 8 rfl rfl)
theorem dX12_init_79 : decode cX12_init 79 = .ok (.aload_n 0, 1) := dk_42 (dk_at dksX12_init_3 11 rfl rfl)
theorem dX12_init_80 : decode cX12_init 80 = .ok (.iconst 2, 1) := dk_5 (dk_at dksX12_init_3 12 rfl rfl)
theorem dX12_init_81 : decode cX12_init 81 = .ok (.newarray .int, 2) := dk_188_10 (dk_at dksX12_init_3 13 rfl rfl)
theorem dX12_init_83 : decode cX12_init 83 = .ok (.putfield 43, 3) := dk_181 0 43 (dk_at dksX12_init_3 15 rfl rfl)
theorem dX12_init_86 : decode cX12_init 86 = .ok (.aload_n 0, 1) := dk_42 (dk_at dksX12_init_3 18 rfl rfl)
theorem dX12_init_87 : decode cX12_init 87 = .ok (.iconst 2, 1) := dk_5 (dk_at dksX12_init_3 19 rfl rfl)
theorem dX12_init_88 : decode cX12_init 88 = .ok (.newarray .int, 2) := dk_188_10 (dk_at dksX12_init_3 20 rfl rfl)
theorem dX12_init_90 : decode cX12_init 90 = .ok (.putfield 46, 3) := dk_181 0 46 (dk_at dksX12_init_4 0 rfl rfl)
theorem dX12_init_93 : decode cX12_init 93 = .ok (.aload_n 0, 1) := dk_42 (dk_at dksX12_init_4 3 rfl rfl)
theorem dX12_init_94 : decode cX12_init 94 = .ok (.bipush 96, 2) := dk_16 96 (dk_at dksX12_init_4 4 rfl rfl)
theorem dX12_init_96 : decode cX12_init 96 = .ok (.newarray .int, 2) := dk_188_10 (dk_at dksX12_init_4 6 rfl rfl)
theorem dX12_init_98 : decode cX12_init 98 = .ok (.putfield 49, 3) := dk_181 0 49 (dk_at dksX12_init_4 8 rfl rfl)
theorem dX12_init_101 : decode cX12_init 101 = .ok (.aload_n 0, 1) := dk_42 (dk_at dksX12_init_4 11 rfl rfl)
theorem dX12_init_102 : decode cX12_init 102 = .ok (.iconst 2, 1) := dk_5 (dk_at dksX12_init_4 12 rfl rfl)
theorem dX12_init_103 : decode cX12_init 103 = .ok (.newarray .int, 2) := dk_188_10 (dk_at dksX12_init_4 13 rfl rfl)
theorem dX12_init_105 : decode cX12_init 105 = .ok (.putfield 52, 3) := dk_181 0 52 (dk_at dksX12_init_4 15 rfl rfl)
theorem dX12_init_108 : decode cX12_init 108 = .ok (.aload_n 0, 1) := dk_42 (dk_at dksX12_init_4 18 rfl rfl)
theorem dX12_init_109 : decode cX12_init 109 = .ok (.bipush 12, 2) := dk_16 12 (dk_at dksX12_init_4 19 rfl rfl)
theorem dX12_init_111 : decode cX12_init 111 = .ok (.newarray .int, 2) := dk_188_10 (dk_at dksX12_init_4 21 rfl rfl)
theorem dX12_init_113 : decode cX12_init 113 = .ok (.putfield 55, 3) := dk_181 0 55 (dk_at dksX12_init_5 0 rfl rfl)
theorem dX12_init_116 : decode cX12_init 116 = .ok (.aload_n 0, 1) := dk_42 (dk_at dksX12_init_5 3 rfl rfl)
theorem dX12_init_117 : decode cX12_init 117 = .ok (.bipush 12, 2) := dk_16 12 (dk_at dksX12_init_5 4 rfl rfl)
theorem dX12_init_119 : decode cX12_init 119 = .ok (.newarray .int, 2) := dk_188_10 (dk_at dksX12_init_5 6 rfl rfl)
theorem dX12_init_121 : decode cX12_init 121 = .ok (.putfield 58, 3) := dk_181 0 58 (dk_at dksX12_init_5 8 rfl rfl)
theorem dX12_init_124 : decode cX12_init 124 = .ok (.aload_n 0, 1) := dk_42 (dk_at dksX12_init_5 11 rfl rfl)
theorem dX12_init_125 : decode cX12_init 125 = .ok (.iconst 2, 1) := dk_5 (dk_at dksX12_init_5 12 rfl rfl)
theorem dX12_init_126 : decode cX12_init 126 = .ok (.newarray .int, 2) := dk_188_10 (dk_at dksX12_init_5 13 rfl rfl)
theorem dX12_init_128 : decode cX12_init 128 = .ok (.putfield 61, 3) := dk_181 0 61 (dk_at dksX12_init_5 15 rfl rfl)
theorem dX12_init_131 : decode cX12_init 131 = .ok (.aload_n 0, 1) := dk_42 (dk_at dksX12_init_5 18 rfl rfl)
theorem dX12_init_132 : decode cX12_init 132 = .ok (.bipush 8, 2) := dk_16 8 (dk_at dksX12_init_5 19 rfl rfl)
theorem dX12_init_134 : decode cX12_init 134 = .ok (.newarray .int, 2) := dk_188_10 (dk_at dksX12_init_5 21 rfl rfl)
theorem dX12_init_136 : decode cX12_init 136 = .ok (.putfield 64, 3) := dk_181 0 64 (dk_at dksX12_init_6 0 rfl rfl)
theorem dX12_init_139 : decode cX12_init 139 = .ok (.aload_n 0, 1) := dk_42 (dk_at dksX12_init_6 3 rfl rfl)
theorem dX12_init_140 : decode cX12_init 140 = .ok (.bipush 8, 2) := dk_16 8 (dk_at dksX12_init_6 4 rfl rfl)
theorem dX12_init_142 : decode cX12_init 142 = .ok (.newarray .int, 2) := dk_188_10 (dk_at dksX12_init_6 6 rfl rfl)
theorem dX12_init_144 : decode cX12_init 144 = .ok (.putfield 67, 3) := dk_181 0 67 (dk_at dksX12_init_6 8 rfl rfl)
theorem dX12_init_147 : decode cX12_init 147 = .ok (.aload_n 0, 1) := dk_42 (dk_at dksX12_init_6 11 rfl rfl)
theorem dX12_init_148 : decode cX12_init 148 = .ok (.iconst 2, 1) := dk_5 (dk_at dksX12_init_6 12 rfl rfl)
theorem dX12_init_149 : decode cX12_init 149 = .ok (.newarray .int, 2) := dk_188_10 (dk_at dksX12_init_6 13 rfl rfl)
theorem dX12_init_151 : decode cX12_init 151 = .ok (.putfield 70, 3) := dk_181 0 70 (dk_at dksX12_init_6 15 rfl rfl)
theorem dX12_init_154 : decode cX12_init 154 = .ok (.aload_n 0, 1) := dk_42 (dk_at dksX12_init_6 18 rfl rfl)
theorem dX12_init_155 : decode cX12_init 155 = .ok (.iconst 2, 1) := dk_5 (dk_at dksX12_init_6 19 rfl rfl)
theorem dX12_init_156 : decode cX12_init 156 = .ok (.newarray .int, 2) := dk_188_10 (dk_at dksX12_init_6 20 rfl rfl)
theorem dX12_init_158 : decode cX12_init 158 = .ok (.putfield 73, 3) := dk_181 0 73 (dk_at dksX12_init_7 0 rfl rfl)
theorem dX12_init_161 : decode cX12_init 161 = .ok (.aload_n 0, 1) := dk_42 (dk_at dksX12_init_7 3 rfl rfl)
theorem dX12_init_162 : decode cX12_init 162 = .ok (.iconst 2, 1) := dk_5 (dk_at dksX12_init_7 4 rfl rfl)
theorem dX12_init_163 : decode cX12_init 163 = .ok (.newarray .int, 2) := dk_188_10 (dk_at dksX12_init_7 5 rfl rfl)
theorem dX12_init_165 : decode cX12_init 165 = .ok (.putfield 76, 3) := dk_181 0 76 (dk_at dksX12_init_7 7 rfl rfl)
theorem dX12_init_168 : decode cX12_init 168 = .ok (.aload_n 0, 1) := dk_42 (dk_at dksX12_init_7 10 rfl rfl)
theorem dX12_init_169 : decode cX12_init 169 = .ok (.bipush 6, 2) := dk_16 6 (dk_at dksX12_init_7 11 rfl rfl)
theorem dX12_init_171 : decode cX12_init 171 = .ok (.newarray .int, 2) := dk_188_10 (dk_at dksX12_init_7 13 rfl rfl)
theorem dX12_init_173 : decode cX12_init 173 = .ok (.putfield 79, 3) := dk_181 0 79 (dk_at dksX12_init_7 15 rfl rfl)
theorem dX12_init_176 : decode cX12_init 176 = .ok (.aload_n 0, 1) := dk_42 (dk_at dksX12_init_7 18 rfl rfl)
theorem dX12_init_177 : decode cX12_init 177 = .ok (.bipush 6, 2) := dk_16 6 (dk_at dksX12_init_7 19 rfl rfl)
theorem dX12_init_179 : decode cX12_init 179 = .ok (.newarray .int, 2) := dk_188_10 (dk_at dksX12_init_7 21 rfl rfl)
theorem dX12_init_181 : decode cX12_init 181 = .ok (.putfield 82, 3) := dk_181 0 82 (dk_at dksX12_init_8 0 rfl rfl)
theorem dX12_init_184 : decode cX12_init 184 = .ok (.aload_n 0, 1) := dk_42 (dk_at dksX12_init_8 3 rfl rfl)
theorem dX12_init_185 : decode cX12_init 185 = .ok (.sipush 260, 3) := dk_17 1 4 (dk_at dksX12_init_8 4 rfl rfl)
theorem dX12_init_188 : decode cX12_init 188 = .ok (.newarray .boolean, 2) := dk_188_4 (dk_at dksX12_init_8 7 rfl rfl)
theorem dX12_init_190 : decode cX12_init 190 = .ok (.putfield 85, 3) := dk_181 0 85 (dk_at dksX12_init_8 9 rfl rfl)
theorem dX12_init_193 : decode cX12_init 193 = .ok (.aload_n 0, 1) := dk_42 (dk_at dksX12_init_8 12 rfl rfl)
theorem dX12_init_194 : decode cX12_init 194 = .ok (.sipush 260, 3) := dk_17 1 4 (dk_at dksX12_init_8 13 rfl rfl)
theorem dX12_init_197 : decode cX12_init 197 = .ok (.newarray .int, 2) := dk_188_10 (dk_at dksX12_init_8 16 rfl rfl)
theorem dX12_init_199 : decode cX12_init 199 = .ok (.putfield 89, 3) := dk_181 0 89 (dk_at dksX12_init_8 18 rfl rfl)
theorem dX12_init_202 : decode cX12_init 202 = .ok (.aload_n 0, 1) := dk_42 (dk_at dksX12_init_8 21 rfl rfl)
theorem dX12_init_203 : decode cX12_init 203 = .ok (.sipush 260, 3) := dk_17 1 4 (dk_at dksX12_init_9 0 rfl rfl)
theorem dX12_init_206 : decode cX12_init 206 = .ok (.newarray .int, 2) := dk_188_10 (dk_at dksX12_init_9 3 rfl rfl)
theorem dX12_init_208 : decode cX12_init 208 = .ok (.putfield 92, 3) := dk_181 0 92 (dk_at dksX12_init_9 5 rfl rfl)
theorem dX12_init_211 : decode cX12_init 211 = .ok (.aload_n 0, 1) := dk_42 (dk_at dksX12_init_9 8 rfl rfl)
theorem dX12_init_212 : decode cX12_init 212 = .ok (.sipush 260, 3) := dk_17 1 4 (dk_at dksX12_init_9 9 rfl rfl)
theorem dX12_init_215 : decode cX12_init 215 = .ok (.newarray .int, 2) := dk_188_10 (dk_at dksX12_init_9 12 rfl rfl)
theorem dX12_init_217 : decode cX12_init 217 = .ok (.putfield 95, 3) := dk_181 0 95 (dk_at dksX12_init_9 14 rfl rfl)
theorem dX12_init_220 : decode cX12_init 220 = .ok (.aload_n 0, 1) := dk_42 (dk_at dksX12_init_9 17 rfl rfl)
theorem dX12_init_221 : decode cX12_init 221 = .ok (.sipush 260, 3) := dk_17 1 4 (dk_at dksX12_init_9 18 rfl rfl)
theorem dX12_init_224 : decode cX12_init 224 = .ok (.newarray .int, 2) := dk_188_10 (dk_at dksX12_init_9 21 rfl rfl)
theorem dX12_init_226 : decode cX12_init 226 = .ok (.putfield 98, 3) := dk_181 0 98 (dk_at dksX12_init_10 0 rfl rfl)
theorem dX12_init_229 : decode cX12_init 229 = .ok (.aload_n 0, 1) := dk_42 (dk_at dksX12_init_10 3 rfl rfl)
theorem dX12_init_230 : decode cX12_init 230 = .ok (.sipush 840, 3) := dk_17 3 72 (dk_at dksX12_init_10 4 rfl rfl)
theorem dX12_init_233 : decode cX12_init 233 = .ok (.newarray .int, 2) := dk_188_10 (dk_at dksX12_init_10 7 rfl rfl)
theorem dX12_init_235 : decode cX12_init 235 = .ok (.putfield 101, 3) := dk_181 0 101 (dk_at dksX12_init_10 9 rfl rfl)
theorem dX12_init_238 : decode cX12_init 238 = .ok (.aload_n 0, 1) := dk_42 (dk_at dksX12_init_10 12 rfl rfl)
theorem dX12_init_239 : decode cX12_init 239 = .ok (.sipush 840, 3) := dk_17 3 72 (dk_at dksX12_init_10 13 rfl rfl)
theorem dX12_init_242 : decode cX12_init 242 = .ok (.newarray .int, 2) := dk_188_10 (dk_at dksX12_init_10 16 rfl rfl)
theorem dX12_init_244 : decode cX12_init 244 = .ok (.putfield 104, 3) := dk_181 0 104 (dk_at dksX12_init_10 18 rfl rfl)
theorem dX12_init_247 : decode cX12_init 247 = .ok (.aload_n 0, 1) := dk_42 (dk_at dksX12_init_10 21 rfl rfl)
theorem dX12_init_248 : decode cX12_init 248 = .ok (.bipush 64, 2) := dk_16 64 (dk_at dksX12_init_10 22 rfl rfl)
theorem dX12_init_250 : decode cX12_init 250 = .ok (.newarray .int, 2) := dk_188_10 (dk_at dksX12_init_11 0 rfl rfl)
theorem dX12_init_252 : decode cX12_init 252 = .ok (.putfield 107, 3) := dk_181 0 107 (dk_at dksX12_init_11 2 rfl rfl)
theorem dX12_init_255 : decode cX12_init 255 = .ok (.aload_n 0, 1) := dk_42 (dk_at dksX12_init_11 5 rfl rfl)
theorem dX12_init_256 : decode cX12_init 256 = .ok (.bipush 9, 2) := dk_16 9 (dk_at dksX12_init_11 6 rfl rfl)
theorem dX12_init_258 : decode cX12_init 258 = .ok (.newarray .int, 2) := dk_188_10 (dk_at dksX12_init_11 8 rfl rfl)
theorem dX12_init_260 : decode cX12_init 260 = .ok (.putfield 110, 3) := dk_181 0 110 (dk_at dksX12_init_11 10 rfl rfl)
theorem dX12_init_263 : decode cX12_init 263 = .ok (.aload_n 0, 1) := dk_42 (dk_at dksX12_init_11 13 rfl rfl)
theorem dX12_init_264 : decode cX12_init 264 = .ok (.sipush 400, 3) := dk_17 1 144 (dk_at dksX12_init_11 14 rfl rfl)
theorem dX12_init_267 : decode cX12_init 267 = .ok (.newarray .int, 2) := dk_188_10 (dk_at dksX12_init_11 17 rfl rfl)
theorem dX12_init_269 : decode cX12_init 269 = .ok (.putfield 113, 3) := dk_181 0 113 (dk_at dksX12_init_11 19 rfl rfl)
theorem dX12_init_272 : decode cX12_init 272 = .ok (.aload_n 0, 1) := dk_42 (dk_at dksX12_init_11 22 rfl rfl)
theorem dX12_init_273 : decode cX12_init 273 = .ok (.bipush 92, 2) := dk_16 92 (dk_at dksX12_init_12 0 rfl rfl)
theorem dX12_init_275 : decode cX12_init 275 = .ok (.newarray .int, 2) := dk_188_10 (dk_at dksX12_init_12 2 rfl rfl)
theorem dX12_init_277 : decode cX12_init 277 = .ok (.putfield 116, 3) := dk_181 0 116 (dk_at dksX12_init_12 4 rfl rfl)
theorem dX12_init_280 : decode cX12_init 280 = .ok (.aload_n 0, 1) := dk_42 (dk_at dksX12_init_12 7 rfl rfl)
theorem dX12_init_281 : decode cX12_init 281 = .ok (.bipush 92, 2) := dk_16 92 (dk_at dksX12_init_12 8 rfl rfl)
theorem dX12_init_283 : decode cX12_init 283 = .ok (.newarray .int, 2) := dk_188_10 (dk_at dksX12_init_12 10 rfl rfl)
theorem dX12_init_285 : decode cX12_init 285 = .ok (.putfield 119, 3) := dk_181 0 119 (dk_at dksX12_init_12 12 rfl rfl)
theorem dX12_init_288 : decode cX12_init 288 = .ok (.aload_n 0, 1) := dk_42 (dk_at dksX12_init_12 15 rfl rfl)
theorem dX12_init_289 : decode cX12_init 289 = .ok (.sipush 2760, 3) := dk_17 10 200 (dk_at dksX12_init_12 16 rfl rfl)
theorem dX12_init_292 : decode cX12_init 292 = .ok (.newarray .int, 2) := dk_188_10 (dk_at dksX12_init_12 19 rfl rfl)
theorem dX12_init_294 : decode cX12_init 294 = .ok (.putfield 122, 3) := dk_181 0 122 (dk_at dksX12_init_12 21 rfl rfl)
theorem dX12_init_297 : decode cX12_init 297 = .ok (.aload_n 0, 1) := dk_42 (dk_at dksX12_init_13 0 rfl rfl)
theorem dX12_init_298 : decode cX12_init 298 = .ok (.iconst 4, 1) := dk_7 (dk_at dksX12_init_13 1 rfl rfl)
theorem dX12_init_299 : decode cX12_init 299 = .ok (.newarray .int, 2) := dk_188_10 (dk_at dksX12_init_13 2 rfl rfl)
theorem dX12_init_301 : decode cX12_init 301 = .ok (.putfield 125, 3) := dk_181 0 125 (dk_at dksX12_init_13 4 rfl rfl)
theorem dX12_init_304 : decode cX12_init 304 = .ok (.aload_n 0, 1) := dk_42 (dk_at dksX12_init_13 7 rfl rfl)
theorem dX12_init_305 : decode cX12_init 305 = .ok (.iconst 4, 1) := dk_7 (dk_at dksX12_init_13 8 rfl rfl)
theorem dX12_init_306 : decode cX12_init 306 = .ok (.newarray .int, 2) := dk_188_10 (dk_at dksX12_init_13 9 rfl rfl)
theorem dX12_init_308 : decode cX12_init 308 = .ok (.putfield 128, 3) := dk_181 0 128 (dk_at dksX12_init_13 11 rfl rfl)
theorem dX12_init_311 : decode cX12_init 311 = .ok (.aload_n 0, 1) := dk_42 (dk_at dksX12_init_13 14 rfl rfl)
theorem dX12_init_312 : decode cX12_init 312 = .ok (.iconst 4, 1) := dk_7 (dk_at dksX12_init_13 15 rfl rfl)
theorem dX12_init_313 : decode cX12_init 313 = .ok (.newarray .int, 2) := dk_188_10 (dk_at dksX12_init_13 16 rfl rfl)
theorem dX12_init_315 : decode cX12_init 315 = .ok (.putfield 131, 3) := dk_181 0 131 (dk_at dksX12_init_13 18 rfl rfl)
theorem dX12_init_318 : decode cX12_init 318 = .ok (.aload_n 0, 1) := dk_42 (dk_at dksX12_init_13 21 rfl rfl)
theorem dX12_init_319 : decode cX12_init 319 = .ok (.bipush 24, 2) := dk_16 24 (dk_at dksX12_init_13 22 rfl rfl)
theorem dX12_init_321 : decode cX12_init 321 = .ok (.newarray .int, 2) := dk_188_10 (dk_at dksX12_init_14 0 rfl rfl)
theorem dX12_init_323 : decode cX12_init 323 = .ok (.putfield 134, 3) := dk_181 0 134 (dk_at dksX12_init_14 2 rfl rfl)
theorem dX12_init_326 : decode cX12_init 326 = .ok (.aload_n 0, 1) := dk_42 (dk_at dksX12_init_14 5 rfl rfl)
theorem dX12_init_327 : decode cX12_init 327 = .ok (.bipush 24, 2) := dk_16 24 (dk_at dksX12_init_14 6 rfl rfl)
theorem dX12_init_329 : decode cX12_init 329 = .ok (.newarray .int, 2) := dk_188_10 (dk_at dksX12_init_14 8 rfl rfl)
theorem dX12_init_331 : decode cX12_init 331 = .ok (.putfield 137, 3) := dk_181 0 137 (dk_at dksX12_init_14 10 rfl rfl)
theorem dX12_init_334 : decode cX12_init 334 = .ok (.aload_n 0, 1) := dk_42 (dk_at dksX12_init_14 13 rfl rfl)
theorem dX12_init_335 : decode cX12_init 335 = .ok (.bipush 20, 2) := dk_16 20 (dk_at dksX12_init_14 14 rfl rfl)
theorem dX12_init_337 : decode cX12_init 337 = .ok (.newarray .int, 2) := dk_188_10 (dk_at dksX12_init_14 16 rfl rfl)
theorem dX12_init_339 : decode cX12_init 339 = .ok (.putfield 140, 3) := dk_181 0 140 (dk_at dksX12_init_14 18 rfl rfl)
theorem dX12_init_342 : decode cX12_init 342 = .ok (.aload_n 0, 1) := dk_42 (dk_at dksX12_init_14 21 rfl rfl)
theorem dX12_init_343 : decode cX12_init 343 = .ok (.bipush 20, 2) := dk_16 20 (dk_at dksX12_init_14 22 rfl rfl)
theorem dX12_init_345 : decode cX12_init 345 = .ok (.newarray .int, 2) := dk_188_10 (dk_at dksX12_init_15 0 rfl rfl)
theorem dX12_init_347 : decode cX12_init 347 = .ok (.putfield 143, 3) := dk_181 0 143 (dk_at dksX12_init_15 2 rfl rfl)
theorem dX12_init_350 : decode cX12_init 350 = .ok (.aload_n 0, 1) := dk_42 (dk_at dksX12_init_15 5 rfl rfl)
theorem dX12_init_351 : decode cX12_init 351 = .ok (.sipush 256, 3) := dk_17 1 0 (dk_at dksX12_init_15 6 rfl rfl)
theorem dX12_init_354 : decode cX12_init 354 = .ok (.newarray .boolean, 2) := dk_188_4 (dk_at dksX12_init_15 9 rfl rfl)
theorem dX12_init_356 : decode cX12_init 356 = .ok (.putfield 146, 3) := dk_181 0 146 (dk_at dksX12_init_15 11 rfl rfl)
theorem dX12_init_359 : decode cX12_init 359 = .ok (.aload_n 0, 1) := dk_42 (dk_at dksX12_init_15 14 rfl rfl)
theorem dX12_init_360 : decode cX12_init 360 = .ok (.bipush 10, 2) := dk_16 10 (dk_at dksX12_init_15 15 rfl rfl)
theorem dX12_init_362 : decode cX12_init 362 = .ok (.newarray .int, 2) := dk_188_10 (dk_at dksX12_init_15 17 rfl rfl)
theorem dX12_init_364 : decode cX12_init 364 = .ok (.putfield 149, 3) := dk_181 0 149 (dk_at dksX12_init_15 19 rfl rfl)
theorem dX12_init_367 : decode cX12_init 367 = .ok (.aload_n 0, 1) := dk_42 (dk_at dksX12_init_15 22 rfl rfl)
theorem dX12_init_368 : decode cX12_init 368 = .ok (.iconst 3, 1) := dk_6 (dk_at dksX12_init_15 23 rfl rfl)
theorem dX12_init_369 : decode cX12_init 369 = .ok (.newarray .boolean, 2) := dk_188_4 (dk_at dksX12_init_16 0 rfl rfl)
theorem dX12_init_371 : decode cX12_init 371 = .ok (.putfield 152, 3) := dk_181 0 152 (dk_at dksX12_init_16 2 rfl rfl)
theorem dX12_init_374 : decode cX12_init 374 = .ok (.aload_n 0, 1) := dk_42 (dk_at dksX12_init_16 5 rfl rfl)
theorem dX12_init_375 : decode cX12_init 375 = .ok (.sipush 276, 3) := dk_17 1 20 (dk_at dksX12_init_16 6 rfl rfl)
theorem dX12_init_378 : decode cX12_init 378 = .ok (.newarray .int, 2) := dk_188_10 (dk_at dksX12_init_16 9 rfl rfl)
theorem dX12_init_380 : decode cX12_init 380 = .ok (.putfield 155, 3) := dk_181 0 155 (dk_at dksX12_init_16 11 rfl rfl)
theorem dX12_init_383 : decode cX12_init 383 = .ok (.aload_n 0, 1) := dk_42 (dk_at dksX12_init_16 14 rfl rfl)
theorem dX12_init_384 : decode cX12_init 384 = .ok (.iconst 0, 1) := dk_3 (dk_at dksX12_init_16 15 rfl rfl)
theorem dX12_init_385 : decode cX12_init 385 = .ok (.invokevirtual 158, 3) := dk_182 0 158 (dk_at dksX12_init_16 16 rfl rfl)
theorem dX12_init_388 : decode cX12_init 388 = .ok (.aload_n 0, 1) := dk_42 (dk_at dksX12_init_16 19 rfl rfl)
theorem dX12_init_389 : decode cX12_init 389 = .ok (.getfield 34, 3) := dk_180 0 34 (dk_at dksX12_init_16 20 rfl rfl)
theorem dX12_init_392 : decode cX12_init 392 = .ok (.iconst 0, 1) := dk_3 (dk_at dksX12_init_16 23 rfl rfl)
theorem dX12_init_393 : decode cX12_init 393 = .ok (.bipush 114, 2) := dk_16 114 (dk_at dksX12_init_17 0 rfl rfl)
theorem dX12_init_395 : decode cX12_init 395 = .ok (.bipush 111, 2) := dk_16 111 (dk_at dksX12_init_17 2 rfl rfl)
theorem dX12_init_397 : decode cX12_init 397 = .ok (.bipush 119, 2) := dk_16 119 (dk_at dksX12_init_17 4 rfl rfl)
theorem dX12_init_399 : decode cX12_init 399 = .ok (.iconst 0, 1) := dk_3 (dk_at dksX12_init_17 6 rfl rfl)
theorem dX12_init_400 : decode cX12_init 400 = .ok (.iconst 0, 1) := dk_3 (dk_at dksX12_init_17 7 rfl rfl)
theorem dX12_init_401 : decode cX12_init 401 = .ok (.iconst 0, 1) := dk_3 (dk_at dksX12_init_17 8 rfl rfl)
theorem dX12_init_402 : decode cX12_init 402 = .ok (.iconst 0, 1) := dk_3 (dk_at dksX12_init_17 9 rfl rfl)
theorem dX12_init_403 : decode cX12_init 403 = .ok (.invokestatic 162, 3) := dk_184 0 162 (dk_at dksX12_init_17 10 rfl rfl)
theorem dX12_init_406 : decode cX12_init 406 = .ok (.lastore, 1) := dk_80 (dk_at dksX12_init_17 13 rfl rfl)
theorem dX12_init_407 : decode cX12_init 407 = .ok (.aload_n 0, 1) := dk_42 (dk_at dksX12_init_17 14 rfl rfl)
theorem dX12_init_408 : decode cX12_init 408 = .ok (.getfield 34, 3) := dk_180 0 34 (dk_at dksX12_init_17 15 rfl rfl)
theorem dX12_init_411 : decode cX12_init 411 = .ok (.iconst 1, 1) := dk_4 (dk_at dksX12_init_17 18 rfl rfl)
theorem dX12_init_412 : decode cX12_init 412 = .ok (.bipush 102, 2) := dk_16 102 (dk_at dksX12_init_17 19 rfl rfl)
theorem dX12_init_414 : decode cX12_init 414 = .ok (.bipush 105, 2) := dk_16 105 (dk_at dksX12_init_17 21 rfl rfl)
theorem dX12_init_416 : decode cX12_init 416 = .ok (.bipush 101, 2) := dk_16 101 (dk_at dksX12_init_18 0 rfl rfl)
theorem dX12_init_418 : decode cX12_init 418 = .ok (.bipush 108, 2) := dk_16 108 (dk_at dksX12_init_18 2 rfl rfl)
theorem dX12_init_420 : decode cX12_init 420 = .ok (.bipush 100, 2) := dk_16 100 (dk_at dksX12_init_18 4 rfl rfl)
theorem dX12_init_422 : decode cX12_init 422 = .ok (.iconst 0, 1) := dk_3 (dk_at dksX12_init_18 6 rfl rfl)
theorem dX12_init_423 : decode cX12_init 423 = .ok (.iconst 0, 1) := dk_3 (dk_at dksX12_init_18 7 rfl rfl)
theorem dX12_init_424 : decode cX12_init 424 = .ok (.invokestatic 162, 3) := dk_184 0 162 (dk_at dksX12_init_18 8 rfl rfl)
theorem dX12_init_427 : decode cX12_init 427 = .ok (.lastore, 1) := dk_80 (dk_at dksX12_init_18 11 rfl rfl)
theorem dX12_init_428 : decode cX12_init 428 = .ok (.aload_n 0, 1) := dk_42 (dk_at dksX12_init_18 12 rfl rfl)
theorem dX12_init_429 : decode cX12_init 429 = .ok (.getfield 34, 3) := dk_180 0 34 (dk_at dksX12_init_18 13 rfl rfl)
theorem dX12_init_432 : decode cX12_init 432 = .ok (.iconst 2, 1) := dk_5 (dk_at dksX12_init_18 16 rfl rfl)
theorem dX12_init_433 : decode cX12_init 433 = .ok (.bipush 108, 2) := dk_16 108 (dk_at dksX12_init_18 17 rfl rfl)
theorem dX12_init_435 : decode cX12_init 435 = .ok (.bipush 111, 2) := dk_16 111 (dk_at dksX12_init_18 19 rfl rfl)
theorem dX12_init_437 : decode cX12_init 437 = .ok (.bipush 111, 2) := dk_16 111 (dk_at dksX12_init_18 21 rfl rfl)
theorem dX12_init_439 : decode cX12_init 439 = .ok (.bipush 109, 2) := dk_16 109 (dk_at dksX12_init_19 0 rfl rfl)
theorem dX12_init_441 : decode cX12_init 441 = .ok (.iconst 0, 1) := dk_3 (dk_at dksX12_init_19 2 rfl rfl)
theorem dX12_init_442 : decode cX12_init 442 = .ok (.iconst 0, 1) := dk_3 (dk_at dksX12_init_19 3 rfl rfl)
theorem dX12_init_443 : decode cX12_init 443 = .ok (.iconst 0, 1) := dk_3 (dk_at dksX12_init_19 4 rfl rfl)
theorem dX12_init_444 : decode cX12_init 444 = .ok (.invokestatic 162, 3) := dk_184 0 162 (dk_at dksX12_init_19 5 rfl rfl)
theorem dX12_init_447 : decode cX12_init 447 = .ok (.lastore, 1) := dk_80 (dk_at dksX12_init_19 8 rfl rfl)
theorem dX12_init_448 : decode cX12_init 448 = .ok (.aload_n 0, 1) := dk_42 (dk_at dksX12_init_19 9 rfl rfl)
theorem dX12_init_449 : decode cX12_init 449 = .ok (.getfield 34, 3) := dk_180 0 34 (dk_at dksX12_init_19 10 rfl rfl)
theorem dX12_init_452 : decode cX12_init 452 = .ok (.iconst 3, 1) := dk_6 (dk_at dksX12_init_19 13 rfl rfl)
theorem dX12_init_453 : decode cX12_init 453 = .ok (.bipush 119, 2) := dk_16 119 (dk_at dksX12_init_19 14 rfl rfl)
theorem dX12_init_455 : decode cX12_init 455 = .ok (.bipush 101, 2) := dk_16 101 (dk_at dksX12_init_19 16 rfl rfl)
theorem dX12_init_457 : decode cX12_init 457 = .ok (.bipush 97, 2) := dk_16 97 (dk_at dksX12_init_19 18 rfl rfl)
theorem dX12_init_459 : decode cX12_init 459 = .ok (.bipush 118, 2) := dk_16 118 (dk_at dksX12_init_19 20 rfl rfl)
theorem dX12_init_461 : decode cX12_init 461 = .ok (.bipush 101, 2) := dk_16 101 (dk_at dksX12_init_19 22 rfl rfl)
theorem dX12_init_463 : decode cX12_init 463 = .ok (.bipush 115, 2) := dk_16 115 (dk_at dksX12_init_20 0 rfl rfl)
theorem dX12_init_465 : decode cX12_init 465 = .ok (.iconst 0, 1) := dk_3 (dk_at dksX12_init_20 2 rfl rfl)
theorem dX12_init_466 : decode cX12_init 466 = .ok (.invokestatic 162, 3) := dk_184 0 162 (dk_at dksX12_init_20 3 rfl rfl)
theorem dX12_init_469 : decode cX12_init 469 = .ok (.lastore, 1) := dk_80 (dk_at dksX12_init_20 6 rfl rfl)
theorem dX12_init_470 : decode cX12_init 470 = .ok (.aload_n 0, 1) := dk_42 (dk_at dksX12_init_20 7 rfl rfl)
theorem dX12_init_471 : decode cX12_init 471 = .ok (.getfield 34, 3) := dk_180 0 34 (dk_at dksX12_init_20 8 rfl rfl)
theorem dX12_init_474 : decode cX12_init 474 = .ok (.iconst 4, 1) := dk_7 (dk_at dksX12_init_20 11 rfl rfl)
theorem dX12_init_475 : decode cX12_init 475 = .ok (.bipush 100, 2) := dk_16 100 (dk_at dksX12_init_20 12 rfl rfl)
theorem dX12_init_477 : decode cX12_init 477 = .ok (.bipush 114, 2) := dk_16 114 (dk_at dksX12_init_20 14 rfl rfl)
theorem dX12_init_479 : decode cX12_init 479 = .ok (.bipush 105, 2) := dk_16 105 (dk_at dksX12_init_20 16 rfl rfl)
theorem dX12_init_481 : decode cX12_init 481 = .ok (.bipush 101, 2) := dk_16 101 (dk_at dksX12_init_20 18 rfl rfl)
theorem dX12_init_483 : decode cX12_init 483 = .ok (.bipush 115, 2) := dk_16 115 (dk_at dksX12_init_20 20 rfl rfl)
theorem dX12_init_485 : decode cX12_init 485 = .ok (.iconst 0, 1) := dk_3 (dk_at dksX12_init_20 22 rfl rfl)
theorem dX12_init_486 : decode cX12_init 486 = .ok (.iconst 0, 1) := dk_3 (dk_at dksX12_init_20 23 rfl rfl)
theorem dX12_init_487 : decode cX12_init 487 = .ok (.invokestatic 162, 3) := dk_184 0 162 (dk_at dksX12_init_21 0 rfl rfl)
theorem dX12_init_490 : decode cX12_init 490 = .ok (.lastore, 1) := dk_80 (dk_at dksX12_init_21 3 rfl rfl)
theorem dX12_init_491 : decode cX12_init 491 = .ok (.aload_n 0, 1) := dk_42 (dk_at dksX12_init_21 4 rfl rfl)
theorem dX12_init_492 : decode cX12_init 492 = .ok (.getfield 34, 3) := dk_180 0 34 (dk_at dksX12_init_21 5 rfl rfl)
theorem dX12_init_495 : decode cX12_init 495 = .ok (.iconst 5, 1) := dk_8 (dk_at dksX12_init_21 8 rfl rfl)
theorem dX12_init_496 : decode cX12_init 496 = .ok (.bipush 103, 2) := dk_16 103 (dk_at dksX12_init_21 9 rfl rfl)
theorem dX12_init_498 : decode cX12_init 498 = .ok (.bipush 97, 2) := dk_16 97 (dk_at dksX12_init_21 11 rfl rfl)
theorem dX12_init_500 : decode cX12_init 500 = .ok (.bipush 116, 2) := dk_16 116 (dk_at dksX12_init_21 13 rfl rfl)
theorem dX12_init_502 : decode cX12_init 502 = .ok (.bipush 104, 2) := dk_16 104 (dk_at dksX12_init_21 15 rfl rfl)
theorem dX12_init_504 : decode cX12_init 504 = .ok (.bipush 101, 2) := dk_16 101 (dk_at dksX12_init_21 17 rfl rfl)
theorem dX12_init_506 : decode cX12_init 506 = .ok (.bipush 114, 2) := dk_16 114 (dk_at dksX12_init_21 19 rfl rfl)
theorem dX12_init_508 : decode cX12_init 508 = .ok (.bipush 115, 2) := dk_16 115 (dk_at dksX12_init_21 21 rfl rfl)
theorem dX12_init_510 : decode cX12_init 510 = .ok (.invokestatic 162, 3) := dk_184 0 162 (dk_at dksX12_init_22 0 rfl rfl)
theorem dX12_init_513 : decode cX12_init 513 = .ok (.lastore, 1) := dk_80 (dk_at dksX12_init_22 3 rfl rfl)
theorem dX12_init_514 : decode cX12_init 514 = .ok (.aload_n 0, 1) := dk_42 (dk_at dksX12_init_22 4 rfl rfl)
theorem dX12_init_515 : decode cX12_init 515 = .ok (.getfield 34, 3) := dk_180 0 34 (dk_at dksX12_init_22 5 rfl rfl)
theorem dX12_init_518 : decode cX12_init 518 = .ok (.bipush 6, 2) := dk_16 6 (dk_at dksX12_init_22 8 rfl rfl)
theorem dX12_init_520 : decode cX12_init 520 = .ok (.bipush 115, 2) := dk_16 115 (dk_at dksX12_init_22 10 rfl rfl)
theorem dX12_init_522 : decode cX12_init 522 = .ok (.bipush 116, 2) := dk_16 116 (dk_at dksX12_init_22 12 rfl rfl)
theorem dX12_init_524 : decode cX12_init 524 = .ok (.bipush 111, 2) := dk_16 111 (dk_at dksX12_init_22 14 rfl rfl)
theorem dX12_init_526 : decode cX12_init 526 = .ok (.bipush 114, 2) := dk_16 114 (dk_at dksX12_init_22 16 rfl rfl)
theorem dX12_init_528 : decode cX12_init 528 = .ok (.bipush 101, 2) := dk_16 101 (dk_at dksX12_init_22 18 rfl rfl)
theorem dX12_init_530 : decode cX12_init 530 = .ok (.iconst 0, 1) := dk_3 (dk_at dksX12_init_22 20 rfl rfl)
theorem dX12_init_531 : decode cX12_init 531 = .ok (.iconst 0, 1) := dk_3 (dk_at dksX12_init_22 21 rfl rfl)
theorem dX12_init_532 : decode cX12_init 532 = .ok (.invokestatic 162, 3) := dk_184 0 162 (dk_at dksX12_init_23 0 rfl rfl)
theorem dX12_init_535 : decode cX12_init 535 = .ok (.lastore, 1) := dk_80 (dk_at dksX12_init_23 3 rfl rfl)
theorem dX12_init_536 : decode cX12_init 536 = .ok (.aload_n 0, 1) := dk_42 (dk_at dksX12_init_23 4 rfl rfl)
theorem dX12_init_537 : decode cX12_init 537 = .ok (.getfield 34, 3) := dk_180 0 34 (dk_at dksX12_init_23 5 rfl rfl)
theorem dX12_init_540 : decode cX12_init 540 = .ok (.bipush 7, 2) := dk_16 7 (dk_at dksX12_init_23 8 rfl rfl)
theorem dX12_init_542 : decode cX12_init 542 = .ok (.bipush 103, 2) := dk_16 103 (dk_at dksX12_init_23 10 rfl rfl)
theorem dX12_init_544 : decode cX12_init 544 = .ok (.bipush 117, 2) := dk_16 117 (dk_at dksX12_init_23 12 rfl rfl)
theorem dX12_init_546 : decode cX12_init 546 = .ok (.bipush 115, 2) := dk_16 115 (dk_at dksX12_init_23 14 rfl rfl)
theorem dX12_init_548 : decode cX12_init 548 = .ok (.bipush 116, 2) := dk_16 116 (dk_at dksX12_init_23 16 rfl rfl)
theorem dX12_init_550 : decode cX12_init 550 = .ok (.bipush 115, 2) := dk_16 115 (dk_at dksX12_init_23 18 rfl rfl)
theorem dX12_init_552 : decode cX12_init 552 = .ok (.iconst 0, 1) := dk_3 (dk_at dksX12_init_23 20 rfl rfl)
theorem dX12_init_553 : decode cX12_init 553 = .ok (.iconst 0, 1) := dk_3 (dk_at dksX12_init_23 21 rfl rfl)
theorem dX12_init_554 : decode cX12_init 554 = .ok (.invokestatic 162, 3) := dk_184 0 162 (dk_at dksX12_init_24 0 rfl rfl)
theorem dX12_init_557 : decode cX12_init 557 = .ok (.lastore, 1) := dk_80 (dk_at dksX12_init_24 3 rfl rfl)
theorem dX12_init_558 : decode cX12_init 558 = .ok (.aload_n 0, 1) := dk_42 (dk_at dksX12_init_24 4 rfl rfl)
theorem dX12_init_559 : decode cX12_init 559 = .ok (.getfield 34, 3) := dk_180 0 34 (dk_at dksX12_init_24 5 rfl rfl)
theorem dX12_init_562 : decode cX12_init 562 = .ok (.bipush 8, 2) := dk_16 8 (dk_at dksX12_init_24 8 rfl rfl)
theorem dX12_init_564 : decode cX12_init 564 = .ok (.bipush 115, 2) := dk_16 115 (dk_at dksX12_init_24 10 rfl rfl)
theorem dX12_init_566 : decode cX12_init 566 = .ok (.bipush 101, 2) := dk_16 101 (dk_at dksX12_init_24 12 rfl rfl)
theorem dX12_init_568 : decode cX12_init 568 = .ok (.bipush 101, 2) := dk_16 101 (dk_at dksX12_init_24 14 rfl rfl)
theorem dX12_init_570 : decode cX12_init 570 = .ok (.bipush 100, 2) := dk_16 100 (dk_at dksX12_init_24 16 rfl rfl)
theorem dX12_init_572 : decode cX12_init 572 = .ok (.iconst 0, 1) := dk_3 (dk_at dksX12_init_24 18 rfl rfl)
theorem dX12_init_573 : decode cX12_init 573 = .ok (.iconst 0, 1) := dk_3 (dk_at dksX12_init_24 19 rfl rfl)
theorem dX12_init_574 : decode cX12_init 574 = .ok (.iconst 0, 1) := dk_3 (dk_at dksX12_init_24 20 rfl rfl)
theorem dX12_init_575 : decode cX12_init 575 = .ok (.invokestatic 162, 3) := dk_184 0 162 (dk_at dksX12_init_24 21 rfl rfl)
theorem dX12_init_578 : decode cX12_init 578 = .ok (.lastore, 1) := dk_80 (dk_at dksX12_init_25 0 rfl rfl)
theorem dX12_init_579 : decode cX12_init 579 = .ok (.aload_n 0, 1) := dk_42 (dk_at dksX12_init_25 1 rfl rfl)
theorem dX12_init_580 : decode cX12_init 580 = .ok (.getfield 34, 3) := dk_180 0 34 (dk_at dksX12_init_25 2 rfl rfl)
theorem dX12_init_583 : decode cX12_init 583 = .ok (.bipush 9, 2) := dk_16 9 (dk_at dksX12_init_25 5 rfl rfl)
theorem dX12_init_585 : decode cX12_init 585 = .ok (.bipush 105, 2) := dk_16 105 (dk_at dksX12_init_25 7 rfl rfl)
theorem dX12_init_587 : decode cX12_init 587 = .ok (.bipush 102, 2) := dk_16 102 (dk_at dksX12_init_25 9 rfl rfl)
theorem dX12_init_589 : decode cX12_init 589 = .ok (.iconst 0, 1) := dk_3 (dk_at dksX12_init_25 11 rfl rfl)
theorem dX12_init_590 : decode cX12_init 590 = .ok (.iconst 0, 1) := dk_3 (dk_at dksX12_init_25 12 rfl rfl)
theorem dX12_init_591 : decode cX12_init 591 = .ok (.iconst 0, 1) := dk_3 (dk_at dksX12_init_25 13 rfl rfl)
theorem dX12_init_592 : decode cX12_init 592 = .ok (.iconst 0, 1) := dk_3 (dk_at dksX12_init_25 14 rfl rfl)
theorem dX12_init_593 : decode cX12_init 593 = .ok (.iconst 0, 1) := dk_3 (dk_at dksX12_init_25 15 rfl rfl)
theorem dX12_init_594 : decode cX12_init 594 = .ok (.invokestatic 162, 3) := dk_184 0 162 (dk_at dksX12_init_25 16 rfl rfl)
theorem dX12_init_597 : decode cX12_init 597 = .ok (.lastore, 1) := dk_80 (dk_at dksX12_init_25 19 rfl rfl)
theorem dX12_init_598 : decode cX12_init 598 = .ok (.aload_n 0, 1) := dk_42 (dk_at dksX12_init_25 20 rfl rfl)
theorem dX12_init_599 : decode cX12_init 599 = .ok (.getfield 34, 3) := dk_180 0 34 (dk_at dksX12_init_25 21 rfl rfl)
theorem dX12_init_602 : decode cX12_init 602 = .ok (.bipush 10, 2) := dk_16 10 (dk_at dksX12_init_26 0 rfl rfl)
theorem dX12_init_604 : decode cX12_init 604 = .ok (.bipush 116, 2) := dk_16 116 (dk_at dksX12_init_26 2 rfl rfl)
theorem dX12_init_606 : decode cX12_init 606 = .ok (.bipush 104, 2) := dk_16 104 (dk_at dksX12_init_26 4 rfl rfl)
theorem dX12_init_608 : decode cX12_init 608 = .ok (.bipush 101, 2) := dk_16 101 (dk_at dksX12_init_26 6 rfl rfl)
theorem dX12_init_610 : decode cX12_init 610 = .ok (.bipush 110, 2) := dk_16 110 (dk_at dksX12_init_26 8 rfl rfl)
theorem dX12_init_612 : decode cX12_init 612 = .ok (.iconst 0, 1) := dk_3 (dk_at dksX12_init_26 10 rfl rfl)
theorem dX12_init_613 : decode cX12_init 613 = .ok (.iconst 0, 1) := dk_3 (dk_at dksX12_init_26 11 rfl rfl)
theorem dX12_init_614 : decode cX12_init 614 = .ok (.iconst 0, 1) := dk_3 (dk_at dksX12_init_26 12 rfl rfl)
theorem dX12_init_615 : decode cX12_init 615 = .ok (.invokestatic 162, 3) := dk_184 0 162 (dk_at dksX12_init_26 13 rfl rfl)
theorem dX12_init_618 : decode cX12_init 618 = .ok (.lastore, 1) := dk_80 (dk_at dksX12_init_26 16 rfl rfl)
theorem dX12_init_619 : decode cX12_init 619 = .ok (.aload_n 0, 1) := dk_42 (dk_at dksX12_init_26 17 rfl rfl)
theorem dX12_init_620 : decode cX12_init 620 = .ok (.getfield 34, 3) := dk_180 0 34 (dk_at dksX12_init_26 18 rfl rfl)
theorem dX12_init_623 : decode cX12_init 623 = .ok (.bipush 11, 2) := dk_16 11 (dk_at dksX12_init_26 21 rfl rfl)
theorem dX12_init_625 : decode cX12_init 625 = .ok (.bipush 101, 2) := dk_16 101 (dk_at dksX12_init_27 0 rfl rfl)
theorem dX12_init_627 : decode cX12_init 627 = .ok (.bipush 108, 2) := dk_16 108 (dk_at dksX12_init_27 2 rfl rfl)
theorem dX12_init_629 : decode cX12_init 629 = .ok (.bipush 115, 2) := dk_16 115 (dk_at dksX12_init_27 4 rfl rfl)
theorem dX12_init_631 : decode cX12_init 631 = .ok (.bipush 101, 2) := dk_16 101 (dk_at dksX12_init_27 6 rfl rfl)
theorem dX12_init_633 : decode cX12_init 633 = .ok (.iconst 0, 1) := dk_3 (dk_at dksX12_init_27 8 rfl rfl)
theorem dX12_init_634 : decode cX12_init 634 = .ok (.iconst 0, 1) := dk_3 (dk_at dksX12_init_27 9 rfl rfl)
theorem dX12_init_635 : decode cX12_init 635 = .ok (.iconst 0, 1) := dk_3 (dk_at dksX12_init_27 10 rfl rfl)
theorem dX12_init_636 : decode cX12_init 636 = .ok (.invokestatic 162, 3) := dk_184 0 162 (dk_at dksX12_init_27 11 rfl rfl)
theorem dX12_init_639 : decode cX12_init 639 = .ok (.lastore, 1) := dk_80 (dk_at dksX12_init_27 14 rfl rfl)
theorem dX12_init_640 : decode cX12_init 640 = .ok (.aload_n 0, 1) := dk_42 (dk_at dksX12_init_27 15 rfl rfl)
theorem dX12_init_641 : decode cX12_init 641 = .ok (.getfield 34, 3) := dk_180 0 34 (dk_at dksX12_init_27 16 rfl rfl)
theorem dX12_init_644 : decode cX12_init 644 = .ok (.bipush 12, 2) := dk_16 12 (dk_at dksX12_init_27 19 rfl rfl)
theorem dX12_init_646 : decode cX12_init 646 = .ok (.bipush 115, 2) := dk_16 115 (dk_at dksX12_init_27 21 rfl rfl)
theorem dX12_init_648 : decode cX12_init 648 = .ok (.bipush 104, 2) := dk_16 104 (dk_at dksX12_init_28 0 rfl rfl)
theorem dX12_init_650 : decode cX12_init 650 = .ok (.bipush 101, 2) := dk_16 101 (dk_at dksX12_init_28 2 rfl rfl)
theorem dX12_init_652 : decode cX12_init 652 = .ok (.bipush 100, 2) := dk_16 100 (dk_at dksX12_init_28 4 rfl rfl)
theorem dX12_init_654 : decode cX12_init 654 = .ok (.iconst 0, 1) := dk_3 (dk_at dksX12_init_28 6 rfl rfl)
theorem dX12_init_655 : decode cX12_init 655 = .ok (.iconst 0, 1) := dk_3 (dk_at dksX12_init_28 7 rfl rfl)
theorem dX12_init_656 : decode cX12_init 656 = .ok (.iconst 0, 1) := dk_3 (dk_at dksX12_init_28 8 rfl rfl)
theorem dX12_init_657 : decode cX12_init 657 = .ok (.invokestatic 162, 3) := dk_184 0 162 (dk_at dksX12_init_28 9 rfl rfl)
theorem dX12_init_660 : decode cX12_init 660 = .ok (.lastore, 1) := dk_80 (dk_at dksX12_init_28 12 rfl rfl)
theorem dX12_init_661 : decode cX12_init 661 = .ok (.aload_n 0, 1) := dk_42 (dk_at dksX12_init_28 13 rfl rfl)
theorem dX12_init_662 : decode cX12_init 662 = .ok (.getfield 34, 3) := dk_180 0 34 (dk_at dksX12_init_28 14 rfl rfl)
theorem dX12_init_665 : decode cX12_init 665 = .ok (.bipush 13, 2) := dk_16 13 (dk_at dksX12_init_28 17 rfl rfl)
theorem dX12_init_667 : decode cX12_init 667 = .ok (.bipush 119, 2) := dk_16 119 (dk_at dksX12_init_28 19 rfl rfl)
theorem dX12_init_669 : decode cX12_init 669 = .ok (.bipush 97, 2) := dk_16 97 (dk_at dksX12_init_28 21 rfl rfl)
theorem dX12_init_671 : decode cX12_init 671 = .ok (.bipush 114, 2) := dk_16 114 (dk_at dksX12_init_29 0 rfl rfl)
theorem dX12_init_673 : decode cX12_init 673 = .ok (.bipush 112, 2) := dk_16 112 (dk_at dksX12_init_29 2 rfl rfl)
theorem dX12_init_675 : decode cX12_init 675 = .ok (.iconst 0, 1) := dk_3 (dk_at dksX12_init_29 4 rfl rfl)
theorem dX12_init_676 : decode cX12_init 676 = .ok (.iconst 0, 1) := dk_3 (dk_at dksX12_init_29 5 rfl rfl)
theorem dX12_init_677 : decode cX12_init 677 = .ok (.iconst 0, 1) := dk_3 (dk_at dksX12_init_29 6 rfl rfl)
theorem dX12_init_678 : decode cX12_init 678 = .ok (.invokestatic 162, 3) := dk_184 0 162 (dk_at dksX12_init_29 7 rfl rfl)
theorem dX12_init_681 : decode cX12_init 681 = .ok (.lastore, 1) := dk_80 (dk_at dksX12_init_29 10 rfl rfl)
theorem dX12_init_682 : decode cX12_init 682 = .ok (.aload_n 0, 1) := dk_42 (dk_at dksX12_init_29 11 rfl rfl)
theorem dX12_init_683 : decode cX12_init 683 = .ok (.getfield 34, 3) := dk_180 0 34 (dk_at dksX12_init_29 12 rfl rfl)
theorem dX12_init_686 : decode cX12_init 686 = .ok (.bipush 14, 2) := dk_16 14 (dk_at dksX12_init_29 15 rfl rfl)
theorem dX12_init_688 : decode cX12_init 688 = .ok (.bipush 112, 2) := dk_16 112 (dk_at dksX12_init_29 17 rfl rfl)
theorem dX12_init_690 : decode cX12_init 690 = .ok (.bipush 105, 2) := dk_16 105 (dk_at dksX12_init_29 19 rfl rfl)
theorem dX12_init_692 : decode cX12_init 692 = .ok (.bipush 99, 2) := dk_16 99 (dk_at dksX12_init_29 21 rfl rfl)
theorem dX12_init_694 : decode cX12_init 694 = .ok (.bipush 107, 2) := dk_16 107 (dk_at dksX12_init_30 0 rfl rfl)
theorem dX12_init_696 : decode cX12_init 696 = .ok (.iconst 0, 1) := dk_3 (dk_at dksX12_init_30 2 rfl rfl)
theorem dX12_init_697 : decode cX12_init 697 = .ok (.iconst 0, 1) := dk_3 (dk_at dksX12_init_30 3 rfl rfl)
theorem dX12_init_698 : decode cX12_init 698 = .ok (.iconst 0, 1) := dk_3 (dk_at dksX12_init_30 4 rfl rfl)
theorem dX12_init_699 : decode cX12_init 699 = .ok (.invokestatic 162, 3) := dk_184 0 162 (dk_at dksX12_init_30 5 rfl rfl)
theorem dX12_init_702 : decode cX12_init 702 = .ok (.lastore, 1) := dk_80 (dk_at dksX12_init_30 8 rfl rfl)
theorem dX12_init_703 : decode cX12_init 703 = .ok (.aload_n 0, 1) := dk_42 (dk_at dksX12_init_30 9 rfl rfl)
theorem dX12_init_704 : decode cX12_init 704 = .ok (.getfield 34, 3) := dk_180 0 34 (dk_at dksX12_init_30 10 rfl rfl)
theorem dX12_init_707 : decode cX12_init 707 = .ok (.bipush 15, 2) := dk_16 15 (dk_at dksX12_init_30 13 rfl rfl)
theorem dX12_init_709 : decode cX12_init 709 = .ok (.bipush 119, 2) := dk_16 119 (dk_at dksX12_init_30 15 rfl rfl)
theorem dX12_init_711 : decode cX12_init 711 = .ok (.bipush 97, 2) := dk_16 97 (dk_at dksX12_init_30 17 rfl rfl)
theorem dX12_init_713 : decode cX12_init 713 = .ok (.bipush 116, 2) := dk_16 116 (dk_at dksX12_init_30 19 rfl rfl)
theorem dX12_init_715 : decode cX12_init 715 = .ok (.bipush 101, 2) := dk_16 101 (dk_at dksX12_init_30 21 rfl rfl)
theorem dX12_init_717 : decode cX12_init 717 = .ok (.bipush 114, 2) := dk_16 114 (dk_at dksX12_init_31 0 rfl rfl)
theorem dX12_init_719 : decode cX12_init 719 = .ok (.iconst 0, 1) := dk_3 (dk_at dksX12_init_31 2 rfl rfl)
theorem dX12_init_720 : decode cX12_init 720 = .ok (.iconst 0, 1) := dk_3 (dk_at dksX12_init_31 3 rfl rfl)
theorem dX12_init_721 : decode cX12_init 721 = .ok (.invokestatic 162, 3) := dk_184 0 162 (dk_at dksX12_init_31 4 rfl rfl)
theorem dX12_init_724 : decode cX12_init 724 = .ok (.lastore, 1) := dk_80 (dk_at dksX12_init_31 7 rfl rfl)
theorem dX12_init_725 : decode cX12_init 725 = .ok (.aload_n 0, 1) := dk_42 (dk_at dksX12_init_31 8 rfl rfl)
theorem dX12_init_726 : decode cX12_init 726 = .ok (.getfield 34, 3) := dk_180 0 34 (dk_at dksX12_init_31 9 rfl rfl)
theorem dX12_init_729 : decode cX12_init 729 = .ok (.bipush 16, 2) := dk_16 16 (dk_at dksX12_init_31 12 rfl rfl)
theorem dX12_init_731 : decode cX12_init 731 = .ok (.bipush 110, 2) := dk_16 110 (dk_at dksX12_init_31 14 rfl rfl)
theorem dX12_init_733 : decode cX12_init 733 = .ok (.bipush 101, 2) := dk_16 101 (dk_at dksX12_init_31 16 rfl rfl)
theorem dX12_init_735 : decode cX12_init 735 = .ok (.bipush 101, 2) := dk_16 101 (dk_at dksX12_init_31 18 rfl rfl)
theorem dX12_init_737 : decode cX12_init 737 = .ok (.bipush 100, 2) := dk_16 100 (dk_at dksX12_init_31 20 rfl rfl)
theorem dX12_init_739 : decode cX12_init 739 = .ok (.bipush 115, 2) := dk_16 115 (dk_at dksX12_init_31 22 rfl rfl)
theorem dX12_init_741 : decode cX12_init 741 = .ok (.iconst 0, 1) := dk_3 (dk_at dksX12_init_32 0 rfl rfl)
theorem dX12_init_742 : decode cX12_init 742 = .ok (.iconst 0, 1) := dk_3 (dk_at dksX12_init_32 1 rfl rfl)
theorem dX12_init_743 : decode cX12_init 743 = .ok (.invokestatic 162, 3) := dk_184 0 162 (dk_at dksX12_init_32 2 rfl rfl)
theorem dX12_init_746 : decode cX12_init 746 = .ok (.lastore, 1) := dk_80 (dk_at dksX12_init_32 5 rfl rfl)
theorem dX12_init_747 : decode cX12_init 747 = .ok (.aload_n 0, 1) := dk_42 (dk_at dksX12_init_32 6 rfl rfl)
theorem dX12_init_748 : decode cX12_init 748 = .ok (.getfield 34, 3) := dk_180 0 34 (dk_at dksX12_init_32 7 rfl rfl)
theorem dX12_init_751 : decode cX12_init 751 = .ok (.bipush 17, 2) := dk_16 17 (dk_at dksX12_init_32 10 rfl rfl)
theorem dX12_init_753 : decode cX12_init 753 = .ok (.bipush 100, 2) := dk_16 100 (dk_at dksX12_init_32 12 rfl rfl)
theorem dX12_init_755 : decode cX12_init 755 = .ok (.bipush 114, 2) := dk_16 114 (dk_at dksX12_init_32 14 rfl rfl)
theorem dX12_init_757 : decode cX12_init 757 = .ok (.bipush 111, 2) := dk_16 111 (dk_at dksX12_init_32 16 rfl rfl)
theorem dX12_init_759 : decode cX12_init 759 = .ok (.bipush 119, 2) := dk_16 119 (dk_at dksX12_init_32 18 rfl rfl)
theorem dX12_init_761 : decode cX12_init 761 = .ok (.bipush 110, 2) := dk_16 110 (dk_at dksX12_init_32 20 rfl rfl)
theorem dX12_init_763 : decode cX12_init 763 = .ok (.bipush 115, 2) := dk_16 115 (dk_at dksX12_init_32 22 rfl rfl)
theorem dX12_init_765 : decode cX12_init 765 = .ok (.iconst 0, 1) := dk_3 (dk_at dksX12_init_33 0 rfl rfl)
theorem dX12_init_766 : decode cX12_init 766 = .ok (.invokestatic 162, 3) := dk_184 0 162 (dk_at dksX12_init_33 1 rfl rfl)
theorem dX12_init_769 : decode cX12_init 769 = .ok (.lastore, 1) := dk_80 (dk_at dksX12_init_33 4 rfl rfl)
theorem dX12_init_770 : decode cX12_init 770 = .ok (.aload_n 0, 1) := dk_42 (dk_at dksX12_init_33 5 rfl rfl)
theorem dX12_init_771 : decode cX12_init 771 = .ok (.getfield 34, 3) := dk_180 0 34 (dk_at dksX12_init_33 6 rfl rfl)
theorem dX12_init_774 : decode cX12_init 774 = .ok (.bipush 18, 2) := dk_16 18 (dk_at dksX12_init_33 9 rfl rfl)
theorem dX12_init_776 : decode cX12_init 776 = .ok (.bipush 100, 2) := dk_16 100 (dk_at dksX12_init_33 11 rfl rfl)
theorem dX12_init_778 : decode cX12_init 778 = .ok (.bipush 97, 2) := dk_16 97 (dk_at dksX12_init_33 13 rfl rfl)
theorem dX12_init_780 : decode cX12_init 780 = .ok (.bipush 121, 2) := dk_16 121 (dk_at dksX12_init_33 15 rfl rfl)
theorem dX12_init_782 : decode cX12_init 782 = .ok (.iconst 0, 1) := dk_3 (dk_at dksX12_init_33 17 rfl rfl)
theorem dX12_init_783 : decode cX12_init 783 = .ok (.iconst 0, 1) := dk_3 (dk_at dksX12_init_33 18 rfl rfl)
theorem dX12_init_784 : decode cX12_init 784 = .ok (.iconst 0, 1) := dk_3 (dk_at dksX12_init_33 19 rfl rfl)
theorem dX12_init_785 : decode cX12_init 785 = .ok (.iconst 0, 1) := dk_3 (dk_at dksX12_init_33 20 rfl rfl)
theorem dX12_init_786 : decode cX12_init 786 = .ok (.invokestatic 162, 3) := dk_184 0 162 (dk_at dksX12_init_33 21 rfl rfl)
theorem dX12_init_789 : decode cX12_init 789 = .ok (.lastore, 1) := dk_80 (dk_at dksX12_init_34 0 rfl rfl)
theorem dX12_init_790 : decode cX12_init 790 = .ok (.aload_n 0, 1) := dk_42 (dk_at dksX12_init_34 1 rfl rfl)
theorem dX12_init_791 : decode cX12_init 791 = .ok (.getfield 34, 3) := dk_180 0 34 (dk_at dksX12_init_34 2 rfl rfl)
theorem dX12_init_794 : decode cX12_init 794 = .ok (.bipush 19, 2) := dk_16 19 (dk_at dksX12_init_34 5 rfl rfl)
theorem dX12_init_796 : decode cX12_init 796 = .ok (.bipush 119, 2) := dk_16 119 (dk_at dksX12_init_34 7 rfl rfl)
theorem dX12_init_798 : decode cX12_init 798 = .ok (.bipush 104, 2) := dk_16 104 (dk_at dksX12_init_34 9 rfl rfl)
theorem dX12_init_800 : decode cX12_init 800 = .ok (.bipush 105, 2) := dk_16 105 (dk_at dksX12_init_34 11 rfl rfl)
theorem dX12_init_802 : decode cX12_init 802 = .ok (.bipush 99, 2) := dk_16 99 (dk_at dksX12_init_34 13 rfl rfl)
theorem dX12_init_804 : decode cX12_init 804 = .ok (.bipush 104, 2) := dk_16 104 (dk_at dksX12_init_34 15 rfl rfl)
theorem dX12_init_806 : decode cX12_init 806 = .ok (.iconst 0, 1) := dk_3 (dk_at dksX12_init_34 17 rfl rfl)
theorem dX12_init_807 : decode cX12_init 807 = .ok (.iconst 0, 1) := dk_3 (dk_at dksX12_init_34 18 rfl rfl)
theorem dX12_init_808 : decode cX12_init 808 = .ok (.invokestatic 162, 3) := dk_184 0 162 (dk_at dksX12_init_34 19 rfl rfl)
theorem dX12_init_811 : decode cX12_init 811 = .ok (.lastore, 1) := dk_80 (dk_at dksX12_init_34 22 rfl rfl)
theorem dX12_init_812 : decode cX12_init 812 = .ok (.aload_n 0, 1) := dk_42 (dk_at dksX12_init_34 23 rfl rfl)
theorem dX12_init_813 : decode cX12_init 813 = .ok (.getfield 34, 3) := dk_180 0 34 (dk_at dksX12_init_35 0 rfl rfl)
theorem dX12_init_816 : decode cX12_init 816 = .ok (.bipush 20, 2) := dk_16 20 (dk_at dksX12_init_35 3 rfl rfl)
theorem dX12_init_818 : decode cX12_init 818 = .ok (.bipush 119, 2) := dk_16 119 (dk_at dksX12_init_35 5 rfl rfl)
theorem dX12_init_820 : decode cX12_init 820 = .ok (.bipush 105, 2) := dk_16 105 (dk_at dksX12_init_35 7 rfl rfl)
theorem dX12_init_822 : decode cX12_init 822 = .ok (.bipush 100, 2) := dk_16 100 (dk_at dksX12_init_35 9 rfl rfl)
theorem dX12_init_824 : decode cX12_init 824 = .ok (.bipush 101, 2) := dk_16 101 (dk_at dksX12_init_35 11 rfl rfl)
theorem dX12_init_826 : decode cX12_init 826 = .ok (.iconst 0, 1) := dk_3 (dk_at dksX12_init_35 13 rfl rfl)
theorem dX12_init_827 : decode cX12_init 827 = .ok (.iconst 0, 1) := dk_3 (dk_at dksX12_init_35 14 rfl rfl)
theorem dX12_init_828 : decode cX12_init 828 = .ok (.iconst 0, 1) := dk_3 (dk_at dksX12_init_35 15 rfl rfl)
theorem dX12_init_829 : decode cX12_init 829 = .ok (.invokestatic 162, 3) := dk_184 0 162 (dk_at dksX12_init_35 16 rfl rfl)
theorem dX12_init_832 : decode cX12_init 832 = .ok (.lastore, 1) := dk_80 (dk_at dksX12_init_35 19 rfl rfl)
theorem dX12_init_833 : decode cX12_init 833 = .ok (.aload_n 0, 1) := dk_42 (dk_at dksX12_init_35 20 rfl rfl)
theorem dX12_init_834 : decode cX12_init 834 = .ok (.invokevirtual 166, 3) := dk_182 0 166 (dk_at dksX12_init_35 21 rfl rfl)
theorem dX12_init_837 : decode cX12_init 837 = .ok (.aload_n 0, 1) := dk_42 (dk_at dksX12_init_36 0 rfl rfl)
theorem dX12_init_838 : decode cX12_init 838 = .ok (.invokevirtual 169, 3) := dk_182 0 169 (dk_at dksX12_init_36 1 rfl rfl)
theorem dX12_init_841 : decode cX12_init 841 = .ok (.return_, 1) := dk_177 (dk_at dksX12_init_36 4 rfl rfl)
abbrev cX12_plain : ByteArray := prog_22_method_19_code
def yX12_plain : MethodName := ⟨RX12, "plain", "(I)V"⟩
def dkwX12_plain_3 : List UInt8 := [42, 180, 0, 82, 6, 27, 104, 28, 96, 3, 79, 132, 2, 1, 167, 255, 226, 177]
abbrev dktX12_plain_3 : List UInt8 := dkwX12_plain_3 ++ []
def dkwX12_plain_2 : List UInt8 := [180, 0, 76, 27, 3, 79, 3, 61, 28, 6, 162, 0, 31, 42, 180, 0, 79, 6, 27, 104, 28, 96, 3, 79]
abbrev dktX12_plain_2 : List UInt8 := dkwX12_plain_2 ++ dktX12_plain_3
def dkwX12_plain_1 : List UInt8 := [180, 0, 61, 27, 3, 79, 42, 180, 0, 70, 27, 16, 100, 79, 42, 180, 0, 73, 27, 3, 79, 42]
abbrev dktX12_plain_1 : List UInt8 := dkwX12_plain_1 ++ dktX12_plain_2
def dkwX12_plain_0 : List UInt8 := [42, 180, 0, 43, 27, 3, 79, 42, 180, 0, 46, 27, 3, 79, 42, 180, 0, 52, 27, 3, 79, 42]
abbrev dktX12_plain_0 : List UInt8 := dkwX12_plain_0 ++ dktX12_plain_1
theorem dksX12_plain_0 : cX12_plain.data.toList.drop 0 = dktX12_plain_0 := by decide +kernel
theorem dksX12_plain_1 : cX12_plain.data.toList.drop 22 = dktX12_plain_1 := dk_seg dksX12_plain_0 22 rfl rfl
theorem dksX12_plain_2 : cX12_plain.data.toList.drop 44 = dktX12_plain_2 := dk_seg dksX12_plain_1 22 rfl rfl
theorem dksX12_plain_3 : cX12_plain.data.toList.drop 68 = dktX12_plain_3 := dk_seg dksX12_plain_2 24 rfl rfl
theorem dX12_plain_0 : decode cX12_plain 0 = .ok (.aload_n 0, 1) := dk_42 (dk_at dksX12_plain_0 0 rfl rfl)
theorem dX12_plain_1 : decode cX12_plain 1 = .ok (.getfield 43, 3) := dk_180 0 43 (dk_at dksX12_plain_0 1 rfl rfl)
theorem dX12_plain_4 : decode cX12_plain 4 = .ok (.iload_n 1, 1) := dk_27 (dk_at dksX12_plain_0 4 rfl rfl)
theorem dX12_plain_5 : decode cX12_plain 5 = .ok (.iconst 0, 1) := dk_3 (dk_at dksX12_plain_0 5 rfl rfl)
theorem dX12_plain_6 : decode cX12_plain 6 = .ok (.iastore, 1) := dk_79 (dk_at dksX12_plain_0 6 rfl rfl)
theorem dX12_plain_7 : decode cX12_plain 7 = .ok (.aload_n 0, 1) := dk_42 (dk_at dksX12_plain_0 7 rfl rfl)
theorem dX12_plain_8 : decode cX12_plain 8 = .ok (.getfield 46, 3) := dk_180 0 46 (dk_at dksX12_plain_0 8 rfl rfl)
theorem dX12_plain_11 : decode cX12_plain 11 = .ok (.iload_n 1, 1) := dk_27 (dk_at dksX12_plain_0 11 rfl rfl)
theorem dX12_plain_12 : decode cX12_plain 12 = .ok (.iconst 0, 1) := dk_3 (dk_at dksX12_plain_0 12 rfl rfl)
theorem dX12_plain_13 : decode cX12_plain 13 = .ok (.iastore, 1) := dk_79 (dk_at dksX12_plain_0 13 rfl rfl)
theorem dX12_plain_14 : decode cX12_plain 14 = .ok (.aload_n 0, 1) := dk_42 (dk_at dksX12_plain_0 14 rfl rfl)
theorem dX12_plain_15 : decode cX12_plain 15 = .ok (.getfield 52, 3) := dk_180 0 52 (dk_at dksX12_plain_0 15 rfl rfl)
theorem dX12_plain_18 : decode cX12_plain 18 = .ok (.iload_n 1, 1) := dk_27 (dk_at dksX12_plain_0 18 rfl rfl)
theorem dX12_plain_19 : decode cX12_plain 19 = .ok (.iconst 0, 1) := dk_3 (dk_at dksX12_plain_0 19 rfl rfl)
theorem dX12_plain_20 : decode cX12_plain 20 = .ok (.iastore, 1) := dk_79 (dk_at dksX12_plain_0 20 rfl rfl)
theorem dX12_plain_21 : decode cX12_plain 21 = .ok (.aload_n 0, 1) := dk_42 (dk_at dksX12_plain_0 21 rfl rfl)
theorem dX12_plain_22 : decode cX12_plain 22 = .ok (.getfield 61, 3) := dk_180 0 61 (dk_at dksX12_plain_1 0 rfl rfl)
theorem dX12_plain_25 : decode cX12_plain 25 = .ok (.iload_n 1, 1) := dk_27 (dk_at dksX12_plain_1 3 rfl rfl)
theorem dX12_plain_26 : decode cX12_plain 26 = .ok (.iconst 0, 1) := dk_3 (dk_at dksX12_plain_1 4 rfl rfl)
theorem dX12_plain_27 : decode cX12_plain 27 = .ok (.iastore, 1) := dk_79 (dk_at dksX12_plain_1 5 rfl rfl)
theorem dX12_plain_28 : decode cX12_plain 28 = .ok (.aload_n 0, 1) := dk_42 (dk_at dksX12_plain_1 6 rfl rfl)
theorem dX12_plain_29 : decode cX12_plain 29 = .ok (.getfield 70, 3) := dk_180 0 70 (dk_at dksX12_plain_1 7 rfl rfl)
theorem dX12_plain_32 : decode cX12_plain 32 = .ok (.iload_n 1, 1) := dk_27 (dk_at dksX12_plain_1 10 rfl rfl)
theorem dX12_plain_33 : decode cX12_plain 33 = .ok (.bipush 100, 2) := dk_16 100 (dk_at dksX12_plain_1 11 rfl rfl)
theorem dX12_plain_35 : decode cX12_plain 35 = .ok (.iastore, 1) := dk_79 (dk_at dksX12_plain_1 13 rfl rfl)
theorem dX12_plain_36 : decode cX12_plain 36 = .ok (.aload_n 0, 1) := dk_42 (dk_at dksX12_plain_1 14 rfl rfl)
theorem dX12_plain_37 : decode cX12_plain 37 = .ok (.getfield 73, 3) := dk_180 0 73 (dk_at dksX12_plain_1 15 rfl rfl)
theorem dX12_plain_40 : decode cX12_plain 40 = .ok (.iload_n 1, 1) := dk_27 (dk_at dksX12_plain_1 18 rfl rfl)
theorem dX12_plain_41 : decode cX12_plain 41 = .ok (.iconst 0, 1) := dk_3 (dk_at dksX12_plain_1 19 rfl rfl)
theorem dX12_plain_42 : decode cX12_plain 42 = .ok (.iastore, 1) := dk_79 (dk_at dksX12_plain_1 20 rfl rfl)
theorem dX12_plain_43 : decode cX12_plain 43 = .ok (.aload_n 0, 1) := dk_42 (dk_at dksX12_plain_1 21 rfl rfl)
theorem dX12_plain_44 : decode cX12_plain 44 = .ok (.getfield 76, 3) := dk_180 0 76 (dk_at dksX12_plain_2 0 rfl rfl)
theorem dX12_plain_47 : decode cX12_plain 47 = .ok (.iload_n 1, 1) := dk_27 (dk_at dksX12_plain_2 3 rfl rfl)
theorem dX12_plain_48 : decode cX12_plain 48 = .ok (.iconst 0, 1) := dk_3 (dk_at dksX12_plain_2 4 rfl rfl)
theorem dX12_plain_49 : decode cX12_plain 49 = .ok (.iastore, 1) := dk_79 (dk_at dksX12_plain_2 5 rfl rfl)
theorem dX12_plain_50 : decode cX12_plain 50 = .ok (.iconst 0, 1) := dk_3 (dk_at dksX12_plain_2 6 rfl rfl)
theorem dX12_plain_51 : decode cX12_plain 51 = .ok (.istore_n 2, 1) := dk_61 (dk_at dksX12_plain_2 7 rfl rfl)
theorem dX12_plain_52 : decode cX12_plain 52 = .ok (.iload_n 2, 1) := dk_28 (dk_at dksX12_plain_2 8 rfl rfl)
theorem dX12_plain_53 : decode cX12_plain 53 = .ok (.iconst 3, 1) := dk_6 (dk_at dksX12_plain_2 9 rfl rfl)
theorem dX12_plain_54 : decode cX12_plain 54 = .ok (.if_icmp .ge 31, 3) := dk_162 0 31 (dk_at dksX12_plain_2 10 rfl rfl)
theorem dX12_plain_57 : decode cX12_plain 57 = .ok (.aload_n 0, 1) := dk_42 (dk_at dksX12_plain_2 13 rfl rfl)
theorem dX12_plain_58 : decode cX12_plain 58 = .ok (.getfield 79, 3) := dk_180 0 79 (dk_at dksX12_plain_2 14 rfl rfl)
theorem dX12_plain_61 : decode cX12_plain 61 = .ok (.iconst 3, 1) := dk_6 (dk_at dksX12_plain_2 17 rfl rfl)
theorem dX12_plain_62 : decode cX12_plain 62 = .ok (.iload_n 1, 1) := dk_27 (dk_at dksX12_plain_2 18 rfl rfl)
theorem dX12_plain_63 : decode cX12_plain 63 = .ok (.imul, 1) := dk_104 (dk_at dksX12_plain_2 19 rfl rfl)
theorem dX12_plain_64 : decode cX12_plain 64 = .ok (.iload_n 2, 1) := dk_28 (dk_at dksX12_plain_2 20 rfl rfl)
theorem dX12_plain_65 : decode cX12_plain 65 = .ok (.iadd, 1) := dk_96 (dk_at dksX12_plain_2 21 rfl rfl)
theorem dX12_plain_66 : decode cX12_plain 66 = .ok (.iconst 0, 1) := dk_3 (dk_at dksX12_plain_2 22 rfl rfl)
theorem dX12_plain_67 : decode cX12_plain 67 = .ok (.iastore, 1) := dk_79 (dk_at dksX12_plain_2 23 rfl rfl)
theorem dX12_plain_68 : decode cX12_plain 68 = .ok (.aload_n 0, 1) := dk_42 (dk_at dksX12_plain_3 0 rfl rfl)
theorem dX12_plain_69 : decode cX12_plain 69 = .ok (.getfield 82, 3) := dk_180 0 82 (dk_at dksX12_plain_3 1 rfl rfl)
theorem dX12_plain_72 : decode cX12_plain 72 = .ok (.iconst 3, 1) := dk_6 (dk_at dksX12_plain_3 4 rfl rfl)
theorem dX12_plain_73 : decode cX12_plain 73 = .ok (.iload_n 1, 1) := dk_27 (dk_at dksX12_plain_3 5 rfl rfl)
theorem dX12_plain_74 : decode cX12_plain 74 = .ok (.imul, 1) := dk_104 (dk_at dksX12_plain_3 6 rfl rfl)
theorem dX12_plain_75 : decode cX12_plain 75 = .ok (.iload_n 2, 1) := dk_28 (dk_at dksX12_plain_3 7 rfl rfl)
theorem dX12_plain_76 : decode cX12_plain 76 = .ok (.iadd, 1) := dk_96 (dk_at dksX12_plain_3 8 rfl rfl)
theorem dX12_plain_77 : decode cX12_plain 77 = .ok (.iconst 0, 1) := dk_3 (dk_at dksX12_plain_3 9 rfl rfl)
theorem dX12_plain_78 : decode cX12_plain 78 = .ok (.iastore, 1) := dk_79 (dk_at dksX12_plain_3 10 rfl rfl)
theorem dX12_plain_79 : decode cX12_plain 79 = .ok (.iinc 2 1, 3) := dk_132 2 1 (dk_at dksX12_plain_3 11 rfl rfl)
theorem dX12_plain_82 : decode cX12_plain 82 = .ok (.goto (-30), 3) := dk_167 255 226 (dk_at dksX12_plain_3 14 rfl rfl)
theorem dX12_plain_85 : decode cX12_plain 85 = .ok (.return_, 1) := dk_177 (dk_at dksX12_plain_3 17 rfl rfl)
abbrev cX12_word : ByteArray := prog_22_method_10_code
def yX12_word : MethodName := ⟨RX12, "word", "(IIIIIII)J"⟩
def dkwX12_word_1 : List UInt8 := [184, 0, 183, 21, 6, 184, 0, 183, 173]
abbrev dktX12_word_1 : List UInt8 := dkwX12_word_1 ++ []
def dkwX12_word_0 : List UInt8 := [9, 26, 184, 0, 183, 27, 184, 0, 183, 28, 184, 0, 183, 29, 184, 0, 183, 21, 4, 184, 0, 183, 21, 5]
abbrev dktX12_word_0 : List UInt8 := dkwX12_word_0 ++ dktX12_word_1
theorem dksX12_word_0 : cX12_word.data.toList.drop 0 = dktX12_word_0 := by decide +kernel
theorem dksX12_word_1 : cX12_word.data.toList.drop 24 = dktX12_word_1 := dk_seg dksX12_word_0 24 rfl rfl
theorem dX12_word_0 : decode cX12_word 0 = .ok (.lconst 0, 1) := dk_9 (dk_at dksX12_word_0 0 rfl rfl)
theorem dX12_word_1 : decode cX12_word 1 = .ok (.iload_n 0, 1) := dk_26 (dk_at dksX12_word_0 1 rfl rfl)
theorem dX12_word_2 : decode cX12_word 2 = .ok (.invokestatic 183, 3) := dk_184 0 183 (dk_at dksX12_word_0 2 rfl rfl)
theorem dX12_word_5 : decode cX12_word 5 = .ok (.iload_n 1, 1) := dk_27 (dk_at dksX12_word_0 5 rfl rfl)
theorem dX12_word_6 : decode cX12_word 6 = .ok (.invokestatic 183, 3) := dk_184 0 183 (dk_at dksX12_word_0 6 rfl rfl)
theorem dX12_word_9 : decode cX12_word 9 = .ok (.iload_n 2, 1) := dk_28 (dk_at dksX12_word_0 9 rfl rfl)
theorem dX12_word_10 : decode cX12_word 10 = .ok (.invokestatic 183, 3) := dk_184 0 183 (dk_at dksX12_word_0 10 rfl rfl)
theorem dX12_word_13 : decode cX12_word 13 = .ok (.iload_n 3, 1) := dk_29 (dk_at dksX12_word_0 13 rfl rfl)
theorem dX12_word_14 : decode cX12_word 14 = .ok (.invokestatic 183, 3) := dk_184 0 183 (dk_at dksX12_word_0 14 rfl rfl)
theorem dX12_word_17 : decode cX12_word 17 = .ok (.iload 4, 2) := dk_21 4 (dk_at dksX12_word_0 17 rfl rfl)
theorem dX12_word_19 : decode cX12_word 19 = .ok (.invokestatic 183, 3) := dk_184 0 183 (dk_at dksX12_word_0 19 rfl rfl)
theorem dX12_word_22 : decode cX12_word 22 = .ok (.iload 5, 2) := dk_21 5 (dk_at dksX12_word_0 22 rfl rfl)
theorem dX12_word_24 : decode cX12_word 24 = .ok (.invokestatic 183, 3) := dk_184 0 183 (dk_at dksX12_word_1 0 rfl rfl)
theorem dX12_word_27 : decode cX12_word 27 = .ok (.iload 6, 2) := dk_21 6 (dk_at dksX12_word_1 3 rfl rfl)
theorem dX12_word_29 : decode cX12_word 29 = .ok (.invokestatic 183, 3) := dk_184 0 183 (dk_at dksX12_word_1 5 rfl rfl)
theorem dX12_word_32 : decode cX12_word 32 = .ok (.lreturn, 1) := dk_173 (dk_at dksX12_word_1 8 rfl rfl)
abbrev cX12_appends : ByteArray := prog_22_method_9_code
def yX12_appends : MethodName := ⟨RX12, "appends", "(JI)J"⟩
def dkwX12_appends_0 : List UInt8 := [28, 154, 0, 7, 30, 167, 0, 16, 20, 0, 181, 30, 105, 28, 16, 97, 100, 4, 96, 133, 97, 173]
abbrev dktX12_appends_0 : List UInt8 := dkwX12_appends_0 ++ []
theorem dksX12_appends_0 : cX12_appends.data.toList.drop 0 = dktX12_appends_0 := by decide +kernel
theorem dX12_appends_0 : decode cX12_appends 0 = .ok (.iload_n 2, 1) := dk_28 (dk_at dksX12_appends_0 0 rfl rfl)
theorem dX12_appends_1 : decode cX12_appends 1 = .ok (.ifCond .ne 7, 3) := dk_154 0 7 (dk_at dksX12_appends_0 1 rfl rfl)
theorem dX12_appends_4 : decode cX12_appends 4 = .ok (.lload_n 0, 1) := dk_30 (dk_at dksX12_appends_0 4 rfl rfl)
theorem dX12_appends_5 : decode cX12_appends 5 = .ok (.goto 16, 3) := dk_167 0 16 (dk_at dksX12_appends_0 5 rfl rfl)
theorem dX12_appends_8 : decode cX12_appends 8 = .ok (.ldc2_w 181, 3) := dk_20 0 181 (dk_at dksX12_appends_0 8 rfl rfl)
theorem dX12_appends_11 : decode cX12_appends 11 = .ok (.lload_n 0, 1) := dk_30 (dk_at dksX12_appends_0 11 rfl rfl)
theorem dX12_appends_12 : decode cX12_appends 12 = .ok (.lmul, 1) := dk_105 (dk_at dksX12_appends_0 12 rfl rfl)
theorem dX12_appends_13 : decode cX12_appends 13 = .ok (.iload_n 2, 1) := dk_28 (dk_at dksX12_appends_0 13 rfl rfl)
theorem dX12_appends_14 : decode cX12_appends 14 = .ok (.bipush 97, 2) := dk_16 97 (dk_at dksX12_appends_0 14 rfl rfl)
theorem dX12_appends_16 : decode cX12_appends 16 = .ok (.isub, 1) := dk_100 (dk_at dksX12_appends_0 16 rfl rfl)
theorem dX12_appends_17 : decode cX12_appends 17 = .ok (.iconst 1, 1) := dk_4 (dk_at dksX12_appends_0 17 rfl rfl)
theorem dX12_appends_18 : decode cX12_appends 18 = .ok (.iadd, 1) := dk_96 (dk_at dksX12_appends_0 18 rfl rfl)
theorem dX12_appends_19 : decode cX12_appends 19 = .ok (.i2l, 1) := dk_133 (dk_at dksX12_appends_0 19 rfl rfl)
theorem dX12_appends_20 : decode cX12_appends 20 = .ok (.ladd, 1) := dk_97 (dk_at dksX12_appends_0 20 rfl rfl)
theorem dX12_appends_21 : decode cX12_appends 21 = .ok (.lreturn, 1) := dk_173 (dk_at dksX12_appends_0 21 rfl rfl)
abbrev cX12_begins : ByteArray := prog_22_method_42_code
def yX12_begins : MethodName := ⟨RX12, "begins", "()V"⟩
def dkwX12_begins_3 : List UInt8 := [180, 0, 70, 42, 180, 0, 239, 46, 79, 42, 42, 180, 0, 76, 42, 180, 0, 239, 46, 181, 1, 71, 177]
abbrev dktX12_begins_3 : List UInt8 := dkwX12_begins_3 ++ []
def dkwX12_begins_2 : List UInt8 := [7, 42, 180, 0, 239, 104, 27, 96, 46, 79, 132, 1, 1, 167, 255, 218, 42, 180, 0, 119, 16, 88, 42]
abbrev dktX12_begins_2 : List UInt8 := dkwX12_begins_2 ++ dktX12_begins_3
def dkwX12_begins_1 : List UInt8 := [42, 180, 0, 61, 42, 180, 0, 239, 46, 162, 0, 31, 42, 180, 0, 119, 16, 48, 27, 96, 42, 180, 0, 67]
abbrev dktX12_begins_1 : List UInt8 := dkwX12_begins_1 ++ dktX12_begins_2
def dkwX12_begins_0 : List UInt8 := [3, 60, 27, 16, 92, 162, 0, 16, 42, 180, 0, 119, 27, 3, 79, 132, 1, 1, 167, 255, 240, 3, 60, 27]
abbrev dktX12_begins_0 : List UInt8 := dkwX12_begins_0 ++ dktX12_begins_1
theorem dksX12_begins_0 : cX12_begins.data.toList.drop 0 = dktX12_begins_0 := by decide +kernel
theorem dksX12_begins_1 : cX12_begins.data.toList.drop 24 = dktX12_begins_1 := dk_seg dksX12_begins_0 24 rfl rfl
theorem dksX12_begins_2 : cX12_begins.data.toList.drop 48 = dktX12_begins_2 := dk_seg dksX12_begins_1 24 rfl rfl
theorem dksX12_begins_3 : cX12_begins.data.toList.drop 71 = dktX12_begins_3 := dk_seg dksX12_begins_2 23 rfl rfl
theorem dX12_begins_0 : decode cX12_begins 0 = .ok (.iconst 0, 1) := dk_3 (dk_at dksX12_begins_0 0 rfl rfl)
theorem dX12_begins_1 : decode cX12_begins 1 = .ok (.istore_n 1, 1) := dk_60 (dk_at dksX12_begins_0 1 rfl rfl)
theorem dX12_begins_2 : decode cX12_begins 2 = .ok (.iload_n 1, 1) := dk_27 (dk_at dksX12_begins_0 2 rfl rfl)
theorem dX12_begins_3 : decode cX12_begins 3 = .ok (.bipush 92, 2) := dk_16 92 (dk_at dksX12_begins_0 3 rfl rfl)
theorem dX12_begins_5 : decode cX12_begins 5 = .ok (.if_icmp .ge 16, 3) := dk_162 0 16 (dk_at dksX12_begins_0 5 rfl rfl)
theorem dX12_begins_8 : decode cX12_begins 8 = .ok (.aload_n 0, 1) := dk_42 (dk_at dksX12_begins_0 8 rfl rfl)
theorem dX12_begins_9 : decode cX12_begins 9 = .ok (.getfield 119, 3) := dk_180 0 119 (dk_at dksX12_begins_0 9 rfl rfl)
theorem dX12_begins_12 : decode cX12_begins 12 = .ok (.iload_n 1, 1) := dk_27 (dk_at dksX12_begins_0 12 rfl rfl)
theorem dX12_begins_13 : decode cX12_begins 13 = .ok (.iconst 0, 1) := dk_3 (dk_at dksX12_begins_0 13 rfl rfl)
theorem dX12_begins_14 : decode cX12_begins 14 = .ok (.iastore, 1) := dk_79 (dk_at dksX12_begins_0 14 rfl rfl)
theorem dX12_begins_15 : decode cX12_begins 15 = .ok (.iinc 1 1, 3) := dk_132 1 1 (dk_at dksX12_begins_0 15 rfl rfl)
theorem dX12_begins_18 : decode cX12_begins 18 = .ok (.goto (-16), 3) := dk_167 255 240 (dk_at dksX12_begins_0 18 rfl rfl)
theorem dX12_begins_21 : decode cX12_begins 21 = .ok (.iconst 0, 1) := dk_3 (dk_at dksX12_begins_0 21 rfl rfl)
theorem dX12_begins_22 : decode cX12_begins 22 = .ok (.istore_n 1, 1) := dk_60 (dk_at dksX12_begins_0 22 rfl rfl)
theorem dX12_begins_23 : decode cX12_begins 23 = .ok (.iload_n 1, 1) := dk_27 (dk_at dksX12_begins_0 23 rfl rfl)
theorem dX12_begins_24 : decode cX12_begins 24 = .ok (.aload_n 0, 1) := dk_42 (dk_at dksX12_begins_1 0 rfl rfl)
theorem dX12_begins_25 : decode cX12_begins 25 = .ok (.getfield 61, 3) := dk_180 0 61 (dk_at dksX12_begins_1 1 rfl rfl)
theorem dX12_begins_28 : decode cX12_begins 28 = .ok (.aload_n 0, 1) := dk_42 (dk_at dksX12_begins_1 4 rfl rfl)
theorem dX12_begins_29 : decode cX12_begins 29 = .ok (.getfield 239, 3) := dk_180 0 239 (dk_at dksX12_begins_1 5 rfl rfl)
theorem dX12_begins_32 : decode cX12_begins 32 = .ok (.iaload, 1) := dk_46 (dk_at dksX12_begins_1 8 rfl rfl)
theorem dX12_begins_33 : decode cX12_begins 33 = .ok (.if_icmp .ge 31, 3) := dk_162 0 31 (dk_at dksX12_begins_1 9 rfl rfl)
theorem dX12_begins_36 : decode cX12_begins 36 = .ok (.aload_n 0, 1) := dk_42 (dk_at dksX12_begins_1 12 rfl rfl)
theorem dX12_begins_37 : decode cX12_begins 37 = .ok (.getfield 119, 3) := dk_180 0 119 (dk_at dksX12_begins_1 13 rfl rfl)
theorem dX12_begins_40 : decode cX12_begins 40 = .ok (.bipush 48, 2) := dk_16 48 (dk_at dksX12_begins_1 16 rfl rfl)
theorem dX12_begins_42 : decode cX12_begins 42 = .ok (.iload_n 1, 1) := dk_27 (dk_at dksX12_begins_1 18 rfl rfl)
theorem dX12_begins_43 : decode cX12_begins 43 = .ok (.iadd, 1) := dk_96 (dk_at dksX12_begins_1 19 rfl rfl)
theorem dX12_begins_44 : decode cX12_begins 44 = .ok (.aload_n 0, 1) := dk_42 (dk_at dksX12_begins_1 20 rfl rfl)
theorem dX12_begins_45 : decode cX12_begins 45 = .ok (.getfield 67, 3) := dk_180 0 67 (dk_at dksX12_begins_1 21 rfl rfl)
theorem dX12_begins_48 : decode cX12_begins 48 = .ok (.iconst 4, 1) := dk_7 (dk_at dksX12_begins_2 0 rfl rfl)
theorem dX12_begins_49 : decode cX12_begins 49 = .ok (.aload_n 0, 1) := dk_42 (dk_at dksX12_begins_2 1 rfl rfl)
theorem dX12_begins_50 : decode cX12_begins 50 = .ok (.getfield 239, 3) := dk_180 0 239 (dk_at dksX12_begins_2 2 rfl rfl)
theorem dX12_begins_53 : decode cX12_begins 53 = .ok (.imul, 1) := dk_104 (dk_at dksX12_begins_2 5 rfl rfl)
theorem dX12_begins_54 : decode cX12_begins 54 = .ok (.iload_n 1, 1) := dk_27 (dk_at dksX12_begins_2 6 rfl rfl)
theorem dX12_begins_55 : decode cX12_begins 55 = .ok (.iadd, 1) := dk_96 (dk_at dksX12_begins_2 7 rfl rfl)
theorem dX12_begins_56 : decode cX12_begins 56 = .ok (.iaload, 1) := dk_46 (dk_at dksX12_begins_2 8 rfl rfl)
theorem dX12_begins_57 : decode cX12_begins 57 = .ok (.iastore, 1) := dk_79 (dk_at dksX12_begins_2 9 rfl rfl)
theorem dX12_begins_58 : decode cX12_begins 58 = .ok (.iinc 1 1, 3) := dk_132 1 1 (dk_at dksX12_begins_2 10 rfl rfl)
theorem dX12_begins_61 : decode cX12_begins 61 = .ok (.goto (-38), 3) := dk_167 255 218 (dk_at dksX12_begins_2 13 rfl rfl)
theorem dX12_begins_64 : decode cX12_begins 64 = .ok (.aload_n 0, 1) := dk_42 (dk_at dksX12_begins_2 16 rfl rfl)
theorem dX12_begins_65 : decode cX12_begins 65 = .ok (.getfield 119, 3) := dk_180 0 119 (dk_at dksX12_begins_2 17 rfl rfl)
theorem dX12_begins_68 : decode cX12_begins 68 = .ok (.bipush 88, 2) := dk_16 88 (dk_at dksX12_begins_2 20 rfl rfl)
theorem dX12_begins_70 : decode cX12_begins 70 = .ok (.aload_n 0, 1) := dk_42 (dk_at dksX12_begins_2 22 rfl rfl)
theorem dX12_begins_71 : decode cX12_begins 71 = .ok (.getfield 70, 3) := dk_180 0 70 (dk_at dksX12_begins_3 0 rfl rfl)
theorem dX12_begins_74 : decode cX12_begins 74 = .ok (.aload_n 0, 1) := dk_42 (dk_at dksX12_begins_3 3 rfl rfl)
theorem dX12_begins_75 : decode cX12_begins 75 = .ok (.getfield 239, 3) := dk_180 0 239 (dk_at dksX12_begins_3 4 rfl rfl)
theorem dX12_begins_78 : decode cX12_begins 78 = .ok (.iaload, 1) := dk_46 (dk_at dksX12_begins_3 7 rfl rfl)
theorem dX12_begins_79 : decode cX12_begins 79 = .ok (.iastore, 1) := dk_79 (dk_at dksX12_begins_3 8 rfl rfl)
theorem dX12_begins_80 : decode cX12_begins 80 = .ok (.aload_n 0, 1) := dk_42 (dk_at dksX12_begins_3 9 rfl rfl)
theorem dX12_begins_81 : decode cX12_begins 81 = .ok (.aload_n 0, 1) := dk_42 (dk_at dksX12_begins_3 10 rfl rfl)
theorem dX12_begins_82 : decode cX12_begins 82 = .ok (.getfield 76, 3) := dk_180 0 76 (dk_at dksX12_begins_3 11 rfl rfl)
theorem dX12_begins_85 : decode cX12_begins 85 = .ok (.aload_n 0, 1) := dk_42 (dk_at dksX12_begins_3 14 rfl rfl)
theorem dX12_begins_86 : decode cX12_begins 86 = .ok (.getfield 239, 3) := dk_180 0 239 (dk_at dksX12_begins_3 15 rfl rfl)
theorem dX12_begins_89 : decode cX12_begins 89 = .ok (.iaload, 1) := dk_46 (dk_at dksX12_begins_3 18 rfl rfl)
theorem dX12_begins_90 : decode cX12_begins 90 = .ok (.putfield 327, 3) := dk_181 1 71 (dk_at dksX12_begins_3 19 rfl rfl)
theorem dX12_begins_93 : decode cX12_begins 93 = .ok (.return_, 1) := dk_177 (dk_at dksX12_begins_3 22 rfl rfl)
abbrev cX12_keepsRow : ByteArray := prog_22_method_43_code
def yX12_keepsRow : MethodName := ⟨RX12, "keepsRow", "()V"⟩
def dkwX12_keepsRow_1 : List UInt8 := [167, 255, 235, 177]
abbrev dktX12_keepsRow_1 : List UInt8 := dkwX12_keepsRow_1 ++ []
def dkwX12_keepsRow_0 : List UInt8 := [3, 60, 27, 16, 92, 162, 0, 21, 42, 180, 0, 116, 27, 42, 180, 0, 119, 27, 46, 79, 132, 1, 1]
abbrev dktX12_keepsRow_0 : List UInt8 := dkwX12_keepsRow_0 ++ dktX12_keepsRow_1
theorem dksX12_keepsRow_0 : cX12_keepsRow.data.toList.drop 0 = dktX12_keepsRow_0 := by decide +kernel
theorem dksX12_keepsRow_1 : cX12_keepsRow.data.toList.drop 23 = dktX12_keepsRow_1 := dk_seg dksX12_keepsRow_0 23 rfl rfl
theorem dX12_keepsRow_0 : decode cX12_keepsRow 0 = .ok (.iconst 0, 1) := dk_3 (dk_at dksX12_keepsRow_0 0 rfl rfl)
theorem dX12_keepsRow_1 : decode cX12_keepsRow 1 = .ok (.istore_n 1, 1) := dk_60 (dk_at dksX12_keepsRow_0 1 rfl rfl)
theorem dX12_keepsRow_2 : decode cX12_keepsRow 2 = .ok (.iload_n 1, 1) := dk_27 (dk_at dksX12_keepsRow_0 2 rfl rfl)
theorem dX12_keepsRow_3 : decode cX12_keepsRow 3 = .ok (.bipush 92, 2) := dk_16 92 (dk_at dksX12_keepsRow_0 3 rfl rfl)
theorem dX12_keepsRow_5 : decode cX12_keepsRow 5 = .ok (.if_icmp .ge 21, 3) := dk_162 0 21 (dk_at dksX12_keepsRow_0 5 rfl rfl)
theorem dX12_keepsRow_8 : decode cX12_keepsRow 8 = .ok (.aload_n 0, 1) := dk_42 (dk_at dksX12_keepsRow_0 8 rfl rfl)
theorem dX12_keepsRow_9 : decode cX12_keepsRow 9 = .ok (.getfield 116, 3) := dk_180 0 116 (dk_at dksX12_keepsRow_0 9 rfl rfl)
theorem dX12_keepsRow_12 : decode cX12_keepsRow 12 = .ok (.iload_n 1, 1) := dk_27 (dk_at dksX12_keepsRow_0 12 rfl rfl)
theorem dX12_keepsRow_13 : decode cX12_keepsRow 13 = .ok (.aload_n 0, 1) := dk_42 (dk_at dksX12_keepsRow_0 13 rfl rfl)
theorem dX12_keepsRow_14 : decode cX12_keepsRow 14 = .ok (.getfield 119, 3) := dk_180 0 119 (dk_at dksX12_keepsRow_0 14 rfl rfl)
theorem dX12_keepsRow_17 : decode cX12_keepsRow 17 = .ok (.iload_n 1, 1) := dk_27 (dk_at dksX12_keepsRow_0 17 rfl rfl)
theorem dX12_keepsRow_18 : decode cX12_keepsRow 18 = .ok (.iaload, 1) := dk_46 (dk_at dksX12_keepsRow_0 18 rfl rfl)
theorem dX12_keepsRow_19 : decode cX12_keepsRow 19 = .ok (.iastore, 1) := dk_79 (dk_at dksX12_keepsRow_0 19 rfl rfl)
theorem dX12_keepsRow_20 : decode cX12_keepsRow 20 = .ok (.iinc 1 1, 3) := dk_132 1 1 (dk_at dksX12_keepsRow_0 20 rfl rfl)
theorem dX12_keepsRow_23 : decode cX12_keepsRow 23 = .ok (.goto (-21), 3) := dk_167 255 235 (dk_at dksX12_keepsRow_1 0 rfl rfl)
theorem dX12_keepsRow_26 : decode cX12_keepsRow 26 = .ok (.return_, 1) := dk_177 (dk_at dksX12_keepsRow_1 3 rfl rfl)
abbrev cX12_feed : ByteArray := prog_22_method_3_code
def yX12_feed : MethodName := ⟨RX12, "feed", "(IIIII)I"⟩
def dkwX12_feed_2 : List UInt8 := [172]
abbrev dktX12_feed_2 : List UInt8 := dkwX12_feed_2 ++ []
def dkwX12_feed_1 : List UInt8 := [182, 0, 175, 42, 29, 182, 0, 175, 42, 21, 4, 182, 0, 175, 42, 21, 5, 182, 0, 175, 42, 180, 0, 172]
abbrev dktX12_feed_1 : List UInt8 := dkwX12_feed_1 ++ dktX12_feed_2
def dkwX12_feed_0 : List UInt8 := [42, 180, 0, 172, 16, 20, 96, 17, 7, 208, 164, 0, 5, 2, 172, 42, 27, 182, 0, 175, 42, 28]
abbrev dktX12_feed_0 : List UInt8 := dkwX12_feed_0 ++ dktX12_feed_1
theorem dksX12_feed_0 : cX12_feed.data.toList.drop 0 = dktX12_feed_0 := by decide +kernel
theorem dksX12_feed_1 : cX12_feed.data.toList.drop 22 = dktX12_feed_1 := dk_seg dksX12_feed_0 22 rfl rfl
theorem dksX12_feed_2 : cX12_feed.data.toList.drop 46 = dktX12_feed_2 := dk_seg dksX12_feed_1 24 rfl rfl
theorem dX12_feed_0 : decode cX12_feed 0 = .ok (.aload_n 0, 1) := dk_42 (dk_at dksX12_feed_0 0 rfl rfl)
theorem dX12_feed_1 : decode cX12_feed 1 = .ok (.getfield 172, 3) := dk_180 0 172 (dk_at dksX12_feed_0 1 rfl rfl)
theorem dX12_feed_4 : decode cX12_feed 4 = .ok (.bipush 20, 2) := dk_16 20 (dk_at dksX12_feed_0 4 rfl rfl)
theorem dX12_feed_6 : decode cX12_feed 6 = .ok (.iadd, 1) := dk_96 (dk_at dksX12_feed_0 6 rfl rfl)
theorem dX12_feed_7 : decode cX12_feed 7 = .ok (.sipush 2000, 3) := dk_17 7 208 (dk_at dksX12_feed_0 7 rfl rfl)
theorem dX12_feed_10 : decode cX12_feed 10 = .ok (.if_icmp .le 5, 3) := dk_164 0 5 (dk_at dksX12_feed_0 10 rfl rfl)
theorem dX12_feed_13 : decode cX12_feed 13 = .ok (.iconst (-1), 1) := dk_2 (dk_at dksX12_feed_0 13 rfl rfl)
theorem dX12_feed_14 : decode cX12_feed 14 = .ok (.ireturn, 1) := dk_172 (dk_at dksX12_feed_0 14 rfl rfl)
theorem dX12_feed_15 : decode cX12_feed 15 = .ok (.aload_n 0, 1) := dk_42 (dk_at dksX12_feed_0 15 rfl rfl)
theorem dX12_feed_16 : decode cX12_feed 16 = .ok (.iload_n 1, 1) := dk_27 (dk_at dksX12_feed_0 16 rfl rfl)
theorem dX12_feed_17 : decode cX12_feed 17 = .ok (.invokevirtual 175, 3) := dk_182 0 175 (dk_at dksX12_feed_0 17 rfl rfl)
theorem dX12_feed_20 : decode cX12_feed 20 = .ok (.aload_n 0, 1) := dk_42 (dk_at dksX12_feed_0 20 rfl rfl)
theorem dX12_feed_21 : decode cX12_feed 21 = .ok (.iload_n 2, 1) := dk_28 (dk_at dksX12_feed_0 21 rfl rfl)
theorem dX12_feed_22 : decode cX12_feed 22 = .ok (.invokevirtual 175, 3) := dk_182 0 175 (dk_at dksX12_feed_1 0 rfl rfl)
theorem dX12_feed_25 : decode cX12_feed 25 = .ok (.aload_n 0, 1) := dk_42 (dk_at dksX12_feed_1 3 rfl rfl)
theorem dX12_feed_26 : decode cX12_feed 26 = .ok (.iload_n 3, 1) := dk_29 (dk_at dksX12_feed_1 4 rfl rfl)
theorem dX12_feed_27 : decode cX12_feed 27 = .ok (.invokevirtual 175, 3) := dk_182 0 175 (dk_at dksX12_feed_1 5 rfl rfl)
theorem dX12_feed_30 : decode cX12_feed 30 = .ok (.aload_n 0, 1) := dk_42 (dk_at dksX12_feed_1 8 rfl rfl)
theorem dX12_feed_31 : decode cX12_feed 31 = .ok (.iload 4, 2) := dk_21 4 (dk_at dksX12_feed_1 9 rfl rfl)
theorem dX12_feed_33 : decode cX12_feed 33 = .ok (.invokevirtual 175, 3) := dk_182 0 175 (dk_at dksX12_feed_1 11 rfl rfl)
theorem dX12_feed_36 : decode cX12_feed 36 = .ok (.aload_n 0, 1) := dk_42 (dk_at dksX12_feed_1 14 rfl rfl)
theorem dX12_feed_37 : decode cX12_feed 37 = .ok (.iload 5, 2) := dk_21 5 (dk_at dksX12_feed_1 15 rfl rfl)
theorem dX12_feed_39 : decode cX12_feed 39 = .ok (.invokevirtual 175, 3) := dk_182 0 175 (dk_at dksX12_feed_1 17 rfl rfl)
theorem dX12_feed_42 : decode cX12_feed 42 = .ok (.aload_n 0, 1) := dk_42 (dk_at dksX12_feed_1 20 rfl rfl)
theorem dX12_feed_43 : decode cX12_feed 43 = .ok (.getfield 172, 3) := dk_180 0 172 (dk_at dksX12_feed_1 21 rfl rfl)
theorem dX12_feed_46 : decode cX12_feed 46 = .ok (.ireturn, 1) := dk_172 (dk_at dksX12_feed_2 0 rfl rfl)
abbrev cX12_put : ByteArray := prog_22_method_4_code
def yX12_put : MethodName := ⟨RX12, "put", "(I)V"⟩
def dkwX12_put_1 : List UInt8 := [180, 0, 172, 4, 96, 181, 0, 172, 132, 2, 248, 167, 255, 226, 177]
abbrev dktX12_put_1 : List UInt8 := dkwX12_put_1 ++ []
def dkwX12_put_0 : List UInt8 := [16, 24, 61, 28, 155, 0, 32, 42, 180, 0, 13, 42, 180, 0, 172, 27, 28, 122, 145, 84, 42, 89]
abbrev dktX12_put_0 : List UInt8 := dkwX12_put_0 ++ dktX12_put_1
theorem dksX12_put_0 : cX12_put.data.toList.drop 0 = dktX12_put_0 := by decide +kernel
theorem dksX12_put_1 : cX12_put.data.toList.drop 22 = dktX12_put_1 := dk_seg dksX12_put_0 22 rfl rfl
theorem dX12_put_0 : decode cX12_put 0 = .ok (.bipush 24, 2) := dk_16 24 (dk_at dksX12_put_0 0 rfl rfl)
theorem dX12_put_2 : decode cX12_put 2 = .ok (.istore_n 2, 1) := dk_61 (dk_at dksX12_put_0 2 rfl rfl)
theorem dX12_put_3 : decode cX12_put 3 = .ok (.iload_n 2, 1) := dk_28 (dk_at dksX12_put_0 3 rfl rfl)
theorem dX12_put_4 : decode cX12_put 4 = .ok (.ifCond .lt 32, 3) := dk_155 0 32 (dk_at dksX12_put_0 4 rfl rfl)
theorem dX12_put_7 : decode cX12_put 7 = .ok (.aload_n 0, 1) := dk_42 (dk_at dksX12_put_0 7 rfl rfl)
theorem dX12_put_8 : decode cX12_put 8 = .ok (.getfield 13, 3) := dk_180 0 13 (dk_at dksX12_put_0 8 rfl rfl)
theorem dX12_put_11 : decode cX12_put 11 = .ok (.aload_n 0, 1) := dk_42 (dk_at dksX12_put_0 11 rfl rfl)
theorem dX12_put_12 : decode cX12_put 12 = .ok (.getfield 172, 3) := dk_180 0 172 (dk_at dksX12_put_0 12 rfl rfl)
theorem dX12_put_15 : decode cX12_put 15 = .ok (.iload_n 1, 1) := dk_27 (dk_at dksX12_put_0 15 rfl rfl)
theorem dX12_put_16 : decode cX12_put 16 = .ok (.iload_n 2, 1) := dk_28 (dk_at dksX12_put_0 16 rfl rfl)
theorem dX12_put_17 : decode cX12_put 17 = .ok (.ishr, 1) := dk_122 (dk_at dksX12_put_0 17 rfl rfl)
theorem dX12_put_18 : decode cX12_put 18 = .ok (.i2b, 1) := dk_145 (dk_at dksX12_put_0 18 rfl rfl)
theorem dX12_put_19 : decode cX12_put 19 = .ok (.bastore, 1) := dk_84 (dk_at dksX12_put_0 19 rfl rfl)
theorem dX12_put_20 : decode cX12_put 20 = .ok (.aload_n 0, 1) := dk_42 (dk_at dksX12_put_0 20 rfl rfl)
theorem dX12_put_21 : decode cX12_put 21 = .ok (.dup, 1) := dk_89 (dk_at dksX12_put_0 21 rfl rfl)
theorem dX12_put_22 : decode cX12_put 22 = .ok (.getfield 172, 3) := dk_180 0 172 (dk_at dksX12_put_1 0 rfl rfl)
theorem dX12_put_25 : decode cX12_put 25 = .ok (.iconst 1, 1) := dk_4 (dk_at dksX12_put_1 3 rfl rfl)
theorem dX12_put_26 : decode cX12_put 26 = .ok (.iadd, 1) := dk_96 (dk_at dksX12_put_1 4 rfl rfl)
theorem dX12_put_27 : decode cX12_put 27 = .ok (.putfield 172, 3) := dk_181 0 172 (dk_at dksX12_put_1 5 rfl rfl)
theorem dX12_put_30 : decode cX12_put 30 = .ok (.iinc 2 (-8), 3) := dk_132 2 248 (dk_at dksX12_put_1 8 rfl rfl)
theorem dX12_put_33 : decode cX12_put 33 = .ok (.goto (-30), 3) := dk_167 255 226 (dk_at dksX12_put_1 11 rfl rfl)
theorem dX12_put_36 : decode cX12_put 36 = .ok (.return_, 1) := dk_177 (dk_at dksX12_put_1 14 rfl rfl)
abbrev cX12_back : ByteArray := prog_22_method_5_code
def yX12_back : MethodName := ⟨RX12, "back", "(I)I"⟩
def dkwX12_back_1 : List UInt8 := [42, 180, 0, 172, 172]
abbrev dktX12_back_1 : List UInt8 := dkwX12_back_1 ++ []
def dkwX12_back_0 : List UInt8 := [27, 155, 0, 11, 27, 42, 180, 0, 172, 164, 0, 5, 2, 172, 42, 89, 180, 0, 172, 27, 100, 181, 0, 172]
abbrev dktX12_back_0 : List UInt8 := dkwX12_back_0 ++ dktX12_back_1
theorem dksX12_back_0 : cX12_back.data.toList.drop 0 = dktX12_back_0 := by decide +kernel
theorem dksX12_back_1 : cX12_back.data.toList.drop 24 = dktX12_back_1 := dk_seg dksX12_back_0 24 rfl rfl
theorem dX12_back_0 : decode cX12_back 0 = .ok (.iload_n 1, 1) := dk_27 (dk_at dksX12_back_0 0 rfl rfl)
theorem dX12_back_1 : decode cX12_back 1 = .ok (.ifCond .lt 11, 3) := dk_155 0 11 (dk_at dksX12_back_0 1 rfl rfl)
theorem dX12_back_4 : decode cX12_back 4 = .ok (.iload_n 1, 1) := dk_27 (dk_at dksX12_back_0 4 rfl rfl)
theorem dX12_back_5 : decode cX12_back 5 = .ok (.aload_n 0, 1) := dk_42 (dk_at dksX12_back_0 5 rfl rfl)
theorem dX12_back_6 : decode cX12_back 6 = .ok (.getfield 172, 3) := dk_180 0 172 (dk_at dksX12_back_0 6 rfl rfl)
theorem dX12_back_9 : decode cX12_back 9 = .ok (.if_icmp .le 5, 3) := dk_164 0 5 (dk_at dksX12_back_0 9 rfl rfl)
theorem dX12_back_12 : decode cX12_back 12 = .ok (.iconst (-1), 1) := dk_2 (dk_at dksX12_back_0 12 rfl rfl)
theorem dX12_back_13 : decode cX12_back 13 = .ok (.ireturn, 1) := dk_172 (dk_at dksX12_back_0 13 rfl rfl)
theorem dX12_back_14 : decode cX12_back 14 = .ok (.aload_n 0, 1) := dk_42 (dk_at dksX12_back_0 14 rfl rfl)
theorem dX12_back_15 : decode cX12_back 15 = .ok (.dup, 1) := dk_89 (dk_at dksX12_back_0 15 rfl rfl)
theorem dX12_back_16 : decode cX12_back 16 = .ok (.getfield 172, 3) := dk_180 0 172 (dk_at dksX12_back_0 16 rfl rfl)
theorem dX12_back_19 : decode cX12_back 19 = .ok (.iload_n 1, 1) := dk_27 (dk_at dksX12_back_0 19 rfl rfl)
theorem dX12_back_20 : decode cX12_back 20 = .ok (.isub, 1) := dk_100 (dk_at dksX12_back_0 20 rfl rfl)
theorem dX12_back_21 : decode cX12_back 21 = .ok (.putfield 172, 3) := dk_181 0 172 (dk_at dksX12_back_0 21 rfl rfl)
theorem dX12_back_24 : decode cX12_back 24 = .ok (.aload_n 0, 1) := dk_42 (dk_at dksX12_back_1 0 rfl rfl)
theorem dX12_back_25 : decode cX12_back 25 = .ok (.getfield 172, 3) := dk_180 0 172 (dk_at dksX12_back_1 1 rfl rfl)
theorem dX12_back_28 : decode cX12_back 28 = .ok (.ireturn, 1) := dk_172 (dk_at dksX12_back_1 4 rfl rfl)
abbrev cX12_read : ByteArray := prog_22_method_20_code
def yX12_read : MethodName := ⟨RX12, "read", "()I"⟩
def dkwX12_read_11 : List UInt8 := [132, 1, 1, 167, 255, 241, 3, 172]
abbrev dktX12_read_11 : List UInt8 := dkwX12_read_11 ++ []
def dkwX12_read_10 : List UInt8 := [42, 3, 181, 1, 9, 42, 3, 181, 1, 12, 3, 60, 27, 6, 162, 0, 16, 42, 180, 0, 152, 27, 3, 84]
abbrev dktX12_read_10 : List UInt8 := dkwX12_read_10 ++ dktX12_read_11
def dkwX12_read_9 : List UInt8 := [158, 0, 8, 42, 180, 0, 218, 172, 42, 42, 180, 0, 242, 181, 0, 239, 42, 182, 0, 166, 42, 182, 0, 169]
abbrev dktX12_read_9 : List UInt8 := dkwX12_read_9 ++ dktX12_read_10
def dkwX12_read_8 : List UInt8 := [167, 0, 4, 2, 181, 0, 37, 42, 180, 0, 209, 158, 0, 8, 42, 180, 0, 209, 172, 42, 180, 0, 218]
abbrev dktX12_read_8 : List UInt8 := dkwX12_read_8 ++ dktX12_read_9
def dkwX12_read_7 : List UInt8 := [180, 0, 209, 158, 0, 10, 42, 180, 0, 215, 167, 0, 18, 42, 180, 0, 218, 158, 0, 10, 42, 180, 0, 221]
abbrev dktX12_read_7 : List UInt8 := dkwX12_read_7 ++ dktX12_read_8
def dkwX12_read_6 : List UInt8 := [154, 0, 20, 42, 182, 1, 1, 154, 0, 13, 42, 16, 6, 42, 180, 0, 212, 182, 1, 5, 42, 42]
abbrev dktX12_read_6 : List UInt8 := dkwX12_read_6 ++ dktX12_read_7
def dkwX12_read_5 : List UInt8 := [154, 0, 18, 42, 3, 182, 0, 227, 154, 0, 10, 42, 182, 0, 254, 167, 255, 237, 42, 180, 0, 209]
abbrev dktX12_read_5 : List UInt8 := dkwX12_read_5 ++ dktX12_read_6
def dkwX12_read_4 : List UInt8 := [180, 0, 242, 104, 181, 0, 248, 42, 17, 1, 164, 42, 180, 0, 242, 104, 181, 0, 251, 42, 180, 0, 209]
abbrev dktX12_read_4 : List UInt8 := dkwX12_read_4 ++ dktX12_read_5
def dkwX12_read_3 : List UInt8 := [100, 181, 0, 242, 42, 3, 181, 0, 245, 42, 42, 180, 0, 242, 182, 0, 158, 42, 17, 0, 130, 42]
abbrev dktX12_read_3 : List UInt8 := dkwX12_read_3 ++ dktX12_read_4
def dkwX12_read_2 : List UInt8 := [181, 0, 212, 42, 3, 181, 0, 236, 42, 3, 181, 0, 209, 42, 3, 181, 0, 218, 42, 4, 42, 180, 0, 239]
abbrev dktX12_read_2 : List UInt8 := dkwX12_read_2 ++ dktX12_read_3
def dkwX12_read_1 : List UInt8 := [180, 0, 13, 27, 51, 84, 132, 1, 1, 167, 255, 233, 42, 3, 181, 0, 172, 42, 182, 0, 233, 42, 3]
abbrev dktX12_read_1 : List UInt8 := dkwX12_read_1 ++ dktX12_read_2
def dkwX12_read_0 : List UInt8 := [42, 42, 180, 0, 172, 181, 0, 178, 3, 60, 27, 42, 180, 0, 178, 162, 0, 21, 42, 180, 0, 17, 27, 42]
abbrev dktX12_read_0 : List UInt8 := dkwX12_read_0 ++ dktX12_read_1
theorem dksX12_read_0 : cX12_read.data.toList.drop 0 = dktX12_read_0 := by decide +kernel
theorem dksX12_read_1 : cX12_read.data.toList.drop 24 = dktX12_read_1 := dk_seg dksX12_read_0 24 rfl rfl
theorem dksX12_read_2 : cX12_read.data.toList.drop 47 = dktX12_read_2 := dk_seg dksX12_read_1 23 rfl rfl
theorem dksX12_read_3 : cX12_read.data.toList.drop 71 = dktX12_read_3 := dk_seg dksX12_read_2 24 rfl rfl
theorem dksX12_read_4 : cX12_read.data.toList.drop 93 = dktX12_read_4 := dk_seg dksX12_read_3 22 rfl rfl
theorem dksX12_read_5 : cX12_read.data.toList.drop 116 = dktX12_read_5 := dk_seg dksX12_read_4 23 rfl rfl
theorem dksX12_read_6 : cX12_read.data.toList.drop 138 = dktX12_read_6 := dk_seg dksX12_read_5 22 rfl rfl
theorem dksX12_read_7 : cX12_read.data.toList.drop 160 = dktX12_read_7 := dk_seg dksX12_read_6 22 rfl rfl
theorem dksX12_read_8 : cX12_read.data.toList.drop 184 = dktX12_read_8 := dk_seg dksX12_read_7 24 rfl rfl
theorem dksX12_read_9 : cX12_read.data.toList.drop 207 = dktX12_read_9 := dk_seg dksX12_read_8 23 rfl rfl
theorem dksX12_read_10 : cX12_read.data.toList.drop 231 = dktX12_read_10 := dk_seg dksX12_read_9 24 rfl rfl
theorem dksX12_read_11 : cX12_read.data.toList.drop 255 = dktX12_read_11 := dk_seg dksX12_read_10 24 rfl rfl
theorem dX12_read_0 : decode cX12_read 0 = .ok (.aload_n 0, 1) := dk_42 (dk_at dksX12_read_0 0 rfl rfl)
theorem dX12_read_1 : decode cX12_read 1 = .ok (.aload_n 0, 1) := dk_42 (dk_at dksX12_read_0 1 rfl rfl)
theorem dX12_read_2 : decode cX12_read 2 = .ok (.getfield 172, 3) := dk_180 0 172 (dk_at dksX12_read_0 2 rfl rfl)
theorem dX12_read_5 : decode cX12_read 5 = .ok (.putfield 178, 3) := dk_181 0 178 (dk_at dksX12_read_0 5 rfl rfl)
theorem dX12_read_8 : decode cX12_read 8 = .ok (.iconst 0, 1) := dk_3 (dk_at dksX12_read_0 8 rfl rfl)
theorem dX12_read_9 : decode cX12_read 9 = .ok (.istore_n 1, 1) := dk_60 (dk_at dksX12_read_0 9 rfl rfl)
theorem dX12_read_10 : decode cX12_read 10 = .ok (.iload_n 1, 1) := dk_27 (dk_at dksX12_read_0 10 rfl rfl)
theorem dX12_read_11 : decode cX12_read 11 = .ok (.aload_n 0, 1) := dk_42 (dk_at dksX12_read_0 11 rfl rfl)
theorem dX12_read_12 : decode cX12_read 12 = .ok (.getfield 178, 3) := dk_180 0 178 (dk_at dksX12_read_0 12 rfl rfl)
theorem dX12_read_15 : decode cX12_read 15 = .ok (.if_icmp .ge 21, 3) := dk_162 0 21 (dk_at dksX12_read_0 15 rfl rfl)
theorem dX12_read_18 : decode cX12_read 18 = .ok (.aload_n 0, 1) := dk_42 (dk_at dksX12_read_0 18 rfl rfl)
theorem dX12_read_19 : decode cX12_read 19 = .ok (.getfield 17, 3) := dk_180 0 17 (dk_at dksX12_read_0 19 rfl rfl)
theorem dX12_read_22 : decode cX12_read 22 = .ok (.iload_n 1, 1) := dk_27 (dk_at dksX12_read_0 22 rfl rfl)
theorem dX12_read_23 : decode cX12_read 23 = .ok (.aload_n 0, 1) := dk_42 (dk_at dksX12_read_0 23 rfl rfl)
theorem dX12_read_24 : decode cX12_read 24 = .ok (.getfield 13, 3) := dk_180 0 13 (dk_at dksX12_read_1 0 rfl rfl)
theorem dX12_read_27 : decode cX12_read 27 = .ok (.iload_n 1, 1) := dk_27 (dk_at dksX12_read_1 3 rfl rfl)
theorem dX12_read_28 : decode cX12_read 28 = .ok (.baload, 1) := dk_51 (dk_at dksX12_read_1 4 rfl rfl)
theorem dX12_read_29 : decode cX12_read 29 = .ok (.bastore, 1) := dk_84 (dk_at dksX12_read_1 5 rfl rfl)
theorem dX12_read_30 : decode cX12_read 30 = .ok (.iinc 1 1, 3) := dk_132 1 1 (dk_at dksX12_read_1 6 rfl rfl)
theorem dX12_read_33 : decode cX12_read 33 = .ok (.goto (-23), 3) := dk_167 255 233 (dk_at dksX12_read_1 9 rfl rfl)
theorem dX12_read_36 : decode cX12_read 36 = .ok (.aload_n 0, 1) := dk_42 (dk_at dksX12_read_1 12 rfl rfl)
theorem dX12_read_37 : decode cX12_read 37 = .ok (.iconst 0, 1) := dk_3 (dk_at dksX12_read_1 13 rfl rfl)
theorem dX12_read_38 : decode cX12_read 38 = .ok (.putfield 172, 3) := dk_181 0 172 (dk_at dksX12_read_1 14 rfl rfl)
theorem dX12_read_41 : decode cX12_read 41 = .ok (.aload_n 0, 1) := dk_42 (dk_at dksX12_read_1 17 rfl rfl)
theorem dX12_read_42 : decode cX12_read 42 = .ok (.invokevirtual 233, 3) := dk_182 0 233 (dk_at dksX12_read_1 18 rfl rfl)
theorem dX12_read_45 : decode cX12_read 45 = .ok (.aload_n 0, 1) := dk_42 (dk_at dksX12_read_1 21 rfl rfl)
theorem dX12_read_46 : decode cX12_read 46 = .ok (.iconst 0, 1) := dk_3 (dk_at dksX12_read_1 22 rfl rfl)
theorem dX12_read_47 : decode cX12_read 47 = .ok (.putfield 212, 3) := dk_181 0 212 (dk_at dksX12_read_2 0 rfl rfl)
theorem dX12_read_50 : decode cX12_read 50 = .ok (.aload_n 0, 1) := dk_42 (dk_at dksX12_read_2 3 rfl rfl)
theorem dX12_read_51 : decode cX12_read 51 = .ok (.iconst 0, 1) := dk_3 (dk_at dksX12_read_2 4 rfl rfl)
theorem dX12_read_52 : decode cX12_read 52 = .ok (.putfield 236, 3) := dk_181 0 236 (dk_at dksX12_read_2 5 rfl rfl)
theorem dX12_read_55 : decode cX12_read 55 = .ok (.aload_n 0, 1) := dk_42 (dk_at dksX12_read_2 8 rfl rfl)
theorem dX12_read_56 : decode cX12_read 56 = .ok (.iconst 0, 1) := dk_3 (dk_at dksX12_read_2 9 rfl rfl)
theorem dX12_read_57 : decode cX12_read 57 = .ok (.putfield 209, 3) := dk_181 0 209 (dk_at dksX12_read_2 10 rfl rfl)
theorem dX12_read_60 : decode cX12_read 60 = .ok (.aload_n 0, 1) := dk_42 (dk_at dksX12_read_2 13 rfl rfl)
theorem dX12_read_61 : decode cX12_read 61 = .ok (.iconst 0, 1) := dk_3 (dk_at dksX12_read_2 14 rfl rfl)
theorem dX12_read_62 : decode cX12_read 62 = .ok (.putfield 218, 3) := dk_181 0 218 (dk_at dksX12_read_2 15 rfl rfl)
theorem dX12_read_65 : decode cX12_read 65 = .ok (.aload_n 0, 1) := dk_42 (dk_at dksX12_read_2 18 rfl rfl)
theorem dX12_read_66 : decode cX12_read 66 = .ok (.iconst 1, 1) := dk_4 (dk_at dksX12_read_2 19 rfl rfl)
theorem dX12_read_67 : decode cX12_read 67 = .ok (.aload_n 0, 1) := dk_42 (dk_at dksX12_read_2 20 rfl rfl)
theorem dX12_read_68 : decode cX12_read 68 = .ok (.getfield 239, 3) := dk_180 0 239 (dk_at dksX12_read_2 21 rfl rfl)
theorem dX12_read_71 : decode cX12_read 71 = .ok (.isub, 1) := dk_100 (dk_at dksX12_read_3 0 rfl rfl)
theorem dX12_read_72 : decode cX12_read 72 = .ok (.putfield 242, 3) := dk_181 0 242 (dk_at dksX12_read_3 1 rfl rfl)
theorem dX12_read_75 : decode cX12_read 75 = .ok (.aload_n 0, 1) := dk_42 (dk_at dksX12_read_3 4 rfl rfl)
theorem dX12_read_76 : decode cX12_read 76 = .ok (.iconst 0, 1) := dk_3 (dk_at dksX12_read_3 5 rfl rfl)
theorem dX12_read_77 : decode cX12_read 77 = .ok (.putfield 245, 3) := dk_181 0 245 (dk_at dksX12_read_3 6 rfl rfl)
theorem dX12_read_80 : decode cX12_read 80 = .ok (.aload_n 0, 1) := dk_42 (dk_at dksX12_read_3 9 rfl rfl)
theorem dX12_read_81 : decode cX12_read 81 = .ok (.aload_n 0, 1) := dk_42 (dk_at dksX12_read_3 10 rfl rfl)
theorem dX12_read_82 : decode cX12_read 82 = .ok (.getfield 242, 3) := dk_180 0 242 (dk_at dksX12_read_3 11 rfl rfl)
theorem dX12_read_85 : decode cX12_read 85 = .ok (.invokevirtual 158, 3) := dk_182 0 158 (dk_at dksX12_read_3 14 rfl rfl)
theorem dX12_read_88 : decode cX12_read 88 = .ok (.aload_n 0, 1) := dk_42 (dk_at dksX12_read_3 17 rfl rfl)
theorem dX12_read_89 : decode cX12_read 89 = .ok (.sipush 130, 3) := dk_17 0 130 (dk_at dksX12_read_3 18 rfl rfl)
theorem dX12_read_92 : decode cX12_read 92 = .ok (.aload_n 0, 1) := dk_42 (dk_at dksX12_read_3 21 rfl rfl)
theorem dX12_read_93 : decode cX12_read 93 = .ok (.getfield 242, 3) := dk_180 0 242 (dk_at dksX12_read_4 0 rfl rfl)
theorem dX12_read_96 : decode cX12_read 96 = .ok (.imul, 1) := dk_104 (dk_at dksX12_read_4 3 rfl rfl)
theorem dX12_read_97 : decode cX12_read 97 = .ok (.putfield 248, 3) := dk_181 0 248 (dk_at dksX12_read_4 4 rfl rfl)
theorem dX12_read_100 : decode cX12_read 100 = .ok (.aload_n 0, 1) := dk_42 (dk_at dksX12_read_4 7 rfl rfl)
theorem dX12_read_101 : decode cX12_read 101 = .ok (.sipush 420, 3) := dk_17 1 164 (dk_at dksX12_read_4 8 rfl rfl)
theorem dX12_read_104 : decode cX12_read 104 = .ok (.aload_n 0, 1) := dk_42 (dk_at dksX12_read_4 11 rfl rfl)
theorem dX12_read_105 : decode cX12_read 105 = .ok (.getfield 242, 3) := dk_180 0 242 (dk_at dksX12_read_4 12 rfl rfl)
theorem dX12_read_108 : decode cX12_read 108 = .ok (.imul, 1) := dk_104 (dk_at dksX12_read_4 15 rfl rfl)
theorem dX12_read_109 : decode cX12_read 109 = .ok (.putfield 251, 3) := dk_181 0 251 (dk_at dksX12_read_4 16 rfl rfl)
theorem dX12_read_112 : decode cX12_read 112 = .ok (.aload_n 0, 1) := dk_42 (dk_at dksX12_read_4 19 rfl rfl)
theorem dX12_read_113 : decode cX12_read 113 = .ok (.getfield 209, 3) := dk_180 0 209 (dk_at dksX12_read_4 20 rfl rfl)
theorem dX12_read_116 : decode cX12_read 116 = .ok (.ifCond .ne 18, 3) := dk_154 0 18 (dk_at dksX12_read_5 0 rfl rfl)
theorem dX12_read_119 : decode cX12_read 119 = .ok (.aload_n 0, 1) := dk_42 (dk_at dksX12_read_5 3 rfl rfl)
theorem dX12_read_120 : decode cX12_read 120 = .ok (.iconst 0, 1) := dk_3 (dk_at dksX12_read_5 4 rfl rfl)
theorem dX12_read_121 : decode cX12_read 121 = .ok (.invokevirtual 227, 3) := dk_182 0 227 (dk_at dksX12_read_5 5 rfl rfl)
theorem dX12_read_124 : decode cX12_read 124 = .ok (.ifCond .ne 10, 3) := dk_154 0 10 (dk_at dksX12_read_5 8 rfl rfl)
theorem dX12_read_127 : decode cX12_read 127 = .ok (.aload_n 0, 1) := dk_42 (dk_at dksX12_read_5 11 rfl rfl)
theorem dX12_read_128 : decode cX12_read 128 = .ok (.invokevirtual 254, 3) := dk_182 0 254 (dk_at dksX12_read_5 12 rfl rfl)
theorem dX12_read_131 : decode cX12_read 131 = .ok (.goto (-19), 3) := dk_167 255 237 (dk_at dksX12_read_5 15 rfl rfl)
theorem dX12_read_134 : decode cX12_read 134 = .ok (.aload_n 0, 1) := dk_42 (dk_at dksX12_read_5 18 rfl rfl)
theorem dX12_read_135 : decode cX12_read 135 = .ok (.getfield 209, 3) := dk_180 0 209 (dk_at dksX12_read_5 19 rfl rfl)
theorem dX12_read_138 : decode cX12_read 138 = .ok (.ifCond .ne 20, 3) := dk_154 0 20 (dk_at dksX12_read_6 0 rfl rfl)
theorem dX12_read_141 : decode cX12_read 141 = .ok (.aload_n 0, 1) := dk_42 (dk_at dksX12_read_6 3 rfl rfl)
theorem dX12_read_142 : decode cX12_read 142 = .ok (.invokevirtual 257, 3) := dk_182 1 1 (dk_at dksX12_read_6 4 rfl rfl)
theorem dX12_read_145 : decode cX12_read 145 = .ok (.ifCond .ne 13, 3) := dk_154 0 13 (dk_at dksX12_read_6 7 rfl rfl)
theorem dX12_read_148 : decode cX12_read 148 = .ok (.aload_n 0, 1) := dk_42 (dk_at dksX12_read_6 10 rfl rfl)
theorem dX12_read_149 : decode cX12_read 149 = .ok (.bipush 6, 2) := dk_16 6 (dk_at dksX12_read_6 11 rfl rfl)
theorem dX12_read_151 : decode cX12_read 151 = .ok (.aload_n 0, 1) := dk_42 (dk_at dksX12_read_6 13 rfl rfl)
theorem dX12_read_152 : decode cX12_read 152 = .ok (.getfield 212, 3) := dk_180 0 212 (dk_at dksX12_read_6 14 rfl rfl)
theorem dX12_read_155 : decode cX12_read 155 = .ok (.invokevirtual 261, 3) := dk_182 1 5 (dk_at dksX12_read_6 17 rfl rfl)
theorem dX12_read_158 : decode cX12_read 158 = .ok (.aload_n 0, 1) := dk_42 (dk_at dksX12_read_6 20 rfl rfl)
theorem dX12_read_159 : decode cX12_read 159 = .ok (.aload_n 0, 1) := dk_42 (dk_at dksX12_read_6 21 rfl rfl)
theorem dX12_read_160 : decode cX12_read 160 = .ok (.getfield 209, 3) := dk_180 0 209 (dk_at dksX12_read_7 0 rfl rfl)
theorem dX12_read_163 : decode cX12_read 163 = .ok (.ifCond .le 10, 3) := dk_158 0 10 (dk_at dksX12_read_7 3 rfl rfl)
theorem dX12_read_166 : decode cX12_read 166 = .ok (.aload_n 0, 1) := dk_42 (dk_at dksX12_read_7 6 rfl rfl)
theorem dX12_read_167 : decode cX12_read 167 = .ok (.getfield 215, 3) := dk_180 0 215 (dk_at dksX12_read_7 7 rfl rfl)
theorem dX12_read_170 : decode cX12_read 170 = .ok (.goto 18, 3) := dk_167 0 18 (dk_at dksX12_read_7 10 rfl rfl)
theorem dX12_read_173 : decode cX12_read 173 = .ok (.aload_n 0, 1) := dk_42 (dk_at dksX12_read_7 13 rfl rfl)
theorem dX12_read_174 : decode cX12_read 174 = .ok (.getfield 218, 3) := dk_180 0 218 (dk_at dksX12_read_7 14 rfl rfl)
theorem dX12_read_177 : decode cX12_read 177 = .ok (.ifCond .le 10, 3) := dk_158 0 10 (dk_at dksX12_read_7 17 rfl rfl)
theorem dX12_read_180 : decode cX12_read 180 = .ok (.aload_n 0, 1) := dk_42 (dk_at dksX12_read_7 20 rfl rfl)
theorem dX12_read_181 : decode cX12_read 181 = .ok (.getfield 221, 3) := dk_180 0 221 (dk_at dksX12_read_7 21 rfl rfl)
theorem dX12_read_184 : decode cX12_read 184 = .ok (.goto 4, 3) := dk_167 0 4 (dk_at dksX12_read_8 0 rfl rfl)
theorem dX12_read_187 : decode cX12_read 187 = .ok (.iconst (-1), 1) := dk_2 (dk_at dksX12_read_8 3 rfl rfl)
theorem dX12_read_188 : decode cX12_read 188 = .ok (.putfield 37, 3) := dk_181 0 37 (dk_at dksX12_read_8 4 rfl rfl)
theorem dX12_read_191 : decode cX12_read 191 = .ok (.aload_n 0, 1) := dk_42 (dk_at dksX12_read_8 7 rfl rfl)
theorem dX12_read_192 : decode cX12_read 192 = .ok (.getfield 209, 3) := dk_180 0 209 (dk_at dksX12_read_8 8 rfl rfl)
theorem dX12_read_195 : decode cX12_read 195 = .ok (.ifCond .le 8, 3) := dk_158 0 8 (dk_at dksX12_read_8 11 rfl rfl)
theorem dX12_read_198 : decode cX12_read 198 = .ok (.aload_n 0, 1) := dk_42 (dk_at dksX12_read_8 14 rfl rfl)
theorem dX12_read_199 : decode cX12_read 199 = .ok (.getfield 209, 3) := dk_180 0 209 (dk_at dksX12_read_8 15 rfl rfl)
theorem dX12_read_202 : decode cX12_read 202 = .ok (.ireturn, 1) := dk_172 (dk_at dksX12_read_8 18 rfl rfl)
theorem dX12_read_203 : decode cX12_read 203 = .ok (.aload_n 0, 1) := dk_42 (dk_at dksX12_read_8 19 rfl rfl)
theorem dX12_read_204 : decode cX12_read 204 = .ok (.getfield 218, 3) := dk_180 0 218 (dk_at dksX12_read_8 20 rfl rfl)
theorem dX12_read_207 : decode cX12_read 207 = .ok (.ifCond .le 8, 3) := dk_158 0 8 (dk_at dksX12_read_9 0 rfl rfl)
theorem dX12_read_210 : decode cX12_read 210 = .ok (.aload_n 0, 1) := dk_42 (dk_at dksX12_read_9 3 rfl rfl)
theorem dX12_read_211 : decode cX12_read 211 = .ok (.getfield 218, 3) := dk_180 0 218 (dk_at dksX12_read_9 4 rfl rfl)
theorem dX12_read_214 : decode cX12_read 214 = .ok (.ireturn, 1) := dk_172 (dk_at dksX12_read_9 7 rfl rfl)
theorem dX12_read_215 : decode cX12_read 215 = .ok (.aload_n 0, 1) := dk_42 (dk_at dksX12_read_9 8 rfl rfl)
theorem dX12_read_216 : decode cX12_read 216 = .ok (.aload_n 0, 1) := dk_42 (dk_at dksX12_read_9 9 rfl rfl)
theorem dX12_read_217 : decode cX12_read 217 = .ok (.getfield 242, 3) := dk_180 0 242 (dk_at dksX12_read_9 10 rfl rfl)
theorem dX12_read_220 : decode cX12_read 220 = .ok (.putfield 239, 3) := dk_181 0 239 (dk_at dksX12_read_9 13 rfl rfl)
theorem dX12_read_223 : decode cX12_read 223 = .ok (.aload_n 0, 1) := dk_42 (dk_at dksX12_read_9 16 rfl rfl)
theorem dX12_read_224 : decode cX12_read 224 = .ok (.invokevirtual 166, 3) := dk_182 0 166 (dk_at dksX12_read_9 17 rfl rfl)
theorem dX12_read_227 : decode cX12_read 227 = .ok (.aload_n 0, 1) := dk_42 (dk_at dksX12_read_9 20 rfl rfl)
theorem dX12_read_228 : decode cX12_read 228 = .ok (.invokevirtual 169, 3) := dk_182 0 169 (dk_at dksX12_read_9 21 rfl rfl)
theorem dX12_read_231 : decode cX12_read 231 = .ok (.aload_n 0, 1) := dk_42 (dk_at dksX12_read_10 0 rfl rfl)
theorem dX12_read_232 : decode cX12_read 232 = .ok (.iconst 0, 1) := dk_3 (dk_at dksX12_read_10 1 rfl rfl)
theorem dX12_read_233 : decode cX12_read 233 = .ok (.putfield 265, 3) := dk_181 1 9 (dk_at dksX12_read_10 2 rfl rfl)
theorem dX12_read_236 : decode cX12_read 236 = .ok (.aload_n 0, 1) := dk_42 (dk_at dksX12_read_10 5 rfl rfl)
theorem dX12_read_237 : decode cX12_read 237 = .ok (.iconst 0, 1) := dk_3 (dk_at dksX12_read_10 6 rfl rfl)
theorem dX12_read_238 : decode cX12_read 238 = .ok (.putfield 268, 3) := dk_181 1 12 (dk_at dksX12_read_10 7 rfl rfl)
theorem dX12_read_241 : decode cX12_read 241 = .ok (.iconst 0, 1) := dk_3 (dk_at dksX12_read_10 10 rfl rfl)
theorem dX12_read_242 : decode cX12_read 242 = .ok (.istore_n 1, 1) := dk_60 (dk_at dksX12_read_10 11 rfl rfl)
theorem dX12_read_243 : decode cX12_read 243 = .ok (.iload_n 1, 1) := dk_27 (dk_at dksX12_read_10 12 rfl rfl)
theorem dX12_read_244 : decode cX12_read 244 = .ok (.iconst 3, 1) := dk_6 (dk_at dksX12_read_10 13 rfl rfl)
theorem dX12_read_245 : decode cX12_read 245 = .ok (.if_icmp .ge 16, 3) := dk_162 0 16 (dk_at dksX12_read_10 14 rfl rfl)
theorem dX12_read_248 : decode cX12_read 248 = .ok (.aload_n 0, 1) := dk_42 (dk_at dksX12_read_10 17 rfl rfl)
theorem dX12_read_249 : decode cX12_read 249 = .ok (.getfield 152, 3) := dk_180 0 152 (dk_at dksX12_read_10 18 rfl rfl)
theorem dX12_read_252 : decode cX12_read 252 = .ok (.iload_n 1, 1) := dk_27 (dk_at dksX12_read_10 21 rfl rfl)
theorem dX12_read_253 : decode cX12_read 253 = .ok (.iconst 0, 1) := dk_3 (dk_at dksX12_read_10 22 rfl rfl)
theorem dX12_read_254 : decode cX12_read 254 = .ok (.bastore, 1) := dk_84 (dk_at dksX12_read_10 23 rfl rfl)
theorem dX12_read_255 : decode cX12_read 255 = .ok (.iinc 1 1, 3) := dk_132 1 1 (dk_at dksX12_read_11 0 rfl rfl)
theorem dX12_read_258 : decode cX12_read 258 = .ok (.goto (-15), 3) := dk_167 255 241 (dk_at dksX12_read_11 3 rfl rfl)
theorem dX12_read_261 : decode cX12_read 261 = .ok (.iconst 0, 1) := dk_3 (dk_at dksX12_read_11 6 rfl rfl)
theorem dX12_read_262 : decode cX12_read 262 = .ok (.ireturn, 1) := dk_172 (dk_at dksX12_read_11 7 rfl rfl)
abbrev cX12_cutsUp : ByteArray := prog_22_method_12_code
def yX12_cutsUp : MethodName := ⟨RX12, "cutsUp", "()V"⟩
def dkwX12_cutsUp_12 : List UInt8 := [4, 96, 182, 0, 190, 182, 0, 205, 96, 60, 167, 254, 228, 177]
abbrev dktX12_cutsUp_12 : List UInt8 := dkwX12_cutsUp_12 ++ []
def dkwX12_cutsUp_11 : List UInt8 := [167, 0, 4, 5, 27, 21, 4, 9, 182, 0, 194, 27, 29, 96, 60, 167, 0, 19, 27, 42, 27, 28, 42, 27]
abbrev dktX12_cutsUp_11 : List UInt8 := dkwX12_cutsUp_11 ++ dktX12_cutsUp_12
def dkwX12_cutsUp_10 : List UInt8 := [96, 182, 0, 190, 96, 16, 48, 100, 54, 4, 132, 3, 1, 167, 255, 217, 42, 29, 7, 164, 0, 7, 6]
abbrev dktX12_cutsUp_10 : List UInt8 := dkwX12_cutsUp_10 ++ dktX12_cutsUp_11
def dkwX12_cutsUp_9 : List UInt8 := [29, 96, 182, 0, 190, 184, 0, 202, 153, 0, 32, 29, 7, 162, 0, 21, 16, 10, 21, 4, 104, 42, 27, 29]
abbrev dktX12_cutsUp_9 : List UInt8 := dkwX12_cutsUp_9 ++ dktX12_cutsUp_10
def dkwX12_cutsUp_8 : List UInt8 := [182, 0, 194, 27, 29, 96, 60, 167, 0, 98, 28, 184, 0, 202, 153, 0, 75, 3, 62, 3, 54, 4, 42, 27]
abbrev dktX12_cutsUp_8 : List UInt8 := dkwX12_cutsUp_8 ++ dktX12_cutsUp_9
def dkwX12_cutsUp_7 : List UInt8 := [154, 0, 10, 16, 20, 21, 7, 96, 54, 6, 132, 7, 1, 167, 255, 226, 42, 21, 6, 27, 3, 22, 4]
abbrev dktX12_cutsUp_7 : List UInt8 := dkwX12_cutsUp_7 ++ dktX12_cutsUp_8
def dkwX12_cutsUp_6 : List UInt8 := [163, 0, 39, 3, 54, 7, 21, 7, 16, 21, 162, 0, 29, 42, 180, 0, 34, 21, 7, 47, 22, 4, 148]
abbrev dktX12_cutsUp_6 : List UInt8 := dkwX12_cutsUp_6 ++ dktX12_cutsUp_7
def dkwX12_cutsUp_5 : List UInt8 := [55, 4, 132, 3, 1, 167, 255, 220, 29, 16, 8, 164, 0, 7, 6, 167, 0, 4, 4, 54, 6, 29, 16, 7]
abbrev dktX12_cutsUp_5 : List UInt8 := dkwX12_cutsUp_5 ++ dktX12_cutsUp_6
def dkwX12_cutsUp_4 : List UInt8 := [184, 0, 198, 153, 0, 29, 29, 16, 8, 162, 0, 17, 22, 4, 42, 27, 29, 96, 182, 0, 190, 184, 0, 183]
abbrev dktX12_cutsUp_4 : List UInt8 := dkwX12_cutsUp_4 ++ dktX12_cutsUp_5
def dkwX12_cutsUp_3 : List UInt8 := [167, 0, 221, 28, 184, 0, 198, 153, 0, 119, 3, 62, 9, 55, 4, 42, 27, 29, 96, 182, 0, 190]
abbrev dktX12_cutsUp_3 : List UInt8 := dkwX12_cutsUp_3 ++ dktX12_cutsUp_4
def dkwX12_cutsUp_2 : List UInt8 := [159, 0, 21, 28, 16, 10, 159, 0, 15, 28, 16, 13, 159, 0, 9, 28, 16, 32, 160, 0, 9, 132, 1, 1]
abbrev dktX12_cutsUp_2 : List UInt8 := dkwX12_cutsUp_2 ++ dktX12_cutsUp_3
def dkwX12_cutsUp_1 : List UInt8 := [42, 180, 0, 178, 161, 0, 15, 42, 3, 42, 180, 0, 178, 3, 9, 182, 0, 194, 177, 28, 16, 9]
abbrev dktX12_cutsUp_1 : List UInt8 := dkwX12_cutsUp_1 ++ dktX12_cutsUp_2
def dkwX12_cutsUp_0 : List UInt8 := [42, 3, 181, 0, 187, 3, 60, 42, 180, 0, 187, 17, 1, 144, 163, 1, 24, 42, 27, 182, 0, 190, 61, 27]
abbrev dktX12_cutsUp_0 : List UInt8 := dkwX12_cutsUp_0 ++ dktX12_cutsUp_1
theorem dksX12_cutsUp_0 : cX12_cutsUp.data.toList.drop 0 = dktX12_cutsUp_0 := by decide +kernel
theorem dksX12_cutsUp_1 : cX12_cutsUp.data.toList.drop 24 = dktX12_cutsUp_1 := dk_seg dksX12_cutsUp_0 24 rfl rfl
theorem dksX12_cutsUp_2 : cX12_cutsUp.data.toList.drop 46 = dktX12_cutsUp_2 := dk_seg dksX12_cutsUp_1 22 rfl rfl
theorem dksX12_cutsUp_3 : cX12_cutsUp.data.toList.drop 70 = dktX12_cutsUp_3 := dk_seg dksX12_cutsUp_2 24 rfl rfl
theorem dksX12_cutsUp_4 : cX12_cutsUp.data.toList.drop 92 = dktX12_cutsUp_4 := dk_seg dksX12_cutsUp_3 22 rfl rfl
theorem dksX12_cutsUp_5 : cX12_cutsUp.data.toList.drop 116 = dktX12_cutsUp_5 := dk_seg dksX12_cutsUp_4 24 rfl rfl
theorem dksX12_cutsUp_6 : cX12_cutsUp.data.toList.drop 140 = dktX12_cutsUp_6 := dk_seg dksX12_cutsUp_5 24 rfl rfl
theorem dksX12_cutsUp_7 : cX12_cutsUp.data.toList.drop 163 = dktX12_cutsUp_7 := dk_seg dksX12_cutsUp_6 23 rfl rfl
theorem dksX12_cutsUp_8 : cX12_cutsUp.data.toList.drop 186 = dktX12_cutsUp_8 := dk_seg dksX12_cutsUp_7 23 rfl rfl
theorem dksX12_cutsUp_9 : cX12_cutsUp.data.toList.drop 210 = dktX12_cutsUp_9 := dk_seg dksX12_cutsUp_8 24 rfl rfl
theorem dksX12_cutsUp_10 : cX12_cutsUp.data.toList.drop 234 = dktX12_cutsUp_10 := dk_seg dksX12_cutsUp_9 24 rfl rfl
theorem dksX12_cutsUp_11 : cX12_cutsUp.data.toList.drop 257 = dktX12_cutsUp_11 := dk_seg dksX12_cutsUp_10 23 rfl rfl
theorem dksX12_cutsUp_12 : cX12_cutsUp.data.toList.drop 281 = dktX12_cutsUp_12 := dk_seg dksX12_cutsUp_11 24 rfl rfl
theorem dX12_cutsUp_0 : decode cX12_cutsUp 0 = .ok (.aload_n 0, 1) := dk_42 (dk_at dksX12_cutsUp_0 0 rfl rfl)
theorem dX12_cutsUp_1 : decode cX12_cutsUp 1 = .ok (.iconst 0, 1) := dk_3 (dk_at dksX12_cutsUp_0 1 rfl rfl)
theorem dX12_cutsUp_2 : decode cX12_cutsUp 2 = .ok (.putfield 187, 3) := dk_181 0 187 (dk_at dksX12_cutsUp_0 2 rfl rfl)
theorem dX12_cutsUp_5 : decode cX12_cutsUp 5 = .ok (.iconst 0, 1) := dk_3 (dk_at dksX12_cutsUp_0 5 rfl rfl)
theorem dX12_cutsUp_6 : decode cX12_cutsUp 6 = .ok (.istore_n 1, 1) := dk_60 (dk_at dksX12_cutsUp_0 6 rfl rfl)
theorem dX12_cutsUp_7 : decode cX12_cutsUp 7 = .ok (.aload_n 0, 1) := dk_42 (dk_at dksX12_cutsUp_0 7 rfl rfl)
theorem dX12_cutsUp_8 : decode cX12_cutsUp 8 = .ok (.getfield 187, 3) := dk_180 0 187 (dk_at dksX12_cutsUp_0 8 rfl rfl)
theorem dX12_cutsUp_11 : decode cX12_cutsUp 11 = .ok (.sipush 400, 3) := dk_17 1 144 (dk_at dksX12_cutsUp_0 11 rfl rfl)
theorem dX12_cutsUp_14 : decode cX12_cutsUp 14 = .ok (.if_icmp .gt 280, 3) := dk_163 1 24 (dk_at dksX12_cutsUp_0 14 rfl rfl)
theorem dX12_cutsUp_17 : decode cX12_cutsUp 17 = .ok (.aload_n 0, 1) := dk_42 (dk_at dksX12_cutsUp_0 17 rfl rfl)
theorem dX12_cutsUp_18 : decode cX12_cutsUp 18 = .ok (.iload_n 1, 1) := dk_27 (dk_at dksX12_cutsUp_0 18 rfl rfl)
theorem dX12_cutsUp_19 : decode cX12_cutsUp 19 = .ok (.invokevirtual 190, 3) := dk_182 0 190 (dk_at dksX12_cutsUp_0 19 rfl rfl)
theorem dX12_cutsUp_22 : decode cX12_cutsUp 22 = .ok (.istore_n 2, 1) := dk_61 (dk_at dksX12_cutsUp_0 22 rfl rfl)
theorem dX12_cutsUp_23 : decode cX12_cutsUp 23 = .ok (.iload_n 1, 1) := dk_27 (dk_at dksX12_cutsUp_0 23 rfl rfl)
theorem dX12_cutsUp_24 : decode cX12_cutsUp 24 = .ok (.aload_n 0, 1) := dk_42 (dk_at dksX12_cutsUp_1 0 rfl rfl)
theorem dX12_cutsUp_25 : decode cX12_cutsUp 25 = .ok (.getfield 178, 3) := dk_180 0 178 (dk_at dksX12_cutsUp_1 1 rfl rfl)
theorem dX12_cutsUp_28 : decode cX12_cutsUp 28 = .ok (.if_icmp .lt 15, 3) := dk_161 0 15 (dk_at dksX12_cutsUp_1 4 rfl rfl)
theorem dX12_cutsUp_31 : decode cX12_cutsUp 31 = .ok (.aload_n 0, 1) := dk_42 (dk_at dksX12_cutsUp_1 7 rfl rfl)
theorem dX12_cutsUp_32 : decode cX12_cutsUp 32 = .ok (.iconst 0, 1) := dk_3 (dk_at dksX12_cutsUp_1 8 rfl rfl)
theorem dX12_cutsUp_33 : decode cX12_cutsUp 33 = .ok (.aload_n 0, 1) := dk_42 (dk_at dksX12_cutsUp_1 9 rfl rfl)
theorem dX12_cutsUp_34 : decode cX12_cutsUp 34 = .ok (.getfield 178, 3) := dk_180 0 178 (dk_at dksX12_cutsUp_1 10 rfl rfl)
theorem dX12_cutsUp_37 : decode cX12_cutsUp 37 = .ok (.iconst 0, 1) := dk_3 (dk_at dksX12_cutsUp_1 13 rfl rfl)
theorem dX12_cutsUp_38 : decode cX12_cutsUp 38 = .ok (.lconst 0, 1) := dk_9 (dk_at dksX12_cutsUp_1 14 rfl rfl)
theorem dX12_cutsUp_39 : decode cX12_cutsUp 39 = .ok (.invokevirtual 194, 3) := dk_182 0 194 (dk_at dksX12_cutsUp_1 15 rfl rfl)
theorem dX12_cutsUp_42 : decode cX12_cutsUp 42 = .ok (.return_, 1) := dk_177 (dk_at dksX12_cutsUp_1 18 rfl rfl)
theorem dX12_cutsUp_43 : decode cX12_cutsUp 43 = .ok (.iload_n 2, 1) := dk_28 (dk_at dksX12_cutsUp_1 19 rfl rfl)
theorem dX12_cutsUp_44 : decode cX12_cutsUp 44 = .ok (.bipush 9, 2) := dk_16 9 (dk_at dksX12_cutsUp_1 20 rfl rfl)
theorem dX12_cutsUp_46 : decode cX12_cutsUp 46 = .ok (.if_icmp .eq 21, 3) := dk_159 0 21 (dk_at dksX12_cutsUp_2 0 rfl rfl)
theorem dX12_cutsUp_49 : decode cX12_cutsUp 49 = .ok (.iload_n 2, 1) := dk_28 (dk_at dksX12_cutsUp_2 3 rfl rfl)
theorem dX12_cutsUp_50 : decode cX12_cutsUp 50 = .ok (.bipush 10, 2) := dk_16 10 (dk_at dksX12_cutsUp_2 4 rfl rfl)
theorem dX12_cutsUp_52 : decode cX12_cutsUp 52 = .ok (.if_icmp .eq 15, 3) := dk_159 0 15 (dk_at dksX12_cutsUp_2 6 rfl rfl)
theorem dX12_cutsUp_55 : decode cX12_cutsUp 55 = .ok (.iload_n 2, 1) := dk_28 (dk_at dksX12_cutsUp_2 9 rfl rfl)
theorem dX12_cutsUp_56 : decode cX12_cutsUp 56 = .ok (.bipush 13, 2) := dk_16 13 (dk_at dksX12_cutsUp_2 10 rfl rfl)
theorem dX12_cutsUp_58 : decode cX12_cutsUp 58 = .ok (.if_icmp .eq 9, 3) := dk_159 0 9 (dk_at dksX12_cutsUp_2 12 rfl rfl)
theorem dX12_cutsUp_61 : decode cX12_cutsUp 61 = .ok (.iload_n 2, 1) := dk_28 (dk_at dksX12_cutsUp_2 15 rfl rfl)
theorem dX12_cutsUp_62 : decode cX12_cutsUp 62 = .ok (.bipush 32, 2) := dk_16 32 (dk_at dksX12_cutsUp_2 16 rfl rfl)
theorem dX12_cutsUp_64 : decode cX12_cutsUp 64 = .ok (.if_icmp .ne 9, 3) := dk_160 0 9 (dk_at dksX12_cutsUp_2 18 rfl rfl)
theorem dX12_cutsUp_67 : decode cX12_cutsUp 67 = .ok (.iinc 1 1, 3) := dk_132 1 1 (dk_at dksX12_cutsUp_2 21 rfl rfl)
theorem dX12_cutsUp_70 : decode cX12_cutsUp 70 = .ok (.goto 221, 3) := dk_167 0 221 (dk_at dksX12_cutsUp_3 0 rfl rfl)
theorem dX12_cutsUp_73 : decode cX12_cutsUp 73 = .ok (.iload_n 2, 1) := dk_28 (dk_at dksX12_cutsUp_3 3 rfl rfl)
theorem dX12_cutsUp_74 : decode cX12_cutsUp 74 = .ok (.invokestatic 198, 3) := dk_184 0 198 (dk_at dksX12_cutsUp_3 4 rfl rfl)
theorem dX12_cutsUp_77 : decode cX12_cutsUp 77 = .ok (.ifCond .eq 119, 3) := dk_153 0 119 (dk_at dksX12_cutsUp_3 7 rfl rfl)
theorem dX12_cutsUp_80 : decode cX12_cutsUp 80 = .ok (.iconst 0, 1) := dk_3 (dk_at dksX12_cutsUp_3 10 rfl rfl)
theorem dX12_cutsUp_81 : decode cX12_cutsUp 81 = .ok (.istore_n 3, 1) := dk_62 (dk_at dksX12_cutsUp_3 11 rfl rfl)
theorem dX12_cutsUp_82 : decode cX12_cutsUp 82 = .ok (.lconst 0, 1) := dk_9 (dk_at dksX12_cutsUp_3 12 rfl rfl)
theorem dX12_cutsUp_83 : decode cX12_cutsUp 83 = .ok (.lstore 4, 2) := dk_55 4 (dk_at dksX12_cutsUp_3 13 rfl rfl)
theorem dX12_cutsUp_85 : decode cX12_cutsUp 85 = .ok (.aload_n 0, 1) := dk_42 (dk_at dksX12_cutsUp_3 15 rfl rfl)
theorem dX12_cutsUp_86 : decode cX12_cutsUp 86 = .ok (.iload_n 1, 1) := dk_27 (dk_at dksX12_cutsUp_3 16 rfl rfl)
theorem dX12_cutsUp_87 : decode cX12_cutsUp 87 = .ok (.iload_n 3, 1) := dk_29 (dk_at dksX12_cutsUp_3 17 rfl rfl)
theorem dX12_cutsUp_88 : decode cX12_cutsUp 88 = .ok (.iadd, 1) := dk_96 (dk_at dksX12_cutsUp_3 18 rfl rfl)
theorem dX12_cutsUp_89 : decode cX12_cutsUp 89 = .ok (.invokevirtual 190, 3) := dk_182 0 190 (dk_at dksX12_cutsUp_3 19 rfl rfl)
theorem dX12_cutsUp_92 : decode cX12_cutsUp 92 = .ok (.invokestatic 198, 3) := dk_184 0 198 (dk_at dksX12_cutsUp_4 0 rfl rfl)
theorem dX12_cutsUp_95 : decode cX12_cutsUp 95 = .ok (.ifCond .eq 29, 3) := dk_153 0 29 (dk_at dksX12_cutsUp_4 3 rfl rfl)
theorem dX12_cutsUp_98 : decode cX12_cutsUp 98 = .ok (.iload_n 3, 1) := dk_29 (dk_at dksX12_cutsUp_4 6 rfl rfl)
theorem dX12_cutsUp_99 : decode cX12_cutsUp 99 = .ok (.bipush 8, 2) := dk_16 8 (dk_at dksX12_cutsUp_4 7 rfl rfl)
theorem dX12_cutsUp_101 : decode cX12_cutsUp 101 = .ok (.if_icmp .ge 17, 3) := dk_162 0 17 (dk_at dksX12_cutsUp_4 9 rfl rfl)
theorem dX12_cutsUp_104 : decode cX12_cutsUp 104 = .ok (.lload 4, 2) := dk_22 4 (dk_at dksX12_cutsUp_4 12 rfl rfl)
theorem dX12_cutsUp_106 : decode cX12_cutsUp 106 = .ok (.aload_n 0, 1) := dk_42 (dk_at dksX12_cutsUp_4 14 rfl rfl)
theorem dX12_cutsUp_107 : decode cX12_cutsUp 107 = .ok (.iload_n 1, 1) := dk_27 (dk_at dksX12_cutsUp_4 15 rfl rfl)
theorem dX12_cutsUp_108 : decode cX12_cutsUp 108 = .ok (.iload_n 3, 1) := dk_29 (dk_at dksX12_cutsUp_4 16 rfl rfl)
theorem dX12_cutsUp_109 : decode cX12_cutsUp 109 = .ok (.iadd, 1) := dk_96 (dk_at dksX12_cutsUp_4 17 rfl rfl)
theorem dX12_cutsUp_110 : decode cX12_cutsUp 110 = .ok (.invokevirtual 190, 3) := dk_182 0 190 (dk_at dksX12_cutsUp_4 18 rfl rfl)
theorem dX12_cutsUp_113 : decode cX12_cutsUp 113 = .ok (.invokestatic 183, 3) := dk_184 0 183 (dk_at dksX12_cutsUp_4 21 rfl rfl)
theorem dX12_cutsUp_116 : decode cX12_cutsUp 116 = .ok (.lstore 4, 2) := dk_55 4 (dk_at dksX12_cutsUp_5 0 rfl rfl)
theorem dX12_cutsUp_118 : decode cX12_cutsUp 118 = .ok (.iinc 3 1, 3) := dk_132 3 1 (dk_at dksX12_cutsUp_5 2 rfl rfl)
theorem dX12_cutsUp_121 : decode cX12_cutsUp 121 = .ok (.goto (-36), 3) := dk_167 255 220 (dk_at dksX12_cutsUp_5 5 rfl rfl)
theorem dX12_cutsUp_124 : decode cX12_cutsUp 124 = .ok (.iload_n 3, 1) := dk_29 (dk_at dksX12_cutsUp_5 8 rfl rfl)
theorem dX12_cutsUp_125 : decode cX12_cutsUp 125 = .ok (.bipush 8, 2) := dk_16 8 (dk_at dksX12_cutsUp_5 9 rfl rfl)
theorem dX12_cutsUp_127 : decode cX12_cutsUp 127 = .ok (.if_icmp .le 7, 3) := dk_164 0 7 (dk_at dksX12_cutsUp_5 11 rfl rfl)
theorem dX12_cutsUp_130 : decode cX12_cutsUp 130 = .ok (.iconst 3, 1) := dk_6 (dk_at dksX12_cutsUp_5 14 rfl rfl)
theorem dX12_cutsUp_131 : decode cX12_cutsUp 131 = .ok (.goto 4, 3) := dk_167 0 4 (dk_at dksX12_cutsUp_5 15 rfl rfl)
theorem dX12_cutsUp_134 : decode cX12_cutsUp 134 = .ok (.iconst 1, 1) := dk_4 (dk_at dksX12_cutsUp_5 18 rfl rfl)
theorem dX12_cutsUp_135 : decode cX12_cutsUp 135 = .ok (.istore 6, 2) := dk_54 6 (dk_at dksX12_cutsUp_5 19 rfl rfl)
theorem dX12_cutsUp_137 : decode cX12_cutsUp 137 = .ok (.iload_n 3, 1) := dk_29 (dk_at dksX12_cutsUp_5 21 rfl rfl)
theorem dX12_cutsUp_138 : decode cX12_cutsUp 138 = .ok (.bipush 7, 2) := dk_16 7 (dk_at dksX12_cutsUp_5 22 rfl rfl)
theorem dX12_cutsUp_140 : decode cX12_cutsUp 140 = .ok (.if_icmp .gt 39, 3) := dk_163 0 39 (dk_at dksX12_cutsUp_6 0 rfl rfl)
theorem dX12_cutsUp_143 : decode cX12_cutsUp 143 = .ok (.iconst 0, 1) := dk_3 (dk_at dksX12_cutsUp_6 3 rfl rfl)
theorem dX12_cutsUp_144 : decode cX12_cutsUp 144 = .ok (.istore 7, 2) := dk_54 7 (dk_at dksX12_cutsUp_6 4 rfl rfl)
theorem dX12_cutsUp_146 : decode cX12_cutsUp 146 = .ok (.iload 7, 2) := dk_21 7 (dk_at dksX12_cutsUp_6 6 rfl rfl)
theorem dX12_cutsUp_148 : decode cX12_cutsUp 148 = .ok (.bipush 21, 2) := dk_16 21 (dk_at dksX12_cutsUp_6 8 rfl rfl)
theorem dX12_cutsUp_150 : decode cX12_cutsUp 150 = .ok (.if_icmp .ge 29, 3) := dk_162 0 29 (dk_at dksX12_cutsUp_6 10 rfl rfl)
theorem dX12_cutsUp_153 : decode cX12_cutsUp 153 = .ok (.aload_n 0, 1) := dk_42 (dk_at dksX12_cutsUp_6 13 rfl rfl)
theorem dX12_cutsUp_154 : decode cX12_cutsUp 154 = .ok (.getfield 34, 3) := dk_180 0 34 (dk_at dksX12_cutsUp_6 14 rfl rfl)
theorem dX12_cutsUp_157 : decode cX12_cutsUp 157 = .ok (.iload 7, 2) := dk_21 7 (dk_at dksX12_cutsUp_6 17 rfl rfl)
theorem dX12_cutsUp_159 : decode cX12_cutsUp 159 = .ok (.laload, 1) := dk_47 (dk_at dksX12_cutsUp_6 19 rfl rfl)
theorem dX12_cutsUp_160 : decode cX12_cutsUp 160 = .ok (.lload 4, 2) := dk_22 4 (dk_at dksX12_cutsUp_6 20 rfl rfl)
theorem dX12_cutsUp_162 : decode cX12_cutsUp 162 = .ok (.lcmp, 1) := dk_148 (dk_at dksX12_cutsUp_6 22 rfl rfl)
theorem dX12_cutsUp_163 : decode cX12_cutsUp 163 = .ok (.ifCond .ne 10, 3) := dk_154 0 10 (dk_at dksX12_cutsUp_7 0 rfl rfl)
theorem dX12_cutsUp_166 : decode cX12_cutsUp 166 = .ok (.bipush 20, 2) := dk_16 20 (dk_at dksX12_cutsUp_7 3 rfl rfl)
theorem dX12_cutsUp_168 : decode cX12_cutsUp 168 = .ok (.iload 7, 2) := dk_21 7 (dk_at dksX12_cutsUp_7 5 rfl rfl)
theorem dX12_cutsUp_170 : decode cX12_cutsUp 170 = .ok (.iadd, 1) := dk_96 (dk_at dksX12_cutsUp_7 7 rfl rfl)
theorem dX12_cutsUp_171 : decode cX12_cutsUp 171 = .ok (.istore 6, 2) := dk_54 6 (dk_at dksX12_cutsUp_7 8 rfl rfl)
theorem dX12_cutsUp_173 : decode cX12_cutsUp 173 = .ok (.iinc 7 1, 3) := dk_132 7 1 (dk_at dksX12_cutsUp_7 10 rfl rfl)
theorem dX12_cutsUp_176 : decode cX12_cutsUp 176 = .ok (.goto (-30), 3) := dk_167 255 226 (dk_at dksX12_cutsUp_7 13 rfl rfl)
theorem dX12_cutsUp_179 : decode cX12_cutsUp 179 = .ok (.aload_n 0, 1) := dk_42 (dk_at dksX12_cutsUp_7 16 rfl rfl)
theorem dX12_cutsUp_180 : decode cX12_cutsUp 180 = .ok (.iload 6, 2) := dk_21 6 (dk_at dksX12_cutsUp_7 17 rfl rfl)
theorem dX12_cutsUp_182 : decode cX12_cutsUp 182 = .ok (.iload_n 1, 1) := dk_27 (dk_at dksX12_cutsUp_7 19 rfl rfl)
theorem dX12_cutsUp_183 : decode cX12_cutsUp 183 = .ok (.iconst 0, 1) := dk_3 (dk_at dksX12_cutsUp_7 20 rfl rfl)
theorem dX12_cutsUp_184 : decode cX12_cutsUp 184 = .ok (.lload 4, 2) := dk_22 4 (dk_at dksX12_cutsUp_7 21 rfl rfl)
theorem dX12_cutsUp_186 : decode cX12_cutsUp 186 = .ok (.invokevirtual 194, 3) := dk_182 0 194 (dk_at dksX12_cutsUp_8 0 rfl rfl)
theorem dX12_cutsUp_189 : decode cX12_cutsUp 189 = .ok (.iload_n 1, 1) := dk_27 (dk_at dksX12_cutsUp_8 3 rfl rfl)
theorem dX12_cutsUp_190 : decode cX12_cutsUp 190 = .ok (.iload_n 3, 1) := dk_29 (dk_at dksX12_cutsUp_8 4 rfl rfl)
theorem dX12_cutsUp_191 : decode cX12_cutsUp 191 = .ok (.iadd, 1) := dk_96 (dk_at dksX12_cutsUp_8 5 rfl rfl)
theorem dX12_cutsUp_192 : decode cX12_cutsUp 192 = .ok (.istore_n 1, 1) := dk_60 (dk_at dksX12_cutsUp_8 6 rfl rfl)
theorem dX12_cutsUp_193 : decode cX12_cutsUp 193 = .ok (.goto 98, 3) := dk_167 0 98 (dk_at dksX12_cutsUp_8 7 rfl rfl)
theorem dX12_cutsUp_196 : decode cX12_cutsUp 196 = .ok (.iload_n 2, 1) := dk_28 (dk_at dksX12_cutsUp_8 10 rfl rfl)
theorem dX12_cutsUp_197 : decode cX12_cutsUp 197 = .ok (.invokestatic 202, 3) := dk_184 0 202 (dk_at dksX12_cutsUp_8 11 rfl rfl)
theorem dX12_cutsUp_200 : decode cX12_cutsUp 200 = .ok (.ifCond .eq 75, 3) := dk_153 0 75 (dk_at dksX12_cutsUp_8 14 rfl rfl)
theorem dX12_cutsUp_203 : decode cX12_cutsUp 203 = .ok (.iconst 0, 1) := dk_3 (dk_at dksX12_cutsUp_8 17 rfl rfl)
theorem dX12_cutsUp_204 : decode cX12_cutsUp 204 = .ok (.istore_n 3, 1) := dk_62 (dk_at dksX12_cutsUp_8 18 rfl rfl)
theorem dX12_cutsUp_205 : decode cX12_cutsUp 205 = .ok (.iconst 0, 1) := dk_3 (dk_at dksX12_cutsUp_8 19 rfl rfl)
theorem dX12_cutsUp_206 : decode cX12_cutsUp 206 = .ok (.istore 4, 2) := dk_54 4 (dk_at dksX12_cutsUp_8 20 rfl rfl)
theorem dX12_cutsUp_208 : decode cX12_cutsUp 208 = .ok (.aload_n 0, 1) := dk_42 (dk_at dksX12_cutsUp_8 22 rfl rfl)
theorem dX12_cutsUp_209 : decode cX12_cutsUp 209 = .ok (.iload_n 1, 1) := dk_27 (dk_at dksX12_cutsUp_8 23 rfl rfl)
theorem dX12_cutsUp_210 : decode cX12_cutsUp 210 = .ok (.iload_n 3, 1) := dk_29 (dk_at dksX12_cutsUp_9 0 rfl rfl)
theorem dX12_cutsUp_211 : decode cX12_cutsUp 211 = .ok (.iadd, 1) := dk_96 (dk_at dksX12_cutsUp_9 1 rfl rfl)
theorem dX12_cutsUp_212 : decode cX12_cutsUp 212 = .ok (.invokevirtual 190, 3) := dk_182 0 190 (dk_at dksX12_cutsUp_9 2 rfl rfl)
theorem dX12_cutsUp_215 : decode cX12_cutsUp 215 = .ok (.invokestatic 202, 3) := dk_184 0 202 (dk_at dksX12_cutsUp_9 5 rfl rfl)
theorem dX12_cutsUp_218 : decode cX12_cutsUp 218 = .ok (.ifCond .eq 32, 3) := dk_153 0 32 (dk_at dksX12_cutsUp_9 8 rfl rfl)
theorem dX12_cutsUp_221 : decode cX12_cutsUp 221 = .ok (.iload_n 3, 1) := dk_29 (dk_at dksX12_cutsUp_9 11 rfl rfl)
theorem dX12_cutsUp_222 : decode cX12_cutsUp 222 = .ok (.iconst 4, 1) := dk_7 (dk_at dksX12_cutsUp_9 12 rfl rfl)
theorem dX12_cutsUp_223 : decode cX12_cutsUp 223 = .ok (.if_icmp .ge 21, 3) := dk_162 0 21 (dk_at dksX12_cutsUp_9 13 rfl rfl)
theorem dX12_cutsUp_226 : decode cX12_cutsUp 226 = .ok (.bipush 10, 2) := dk_16 10 (dk_at dksX12_cutsUp_9 16 rfl rfl)
theorem dX12_cutsUp_228 : decode cX12_cutsUp 228 = .ok (.iload 4, 2) := dk_21 4 (dk_at dksX12_cutsUp_9 18 rfl rfl)
theorem dX12_cutsUp_230 : decode cX12_cutsUp 230 = .ok (.imul, 1) := dk_104 (dk_at dksX12_cutsUp_9 20 rfl rfl)
theorem dX12_cutsUp_231 : decode cX12_cutsUp 231 = .ok (.aload_n 0, 1) := dk_42 (dk_at dksX12_cutsUp_9 21 rfl rfl)
theorem dX12_cutsUp_232 : decode cX12_cutsUp 232 = .ok (.iload_n 1, 1) := dk_27 (dk_at dksX12_cutsUp_9 22 rfl rfl)
theorem dX12_cutsUp_233 : decode cX12_cutsUp 233 = .ok (.iload_n 3, 1) := dk_29 (dk_at dksX12_cutsUp_9 23 rfl rfl)
theorem dX12_cutsUp_234 : decode cX12_cutsUp 234 = .ok (.iadd, 1) := dk_96 (dk_at dksX12_cutsUp_10 0 rfl rfl)
theorem dX12_cutsUp_235 : decode cX12_cutsUp 235 = .ok (.invokevirtual 190, 3) := dk_182 0 190 (dk_at dksX12_cutsUp_10 1 rfl rfl)
theorem dX12_cutsUp_238 : decode cX12_cutsUp 238 = .ok (.iadd, 1) := dk_96 (dk_at dksX12_cutsUp_10 4 rfl rfl)
theorem dX12_cutsUp_239 : decode cX12_cutsUp 239 = .ok (.bipush 48, 2) := dk_16 48 (dk_at dksX12_cutsUp_10 5 rfl rfl)
theorem dX12_cutsUp_241 : decode cX12_cutsUp 241 = .ok (.isub, 1) := dk_100 (dk_at dksX12_cutsUp_10 7 rfl rfl)
theorem dX12_cutsUp_242 : decode cX12_cutsUp 242 = .ok (.istore 4, 2) := dk_54 4 (dk_at dksX12_cutsUp_10 8 rfl rfl)
theorem dX12_cutsUp_244 : decode cX12_cutsUp 244 = .ok (.iinc 3 1, 3) := dk_132 3 1 (dk_at dksX12_cutsUp_10 10 rfl rfl)
theorem dX12_cutsUp_247 : decode cX12_cutsUp 247 = .ok (.goto (-39), 3) := dk_167 255 217 (dk_at dksX12_cutsUp_10 13 rfl rfl)
theorem dX12_cutsUp_250 : decode cX12_cutsUp 250 = .ok (.aload_n 0, 1) := dk_42 (dk_at dksX12_cutsUp_10 16 rfl rfl)
theorem dX12_cutsUp_251 : decode cX12_cutsUp 251 = .ok (.iload_n 3, 1) := dk_29 (dk_at dksX12_cutsUp_10 17 rfl rfl)
theorem dX12_cutsUp_252 : decode cX12_cutsUp 252 = .ok (.iconst 4, 1) := dk_7 (dk_at dksX12_cutsUp_10 18 rfl rfl)
theorem dX12_cutsUp_253 : decode cX12_cutsUp 253 = .ok (.if_icmp .le 7, 3) := dk_164 0 7 (dk_at dksX12_cutsUp_10 19 rfl rfl)
theorem dX12_cutsUp_256 : decode cX12_cutsUp 256 = .ok (.iconst 3, 1) := dk_6 (dk_at dksX12_cutsUp_10 22 rfl rfl)
theorem dX12_cutsUp_257 : decode cX12_cutsUp 257 = .ok (.goto 4, 3) := dk_167 0 4 (dk_at dksX12_cutsUp_11 0 rfl rfl)
theorem dX12_cutsUp_260 : decode cX12_cutsUp 260 = .ok (.iconst 2, 1) := dk_5 (dk_at dksX12_cutsUp_11 3 rfl rfl)
theorem dX12_cutsUp_261 : decode cX12_cutsUp 261 = .ok (.iload_n 1, 1) := dk_27 (dk_at dksX12_cutsUp_11 4 rfl rfl)
theorem dX12_cutsUp_262 : decode cX12_cutsUp 262 = .ok (.iload 4, 2) := dk_21 4 (dk_at dksX12_cutsUp_11 5 rfl rfl)
theorem dX12_cutsUp_264 : decode cX12_cutsUp 264 = .ok (.lconst 0, 1) := dk_9 (dk_at dksX12_cutsUp_11 7 rfl rfl)
theorem dX12_cutsUp_265 : decode cX12_cutsUp 265 = .ok (.invokevirtual 194, 3) := dk_182 0 194 (dk_at dksX12_cutsUp_11 8 rfl rfl)
theorem dX12_cutsUp_268 : decode cX12_cutsUp 268 = .ok (.iload_n 1, 1) := dk_27 (dk_at dksX12_cutsUp_11 11 rfl rfl)
theorem dX12_cutsUp_269 : decode cX12_cutsUp 269 = .ok (.iload_n 3, 1) := dk_29 (dk_at dksX12_cutsUp_11 12 rfl rfl)
theorem dX12_cutsUp_270 : decode cX12_cutsUp 270 = .ok (.iadd, 1) := dk_96 (dk_at dksX12_cutsUp_11 13 rfl rfl)
theorem dX12_cutsUp_271 : decode cX12_cutsUp 271 = .ok (.istore_n 1, 1) := dk_60 (dk_at dksX12_cutsUp_11 14 rfl rfl)
theorem dX12_cutsUp_272 : decode cX12_cutsUp 272 = .ok (.goto 19, 3) := dk_167 0 19 (dk_at dksX12_cutsUp_11 15 rfl rfl)
theorem dX12_cutsUp_275 : decode cX12_cutsUp 275 = .ok (.iload_n 1, 1) := dk_27 (dk_at dksX12_cutsUp_11 18 rfl rfl)
theorem dX12_cutsUp_276 : decode cX12_cutsUp 276 = .ok (.aload_n 0, 1) := dk_42 (dk_at dksX12_cutsUp_11 19 rfl rfl)
theorem dX12_cutsUp_277 : decode cX12_cutsUp 277 = .ok (.iload_n 1, 1) := dk_27 (dk_at dksX12_cutsUp_11 20 rfl rfl)
theorem dX12_cutsUp_278 : decode cX12_cutsUp 278 = .ok (.iload_n 2, 1) := dk_28 (dk_at dksX12_cutsUp_11 21 rfl rfl)
theorem dX12_cutsUp_279 : decode cX12_cutsUp 279 = .ok (.aload_n 0, 1) := dk_42 (dk_at dksX12_cutsUp_11 22 rfl rfl)
theorem dX12_cutsUp_280 : decode cX12_cutsUp 280 = .ok (.iload_n 1, 1) := dk_27 (dk_at dksX12_cutsUp_11 23 rfl rfl)
theorem dX12_cutsUp_281 : decode cX12_cutsUp 281 = .ok (.iconst 1, 1) := dk_4 (dk_at dksX12_cutsUp_12 0 rfl rfl)
theorem dX12_cutsUp_282 : decode cX12_cutsUp 282 = .ok (.iadd, 1) := dk_96 (dk_at dksX12_cutsUp_12 1 rfl rfl)
theorem dX12_cutsUp_283 : decode cX12_cutsUp 283 = .ok (.invokevirtual 190, 3) := dk_182 0 190 (dk_at dksX12_cutsUp_12 2 rfl rfl)
theorem dX12_cutsUp_286 : decode cX12_cutsUp 286 = .ok (.invokevirtual 205, 3) := dk_182 0 205 (dk_at dksX12_cutsUp_12 5 rfl rfl)
theorem dX12_cutsUp_289 : decode cX12_cutsUp 289 = .ok (.iadd, 1) := dk_96 (dk_at dksX12_cutsUp_12 8 rfl rfl)
theorem dX12_cutsUp_290 : decode cX12_cutsUp 290 = .ok (.istore_n 1, 1) := dk_60 (dk_at dksX12_cutsUp_12 9 rfl rfl)
theorem dX12_cutsUp_291 : decode cX12_cutsUp 291 = .ok (.goto (-284), 3) := dk_167 254 228 (dk_at dksX12_cutsUp_12 10 rfl rfl)
theorem dX12_cutsUp_294 : decode cX12_cutsUp 294 = .ok (.return_, 1) := dk_177 (dk_at dksX12_cutsUp_12 13 rfl rfl)
abbrev cX12_byteAt : ByteArray := prog_22_method_6_code
def yX12_byteAt : MethodName := ⟨RX12, "byteAt", "(I)I"⟩
def dkwX12_byteAt_0 : List UInt8 := [27, 42, 180, 0, 178, 162, 0, 16, 42, 180, 0, 17, 27, 51, 17, 0, 255, 126, 167, 0, 4, 3, 172]
abbrev dktX12_byteAt_0 : List UInt8 := dkwX12_byteAt_0 ++ []
theorem dksX12_byteAt_0 : cX12_byteAt.data.toList.drop 0 = dktX12_byteAt_0 := by decide +kernel
theorem dX12_byteAt_0 : decode cX12_byteAt 0 = .ok (.iload_n 1, 1) := dk_27 (dk_at dksX12_byteAt_0 0 rfl rfl)
theorem dX12_byteAt_1 : decode cX12_byteAt 1 = .ok (.aload_n 0, 1) := dk_42 (dk_at dksX12_byteAt_0 1 rfl rfl)
theorem dX12_byteAt_2 : decode cX12_byteAt 2 = .ok (.getfield 178, 3) := dk_180 0 178 (dk_at dksX12_byteAt_0 2 rfl rfl)
theorem dX12_byteAt_5 : decode cX12_byteAt 5 = .ok (.if_icmp .ge 16, 3) := dk_162 0 16 (dk_at dksX12_byteAt_0 5 rfl rfl)
theorem dX12_byteAt_8 : decode cX12_byteAt 8 = .ok (.aload_n 0, 1) := dk_42 (dk_at dksX12_byteAt_0 8 rfl rfl)
theorem dX12_byteAt_9 : decode cX12_byteAt 9 = .ok (.getfield 17, 3) := dk_180 0 17 (dk_at dksX12_byteAt_0 9 rfl rfl)
theorem dX12_byteAt_12 : decode cX12_byteAt 12 = .ok (.iload_n 1, 1) := dk_27 (dk_at dksX12_byteAt_0 12 rfl rfl)
theorem dX12_byteAt_13 : decode cX12_byteAt 13 = .ok (.baload, 1) := dk_51 (dk_at dksX12_byteAt_0 13 rfl rfl)
theorem dX12_byteAt_14 : decode cX12_byteAt 14 = .ok (.sipush 255, 3) := dk_17 0 255 (dk_at dksX12_byteAt_0 14 rfl rfl)
theorem dX12_byteAt_17 : decode cX12_byteAt 17 = .ok (.iand, 1) := dk_126 (dk_at dksX12_byteAt_0 17 rfl rfl)
theorem dX12_byteAt_18 : decode cX12_byteAt 18 = .ok (.goto 4, 3) := dk_167 0 4 (dk_at dksX12_byteAt_0 18 rfl rfl)
theorem dX12_byteAt_21 : decode cX12_byteAt 21 = .ok (.iconst 0, 1) := dk_3 (dk_at dksX12_byteAt_0 21 rfl rfl)
theorem dX12_byteAt_22 : decode cX12_byteAt 22 = .ok (.ireturn, 1) := dk_172 (dk_at dksX12_byteAt_0 22 rfl rfl)
abbrev cX12_token : ByteArray := prog_22_method_11_code
def yX12_token : MethodName := ⟨RX12, "token", "(IIIJ)V"⟩
def dkwX12_token_2 : List UInt8 := [181, 0, 187, 177]
abbrev dktX12_token_2 : List UInt8 := dkwX12_token_2 ++ []
def dkwX12_token_1 : List UInt8 := [42, 180, 0, 187, 29, 79, 42, 180, 0, 30, 42, 180, 0, 187, 22, 4, 80, 42, 89, 180, 0, 187, 4, 96]
abbrev dktX12_token_1 : List UInt8 := dkwX12_token_1 ++ dktX12_token_2
def dkwX12_token_0 : List UInt8 := [42, 180, 0, 20, 42, 180, 0, 187, 27, 79, 42, 180, 0, 24, 42, 180, 0, 187, 28, 79, 42, 180, 0, 27]
abbrev dktX12_token_0 : List UInt8 := dkwX12_token_0 ++ dktX12_token_1
theorem dksX12_token_0 : cX12_token.data.toList.drop 0 = dktX12_token_0 := by decide +kernel
theorem dksX12_token_1 : cX12_token.data.toList.drop 24 = dktX12_token_1 := dk_seg dksX12_token_0 24 rfl rfl
theorem dksX12_token_2 : cX12_token.data.toList.drop 48 = dktX12_token_2 := dk_seg dksX12_token_1 24 rfl rfl
theorem dX12_token_0 : decode cX12_token 0 = .ok (.aload_n 0, 1) := dk_42 (dk_at dksX12_token_0 0 rfl rfl)
theorem dX12_token_1 : decode cX12_token 1 = .ok (.getfield 20, 3) := dk_180 0 20 (dk_at dksX12_token_0 1 rfl rfl)
theorem dX12_token_4 : decode cX12_token 4 = .ok (.aload_n 0, 1) := dk_42 (dk_at dksX12_token_0 4 rfl rfl)
theorem dX12_token_5 : decode cX12_token 5 = .ok (.getfield 187, 3) := dk_180 0 187 (dk_at dksX12_token_0 5 rfl rfl)
theorem dX12_token_8 : decode cX12_token 8 = .ok (.iload_n 1, 1) := dk_27 (dk_at dksX12_token_0 8 rfl rfl)
theorem dX12_token_9 : decode cX12_token 9 = .ok (.iastore, 1) := dk_79 (dk_at dksX12_token_0 9 rfl rfl)
theorem dX12_token_10 : decode cX12_token 10 = .ok (.aload_n 0, 1) := dk_42 (dk_at dksX12_token_0 10 rfl rfl)
theorem dX12_token_11 : decode cX12_token 11 = .ok (.getfield 24, 3) := dk_180 0 24 (dk_at dksX12_token_0 11 rfl rfl)
theorem dX12_token_14 : decode cX12_token 14 = .ok (.aload_n 0, 1) := dk_42 (dk_at dksX12_token_0 14 rfl rfl)
theorem dX12_token_15 : decode cX12_token 15 = .ok (.getfield 187, 3) := dk_180 0 187 (dk_at dksX12_token_0 15 rfl rfl)
theorem dX12_token_18 : decode cX12_token 18 = .ok (.iload_n 2, 1) := dk_28 (dk_at dksX12_token_0 18 rfl rfl)
theorem dX12_token_19 : decode cX12_token 19 = .ok (.iastore, 1) := dk_79 (dk_at dksX12_token_0 19 rfl rfl)
theorem dX12_token_20 : decode cX12_token 20 = .ok (.aload_n 0, 1) := dk_42 (dk_at dksX12_token_0 20 rfl rfl)
theorem dX12_token_21 : decode cX12_token 21 = .ok (.getfield 27, 3) := dk_180 0 27 (dk_at dksX12_token_0 21 rfl rfl)
theorem dX12_token_24 : decode cX12_token 24 = .ok (.aload_n 0, 1) := dk_42 (dk_at dksX12_token_1 0 rfl rfl)
theorem dX12_token_25 : decode cX12_token 25 = .ok (.getfield 187, 3) := dk_180 0 187 (dk_at dksX12_token_1 1 rfl rfl)
theorem dX12_token_28 : decode cX12_token 28 = .ok (.iload_n 3, 1) := dk_29 (dk_at dksX12_token_1 4 rfl rfl)
theorem dX12_token_29 : decode cX12_token 29 = .ok (.iastore, 1) := dk_79 (dk_at dksX12_token_1 5 rfl rfl)
theorem dX12_token_30 : decode cX12_token 30 = .ok (.aload_n 0, 1) := dk_42 (dk_at dksX12_token_1 6 rfl rfl)
theorem dX12_token_31 : decode cX12_token 31 = .ok (.getfield 30, 3) := dk_180 0 30 (dk_at dksX12_token_1 7 rfl rfl)
theorem dX12_token_34 : decode cX12_token 34 = .ok (.aload_n 0, 1) := dk_42 (dk_at dksX12_token_1 10 rfl rfl)
theorem dX12_token_35 : decode cX12_token 35 = .ok (.getfield 187, 3) := dk_180 0 187 (dk_at dksX12_token_1 11 rfl rfl)
theorem dX12_token_38 : decode cX12_token 38 = .ok (.lload 4, 2) := dk_22 4 (dk_at dksX12_token_1 14 rfl rfl)
theorem dX12_token_40 : decode cX12_token 40 = .ok (.lastore, 1) := dk_80 (dk_at dksX12_token_1 16 rfl rfl)
theorem dX12_token_41 : decode cX12_token 41 = .ok (.aload_n 0, 1) := dk_42 (dk_at dksX12_token_1 17 rfl rfl)
theorem dX12_token_42 : decode cX12_token 42 = .ok (.dup, 1) := dk_89 (dk_at dksX12_token_1 18 rfl rfl)
theorem dX12_token_43 : decode cX12_token 43 = .ok (.getfield 187, 3) := dk_180 0 187 (dk_at dksX12_token_1 19 rfl rfl)
theorem dX12_token_46 : decode cX12_token 46 = .ok (.iconst 1, 1) := dk_4 (dk_at dksX12_token_1 22 rfl rfl)
theorem dX12_token_47 : decode cX12_token 47 = .ok (.iadd, 1) := dk_96 (dk_at dksX12_token_1 23 rfl rfl)
theorem dX12_token_48 : decode cX12_token 48 = .ok (.putfield 187, 3) := dk_181 0 187 (dk_at dksX12_token_2 0 rfl rfl)
theorem dX12_token_51 : decode cX12_token 51 = .ok (.return_, 1) := dk_177 (dk_at dksX12_token_2 3 rfl rfl)
abbrev cX12_isLetter : ByteArray := prog_22_method_8_code
def yX12_isLetter : MethodName := ⟨RX12, "isLetter", "(I)Z"⟩
def dkwX12_isLetter_0 : List UInt8 := [26, 16, 97, 161, 0, 13, 26, 16, 122, 163, 0, 7, 4, 167, 0, 4, 3, 172]
abbrev dktX12_isLetter_0 : List UInt8 := dkwX12_isLetter_0 ++ []
theorem dksX12_isLetter_0 : cX12_isLetter.data.toList.drop 0 = dktX12_isLetter_0 := by decide +kernel
theorem dX12_isLetter_0 : decode cX12_isLetter 0 = .ok (.iload_n 0, 1) := dk_26 (dk_at dksX12_isLetter_0 0 rfl rfl)
theorem dX12_isLetter_1 : decode cX12_isLetter 1 = .ok (.bipush 97, 2) := dk_16 97 (dk_at dksX12_isLetter_0 1 rfl rfl)
theorem dX12_isLetter_3 : decode cX12_isLetter 3 = .ok (.if_icmp .lt 13, 3) := dk_161 0 13 (dk_at dksX12_isLetter_0 3 rfl rfl)
theorem dX12_isLetter_6 : decode cX12_isLetter 6 = .ok (.iload_n 0, 1) := dk_26 (dk_at dksX12_isLetter_0 6 rfl rfl)
theorem dX12_isLetter_7 : decode cX12_isLetter 7 = .ok (.bipush 122, 2) := dk_16 122 (dk_at dksX12_isLetter_0 7 rfl rfl)
theorem dX12_isLetter_9 : decode cX12_isLetter 9 = .ok (.if_icmp .gt 7, 3) := dk_163 0 7 (dk_at dksX12_isLetter_0 9 rfl rfl)
theorem dX12_isLetter_12 : decode cX12_isLetter 12 = .ok (.iconst 1, 1) := dk_4 (dk_at dksX12_isLetter_0 12 rfl rfl)
theorem dX12_isLetter_13 : decode cX12_isLetter 13 = .ok (.goto 4, 3) := dk_167 0 4 (dk_at dksX12_isLetter_0 13 rfl rfl)
theorem dX12_isLetter_16 : decode cX12_isLetter 16 = .ok (.iconst 0, 1) := dk_3 (dk_at dksX12_isLetter_0 16 rfl rfl)
theorem dX12_isLetter_17 : decode cX12_isLetter 17 = .ok (.ireturn, 1) := dk_172 (dk_at dksX12_isLetter_0 17 rfl rfl)
abbrev cX12_isDigit : ByteArray := prog_22_method_7_code
def yX12_isDigit : MethodName := ⟨RX12, "isDigit", "(I)Z"⟩
def dkwX12_isDigit_0 : List UInt8 := [26, 16, 48, 161, 0, 13, 26, 16, 57, 163, 0, 7, 4, 167, 0, 4, 3, 172]
abbrev dktX12_isDigit_0 : List UInt8 := dkwX12_isDigit_0 ++ []
theorem dksX12_isDigit_0 : cX12_isDigit.data.toList.drop 0 = dktX12_isDigit_0 := by decide +kernel
theorem dX12_isDigit_0 : decode cX12_isDigit 0 = .ok (.iload_n 0, 1) := dk_26 (dk_at dksX12_isDigit_0 0 rfl rfl)
theorem dX12_isDigit_1 : decode cX12_isDigit 1 = .ok (.bipush 48, 2) := dk_16 48 (dk_at dksX12_isDigit_0 1 rfl rfl)
theorem dX12_isDigit_3 : decode cX12_isDigit 3 = .ok (.if_icmp .lt 13, 3) := dk_161 0 13 (dk_at dksX12_isDigit_0 3 rfl rfl)
theorem dX12_isDigit_6 : decode cX12_isDigit 6 = .ok (.iload_n 0, 1) := dk_26 (dk_at dksX12_isDigit_0 6 rfl rfl)
theorem dX12_isDigit_7 : decode cX12_isDigit 7 = .ok (.bipush 57, 2) := dk_16 57 (dk_at dksX12_isDigit_0 7 rfl rfl)
theorem dX12_isDigit_9 : decode cX12_isDigit 9 = .ok (.if_icmp .gt 7, 3) := dk_163 0 7 (dk_at dksX12_isDigit_0 9 rfl rfl)
theorem dX12_isDigit_12 : decode cX12_isDigit 12 = .ok (.iconst 1, 1) := dk_4 (dk_at dksX12_isDigit_0 12 rfl rfl)
theorem dX12_isDigit_13 : decode cX12_isDigit 13 = .ok (.goto 4, 3) := dk_167 0 4 (dk_at dksX12_isDigit_0 13 rfl rfl)
theorem dX12_isDigit_16 : decode cX12_isDigit 16 = .ok (.iconst 0, 1) := dk_3 (dk_at dksX12_isDigit_0 16 rfl rfl)
theorem dX12_isDigit_17 : decode cX12_isDigit 17 = .ok (.ireturn, 1) := dk_172 (dk_at dksX12_isDigit_0 17 rfl rfl)
abbrev cX12_sign : ByteArray := prog_22_method_13_code
def yX12_sign : MethodName := ⟨RX12, "sign", "(III)I"⟩
def dkwX12_sign_4 : List UInt8 := [16, 13, 54, 4, 42, 21, 4, 27, 3, 9, 182, 0, 194, 4, 172]
abbrev dktX12_sign_4 : List UInt8 := dkwX12_sign_4 ++ []
def dkwX12_sign_3 : List UInt8 := [160, 0, 7, 16, 10, 54, 4, 28, 16, 47, 160, 0, 7, 16, 15, 54, 4, 28, 16, 60, 160, 0, 7]
abbrev dktX12_sign_3 : List UInt8 := dkwX12_sign_3 ++ dktX12_sign_4
def dkwX12_sign_2 : List UInt8 := [16, 43, 160, 0, 7, 16, 8, 54, 4, 28, 16, 45, 160, 0, 7, 16, 9, 54, 4, 28, 16, 42]
abbrev dktX12_sign_2 : List UInt8 := dkwX12_sign_2 ++ dktX12_sign_3
def dkwX12_sign_1 : List UInt8 := [160, 0, 8, 16, 6, 167, 0, 15, 28, 16, 41, 160, 0, 8, 16, 7, 167, 0, 4, 6, 54, 4, 28]
abbrev dktX12_sign_1 : List UInt8 := dkwX12_sign_1 ++ dktX12_sign_2
def dkwX12_sign_0 : List UInt8 := [28, 16, 59, 160, 0, 7, 7, 167, 0, 36, 28, 16, 61, 160, 0, 7, 8, 167, 0, 26, 28, 16, 40]
abbrev dktX12_sign_0 : List UInt8 := dkwX12_sign_0 ++ dktX12_sign_1
theorem dksX12_sign_0 : cX12_sign.data.toList.drop 0 = dktX12_sign_0 := by decide +kernel
theorem dksX12_sign_1 : cX12_sign.data.toList.drop 23 = dktX12_sign_1 := dk_seg dksX12_sign_0 23 rfl rfl
theorem dksX12_sign_2 : cX12_sign.data.toList.drop 46 = dktX12_sign_2 := dk_seg dksX12_sign_1 23 rfl rfl
theorem dksX12_sign_3 : cX12_sign.data.toList.drop 68 = dktX12_sign_3 := dk_seg dksX12_sign_2 22 rfl rfl
theorem dksX12_sign_4 : cX12_sign.data.toList.drop 91 = dktX12_sign_4 := dk_seg dksX12_sign_3 23 rfl rfl
theorem dX12_sign_0 : decode cX12_sign 0 = .ok (.iload_n 2, 1) := dk_28 (dk_at dksX12_sign_0 0 rfl rfl)
theorem dX12_sign_1 : decode cX12_sign 1 = .ok (.bipush 59, 2) := dk_16 59 (dk_at dksX12_sign_0 1 rfl rfl)
theorem dX12_sign_3 : decode cX12_sign 3 = .ok (.if_icmp .ne 7, 3) := dk_160 0 7 (dk_at dksX12_sign_0 3 rfl rfl)
theorem dX12_sign_6 : decode cX12_sign 6 = .ok (.iconst 4, 1) := dk_7 (dk_at dksX12_sign_0 6 rfl rfl)
theorem dX12_sign_7 : decode cX12_sign 7 = .ok (.goto 36, 3) := dk_167 0 36 (dk_at dksX12_sign_0 7 rfl rfl)
theorem dX12_sign_10 : decode cX12_sign 10 = .ok (.iload_n 2, 1) := dk_28 (dk_at dksX12_sign_0 10 rfl rfl)
theorem dX12_sign_11 : decode cX12_sign 11 = .ok (.bipush 61, 2) := dk_16 61 (dk_at dksX12_sign_0 11 rfl rfl)
theorem dX12_sign_13 : decode cX12_sign 13 = .ok (.if_icmp .ne 7, 3) := dk_160 0 7 (dk_at dksX12_sign_0 13 rfl rfl)
theorem dX12_sign_16 : decode cX12_sign 16 = .ok (.iconst 5, 1) := dk_8 (dk_at dksX12_sign_0 16 rfl rfl)
theorem dX12_sign_17 : decode cX12_sign 17 = .ok (.goto 26, 3) := dk_167 0 26 (dk_at dksX12_sign_0 17 rfl rfl)
theorem dX12_sign_20 : decode cX12_sign 20 = .ok (.iload_n 2, 1) := dk_28 (dk_at dksX12_sign_0 20 rfl rfl)
theorem dX12_sign_21 : decode cX12_sign 21 = .ok (.bipush 40, 2) := dk_16 40 (dk_at dksX12_sign_0 21 rfl rfl)
theorem dX12_sign_23 : decode cX12_sign 23 = .ok (.if_icmp .ne 8, 3) := dk_160 0 8 (dk_at dksX12_sign_1 0 rfl rfl)
theorem dX12_sign_26 : decode cX12_sign 26 = .ok (.bipush 6, 2) := dk_16 6 (dk_at dksX12_sign_1 3 rfl rfl)
theorem dX12_sign_28 : decode cX12_sign 28 = .ok (.goto 15, 3) := dk_167 0 15 (dk_at dksX12_sign_1 5 rfl rfl)
theorem dX12_sign_31 : decode cX12_sign 31 = .ok (.iload_n 2, 1) := dk_28 (dk_at dksX12_sign_1 8 rfl rfl)
theorem dX12_sign_32 : decode cX12_sign 32 = .ok (.bipush 41, 2) := dk_16 41 (dk_at dksX12_sign_1 9 rfl rfl)
theorem dX12_sign_34 : decode cX12_sign 34 = .ok (.if_icmp .ne 8, 3) := dk_160 0 8 (dk_at dksX12_sign_1 11 rfl rfl)
theorem dX12_sign_37 : decode cX12_sign 37 = .ok (.bipush 7, 2) := dk_16 7 (dk_at dksX12_sign_1 14 rfl rfl)
theorem dX12_sign_39 : decode cX12_sign 39 = .ok (.goto 4, 3) := dk_167 0 4 (dk_at dksX12_sign_1 16 rfl rfl)
theorem dX12_sign_42 : decode cX12_sign 42 = .ok (.iconst 3, 1) := dk_6 (dk_at dksX12_sign_1 19 rfl rfl)
theorem dX12_sign_43 : decode cX12_sign 43 = .ok (.istore 4, 2) := dk_54 4 (dk_at dksX12_sign_1 20 rfl rfl)
theorem dX12_sign_45 : decode cX12_sign 45 = .ok (.iload_n 2, 1) := dk_28 (dk_at dksX12_sign_1 22 rfl rfl)
theorem dX12_sign_46 : decode cX12_sign 46 = .ok (.bipush 43, 2) := dk_16 43 (dk_at dksX12_sign_2 0 rfl rfl)
theorem dX12_sign_48 : decode cX12_sign 48 = .ok (.if_icmp .ne 7, 3) := dk_160 0 7 (dk_at dksX12_sign_2 2 rfl rfl)
theorem dX12_sign_51 : decode cX12_sign 51 = .ok (.bipush 8, 2) := dk_16 8 (dk_at dksX12_sign_2 5 rfl rfl)
theorem dX12_sign_53 : decode cX12_sign 53 = .ok (.istore 4, 2) := dk_54 4 (dk_at dksX12_sign_2 7 rfl rfl)
theorem dX12_sign_55 : decode cX12_sign 55 = .ok (.iload_n 2, 1) := dk_28 (dk_at dksX12_sign_2 9 rfl rfl)
theorem dX12_sign_56 : decode cX12_sign 56 = .ok (.bipush 45, 2) := dk_16 45 (dk_at dksX12_sign_2 10 rfl rfl)
theorem dX12_sign_58 : decode cX12_sign 58 = .ok (.if_icmp .ne 7, 3) := dk_160 0 7 (dk_at dksX12_sign_2 12 rfl rfl)
theorem dX12_sign_61 : decode cX12_sign 61 = .ok (.bipush 9, 2) := dk_16 9 (dk_at dksX12_sign_2 15 rfl rfl)
theorem dX12_sign_63 : decode cX12_sign 63 = .ok (.istore 4, 2) := dk_54 4 (dk_at dksX12_sign_2 17 rfl rfl)
theorem dX12_sign_65 : decode cX12_sign 65 = .ok (.iload_n 2, 1) := dk_28 (dk_at dksX12_sign_2 19 rfl rfl)
theorem dX12_sign_66 : decode cX12_sign 66 = .ok (.bipush 42, 2) := dk_16 42 (dk_at dksX12_sign_2 20 rfl rfl)
theorem dX12_sign_68 : decode cX12_sign 68 = .ok (.if_icmp .ne 7, 3) := dk_160 0 7 (dk_at dksX12_sign_3 0 rfl rfl)
theorem dX12_sign_71 : decode cX12_sign 71 = .ok (.bipush 10, 2) := dk_16 10 (dk_at dksX12_sign_3 3 rfl rfl)
theorem dX12_sign_73 : decode cX12_sign 73 = .ok (.istore 4, 2) := dk_54 4 (dk_at dksX12_sign_3 5 rfl rfl)
theorem dX12_sign_75 : decode cX12_sign 75 = .ok (.iload_n 2, 1) := dk_28 (dk_at dksX12_sign_3 7 rfl rfl)
theorem dX12_sign_76 : decode cX12_sign 76 = .ok (.bipush 47, 2) := dk_16 47 (dk_at dksX12_sign_3 8 rfl rfl)
theorem dX12_sign_78 : decode cX12_sign 78 = .ok (.if_icmp .ne 7, 3) := dk_160 0 7 (dk_at dksX12_sign_3 10 rfl rfl)
theorem dX12_sign_81 : decode cX12_sign 81 = .ok (.bipush 15, 2) := dk_16 15 (dk_at dksX12_sign_3 13 rfl rfl)
theorem dX12_sign_83 : decode cX12_sign 83 = .ok (.istore 4, 2) := dk_54 4 (dk_at dksX12_sign_3 15 rfl rfl)
theorem dX12_sign_85 : decode cX12_sign 85 = .ok (.iload_n 2, 1) := dk_28 (dk_at dksX12_sign_3 17 rfl rfl)
theorem dX12_sign_86 : decode cX12_sign 86 = .ok (.bipush 60, 2) := dk_16 60 (dk_at dksX12_sign_3 18 rfl rfl)
theorem dX12_sign_88 : decode cX12_sign 88 = .ok (.if_icmp .ne 7, 3) := dk_160 0 7 (dk_at dksX12_sign_3 20 rfl rfl)
theorem dX12_sign_91 : decode cX12_sign 91 = .ok (.bipush 13, 2) := dk_16 13 (dk_at dksX12_sign_4 0 rfl rfl)
theorem dX12_sign_93 : decode cX12_sign 93 = .ok (.istore 4, 2) := dk_54 4 (dk_at dksX12_sign_4 2 rfl rfl)
theorem dX12_sign_95 : decode cX12_sign 95 = .ok (.aload_n 0, 1) := dk_42 (dk_at dksX12_sign_4 4 rfl rfl)
theorem dX12_sign_96 : decode cX12_sign 96 = .ok (.iload 4, 2) := dk_21 4 (dk_at dksX12_sign_4 5 rfl rfl)
theorem dX12_sign_98 : decode cX12_sign 98 = .ok (.iload_n 1, 1) := dk_27 (dk_at dksX12_sign_4 7 rfl rfl)
theorem dX12_sign_99 : decode cX12_sign 99 = .ok (.iconst 0, 1) := dk_3 (dk_at dksX12_sign_4 8 rfl rfl)
theorem dX12_sign_100 : decode cX12_sign 100 = .ok (.lconst 0, 1) := dk_9 (dk_at dksX12_sign_4 9 rfl rfl)
theorem dX12_sign_101 : decode cX12_sign 101 = .ok (.invokevirtual 194, 3) := dk_182 0 194 (dk_at dksX12_sign_4 10 rfl rfl)
theorem dX12_sign_104 : decode cX12_sign 104 = .ok (.iconst 1, 1) := dk_4 (dk_at dksX12_sign_4 13 rfl rfl)
theorem dX12_sign_105 : decode cX12_sign 105 = .ok (.ireturn, 1) := dk_172 (dk_at dksX12_sign_4 14 rfl rfl)
abbrev cX12_is : ByteArray := prog_22_method_14_code
def yX12_is : MethodName := ⟨RX12, "is", "(I)Z"⟩
def dkwX12_is_1 : List UInt8 := [3, 172]
abbrev dktX12_is_1 : List UInt8 := dkwX12_is_1 ++ []
def dkwX12_is_0 : List UInt8 := [42, 180, 0, 209, 154, 0, 20, 42, 180, 0, 20, 42, 180, 0, 212, 46, 27, 160, 0, 7, 4, 167, 0, 4]
abbrev dktX12_is_0 : List UInt8 := dkwX12_is_0 ++ dktX12_is_1
theorem dksX12_is_0 : cX12_is.data.toList.drop 0 = dktX12_is_0 := by decide +kernel
theorem dksX12_is_1 : cX12_is.data.toList.drop 24 = dktX12_is_1 := dk_seg dksX12_is_0 24 rfl rfl
theorem dX12_is_0 : decode cX12_is 0 = .ok (.aload_n 0, 1) := dk_42 (dk_at dksX12_is_0 0 rfl rfl)
theorem dX12_is_1 : decode cX12_is 1 = .ok (.getfield 209, 3) := dk_180 0 209 (dk_at dksX12_is_0 1 rfl rfl)
theorem dX12_is_4 : decode cX12_is 4 = .ok (.ifCond .ne 20, 3) := dk_154 0 20 (dk_at dksX12_is_0 4 rfl rfl)
theorem dX12_is_7 : decode cX12_is 7 = .ok (.aload_n 0, 1) := dk_42 (dk_at dksX12_is_0 7 rfl rfl)
theorem dX12_is_8 : decode cX12_is 8 = .ok (.getfield 20, 3) := dk_180 0 20 (dk_at dksX12_is_0 8 rfl rfl)
theorem dX12_is_11 : decode cX12_is 11 = .ok (.aload_n 0, 1) := dk_42 (dk_at dksX12_is_0 11 rfl rfl)
theorem dX12_is_12 : decode cX12_is 12 = .ok (.getfield 212, 3) := dk_180 0 212 (dk_at dksX12_is_0 12 rfl rfl)
theorem dX12_is_15 : decode cX12_is 15 = .ok (.iaload, 1) := dk_46 (dk_at dksX12_is_0 15 rfl rfl)
theorem dX12_is_16 : decode cX12_is 16 = .ok (.iload_n 1, 1) := dk_27 (dk_at dksX12_is_0 16 rfl rfl)
theorem dX12_is_17 : decode cX12_is 17 = .ok (.if_icmp .ne 7, 3) := dk_160 0 7 (dk_at dksX12_is_0 17 rfl rfl)
theorem dX12_is_20 : decode cX12_is 20 = .ok (.iconst 1, 1) := dk_4 (dk_at dksX12_is_0 20 rfl rfl)
theorem dX12_is_21 : decode cX12_is 21 = .ok (.goto 4, 3) := dk_167 0 4 (dk_at dksX12_is_0 21 rfl rfl)
theorem dX12_is_24 : decode cX12_is 24 = .ok (.iconst 0, 1) := dk_3 (dk_at dksX12_is_1 0 rfl rfl)
theorem dX12_is_25 : decode cX12_is 25 = .ok (.ireturn, 1) := dk_172 (dk_at dksX12_is_1 1 rfl rfl)
abbrev cX12_tellOne : ByteArray := prog_22_method_24_code
def yX12_tellOne : MethodName := ⟨RX12, "tellOne", "()V"⟩
def dkwX12_tellOne_11 : List UInt8 := [42, 180, 0, 209, 158, 0, 4, 177, 42, 182, 0, 230, 42, 27, 182, 1, 34, 177]
abbrev dktX12_tellOne_11 : List UInt8 := dkwX12_tellOne_11 ++ []
def dkwX12_tellOne_10 : List UInt8 := [60, 27, 155, 0, 17, 42, 180, 0, 20, 42, 180, 0, 212, 46, 16, 25, 164, 0, 8, 42, 4, 182, 0, 224]
abbrev dktX12_tellOne_10 : List UInt8 := dkwX12_tellOne_10 ++ dktX12_tellOne_11
def dkwX12_tellOne_9 : List UInt8 := [182, 1, 27, 79, 42, 7, 182, 1, 31, 167, 0, 56, 42, 180, 0, 20, 42, 180, 0, 212, 46, 16, 23, 100]
abbrev dktX12_tellOne_9 : List UInt8 := dkwX12_tellOne_9 ++ dktX12_tellOne_10
def dkwX12_tellOne_8 : List UInt8 := [182, 1, 31, 167, 0, 85, 42, 182, 0, 230, 42, 180, 0, 76, 42, 180, 0, 242, 42, 3, 17, 39, 15]
abbrev dktX12_tellOne_8 : List UInt8 := dkwX12_tellOne_8 ++ dktX12_tellOne_9
def dkwX12_tellOne_7 : List UInt8 := [42, 182, 0, 230, 42, 180, 0, 73, 42, 180, 0, 242, 42, 3, 16, 100, 182, 1, 27, 79, 42, 7]
abbrev dktX12_tellOne_7 : List UInt8 := dkwX12_tellOne_7 ++ dktX12_tellOne_8
def dkwX12_tellOne_6 : List UInt8 := [180, 0, 70, 42, 180, 0, 242, 42, 3, 17, 39, 15, 182, 1, 27, 79, 42, 7, 182, 1, 31, 167, 0, 113]
abbrev dktX12_tellOne_6 : List UInt8 := dkwX12_tellOne_6 ++ dktX12_tellOne_7
def dkwX12_tellOne_5 : List UInt8 := [182, 1, 15, 42, 180, 0, 209, 154, 0, 149, 42, 182, 1, 24, 167, 0, 142, 42, 182, 0, 230, 42]
abbrev dktX12_tellOne_5 : List UInt8 := dkwX12_tellOne_5 ++ dktX12_tellOne_6
def dkwX12_tellOne_4 : List UInt8 := [180, 0, 209, 154, 0, 177, 42, 182, 1, 21, 167, 0, 170, 42, 42, 180, 0, 61, 42, 180, 0, 242, 46, 7]
abbrev dktX12_tellOne_4 : List UInt8 := dkwX12_tellOne_4 ++ dktX12_tellOne_5
def dkwX12_tellOne_3 : List UInt8 := [182, 1, 18, 167, 0, 199, 42, 42, 180, 0, 52, 42, 180, 0, 242, 46, 16, 6, 182, 1, 15, 42]
abbrev dktX12_tellOne_3 : List UInt8 := dkwX12_tellOne_3 ++ dktX12_tellOne_4
def dkwX12_tellOne_2 : List UInt8 := [42, 42, 180, 0, 43, 42, 180, 0, 242, 46, 16, 6, 182, 1, 15, 42, 180, 0, 209, 154, 0, 206, 42]
abbrev dktX12_tellOne_2 : List UInt8 := dkwX12_tellOne_2 ++ dktX12_tellOne_3
def dkwX12_tellOne_1 : List UInt8 := [170, 0, 0, 0, 0, 0, 223, 0, 0, 0, 20, 0, 0, 0, 28, 0, 0, 0, 51, 0, 0, 0, 80, 0, 0, 0, 109, 0, 0, 0, 223, 0, 0, 0, 223, 0, 0, 0, 223, 0, 0, 0, 137, 0, 0, 0, 166, 0, 0, 0, 194]
abbrev dktX12_tellOne_1 : List UInt8 := dkwX12_tellOne_1 ++ dktX12_tellOne_2
def dkwX12_tellOne_0 : List UInt8 := [42, 180, 0, 20, 42, 180, 0, 212, 46]
abbrev dktX12_tellOne_0 : List UInt8 := dkwX12_tellOne_0 ++ dktX12_tellOne_1
theorem dksX12_tellOne_0 : cX12_tellOne.data.toList.drop 0 = dktX12_tellOne_0 := by decide +kernel
theorem dksX12_tellOne_1 : cX12_tellOne.data.toList.drop 9 = dktX12_tellOne_1 := dk_seg dksX12_tellOne_0 9 rfl rfl
theorem dksX12_tellOne_2 : cX12_tellOne.data.toList.drop 60 = dktX12_tellOne_2 := dk_seg dksX12_tellOne_1 51 rfl rfl
theorem dksX12_tellOne_3 : cX12_tellOne.data.toList.drop 83 = dktX12_tellOne_3 := dk_seg dksX12_tellOne_2 23 rfl rfl
theorem dksX12_tellOne_4 : cX12_tellOne.data.toList.drop 105 = dktX12_tellOne_4 := dk_seg dksX12_tellOne_3 22 rfl rfl
theorem dksX12_tellOne_5 : cX12_tellOne.data.toList.drop 129 = dktX12_tellOne_5 := dk_seg dksX12_tellOne_4 24 rfl rfl
theorem dksX12_tellOne_6 : cX12_tellOne.data.toList.drop 151 = dktX12_tellOne_6 := dk_seg dksX12_tellOne_5 22 rfl rfl
theorem dksX12_tellOne_7 : cX12_tellOne.data.toList.drop 175 = dktX12_tellOne_7 := dk_seg dksX12_tellOne_6 24 rfl rfl
theorem dksX12_tellOne_8 : cX12_tellOne.data.toList.drop 197 = dktX12_tellOne_8 := dk_seg dksX12_tellOne_7 22 rfl rfl
theorem dksX12_tellOne_9 : cX12_tellOne.data.toList.drop 220 = dktX12_tellOne_9 := dk_seg dksX12_tellOne_8 23 rfl rfl
theorem dksX12_tellOne_10 : cX12_tellOne.data.toList.drop 244 = dktX12_tellOne_10 := dk_seg dksX12_tellOne_9 24 rfl rfl
theorem dksX12_tellOne_11 : cX12_tellOne.data.toList.drop 268 = dktX12_tellOne_11 := dk_seg dksX12_tellOne_10 24 rfl rfl
theorem dX12_tellOne_0 : decode cX12_tellOne 0 = .ok (.aload_n 0, 1) := dk_42 (dk_at dksX12_tellOne_0 0 rfl rfl)
theorem dX12_tellOne_1 : decode cX12_tellOne 1 = .ok (.getfield 20, 3) := dk_180 0 20 (dk_at dksX12_tellOne_0 1 rfl rfl)
theorem dX12_tellOne_4 : decode cX12_tellOne 4 = .ok (.aload_n 0, 1) := dk_42 (dk_at dksX12_tellOne_0 4 rfl rfl)
theorem dX12_tellOne_5 : decode cX12_tellOne 5 = .ok (.getfield 212, 3) := dk_180 0 212 (dk_at dksX12_tellOne_0 5 rfl rfl)
theorem dX12_tellOne_8 : decode cX12_tellOne 8 = .ok (.iaload, 1) := dk_46 (dk_at dksX12_tellOne_0 8 rfl rfl)
theorem dX12_tellOne_9 : decode cX12_tellOne 9 = .ok (.tableswitch 223 20 28 #[51, 80, 109, 223, 223, 223, 137, 166, 194], 51) := by decide +kernel
theorem dX12_tellOne_60 : decode cX12_tellOne 60 = .ok (.aload_n 0, 1) := dk_42 (dk_at dksX12_tellOne_2 0 rfl rfl)
theorem dX12_tellOne_61 : decode cX12_tellOne 61 = .ok (.aload_n 0, 1) := dk_42 (dk_at dksX12_tellOne_2 1 rfl rfl)
theorem dX12_tellOne_62 : decode cX12_tellOne 62 = .ok (.getfield 43, 3) := dk_180 0 43 (dk_at dksX12_tellOne_2 2 rfl rfl)
theorem dX12_tellOne_65 : decode cX12_tellOne 65 = .ok (.aload_n 0, 1) := dk_42 (dk_at dksX12_tellOne_2 5 rfl rfl)
theorem dX12_tellOne_66 : decode cX12_tellOne 66 = .ok (.getfield 242, 3) := dk_180 0 242 (dk_at dksX12_tellOne_2 6 rfl rfl)
theorem dX12_tellOne_69 : decode cX12_tellOne 69 = .ok (.iaload, 1) := dk_46 (dk_at dksX12_tellOne_2 9 rfl rfl)
theorem dX12_tellOne_70 : decode cX12_tellOne 70 = .ok (.bipush 6, 2) := dk_16 6 (dk_at dksX12_tellOne_2 10 rfl rfl)
theorem dX12_tellOne_72 : decode cX12_tellOne 72 = .ok (.invokevirtual 271, 3) := dk_182 1 15 (dk_at dksX12_tellOne_2 12 rfl rfl)
theorem dX12_tellOne_75 : decode cX12_tellOne 75 = .ok (.aload_n 0, 1) := dk_42 (dk_at dksX12_tellOne_2 15 rfl rfl)
theorem dX12_tellOne_76 : decode cX12_tellOne 76 = .ok (.getfield 209, 3) := dk_180 0 209 (dk_at dksX12_tellOne_2 16 rfl rfl)
theorem dX12_tellOne_79 : decode cX12_tellOne 79 = .ok (.ifCond .ne 206, 3) := dk_154 0 206 (dk_at dksX12_tellOne_2 19 rfl rfl)
theorem dX12_tellOne_82 : decode cX12_tellOne 82 = .ok (.aload_n 0, 1) := dk_42 (dk_at dksX12_tellOne_2 22 rfl rfl)
theorem dX12_tellOne_83 : decode cX12_tellOne 83 = .ok (.invokevirtual 274, 3) := dk_182 1 18 (dk_at dksX12_tellOne_3 0 rfl rfl)
theorem dX12_tellOne_86 : decode cX12_tellOne 86 = .ok (.goto 199, 3) := dk_167 0 199 (dk_at dksX12_tellOne_3 3 rfl rfl)
theorem dX12_tellOne_89 : decode cX12_tellOne 89 = .ok (.aload_n 0, 1) := dk_42 (dk_at dksX12_tellOne_3 6 rfl rfl)
theorem dX12_tellOne_90 : decode cX12_tellOne 90 = .ok (.aload_n 0, 1) := dk_42 (dk_at dksX12_tellOne_3 7 rfl rfl)
theorem dX12_tellOne_91 : decode cX12_tellOne 91 = .ok (.getfield 52, 3) := dk_180 0 52 (dk_at dksX12_tellOne_3 8 rfl rfl)
theorem dX12_tellOne_94 : decode cX12_tellOne 94 = .ok (.aload_n 0, 1) := dk_42 (dk_at dksX12_tellOne_3 11 rfl rfl)
theorem dX12_tellOne_95 : decode cX12_tellOne 95 = .ok (.getfield 242, 3) := dk_180 0 242 (dk_at dksX12_tellOne_3 12 rfl rfl)
theorem dX12_tellOne_98 : decode cX12_tellOne 98 = .ok (.iaload, 1) := dk_46 (dk_at dksX12_tellOne_3 15 rfl rfl)
theorem dX12_tellOne_99 : decode cX12_tellOne 99 = .ok (.bipush 6, 2) := dk_16 6 (dk_at dksX12_tellOne_3 16 rfl rfl)
theorem dX12_tellOne_101 : decode cX12_tellOne 101 = .ok (.invokevirtual 271, 3) := dk_182 1 15 (dk_at dksX12_tellOne_3 18 rfl rfl)
theorem dX12_tellOne_104 : decode cX12_tellOne 104 = .ok (.aload_n 0, 1) := dk_42 (dk_at dksX12_tellOne_3 21 rfl rfl)
theorem dX12_tellOne_105 : decode cX12_tellOne 105 = .ok (.getfield 209, 3) := dk_180 0 209 (dk_at dksX12_tellOne_4 0 rfl rfl)
theorem dX12_tellOne_108 : decode cX12_tellOne 108 = .ok (.ifCond .ne 177, 3) := dk_154 0 177 (dk_at dksX12_tellOne_4 3 rfl rfl)
theorem dX12_tellOne_111 : decode cX12_tellOne 111 = .ok (.aload_n 0, 1) := dk_42 (dk_at dksX12_tellOne_4 6 rfl rfl)
theorem dX12_tellOne_112 : decode cX12_tellOne 112 = .ok (.invokevirtual 277, 3) := dk_182 1 21 (dk_at dksX12_tellOne_4 7 rfl rfl)
theorem dX12_tellOne_115 : decode cX12_tellOne 115 = .ok (.goto 170, 3) := dk_167 0 170 (dk_at dksX12_tellOne_4 10 rfl rfl)
theorem dX12_tellOne_118 : decode cX12_tellOne 118 = .ok (.aload_n 0, 1) := dk_42 (dk_at dksX12_tellOne_4 13 rfl rfl)
theorem dX12_tellOne_119 : decode cX12_tellOne 119 = .ok (.aload_n 0, 1) := dk_42 (dk_at dksX12_tellOne_4 14 rfl rfl)
theorem dX12_tellOne_120 : decode cX12_tellOne 120 = .ok (.getfield 61, 3) := dk_180 0 61 (dk_at dksX12_tellOne_4 15 rfl rfl)
theorem dX12_tellOne_123 : decode cX12_tellOne 123 = .ok (.aload_n 0, 1) := dk_42 (dk_at dksX12_tellOne_4 18 rfl rfl)
theorem dX12_tellOne_124 : decode cX12_tellOne 124 = .ok (.getfield 242, 3) := dk_180 0 242 (dk_at dksX12_tellOne_4 19 rfl rfl)
theorem dX12_tellOne_127 : decode cX12_tellOne 127 = .ok (.iaload, 1) := dk_46 (dk_at dksX12_tellOne_4 22 rfl rfl)
theorem dX12_tellOne_128 : decode cX12_tellOne 128 = .ok (.iconst 4, 1) := dk_7 (dk_at dksX12_tellOne_4 23 rfl rfl)
theorem dX12_tellOne_129 : decode cX12_tellOne 129 = .ok (.invokevirtual 271, 3) := dk_182 1 15 (dk_at dksX12_tellOne_5 0 rfl rfl)
theorem dX12_tellOne_132 : decode cX12_tellOne 132 = .ok (.aload_n 0, 1) := dk_42 (dk_at dksX12_tellOne_5 3 rfl rfl)
theorem dX12_tellOne_133 : decode cX12_tellOne 133 = .ok (.getfield 209, 3) := dk_180 0 209 (dk_at dksX12_tellOne_5 4 rfl rfl)
theorem dX12_tellOne_136 : decode cX12_tellOne 136 = .ok (.ifCond .ne 149, 3) := dk_154 0 149 (dk_at dksX12_tellOne_5 7 rfl rfl)
theorem dX12_tellOne_139 : decode cX12_tellOne 139 = .ok (.aload_n 0, 1) := dk_42 (dk_at dksX12_tellOne_5 10 rfl rfl)
theorem dX12_tellOne_140 : decode cX12_tellOne 140 = .ok (.invokevirtual 280, 3) := dk_182 1 24 (dk_at dksX12_tellOne_5 11 rfl rfl)
theorem dX12_tellOne_143 : decode cX12_tellOne 143 = .ok (.goto 142, 3) := dk_167 0 142 (dk_at dksX12_tellOne_5 14 rfl rfl)
theorem dX12_tellOne_146 : decode cX12_tellOne 146 = .ok (.aload_n 0, 1) := dk_42 (dk_at dksX12_tellOne_5 17 rfl rfl)
theorem dX12_tellOne_147 : decode cX12_tellOne 147 = .ok (.invokevirtual 230, 3) := dk_182 0 230 (dk_at dksX12_tellOne_5 18 rfl rfl)
theorem dX12_tellOne_150 : decode cX12_tellOne 150 = .ok (.aload_n 0, 1) := dk_42 (dk_at dksX12_tellOne_5 21 rfl rfl)
theorem dX12_tellOne_151 : decode cX12_tellOne 151 = .ok (.getfield 70, 3) := dk_180 0 70 (dk_at dksX12_tellOne_6 0 rfl rfl)
theorem dX12_tellOne_154 : decode cX12_tellOne 154 = .ok (.aload_n 0, 1) := dk_42 (dk_at dksX12_tellOne_6 3 rfl rfl)
theorem dX12_tellOne_155 : decode cX12_tellOne 155 = .ok (.getfield 242, 3) := dk_180 0 242 (dk_at dksX12_tellOne_6 4 rfl rfl)
theorem dX12_tellOne_158 : decode cX12_tellOne 158 = .ok (.aload_n 0, 1) := dk_42 (dk_at dksX12_tellOne_6 7 rfl rfl)
theorem dX12_tellOne_159 : decode cX12_tellOne 159 = .ok (.iconst 0, 1) := dk_3 (dk_at dksX12_tellOne_6 8 rfl rfl)
theorem dX12_tellOne_160 : decode cX12_tellOne 160 = .ok (.sipush 9999, 3) := dk_17 39 15 (dk_at dksX12_tellOne_6 9 rfl rfl)
theorem dX12_tellOne_163 : decode cX12_tellOne 163 = .ok (.invokevirtual 283, 3) := dk_182 1 27 (dk_at dksX12_tellOne_6 12 rfl rfl)
theorem dX12_tellOne_166 : decode cX12_tellOne 166 = .ok (.iastore, 1) := dk_79 (dk_at dksX12_tellOne_6 15 rfl rfl)
theorem dX12_tellOne_167 : decode cX12_tellOne 167 = .ok (.aload_n 0, 1) := dk_42 (dk_at dksX12_tellOne_6 16 rfl rfl)
theorem dX12_tellOne_168 : decode cX12_tellOne 168 = .ok (.iconst 4, 1) := dk_7 (dk_at dksX12_tellOne_6 17 rfl rfl)
theorem dX12_tellOne_169 : decode cX12_tellOne 169 = .ok (.invokevirtual 287, 3) := dk_182 1 31 (dk_at dksX12_tellOne_6 18 rfl rfl)
theorem dX12_tellOne_172 : decode cX12_tellOne 172 = .ok (.goto 113, 3) := dk_167 0 113 (dk_at dksX12_tellOne_6 21 rfl rfl)
theorem dX12_tellOne_175 : decode cX12_tellOne 175 = .ok (.aload_n 0, 1) := dk_42 (dk_at dksX12_tellOne_7 0 rfl rfl)
theorem dX12_tellOne_176 : decode cX12_tellOne 176 = .ok (.invokevirtual 230, 3) := dk_182 0 230 (dk_at dksX12_tellOne_7 1 rfl rfl)
theorem dX12_tellOne_179 : decode cX12_tellOne 179 = .ok (.aload_n 0, 1) := dk_42 (dk_at dksX12_tellOne_7 4 rfl rfl)
theorem dX12_tellOne_180 : decode cX12_tellOne 180 = .ok (.getfield 73, 3) := dk_180 0 73 (dk_at dksX12_tellOne_7 5 rfl rfl)
theorem dX12_tellOne_183 : decode cX12_tellOne 183 = .ok (.aload_n 0, 1) := dk_42 (dk_at dksX12_tellOne_7 8 rfl rfl)
theorem dX12_tellOne_184 : decode cX12_tellOne 184 = .ok (.getfield 242, 3) := dk_180 0 242 (dk_at dksX12_tellOne_7 9 rfl rfl)
theorem dX12_tellOne_187 : decode cX12_tellOne 187 = .ok (.aload_n 0, 1) := dk_42 (dk_at dksX12_tellOne_7 12 rfl rfl)
theorem dX12_tellOne_188 : decode cX12_tellOne 188 = .ok (.iconst 0, 1) := dk_3 (dk_at dksX12_tellOne_7 13 rfl rfl)
theorem dX12_tellOne_189 : decode cX12_tellOne 189 = .ok (.bipush 100, 2) := dk_16 100 (dk_at dksX12_tellOne_7 14 rfl rfl)
theorem dX12_tellOne_191 : decode cX12_tellOne 191 = .ok (.invokevirtual 283, 3) := dk_182 1 27 (dk_at dksX12_tellOne_7 16 rfl rfl)
theorem dX12_tellOne_194 : decode cX12_tellOne 194 = .ok (.iastore, 1) := dk_79 (dk_at dksX12_tellOne_7 19 rfl rfl)
theorem dX12_tellOne_195 : decode cX12_tellOne 195 = .ok (.aload_n 0, 1) := dk_42 (dk_at dksX12_tellOne_7 20 rfl rfl)
theorem dX12_tellOne_196 : decode cX12_tellOne 196 = .ok (.iconst 4, 1) := dk_7 (dk_at dksX12_tellOne_7 21 rfl rfl)
theorem dX12_tellOne_197 : decode cX12_tellOne 197 = .ok (.invokevirtual 287, 3) := dk_182 1 31 (dk_at dksX12_tellOne_8 0 rfl rfl)
theorem dX12_tellOne_200 : decode cX12_tellOne 200 = .ok (.goto 85, 3) := dk_167 0 85 (dk_at dksX12_tellOne_8 3 rfl rfl)
theorem dX12_tellOne_203 : decode cX12_tellOne 203 = .ok (.aload_n 0, 1) := dk_42 (dk_at dksX12_tellOne_8 6 rfl rfl)
theorem dX12_tellOne_204 : decode cX12_tellOne 204 = .ok (.invokevirtual 230, 3) := dk_182 0 230 (dk_at dksX12_tellOne_8 7 rfl rfl)
theorem dX12_tellOne_207 : decode cX12_tellOne 207 = .ok (.aload_n 0, 1) := dk_42 (dk_at dksX12_tellOne_8 10 rfl rfl)
theorem dX12_tellOne_208 : decode cX12_tellOne 208 = .ok (.getfield 76, 3) := dk_180 0 76 (dk_at dksX12_tellOne_8 11 rfl rfl)
theorem dX12_tellOne_211 : decode cX12_tellOne 211 = .ok (.aload_n 0, 1) := dk_42 (dk_at dksX12_tellOne_8 14 rfl rfl)
theorem dX12_tellOne_212 : decode cX12_tellOne 212 = .ok (.getfield 242, 3) := dk_180 0 242 (dk_at dksX12_tellOne_8 15 rfl rfl)
theorem dX12_tellOne_215 : decode cX12_tellOne 215 = .ok (.aload_n 0, 1) := dk_42 (dk_at dksX12_tellOne_8 18 rfl rfl)
theorem dX12_tellOne_216 : decode cX12_tellOne 216 = .ok (.iconst 0, 1) := dk_3 (dk_at dksX12_tellOne_8 19 rfl rfl)
theorem dX12_tellOne_217 : decode cX12_tellOne 217 = .ok (.sipush 9999, 3) := dk_17 39 15 (dk_at dksX12_tellOne_8 20 rfl rfl)
theorem dX12_tellOne_220 : decode cX12_tellOne 220 = .ok (.invokevirtual 283, 3) := dk_182 1 27 (dk_at dksX12_tellOne_9 0 rfl rfl)
theorem dX12_tellOne_223 : decode cX12_tellOne 223 = .ok (.iastore, 1) := dk_79 (dk_at dksX12_tellOne_9 3 rfl rfl)
theorem dX12_tellOne_224 : decode cX12_tellOne 224 = .ok (.aload_n 0, 1) := dk_42 (dk_at dksX12_tellOne_9 4 rfl rfl)
theorem dX12_tellOne_225 : decode cX12_tellOne 225 = .ok (.iconst 4, 1) := dk_7 (dk_at dksX12_tellOne_9 5 rfl rfl)
theorem dX12_tellOne_226 : decode cX12_tellOne 226 = .ok (.invokevirtual 287, 3) := dk_182 1 31 (dk_at dksX12_tellOne_9 6 rfl rfl)
theorem dX12_tellOne_229 : decode cX12_tellOne 229 = .ok (.goto 56, 3) := dk_167 0 56 (dk_at dksX12_tellOne_9 9 rfl rfl)
theorem dX12_tellOne_232 : decode cX12_tellOne 232 = .ok (.aload_n 0, 1) := dk_42 (dk_at dksX12_tellOne_9 12 rfl rfl)
theorem dX12_tellOne_233 : decode cX12_tellOne 233 = .ok (.getfield 20, 3) := dk_180 0 20 (dk_at dksX12_tellOne_9 13 rfl rfl)
theorem dX12_tellOne_236 : decode cX12_tellOne 236 = .ok (.aload_n 0, 1) := dk_42 (dk_at dksX12_tellOne_9 16 rfl rfl)
theorem dX12_tellOne_237 : decode cX12_tellOne 237 = .ok (.getfield 212, 3) := dk_180 0 212 (dk_at dksX12_tellOne_9 17 rfl rfl)
theorem dX12_tellOne_240 : decode cX12_tellOne 240 = .ok (.iaload, 1) := dk_46 (dk_at dksX12_tellOne_9 20 rfl rfl)
theorem dX12_tellOne_241 : decode cX12_tellOne 241 = .ok (.bipush 23, 2) := dk_16 23 (dk_at dksX12_tellOne_9 21 rfl rfl)
theorem dX12_tellOne_243 : decode cX12_tellOne 243 = .ok (.isub, 1) := dk_100 (dk_at dksX12_tellOne_9 23 rfl rfl)
theorem dX12_tellOne_244 : decode cX12_tellOne 244 = .ok (.istore_n 1, 1) := dk_60 (dk_at dksX12_tellOne_10 0 rfl rfl)
theorem dX12_tellOne_245 : decode cX12_tellOne 245 = .ok (.iload_n 1, 1) := dk_27 (dk_at dksX12_tellOne_10 1 rfl rfl)
theorem dX12_tellOne_246 : decode cX12_tellOne 246 = .ok (.ifCond .lt 17, 3) := dk_155 0 17 (dk_at dksX12_tellOne_10 2 rfl rfl)
theorem dX12_tellOne_249 : decode cX12_tellOne 249 = .ok (.aload_n 0, 1) := dk_42 (dk_at dksX12_tellOne_10 5 rfl rfl)
theorem dX12_tellOne_250 : decode cX12_tellOne 250 = .ok (.getfield 20, 3) := dk_180 0 20 (dk_at dksX12_tellOne_10 6 rfl rfl)
theorem dX12_tellOne_253 : decode cX12_tellOne 253 = .ok (.aload_n 0, 1) := dk_42 (dk_at dksX12_tellOne_10 9 rfl rfl)
theorem dX12_tellOne_254 : decode cX12_tellOne 254 = .ok (.getfield 212, 3) := dk_180 0 212 (dk_at dksX12_tellOne_10 10 rfl rfl)
theorem dX12_tellOne_257 : decode cX12_tellOne 257 = .ok (.iaload, 1) := dk_46 (dk_at dksX12_tellOne_10 13 rfl rfl)
theorem dX12_tellOne_258 : decode cX12_tellOne 258 = .ok (.bipush 25, 2) := dk_16 25 (dk_at dksX12_tellOne_10 14 rfl rfl)
theorem dX12_tellOne_260 : decode cX12_tellOne 260 = .ok (.if_icmp .le 8, 3) := dk_164 0 8 (dk_at dksX12_tellOne_10 16 rfl rfl)
theorem dX12_tellOne_263 : decode cX12_tellOne 263 = .ok (.aload_n 0, 1) := dk_42 (dk_at dksX12_tellOne_10 19 rfl rfl)
theorem dX12_tellOne_264 : decode cX12_tellOne 264 = .ok (.iconst 1, 1) := dk_4 (dk_at dksX12_tellOne_10 20 rfl rfl)
theorem dX12_tellOne_265 : decode cX12_tellOne 265 = .ok (.invokevirtual 224, 3) := dk_182 0 224 (dk_at dksX12_tellOne_10 21 rfl rfl)
theorem dX12_tellOne_268 : decode cX12_tellOne 268 = .ok (.aload_n 0, 1) := dk_42 (dk_at dksX12_tellOne_11 0 rfl rfl)
theorem dX12_tellOne_269 : decode cX12_tellOne 269 = .ok (.getfield 209, 3) := dk_180 0 209 (dk_at dksX12_tellOne_11 1 rfl rfl)
theorem dX12_tellOne_272 : decode cX12_tellOne 272 = .ok (.ifCond .le 4, 3) := dk_158 0 4 (dk_at dksX12_tellOne_11 4 rfl rfl)
theorem dX12_tellOne_275 : decode cX12_tellOne 275 = .ok (.return_, 1) := dk_177 (dk_at dksX12_tellOne_11 7 rfl rfl)
theorem dX12_tellOne_276 : decode cX12_tellOne 276 = .ok (.aload_n 0, 1) := dk_42 (dk_at dksX12_tellOne_11 8 rfl rfl)
theorem dX12_tellOne_277 : decode cX12_tellOne 277 = .ok (.invokevirtual 230, 3) := dk_182 0 230 (dk_at dksX12_tellOne_11 9 rfl rfl)
theorem dX12_tellOne_280 : decode cX12_tellOne 280 = .ok (.aload_n 0, 1) := dk_42 (dk_at dksX12_tellOne_11 12 rfl rfl)
theorem dX12_tellOne_281 : decode cX12_tellOne 281 = .ok (.iload_n 1, 1) := dk_27 (dk_at dksX12_tellOne_11 13 rfl rfl)
theorem dX12_tellOne_282 : decode cX12_tellOne 282 = .ok (.invokevirtual 290, 3) := dk_182 1 34 (dk_at dksX12_tellOne_11 14 rfl rfl)
theorem dX12_tellOne_285 : decode cX12_tellOne 285 = .ok (.return_, 1) := dk_177 (dk_at dksX12_tellOne_11 17 rfl rfl)
abbrev cX12_roomFor : ByteArray := prog_22_method_23_code
def yX12_roomFor : MethodName := ⟨RX12, "roomFor", "(II)V"⟩
def dkwX12_roomFor_0 : List UInt8 := [27, 28, 160, 0, 8, 42, 5, 182, 0, 224, 42, 180, 0, 209, 154, 0, 7, 42, 182, 0, 230, 177]
abbrev dktX12_roomFor_0 : List UInt8 := dkwX12_roomFor_0 ++ []
theorem dksX12_roomFor_0 : cX12_roomFor.data.toList.drop 0 = dktX12_roomFor_0 := by decide +kernel
theorem dX12_roomFor_0 : decode cX12_roomFor 0 = .ok (.iload_n 1, 1) := dk_27 (dk_at dksX12_roomFor_0 0 rfl rfl)
theorem dX12_roomFor_1 : decode cX12_roomFor 1 = .ok (.iload_n 2, 1) := dk_28 (dk_at dksX12_roomFor_0 1 rfl rfl)
theorem dX12_roomFor_2 : decode cX12_roomFor 2 = .ok (.if_icmp .ne 8, 3) := dk_160 0 8 (dk_at dksX12_roomFor_0 2 rfl rfl)
theorem dX12_roomFor_5 : decode cX12_roomFor 5 = .ok (.aload_n 0, 1) := dk_42 (dk_at dksX12_roomFor_0 5 rfl rfl)
theorem dX12_roomFor_6 : decode cX12_roomFor 6 = .ok (.iconst 2, 1) := dk_5 (dk_at dksX12_roomFor_0 6 rfl rfl)
theorem dX12_roomFor_7 : decode cX12_roomFor 7 = .ok (.invokevirtual 224, 3) := dk_182 0 224 (dk_at dksX12_roomFor_0 7 rfl rfl)
theorem dX12_roomFor_10 : decode cX12_roomFor 10 = .ok (.aload_n 0, 1) := dk_42 (dk_at dksX12_roomFor_0 10 rfl rfl)
theorem dX12_roomFor_11 : decode cX12_roomFor 11 = .ok (.getfield 209, 3) := dk_180 0 209 (dk_at dksX12_roomFor_0 11 rfl rfl)
theorem dX12_roomFor_14 : decode cX12_roomFor 14 = .ok (.ifCond .ne 7, 3) := dk_154 0 7 (dk_at dksX12_roomFor_0 14 rfl rfl)
theorem dX12_roomFor_17 : decode cX12_roomFor 17 = .ok (.aload_n 0, 1) := dk_42 (dk_at dksX12_roomFor_0 17 rfl rfl)
theorem dX12_roomFor_18 : decode cX12_roomFor 18 = .ok (.invokevirtual 230, 3) := dk_182 0 230 (dk_at dksX12_roomFor_0 18 rfl rfl)
theorem dX12_roomFor_21 : decode cX12_roomFor 21 = .ok (.return_, 1) := dk_177 (dk_at dksX12_roomFor_0 21 rfl rfl)
abbrev cX12_fail : ByteArray := prog_22_method_15_code
def yX12_fail : MethodName := ⟨RX12, "fail", "(I)V"⟩
def dkwX12_fail_1 : List UInt8 := [181, 0, 215, 177]
abbrev dktX12_fail_1 : List UInt8 := dkwX12_fail_1 ++ []
def dkwX12_fail_0 : List UInt8 := [42, 180, 0, 209, 158, 0, 4, 177, 42, 27, 181, 0, 209, 42, 42, 180, 0, 24, 42, 180, 0, 212, 46]
abbrev dktX12_fail_0 : List UInt8 := dkwX12_fail_0 ++ dktX12_fail_1
theorem dksX12_fail_0 : cX12_fail.data.toList.drop 0 = dktX12_fail_0 := by decide +kernel
theorem dksX12_fail_1 : cX12_fail.data.toList.drop 23 = dktX12_fail_1 := dk_seg dksX12_fail_0 23 rfl rfl
theorem dX12_fail_0 : decode cX12_fail 0 = .ok (.aload_n 0, 1) := dk_42 (dk_at dksX12_fail_0 0 rfl rfl)
theorem dX12_fail_1 : decode cX12_fail 1 = .ok (.getfield 209, 3) := dk_180 0 209 (dk_at dksX12_fail_0 1 rfl rfl)
theorem dX12_fail_4 : decode cX12_fail 4 = .ok (.ifCond .le 4, 3) := dk_158 0 4 (dk_at dksX12_fail_0 4 rfl rfl)
theorem dX12_fail_7 : decode cX12_fail 7 = .ok (.return_, 1) := dk_177 (dk_at dksX12_fail_0 7 rfl rfl)
theorem dX12_fail_8 : decode cX12_fail 8 = .ok (.aload_n 0, 1) := dk_42 (dk_at dksX12_fail_0 8 rfl rfl)
theorem dX12_fail_9 : decode cX12_fail 9 = .ok (.iload_n 1, 1) := dk_27 (dk_at dksX12_fail_0 9 rfl rfl)
theorem dX12_fail_10 : decode cX12_fail 10 = .ok (.putfield 209, 3) := dk_181 0 209 (dk_at dksX12_fail_0 10 rfl rfl)
theorem dX12_fail_13 : decode cX12_fail 13 = .ok (.aload_n 0, 1) := dk_42 (dk_at dksX12_fail_0 13 rfl rfl)
theorem dX12_fail_14 : decode cX12_fail 14 = .ok (.aload_n 0, 1) := dk_42 (dk_at dksX12_fail_0 14 rfl rfl)
theorem dX12_fail_15 : decode cX12_fail 15 = .ok (.getfield 24, 3) := dk_180 0 24 (dk_at dksX12_fail_0 15 rfl rfl)
theorem dX12_fail_18 : decode cX12_fail 18 = .ok (.aload_n 0, 1) := dk_42 (dk_at dksX12_fail_0 18 rfl rfl)
theorem dX12_fail_19 : decode cX12_fail 19 = .ok (.getfield 212, 3) := dk_180 0 212 (dk_at dksX12_fail_0 19 rfl rfl)
theorem dX12_fail_22 : decode cX12_fail 22 = .ok (.iaload, 1) := dk_46 (dk_at dksX12_fail_0 22 rfl rfl)
theorem dX12_fail_23 : decode cX12_fail 23 = .ok (.putfield 215, 3) := dk_181 0 215 (dk_at dksX12_fail_1 0 rfl rfl)
theorem dX12_fail_26 : decode cX12_fail 26 = .ok (.return_, 1) := dk_177 (dk_at dksX12_fail_1 3 rfl rfl)
abbrev cX12_goesOn : ByteArray := prog_22_method_17_code
def yX12_goesOn : MethodName := ⟨RX12, "goesOn", "()V"⟩
def dkwX12_goesOn_1 : List UInt8 := [96, 181, 0, 212, 177]
abbrev dktX12_goesOn_1 : List UInt8 := dkwX12_goesOn_1 ++ []
def dkwX12_goesOn_0 : List UInt8 := [42, 180, 0, 212, 17, 1, 144, 160, 0, 11, 42, 5, 182, 0, 224, 167, 0, 13, 42, 89, 180, 0, 212, 4]
abbrev dktX12_goesOn_0 : List UInt8 := dkwX12_goesOn_0 ++ dktX12_goesOn_1
theorem dksX12_goesOn_0 : cX12_goesOn.data.toList.drop 0 = dktX12_goesOn_0 := by decide +kernel
theorem dksX12_goesOn_1 : cX12_goesOn.data.toList.drop 24 = dktX12_goesOn_1 := dk_seg dksX12_goesOn_0 24 rfl rfl
theorem dX12_goesOn_0 : decode cX12_goesOn 0 = .ok (.aload_n 0, 1) := dk_42 (dk_at dksX12_goesOn_0 0 rfl rfl)
theorem dX12_goesOn_1 : decode cX12_goesOn 1 = .ok (.getfield 212, 3) := dk_180 0 212 (dk_at dksX12_goesOn_0 1 rfl rfl)
theorem dX12_goesOn_4 : decode cX12_goesOn 4 = .ok (.sipush 400, 3) := dk_17 1 144 (dk_at dksX12_goesOn_0 4 rfl rfl)
theorem dX12_goesOn_7 : decode cX12_goesOn 7 = .ok (.if_icmp .ne 11, 3) := dk_160 0 11 (dk_at dksX12_goesOn_0 7 rfl rfl)
theorem dX12_goesOn_10 : decode cX12_goesOn 10 = .ok (.aload_n 0, 1) := dk_42 (dk_at dksX12_goesOn_0 10 rfl rfl)
theorem dX12_goesOn_11 : decode cX12_goesOn 11 = .ok (.iconst 2, 1) := dk_5 (dk_at dksX12_goesOn_0 11 rfl rfl)
theorem dX12_goesOn_12 : decode cX12_goesOn 12 = .ok (.invokevirtual 224, 3) := dk_182 0 224 (dk_at dksX12_goesOn_0 12 rfl rfl)
theorem dX12_goesOn_15 : decode cX12_goesOn 15 = .ok (.goto 13, 3) := dk_167 0 13 (dk_at dksX12_goesOn_0 15 rfl rfl)
theorem dX12_goesOn_18 : decode cX12_goesOn 18 = .ok (.aload_n 0, 1) := dk_42 (dk_at dksX12_goesOn_0 18 rfl rfl)
theorem dX12_goesOn_19 : decode cX12_goesOn 19 = .ok (.dup, 1) := dk_89 (dk_at dksX12_goesOn_0 19 rfl rfl)
theorem dX12_goesOn_20 : decode cX12_goesOn 20 = .ok (.getfield 212, 3) := dk_180 0 212 (dk_at dksX12_goesOn_0 20 rfl rfl)
theorem dX12_goesOn_23 : decode cX12_goesOn 23 = .ok (.iconst 1, 1) := dk_4 (dk_at dksX12_goesOn_0 23 rfl rfl)
theorem dX12_goesOn_24 : decode cX12_goesOn 24 = .ok (.iadd, 1) := dk_96 (dk_at dksX12_goesOn_1 0 rfl rfl)
theorem dX12_goesOn_25 : decode cX12_goesOn 25 = .ok (.putfield 212, 3) := dk_181 0 212 (dk_at dksX12_goesOn_1 1 rfl rfl)
theorem dX12_goesOn_28 : decode cX12_goesOn 28 = .ok (.return_, 1) := dk_177 (dk_at dksX12_goesOn_1 4 rfl rfl)
abbrev cX12_tellRow : ByteArray := prog_22_method_28_code
def yX12_tellRow : MethodName := ⟨RX12, "tellRow", "()V"⟩
def dkwX12_tellRow_9 : List UInt8 := [180, 0, 242, 92, 46, 4, 96, 79, 177]
abbrev dktX12_tellRow_9 : List UInt8 := dkwX12_tellRow_9 ++ []
def dkwX12_tellRow_8 : List UInt8 := [132, 5, 255, 167, 255, 165, 42, 7, 182, 1, 31, 42, 180, 0, 209, 154, 0, 16, 42, 180, 0, 43, 42]
abbrev dktX12_tellRow_8 : List UInt8 := dkwX12_tellRow_8 ++ dktX12_tellRow_9
def dkwX12_tellRow_7 : List UInt8 := [21, 6, 16, 111, 160, 0, 8, 16, 254, 167, 0, 8, 21, 6, 16, 97, 100, 79, 32, 20, 0, 181, 109, 65]
abbrev dktX12_tellRow_7 : List UInt8 := dkwX12_tellRow_7 ++ dktX12_tellRow_8
def dkwX12_tellRow_6 : List UInt8 := [16, 48, 42, 180, 0, 242, 104, 16, 8, 42, 180, 0, 43, 42, 180, 0, 242, 46, 104, 96, 21, 5, 96]
abbrev dktX12_tellRow_6 : List UInt8 := dkwX12_tellRow_6 ++ dktX12_tellRow_7
def dkwX12_tellRow_5 : List UInt8 := [16, 111, 159, 0, 17, 21, 6, 16, 102, 164, 0, 10, 42, 16, 6, 27, 182, 1, 5, 42, 180, 0, 49]
abbrev dktX12_tellRow_5 : List UInt8 := dkwX12_tellRow_5 ++ dktX12_tellRow_6
def dkwX12_tellRow_4 : List UInt8 := [21, 4, 4, 100, 54, 5, 21, 5, 155, 0, 92, 16, 96, 32, 20, 0, 181, 113, 136, 96, 54, 6, 21, 6]
abbrev dktX12_tellRow_4 : List UInt8 := dkwX12_tellRow_4 ++ dktX12_tellRow_5
def dkwX12_tellRow_3 : List UInt8 := [21, 4, 79, 21, 4, 42, 180, 0, 46, 42, 180, 0, 242, 46, 159, 0, 10, 42, 16, 6, 27, 182, 1, 5]
abbrev dktX12_tellRow_3 : List UInt8 := dkwX12_tellRow_3 ++ dktX12_tellRow_4
def dkwX12_tellRow_2 : List UInt8 := [167, 255, 238, 42, 180, 0, 43, 42, 180, 0, 242, 46, 154, 0, 14, 42, 180, 0, 46, 42, 180, 0, 242]
abbrev dktX12_tellRow_2 : List UInt8 := dkwX12_tellRow_2 ++ dktX12_tellRow_3
def dkwX12_tellRow_1 : List UInt8 := [3, 54, 4, 32, 55, 5, 22, 5, 9, 148, 158, 0, 17, 132, 4, 1, 22, 5, 20, 0, 181, 109, 55, 5]
abbrev dktX12_tellRow_1 : List UInt8 := dkwX12_tellRow_1 ++ dktX12_tellRow_2
def dkwX12_tellRow_0 : List UInt8 := [42, 180, 0, 212, 60, 42, 4, 182, 1, 31, 42, 180, 0, 209, 154, 0, 181, 42, 180, 0, 30, 27, 47, 65]
abbrev dktX12_tellRow_0 : List UInt8 := dkwX12_tellRow_0 ++ dktX12_tellRow_1
theorem dksX12_tellRow_0 : cX12_tellRow.data.toList.drop 0 = dktX12_tellRow_0 := by decide +kernel
theorem dksX12_tellRow_1 : cX12_tellRow.data.toList.drop 24 = dktX12_tellRow_1 := dk_seg dksX12_tellRow_0 24 rfl rfl
theorem dksX12_tellRow_2 : cX12_tellRow.data.toList.drop 48 = dktX12_tellRow_2 := dk_seg dksX12_tellRow_1 24 rfl rfl
theorem dksX12_tellRow_3 : cX12_tellRow.data.toList.drop 71 = dktX12_tellRow_3 := dk_seg dksX12_tellRow_2 23 rfl rfl
theorem dksX12_tellRow_4 : cX12_tellRow.data.toList.drop 95 = dktX12_tellRow_4 := dk_seg dksX12_tellRow_3 24 rfl rfl
theorem dksX12_tellRow_5 : cX12_tellRow.data.toList.drop 119 = dktX12_tellRow_5 := dk_seg dksX12_tellRow_4 24 rfl rfl
theorem dksX12_tellRow_6 : cX12_tellRow.data.toList.drop 142 = dktX12_tellRow_6 := dk_seg dksX12_tellRow_5 23 rfl rfl
theorem dksX12_tellRow_7 : cX12_tellRow.data.toList.drop 165 = dktX12_tellRow_7 := dk_seg dksX12_tellRow_6 23 rfl rfl
theorem dksX12_tellRow_8 : cX12_tellRow.data.toList.drop 189 = dktX12_tellRow_8 := dk_seg dksX12_tellRow_7 24 rfl rfl
theorem dksX12_tellRow_9 : cX12_tellRow.data.toList.drop 212 = dktX12_tellRow_9 := dk_seg dksX12_tellRow_8 23 rfl rfl
theorem dX12_tellRow_0 : decode cX12_tellRow 0 = .ok (.aload_n 0, 1) := dk_42 (dk_at dksX12_tellRow_0 0 rfl rfl)
theorem dX12_tellRow_1 : decode cX12_tellRow 1 = .ok (.getfield 212, 3) := dk_180 0 212 (dk_at dksX12_tellRow_0 1 rfl rfl)
theorem dX12_tellRow_4 : decode cX12_tellRow 4 = .ok (.istore_n 1, 1) := dk_60 (dk_at dksX12_tellRow_0 4 rfl rfl)
theorem dX12_tellRow_5 : decode cX12_tellRow 5 = .ok (.aload_n 0, 1) := dk_42 (dk_at dksX12_tellRow_0 5 rfl rfl)
theorem dX12_tellRow_6 : decode cX12_tellRow 6 = .ok (.iconst 1, 1) := dk_4 (dk_at dksX12_tellRow_0 6 rfl rfl)
theorem dX12_tellRow_7 : decode cX12_tellRow 7 = .ok (.invokevirtual 287, 3) := dk_182 1 31 (dk_at dksX12_tellRow_0 7 rfl rfl)
theorem dX12_tellRow_10 : decode cX12_tellRow 10 = .ok (.aload_n 0, 1) := dk_42 (dk_at dksX12_tellRow_0 10 rfl rfl)
theorem dX12_tellRow_11 : decode cX12_tellRow 11 = .ok (.getfield 209, 3) := dk_180 0 209 (dk_at dksX12_tellRow_0 11 rfl rfl)
theorem dX12_tellRow_14 : decode cX12_tellRow 14 = .ok (.ifCond .ne 181, 3) := dk_154 0 181 (dk_at dksX12_tellRow_0 14 rfl rfl)
theorem dX12_tellRow_17 : decode cX12_tellRow 17 = .ok (.aload_n 0, 1) := dk_42 (dk_at dksX12_tellRow_0 17 rfl rfl)
theorem dX12_tellRow_18 : decode cX12_tellRow 18 = .ok (.getfield 30, 3) := dk_180 0 30 (dk_at dksX12_tellRow_0 18 rfl rfl)
theorem dX12_tellRow_21 : decode cX12_tellRow 21 = .ok (.iload_n 1, 1) := dk_27 (dk_at dksX12_tellRow_0 21 rfl rfl)
theorem dX12_tellRow_22 : decode cX12_tellRow 22 = .ok (.laload, 1) := dk_47 (dk_at dksX12_tellRow_0 22 rfl rfl)
theorem dX12_tellRow_23 : decode cX12_tellRow 23 = .ok (.lstore_n 2, 1) := dk_65 (dk_at dksX12_tellRow_0 23 rfl rfl)
theorem dX12_tellRow_24 : decode cX12_tellRow 24 = .ok (.iconst 0, 1) := dk_3 (dk_at dksX12_tellRow_1 0 rfl rfl)
theorem dX12_tellRow_25 : decode cX12_tellRow 25 = .ok (.istore 4, 2) := dk_54 4 (dk_at dksX12_tellRow_1 1 rfl rfl)
theorem dX12_tellRow_27 : decode cX12_tellRow 27 = .ok (.lload_n 2, 1) := dk_32 (dk_at dksX12_tellRow_1 3 rfl rfl)
theorem dX12_tellRow_28 : decode cX12_tellRow 28 = .ok (.lstore 5, 2) := dk_55 5 (dk_at dksX12_tellRow_1 4 rfl rfl)
theorem dX12_tellRow_30 : decode cX12_tellRow 30 = .ok (.lload 5, 2) := dk_22 5 (dk_at dksX12_tellRow_1 6 rfl rfl)
theorem dX12_tellRow_32 : decode cX12_tellRow 32 = .ok (.lconst 0, 1) := dk_9 (dk_at dksX12_tellRow_1 8 rfl rfl)
theorem dX12_tellRow_33 : decode cX12_tellRow 33 = .ok (.lcmp, 1) := dk_148 (dk_at dksX12_tellRow_1 9 rfl rfl)
theorem dX12_tellRow_34 : decode cX12_tellRow 34 = .ok (.ifCond .le 17, 3) := dk_158 0 17 (dk_at dksX12_tellRow_1 10 rfl rfl)
theorem dX12_tellRow_37 : decode cX12_tellRow 37 = .ok (.iinc 4 1, 3) := dk_132 4 1 (dk_at dksX12_tellRow_1 13 rfl rfl)
theorem dX12_tellRow_40 : decode cX12_tellRow 40 = .ok (.lload 5, 2) := dk_22 5 (dk_at dksX12_tellRow_1 16 rfl rfl)
theorem dX12_tellRow_42 : decode cX12_tellRow 42 = .ok (.ldc2_w 181, 3) := dk_20 0 181 (dk_at dksX12_tellRow_1 18 rfl rfl)
theorem dX12_tellRow_45 : decode cX12_tellRow 45 = .ok (.ldiv, 1) := dk_109 (dk_at dksX12_tellRow_1 21 rfl rfl)
theorem dX12_tellRow_46 : decode cX12_tellRow 46 = .ok (.lstore 5, 2) := dk_55 5 (dk_at dksX12_tellRow_1 22 rfl rfl)
theorem dX12_tellRow_48 : decode cX12_tellRow 48 = .ok (.goto (-18), 3) := dk_167 255 238 (dk_at dksX12_tellRow_2 0 rfl rfl)
theorem dX12_tellRow_51 : decode cX12_tellRow 51 = .ok (.aload_n 0, 1) := dk_42 (dk_at dksX12_tellRow_2 3 rfl rfl)
theorem dX12_tellRow_52 : decode cX12_tellRow 52 = .ok (.getfield 43, 3) := dk_180 0 43 (dk_at dksX12_tellRow_2 4 rfl rfl)
theorem dX12_tellRow_55 : decode cX12_tellRow 55 = .ok (.aload_n 0, 1) := dk_42 (dk_at dksX12_tellRow_2 7 rfl rfl)
theorem dX12_tellRow_56 : decode cX12_tellRow 56 = .ok (.getfield 242, 3) := dk_180 0 242 (dk_at dksX12_tellRow_2 8 rfl rfl)
theorem dX12_tellRow_59 : decode cX12_tellRow 59 = .ok (.iaload, 1) := dk_46 (dk_at dksX12_tellRow_2 11 rfl rfl)
theorem dX12_tellRow_60 : decode cX12_tellRow 60 = .ok (.ifCond .ne 14, 3) := dk_154 0 14 (dk_at dksX12_tellRow_2 12 rfl rfl)
theorem dX12_tellRow_63 : decode cX12_tellRow 63 = .ok (.aload_n 0, 1) := dk_42 (dk_at dksX12_tellRow_2 15 rfl rfl)
theorem dX12_tellRow_64 : decode cX12_tellRow 64 = .ok (.getfield 46, 3) := dk_180 0 46 (dk_at dksX12_tellRow_2 16 rfl rfl)
theorem dX12_tellRow_67 : decode cX12_tellRow 67 = .ok (.aload_n 0, 1) := dk_42 (dk_at dksX12_tellRow_2 19 rfl rfl)
theorem dX12_tellRow_68 : decode cX12_tellRow 68 = .ok (.getfield 242, 3) := dk_180 0 242 (dk_at dksX12_tellRow_2 20 rfl rfl)
theorem dX12_tellRow_71 : decode cX12_tellRow 71 = .ok (.iload 4, 2) := dk_21 4 (dk_at dksX12_tellRow_3 0 rfl rfl)
theorem dX12_tellRow_73 : decode cX12_tellRow 73 = .ok (.iastore, 1) := dk_79 (dk_at dksX12_tellRow_3 2 rfl rfl)
theorem dX12_tellRow_74 : decode cX12_tellRow 74 = .ok (.iload 4, 2) := dk_21 4 (dk_at dksX12_tellRow_3 3 rfl rfl)
theorem dX12_tellRow_76 : decode cX12_tellRow 76 = .ok (.aload_n 0, 1) := dk_42 (dk_at dksX12_tellRow_3 5 rfl rfl)
theorem dX12_tellRow_77 : decode cX12_tellRow 77 = .ok (.getfield 46, 3) := dk_180 0 46 (dk_at dksX12_tellRow_3 6 rfl rfl)
theorem dX12_tellRow_80 : decode cX12_tellRow 80 = .ok (.aload_n 0, 1) := dk_42 (dk_at dksX12_tellRow_3 9 rfl rfl)
theorem dX12_tellRow_81 : decode cX12_tellRow 81 = .ok (.getfield 242, 3) := dk_180 0 242 (dk_at dksX12_tellRow_3 10 rfl rfl)
theorem dX12_tellRow_84 : decode cX12_tellRow 84 = .ok (.iaload, 1) := dk_46 (dk_at dksX12_tellRow_3 13 rfl rfl)
theorem dX12_tellRow_85 : decode cX12_tellRow 85 = .ok (.if_icmp .eq 10, 3) := dk_159 0 10 (dk_at dksX12_tellRow_3 14 rfl rfl)
theorem dX12_tellRow_88 : decode cX12_tellRow 88 = .ok (.aload_n 0, 1) := dk_42 (dk_at dksX12_tellRow_3 17 rfl rfl)
theorem dX12_tellRow_89 : decode cX12_tellRow 89 = .ok (.bipush 6, 2) := dk_16 6 (dk_at dksX12_tellRow_3 18 rfl rfl)
theorem dX12_tellRow_91 : decode cX12_tellRow 91 = .ok (.iload_n 1, 1) := dk_27 (dk_at dksX12_tellRow_3 20 rfl rfl)
theorem dX12_tellRow_92 : decode cX12_tellRow 92 = .ok (.invokevirtual 261, 3) := dk_182 1 5 (dk_at dksX12_tellRow_3 21 rfl rfl)
theorem dX12_tellRow_95 : decode cX12_tellRow 95 = .ok (.iload 4, 2) := dk_21 4 (dk_at dksX12_tellRow_4 0 rfl rfl)
theorem dX12_tellRow_97 : decode cX12_tellRow 97 = .ok (.iconst 1, 1) := dk_4 (dk_at dksX12_tellRow_4 2 rfl rfl)
theorem dX12_tellRow_98 : decode cX12_tellRow 98 = .ok (.isub, 1) := dk_100 (dk_at dksX12_tellRow_4 3 rfl rfl)
theorem dX12_tellRow_99 : decode cX12_tellRow 99 = .ok (.istore 5, 2) := dk_54 5 (dk_at dksX12_tellRow_4 4 rfl rfl)
theorem dX12_tellRow_101 : decode cX12_tellRow 101 = .ok (.iload 5, 2) := dk_21 5 (dk_at dksX12_tellRow_4 6 rfl rfl)
theorem dX12_tellRow_103 : decode cX12_tellRow 103 = .ok (.ifCond .lt 92, 3) := dk_155 0 92 (dk_at dksX12_tellRow_4 8 rfl rfl)
theorem dX12_tellRow_106 : decode cX12_tellRow 106 = .ok (.bipush 96, 2) := dk_16 96 (dk_at dksX12_tellRow_4 11 rfl rfl)
theorem dX12_tellRow_108 : decode cX12_tellRow 108 = .ok (.lload_n 2, 1) := dk_32 (dk_at dksX12_tellRow_4 13 rfl rfl)
theorem dX12_tellRow_109 : decode cX12_tellRow 109 = .ok (.ldc2_w 181, 3) := dk_20 0 181 (dk_at dksX12_tellRow_4 14 rfl rfl)
theorem dX12_tellRow_112 : decode cX12_tellRow 112 = .ok (.lrem, 1) := dk_113 (dk_at dksX12_tellRow_4 17 rfl rfl)
theorem dX12_tellRow_113 : decode cX12_tellRow 113 = .ok (.l2i, 1) := dk_136 (dk_at dksX12_tellRow_4 18 rfl rfl)
theorem dX12_tellRow_114 : decode cX12_tellRow 114 = .ok (.iadd, 1) := dk_96 (dk_at dksX12_tellRow_4 19 rfl rfl)
theorem dX12_tellRow_115 : decode cX12_tellRow 115 = .ok (.istore 6, 2) := dk_54 6 (dk_at dksX12_tellRow_4 20 rfl rfl)
theorem dX12_tellRow_117 : decode cX12_tellRow 117 = .ok (.iload 6, 2) := dk_21 6 (dk_at dksX12_tellRow_4 22 rfl rfl)
theorem dX12_tellRow_119 : decode cX12_tellRow 119 = .ok (.bipush 111, 2) := dk_16 111 (dk_at dksX12_tellRow_5 0 rfl rfl)
theorem dX12_tellRow_121 : decode cX12_tellRow 121 = .ok (.if_icmp .eq 17, 3) := dk_159 0 17 (dk_at dksX12_tellRow_5 2 rfl rfl)
theorem dX12_tellRow_124 : decode cX12_tellRow 124 = .ok (.iload 6, 2) := dk_21 6 (dk_at dksX12_tellRow_5 5 rfl rfl)
theorem dX12_tellRow_126 : decode cX12_tellRow 126 = .ok (.bipush 102, 2) := dk_16 102 (dk_at dksX12_tellRow_5 7 rfl rfl)
theorem dX12_tellRow_128 : decode cX12_tellRow 128 = .ok (.if_icmp .le 10, 3) := dk_164 0 10 (dk_at dksX12_tellRow_5 9 rfl rfl)
theorem dX12_tellRow_131 : decode cX12_tellRow 131 = .ok (.aload_n 0, 1) := dk_42 (dk_at dksX12_tellRow_5 12 rfl rfl)
theorem dX12_tellRow_132 : decode cX12_tellRow 132 = .ok (.bipush 6, 2) := dk_16 6 (dk_at dksX12_tellRow_5 13 rfl rfl)
theorem dX12_tellRow_134 : decode cX12_tellRow 134 = .ok (.iload_n 1, 1) := dk_27 (dk_at dksX12_tellRow_5 15 rfl rfl)
theorem dX12_tellRow_135 : decode cX12_tellRow 135 = .ok (.invokevirtual 261, 3) := dk_182 1 5 (dk_at dksX12_tellRow_5 16 rfl rfl)
theorem dX12_tellRow_138 : decode cX12_tellRow 138 = .ok (.aload_n 0, 1) := dk_42 (dk_at dksX12_tellRow_5 19 rfl rfl)
theorem dX12_tellRow_139 : decode cX12_tellRow 139 = .ok (.getfield 49, 3) := dk_180 0 49 (dk_at dksX12_tellRow_5 20 rfl rfl)
theorem dX12_tellRow_142 : decode cX12_tellRow 142 = .ok (.bipush 48, 2) := dk_16 48 (dk_at dksX12_tellRow_6 0 rfl rfl)
theorem dX12_tellRow_144 : decode cX12_tellRow 144 = .ok (.aload_n 0, 1) := dk_42 (dk_at dksX12_tellRow_6 2 rfl rfl)
theorem dX12_tellRow_145 : decode cX12_tellRow 145 = .ok (.getfield 242, 3) := dk_180 0 242 (dk_at dksX12_tellRow_6 3 rfl rfl)
theorem dX12_tellRow_148 : decode cX12_tellRow 148 = .ok (.imul, 1) := dk_104 (dk_at dksX12_tellRow_6 6 rfl rfl)
theorem dX12_tellRow_149 : decode cX12_tellRow 149 = .ok (.bipush 8, 2) := dk_16 8 (dk_at dksX12_tellRow_6 7 rfl rfl)
theorem dX12_tellRow_151 : decode cX12_tellRow 151 = .ok (.aload_n 0, 1) := dk_42 (dk_at dksX12_tellRow_6 9 rfl rfl)
theorem dX12_tellRow_152 : decode cX12_tellRow 152 = .ok (.getfield 43, 3) := dk_180 0 43 (dk_at dksX12_tellRow_6 10 rfl rfl)
theorem dX12_tellRow_155 : decode cX12_tellRow 155 = .ok (.aload_n 0, 1) := dk_42 (dk_at dksX12_tellRow_6 13 rfl rfl)
theorem dX12_tellRow_156 : decode cX12_tellRow 156 = .ok (.getfield 242, 3) := dk_180 0 242 (dk_at dksX12_tellRow_6 14 rfl rfl)
theorem dX12_tellRow_159 : decode cX12_tellRow 159 = .ok (.iaload, 1) := dk_46 (dk_at dksX12_tellRow_6 17 rfl rfl)
theorem dX12_tellRow_160 : decode cX12_tellRow 160 = .ok (.imul, 1) := dk_104 (dk_at dksX12_tellRow_6 18 rfl rfl)
theorem dX12_tellRow_161 : decode cX12_tellRow 161 = .ok (.iadd, 1) := dk_96 (dk_at dksX12_tellRow_6 19 rfl rfl)
theorem dX12_tellRow_162 : decode cX12_tellRow 162 = .ok (.iload 5, 2) := dk_21 5 (dk_at dksX12_tellRow_6 20 rfl rfl)
theorem dX12_tellRow_164 : decode cX12_tellRow 164 = .ok (.iadd, 1) := dk_96 (dk_at dksX12_tellRow_6 22 rfl rfl)
theorem dX12_tellRow_165 : decode cX12_tellRow 165 = .ok (.iload 6, 2) := dk_21 6 (dk_at dksX12_tellRow_7 0 rfl rfl)
theorem dX12_tellRow_167 : decode cX12_tellRow 167 = .ok (.bipush 111, 2) := dk_16 111 (dk_at dksX12_tellRow_7 2 rfl rfl)
theorem dX12_tellRow_169 : decode cX12_tellRow 169 = .ok (.if_icmp .ne 8, 3) := dk_160 0 8 (dk_at dksX12_tellRow_7 4 rfl rfl)
theorem dX12_tellRow_172 : decode cX12_tellRow 172 = .ok (.bipush (-2), 2) := dk_16 254 (dk_at dksX12_tellRow_7 7 rfl rfl)
theorem dX12_tellRow_174 : decode cX12_tellRow 174 = .ok (.goto 8, 3) := dk_167 0 8 (dk_at dksX12_tellRow_7 9 rfl rfl)
theorem dX12_tellRow_177 : decode cX12_tellRow 177 = .ok (.iload 6, 2) := dk_21 6 (dk_at dksX12_tellRow_7 12 rfl rfl)
theorem dX12_tellRow_179 : decode cX12_tellRow 179 = .ok (.bipush 97, 2) := dk_16 97 (dk_at dksX12_tellRow_7 14 rfl rfl)
theorem dX12_tellRow_181 : decode cX12_tellRow 181 = .ok (.isub, 1) := dk_100 (dk_at dksX12_tellRow_7 16 rfl rfl)
theorem dX12_tellRow_182 : decode cX12_tellRow 182 = .ok (.iastore, 1) := dk_79 (dk_at dksX12_tellRow_7 17 rfl rfl)
theorem dX12_tellRow_183 : decode cX12_tellRow 183 = .ok (.lload_n 2, 1) := dk_32 (dk_at dksX12_tellRow_7 18 rfl rfl)
theorem dX12_tellRow_184 : decode cX12_tellRow 184 = .ok (.ldc2_w 181, 3) := dk_20 0 181 (dk_at dksX12_tellRow_7 19 rfl rfl)
theorem dX12_tellRow_187 : decode cX12_tellRow 187 = .ok (.ldiv, 1) := dk_109 (dk_at dksX12_tellRow_7 22 rfl rfl)
theorem dX12_tellRow_188 : decode cX12_tellRow 188 = .ok (.lstore_n 2, 1) := dk_65 (dk_at dksX12_tellRow_7 23 rfl rfl)
theorem dX12_tellRow_189 : decode cX12_tellRow 189 = .ok (.iinc 5 (-1), 3) := dk_132 5 255 (dk_at dksX12_tellRow_8 0 rfl rfl)
theorem dX12_tellRow_192 : decode cX12_tellRow 192 = .ok (.goto (-91), 3) := dk_167 255 165 (dk_at dksX12_tellRow_8 3 rfl rfl)
theorem dX12_tellRow_195 : decode cX12_tellRow 195 = .ok (.aload_n 0, 1) := dk_42 (dk_at dksX12_tellRow_8 6 rfl rfl)
theorem dX12_tellRow_196 : decode cX12_tellRow 196 = .ok (.iconst 4, 1) := dk_7 (dk_at dksX12_tellRow_8 7 rfl rfl)
theorem dX12_tellRow_197 : decode cX12_tellRow 197 = .ok (.invokevirtual 287, 3) := dk_182 1 31 (dk_at dksX12_tellRow_8 8 rfl rfl)
theorem dX12_tellRow_200 : decode cX12_tellRow 200 = .ok (.aload_n 0, 1) := dk_42 (dk_at dksX12_tellRow_8 11 rfl rfl)
theorem dX12_tellRow_201 : decode cX12_tellRow 201 = .ok (.getfield 209, 3) := dk_180 0 209 (dk_at dksX12_tellRow_8 12 rfl rfl)
theorem dX12_tellRow_204 : decode cX12_tellRow 204 = .ok (.ifCond .ne 16, 3) := dk_154 0 16 (dk_at dksX12_tellRow_8 15 rfl rfl)
theorem dX12_tellRow_207 : decode cX12_tellRow 207 = .ok (.aload_n 0, 1) := dk_42 (dk_at dksX12_tellRow_8 18 rfl rfl)
theorem dX12_tellRow_208 : decode cX12_tellRow 208 = .ok (.getfield 43, 3) := dk_180 0 43 (dk_at dksX12_tellRow_8 19 rfl rfl)
theorem dX12_tellRow_211 : decode cX12_tellRow 211 = .ok (.aload_n 0, 1) := dk_42 (dk_at dksX12_tellRow_8 22 rfl rfl)
theorem dX12_tellRow_212 : decode cX12_tellRow 212 = .ok (.getfield 242, 3) := dk_180 0 242 (dk_at dksX12_tellRow_9 0 rfl rfl)
theorem dX12_tellRow_215 : decode cX12_tellRow 215 = .ok (.dup2, 1) := dk_92 (dk_at dksX12_tellRow_9 3 rfl rfl)
theorem dX12_tellRow_216 : decode cX12_tellRow 216 = .ok (.iaload, 1) := dk_46 (dk_at dksX12_tellRow_9 4 rfl rfl)
theorem dX12_tellRow_217 : decode cX12_tellRow 217 = .ok (.iconst 1, 1) := dk_4 (dk_at dksX12_tellRow_9 5 rfl rfl)
theorem dX12_tellRow_218 : decode cX12_tellRow 218 = .ok (.iadd, 1) := dk_96 (dk_at dksX12_tellRow_9 6 rfl rfl)
theorem dX12_tellRow_219 : decode cX12_tellRow 219 = .ok (.iastore, 1) := dk_79 (dk_at dksX12_tellRow_9 7 rfl rfl)
theorem dX12_tellRow_220 : decode cX12_tellRow 220 = .ok (.return_, 1) := dk_177 (dk_at dksX12_tellRow_9 8 rfl rfl)
abbrev cX12_must : ByteArray := prog_22_method_18_code
def yX12_must : MethodName := ⟨RX12, "must", "(I)V"⟩
def dkwX12_must_0 : List UInt8 := [42, 27, 182, 0, 227, 153, 0, 10, 42, 182, 0, 230, 167, 0, 8, 42, 4, 182, 0, 224, 177]
abbrev dktX12_must_0 : List UInt8 := dkwX12_must_0 ++ []
theorem dksX12_must_0 : cX12_must.data.toList.drop 0 = dktX12_must_0 := by decide +kernel
theorem dX12_must_0 : decode cX12_must 0 = .ok (.aload_n 0, 1) := dk_42 (dk_at dksX12_must_0 0 rfl rfl)
theorem dX12_must_1 : decode cX12_must 1 = .ok (.iload_n 1, 1) := dk_27 (dk_at dksX12_must_0 1 rfl rfl)
theorem dX12_must_2 : decode cX12_must 2 = .ok (.invokevirtual 227, 3) := dk_182 0 227 (dk_at dksX12_must_0 2 rfl rfl)
theorem dX12_must_5 : decode cX12_must 5 = .ok (.ifCond .eq 10, 3) := dk_153 0 10 (dk_at dksX12_must_0 5 rfl rfl)
theorem dX12_must_8 : decode cX12_must 8 = .ok (.aload_n 0, 1) := dk_42 (dk_at dksX12_must_0 8 rfl rfl)
theorem dX12_must_9 : decode cX12_must 9 = .ok (.invokevirtual 230, 3) := dk_182 0 230 (dk_at dksX12_must_0 9 rfl rfl)
theorem dX12_must_12 : decode cX12_must 12 = .ok (.goto 8, 3) := dk_167 0 8 (dk_at dksX12_must_0 12 rfl rfl)
theorem dX12_must_15 : decode cX12_must 15 = .ok (.aload_n 0, 1) := dk_42 (dk_at dksX12_must_0 15 rfl rfl)
theorem dX12_must_16 : decode cX12_must 16 = .ok (.iconst 1, 1) := dk_4 (dk_at dksX12_must_0 16 rfl rfl)
theorem dX12_must_17 : decode cX12_must 17 = .ok (.invokevirtual 224, 3) := dk_182 0 224 (dk_at dksX12_must_0 17 rfl rfl)
theorem dX12_must_20 : decode cX12_must 20 = .ok (.return_, 1) := dk_177 (dk_at dksX12_must_0 20 rfl rfl)
abbrev cX12_wrong : ByteArray := prog_22_method_16_code
def yX12_wrong : MethodName := ⟨RX12, "wrong", "(II)V"⟩
def dkwX12_wrong_2 : List UInt8 := [27, 181, 0, 218, 42, 29, 181, 0, 221, 177]
abbrev dktX12_wrong_2 : List UInt8 := dkwX12_wrong_2 ++ []
def dkwX12_wrong_1 : List UInt8 := [180, 0, 221, 163, 0, 19, 29, 42, 180, 0, 221, 160, 0, 12, 27, 42, 180, 0, 218, 161, 0, 4, 177, 42]
abbrev dktX12_wrong_1 : List UInt8 := dkwX12_wrong_1 ++ dktX12_wrong_2
def dkwX12_wrong_0 : List UInt8 := [42, 180, 0, 24, 28, 46, 62, 42, 180, 0, 209, 157, 0, 34, 42, 180, 0, 218, 153, 0, 28, 29, 42]
abbrev dktX12_wrong_0 : List UInt8 := dkwX12_wrong_0 ++ dktX12_wrong_1
theorem dksX12_wrong_0 : cX12_wrong.data.toList.drop 0 = dktX12_wrong_0 := by decide +kernel
theorem dksX12_wrong_1 : cX12_wrong.data.toList.drop 23 = dktX12_wrong_1 := dk_seg dksX12_wrong_0 23 rfl rfl
theorem dksX12_wrong_2 : cX12_wrong.data.toList.drop 47 = dktX12_wrong_2 := dk_seg dksX12_wrong_1 24 rfl rfl
theorem dX12_wrong_0 : decode cX12_wrong 0 = .ok (.aload_n 0, 1) := dk_42 (dk_at dksX12_wrong_0 0 rfl rfl)
theorem dX12_wrong_1 : decode cX12_wrong 1 = .ok (.getfield 24, 3) := dk_180 0 24 (dk_at dksX12_wrong_0 1 rfl rfl)
theorem dX12_wrong_4 : decode cX12_wrong 4 = .ok (.iload_n 2, 1) := dk_28 (dk_at dksX12_wrong_0 4 rfl rfl)
theorem dX12_wrong_5 : decode cX12_wrong 5 = .ok (.iaload, 1) := dk_46 (dk_at dksX12_wrong_0 5 rfl rfl)
theorem dX12_wrong_6 : decode cX12_wrong 6 = .ok (.istore_n 3, 1) := dk_62 (dk_at dksX12_wrong_0 6 rfl rfl)
theorem dX12_wrong_7 : decode cX12_wrong 7 = .ok (.aload_n 0, 1) := dk_42 (dk_at dksX12_wrong_0 7 rfl rfl)
theorem dX12_wrong_8 : decode cX12_wrong 8 = .ok (.getfield 209, 3) := dk_180 0 209 (dk_at dksX12_wrong_0 8 rfl rfl)
theorem dX12_wrong_11 : decode cX12_wrong 11 = .ok (.ifCond .gt 34, 3) := dk_157 0 34 (dk_at dksX12_wrong_0 11 rfl rfl)
theorem dX12_wrong_14 : decode cX12_wrong 14 = .ok (.aload_n 0, 1) := dk_42 (dk_at dksX12_wrong_0 14 rfl rfl)
theorem dX12_wrong_15 : decode cX12_wrong 15 = .ok (.getfield 218, 3) := dk_180 0 218 (dk_at dksX12_wrong_0 15 rfl rfl)
theorem dX12_wrong_18 : decode cX12_wrong 18 = .ok (.ifCond .eq 28, 3) := dk_153 0 28 (dk_at dksX12_wrong_0 18 rfl rfl)
theorem dX12_wrong_21 : decode cX12_wrong 21 = .ok (.iload_n 3, 1) := dk_29 (dk_at dksX12_wrong_0 21 rfl rfl)
theorem dX12_wrong_22 : decode cX12_wrong 22 = .ok (.aload_n 0, 1) := dk_42 (dk_at dksX12_wrong_0 22 rfl rfl)
theorem dX12_wrong_23 : decode cX12_wrong 23 = .ok (.getfield 221, 3) := dk_180 0 221 (dk_at dksX12_wrong_1 0 rfl rfl)
theorem dX12_wrong_26 : decode cX12_wrong 26 = .ok (.if_icmp .gt 19, 3) := dk_163 0 19 (dk_at dksX12_wrong_1 3 rfl rfl)
theorem dX12_wrong_29 : decode cX12_wrong 29 = .ok (.iload_n 3, 1) := dk_29 (dk_at dksX12_wrong_1 6 rfl rfl)
theorem dX12_wrong_30 : decode cX12_wrong 30 = .ok (.aload_n 0, 1) := dk_42 (dk_at dksX12_wrong_1 7 rfl rfl)
theorem dX12_wrong_31 : decode cX12_wrong 31 = .ok (.getfield 221, 3) := dk_180 0 221 (dk_at dksX12_wrong_1 8 rfl rfl)
theorem dX12_wrong_34 : decode cX12_wrong 34 = .ok (.if_icmp .ne 12, 3) := dk_160 0 12 (dk_at dksX12_wrong_1 11 rfl rfl)
theorem dX12_wrong_37 : decode cX12_wrong 37 = .ok (.iload_n 1, 1) := dk_27 (dk_at dksX12_wrong_1 14 rfl rfl)
theorem dX12_wrong_38 : decode cX12_wrong 38 = .ok (.aload_n 0, 1) := dk_42 (dk_at dksX12_wrong_1 15 rfl rfl)
theorem dX12_wrong_39 : decode cX12_wrong 39 = .ok (.getfield 218, 3) := dk_180 0 218 (dk_at dksX12_wrong_1 16 rfl rfl)
theorem dX12_wrong_42 : decode cX12_wrong 42 = .ok (.if_icmp .lt 4, 3) := dk_161 0 4 (dk_at dksX12_wrong_1 19 rfl rfl)
theorem dX12_wrong_45 : decode cX12_wrong 45 = .ok (.return_, 1) := dk_177 (dk_at dksX12_wrong_1 22 rfl rfl)
theorem dX12_wrong_46 : decode cX12_wrong 46 = .ok (.aload_n 0, 1) := dk_42 (dk_at dksX12_wrong_1 23 rfl rfl)
theorem dX12_wrong_47 : decode cX12_wrong 47 = .ok (.iload_n 1, 1) := dk_27 (dk_at dksX12_wrong_2 0 rfl rfl)
theorem dX12_wrong_48 : decode cX12_wrong 48 = .ok (.putfield 218, 3) := dk_181 0 218 (dk_at dksX12_wrong_2 1 rfl rfl)
theorem dX12_wrong_51 : decode cX12_wrong 51 = .ok (.aload_n 0, 1) := dk_42 (dk_at dksX12_wrong_2 4 rfl rfl)
theorem dX12_wrong_52 : decode cX12_wrong 52 = .ok (.iload_n 3, 1) := dk_29 (dk_at dksX12_wrong_2 5 rfl rfl)
theorem dX12_wrong_53 : decode cX12_wrong 53 = .ok (.putfield 221, 3) := dk_181 0 221 (dk_at dksX12_wrong_2 6 rfl rfl)
theorem dX12_wrong_56 : decode cX12_wrong 56 = .ok (.return_, 1) := dk_177 (dk_at dksX12_wrong_2 9 rfl rfl)
abbrev cX12_tellField : ByteArray := prog_22_method_29_code
def yX12_tellField : MethodName := ⟨RX12, "tellField", "()V"⟩
def dkwX12_tellField_3 : List UInt8 := [92, 46, 4, 96, 79, 177]
abbrev dktX12_tellField_3 : List UInt8 := dkwX12_tellField_3 ++ []
def dkwX12_tellField_2 : List UInt8 := [182, 1, 27, 79, 42, 28, 182, 1, 41, 42, 180, 0, 209, 154, 0, 16, 42, 180, 0, 52, 42, 180, 0, 242]
abbrev dktX12_tellField_2 : List UInt8 := dkwX12_tellField_2 ++ dktX12_tellField_3
def dkwX12_tellField_1 : List UInt8 := [180, 0, 55, 27, 42, 3, 16, 99, 182, 1, 27, 79, 42, 180, 0, 58, 27, 42, 3, 17, 3, 231]
abbrev dktX12_tellField_1 : List UInt8 := dkwX12_tellField_1 ++ dktX12_tellField_2
def dkwX12_tellField_0 : List UInt8 := [16, 6, 42, 180, 0, 242, 104, 42, 180, 0, 52, 42, 180, 0, 242, 46, 96, 60, 42, 182, 1, 37, 61, 42]
abbrev dktX12_tellField_0 : List UInt8 := dkwX12_tellField_0 ++ dktX12_tellField_1
theorem dksX12_tellField_0 : cX12_tellField.data.toList.drop 0 = dktX12_tellField_0 := by decide +kernel
theorem dksX12_tellField_1 : cX12_tellField.data.toList.drop 24 = dktX12_tellField_1 := dk_seg dksX12_tellField_0 24 rfl rfl
theorem dksX12_tellField_2 : cX12_tellField.data.toList.drop 46 = dktX12_tellField_2 := dk_seg dksX12_tellField_1 22 rfl rfl
theorem dksX12_tellField_3 : cX12_tellField.data.toList.drop 70 = dktX12_tellField_3 := dk_seg dksX12_tellField_2 24 rfl rfl
theorem dX12_tellField_0 : decode cX12_tellField 0 = .ok (.bipush 6, 2) := dk_16 6 (dk_at dksX12_tellField_0 0 rfl rfl)
theorem dX12_tellField_2 : decode cX12_tellField 2 = .ok (.aload_n 0, 1) := dk_42 (dk_at dksX12_tellField_0 2 rfl rfl)
theorem dX12_tellField_3 : decode cX12_tellField 3 = .ok (.getfield 242, 3) := dk_180 0 242 (dk_at dksX12_tellField_0 3 rfl rfl)
theorem dX12_tellField_6 : decode cX12_tellField 6 = .ok (.imul, 1) := dk_104 (dk_at dksX12_tellField_0 6 rfl rfl)
theorem dX12_tellField_7 : decode cX12_tellField 7 = .ok (.aload_n 0, 1) := dk_42 (dk_at dksX12_tellField_0 7 rfl rfl)
theorem dX12_tellField_8 : decode cX12_tellField 8 = .ok (.getfield 52, 3) := dk_180 0 52 (dk_at dksX12_tellField_0 8 rfl rfl)
theorem dX12_tellField_11 : decode cX12_tellField 11 = .ok (.aload_n 0, 1) := dk_42 (dk_at dksX12_tellField_0 11 rfl rfl)
theorem dX12_tellField_12 : decode cX12_tellField 12 = .ok (.getfield 242, 3) := dk_180 0 242 (dk_at dksX12_tellField_0 12 rfl rfl)
theorem dX12_tellField_15 : decode cX12_tellField 15 = .ok (.iaload, 1) := dk_46 (dk_at dksX12_tellField_0 15 rfl rfl)
theorem dX12_tellField_16 : decode cX12_tellField 16 = .ok (.iadd, 1) := dk_96 (dk_at dksX12_tellField_0 16 rfl rfl)
theorem dX12_tellField_17 : decode cX12_tellField 17 = .ok (.istore_n 1, 1) := dk_60 (dk_at dksX12_tellField_0 17 rfl rfl)
theorem dX12_tellField_18 : decode cX12_tellField 18 = .ok (.aload_n 0, 1) := dk_42 (dk_at dksX12_tellField_0 18 rfl rfl)
theorem dX12_tellField_19 : decode cX12_tellField 19 = .ok (.invokevirtual 293, 3) := dk_182 1 37 (dk_at dksX12_tellField_0 19 rfl rfl)
theorem dX12_tellField_22 : decode cX12_tellField 22 = .ok (.istore_n 2, 1) := dk_61 (dk_at dksX12_tellField_0 22 rfl rfl)
theorem dX12_tellField_23 : decode cX12_tellField 23 = .ok (.aload_n 0, 1) := dk_42 (dk_at dksX12_tellField_0 23 rfl rfl)
theorem dX12_tellField_24 : decode cX12_tellField 24 = .ok (.getfield 55, 3) := dk_180 0 55 (dk_at dksX12_tellField_1 0 rfl rfl)
theorem dX12_tellField_27 : decode cX12_tellField 27 = .ok (.iload_n 1, 1) := dk_27 (dk_at dksX12_tellField_1 3 rfl rfl)
theorem dX12_tellField_28 : decode cX12_tellField 28 = .ok (.aload_n 0, 1) := dk_42 (dk_at dksX12_tellField_1 4 rfl rfl)
theorem dX12_tellField_29 : decode cX12_tellField 29 = .ok (.iconst 0, 1) := dk_3 (dk_at dksX12_tellField_1 5 rfl rfl)
theorem dX12_tellField_30 : decode cX12_tellField 30 = .ok (.bipush 99, 2) := dk_16 99 (dk_at dksX12_tellField_1 6 rfl rfl)
theorem dX12_tellField_32 : decode cX12_tellField 32 = .ok (.invokevirtual 283, 3) := dk_182 1 27 (dk_at dksX12_tellField_1 8 rfl rfl)
theorem dX12_tellField_35 : decode cX12_tellField 35 = .ok (.iastore, 1) := dk_79 (dk_at dksX12_tellField_1 11 rfl rfl)
theorem dX12_tellField_36 : decode cX12_tellField 36 = .ok (.aload_n 0, 1) := dk_42 (dk_at dksX12_tellField_1 12 rfl rfl)
theorem dX12_tellField_37 : decode cX12_tellField 37 = .ok (.getfield 58, 3) := dk_180 0 58 (dk_at dksX12_tellField_1 13 rfl rfl)
theorem dX12_tellField_40 : decode cX12_tellField 40 = .ok (.iload_n 1, 1) := dk_27 (dk_at dksX12_tellField_1 16 rfl rfl)
theorem dX12_tellField_41 : decode cX12_tellField 41 = .ok (.aload_n 0, 1) := dk_42 (dk_at dksX12_tellField_1 17 rfl rfl)
theorem dX12_tellField_42 : decode cX12_tellField 42 = .ok (.iconst 0, 1) := dk_3 (dk_at dksX12_tellField_1 18 rfl rfl)
theorem dX12_tellField_43 : decode cX12_tellField 43 = .ok (.sipush 999, 3) := dk_17 3 231 (dk_at dksX12_tellField_1 19 rfl rfl)
theorem dX12_tellField_46 : decode cX12_tellField 46 = .ok (.invokevirtual 283, 3) := dk_182 1 27 (dk_at dksX12_tellField_2 0 rfl rfl)
theorem dX12_tellField_49 : decode cX12_tellField 49 = .ok (.iastore, 1) := dk_79 (dk_at dksX12_tellField_2 3 rfl rfl)
theorem dX12_tellField_50 : decode cX12_tellField 50 = .ok (.aload_n 0, 1) := dk_42 (dk_at dksX12_tellField_2 4 rfl rfl)
theorem dX12_tellField_51 : decode cX12_tellField 51 = .ok (.iload_n 2, 1) := dk_28 (dk_at dksX12_tellField_2 5 rfl rfl)
theorem dX12_tellField_52 : decode cX12_tellField 52 = .ok (.invokevirtual 297, 3) := dk_182 1 41 (dk_at dksX12_tellField_2 6 rfl rfl)
theorem dX12_tellField_55 : decode cX12_tellField 55 = .ok (.aload_n 0, 1) := dk_42 (dk_at dksX12_tellField_2 9 rfl rfl)
theorem dX12_tellField_56 : decode cX12_tellField 56 = .ok (.getfield 209, 3) := dk_180 0 209 (dk_at dksX12_tellField_2 10 rfl rfl)
theorem dX12_tellField_59 : decode cX12_tellField 59 = .ok (.ifCond .ne 16, 3) := dk_154 0 16 (dk_at dksX12_tellField_2 13 rfl rfl)
theorem dX12_tellField_62 : decode cX12_tellField 62 = .ok (.aload_n 0, 1) := dk_42 (dk_at dksX12_tellField_2 16 rfl rfl)
theorem dX12_tellField_63 : decode cX12_tellField 63 = .ok (.getfield 52, 3) := dk_180 0 52 (dk_at dksX12_tellField_2 17 rfl rfl)
theorem dX12_tellField_66 : decode cX12_tellField 66 = .ok (.aload_n 0, 1) := dk_42 (dk_at dksX12_tellField_2 20 rfl rfl)
theorem dX12_tellField_67 : decode cX12_tellField 67 = .ok (.getfield 242, 3) := dk_180 0 242 (dk_at dksX12_tellField_2 21 rfl rfl)
theorem dX12_tellField_70 : decode cX12_tellField 70 = .ok (.dup2, 1) := dk_92 (dk_at dksX12_tellField_3 0 rfl rfl)
theorem dX12_tellField_71 : decode cX12_tellField 71 = .ok (.iaload, 1) := dk_46 (dk_at dksX12_tellField_3 1 rfl rfl)
theorem dX12_tellField_72 : decode cX12_tellField 72 = .ok (.iconst 1, 1) := dk_4 (dk_at dksX12_tellField_3 2 rfl rfl)
theorem dX12_tellField_73 : decode cX12_tellField 73 = .ok (.iadd, 1) := dk_96 (dk_at dksX12_tellField_3 3 rfl rfl)
theorem dX12_tellField_74 : decode cX12_tellField 74 = .ok (.iastore, 1) := dk_79 (dk_at dksX12_tellField_3 4 rfl rfl)
theorem dX12_tellField_75 : decode cX12_tellField 75 = .ok (.return_, 1) := dk_177 (dk_at dksX12_tellField_3 5 rfl rfl)
abbrev cX12_named : ByteArray := prog_22_method_25_code
def yX12_named : MethodName := ⟨RX12, "named", "()I"⟩
def dkwX12_named_2 : List UInt8 := [182, 1, 5, 132, 2, 1, 167, 255, 216, 27, 172]
abbrev dktX12_named_2 : List UInt8 := dkwX12_named_2 ++ []
def dkwX12_named_1 : List UInt8 := [154, 0, 31, 42, 180, 0, 40, 28, 47, 42, 180, 0, 30, 27, 47, 148, 154, 0, 9, 42, 6, 27]
abbrev dktX12_named_1 : List UInt8 := dkwX12_named_1 ++ dktX12_named_2
def dkwX12_named_0 : List UInt8 := [42, 180, 0, 212, 60, 42, 4, 182, 1, 31, 3, 61, 28, 42, 180, 0, 245, 162, 0, 38, 42, 180, 0, 209]
abbrev dktX12_named_0 : List UInt8 := dkwX12_named_0 ++ dktX12_named_1
theorem dksX12_named_0 : cX12_named.data.toList.drop 0 = dktX12_named_0 := by decide +kernel
theorem dksX12_named_1 : cX12_named.data.toList.drop 24 = dktX12_named_1 := dk_seg dksX12_named_0 24 rfl rfl
theorem dksX12_named_2 : cX12_named.data.toList.drop 46 = dktX12_named_2 := dk_seg dksX12_named_1 22 rfl rfl
theorem dX12_named_0 : decode cX12_named 0 = .ok (.aload_n 0, 1) := dk_42 (dk_at dksX12_named_0 0 rfl rfl)
theorem dX12_named_1 : decode cX12_named 1 = .ok (.getfield 212, 3) := dk_180 0 212 (dk_at dksX12_named_0 1 rfl rfl)
theorem dX12_named_4 : decode cX12_named 4 = .ok (.istore_n 1, 1) := dk_60 (dk_at dksX12_named_0 4 rfl rfl)
theorem dX12_named_5 : decode cX12_named 5 = .ok (.aload_n 0, 1) := dk_42 (dk_at dksX12_named_0 5 rfl rfl)
theorem dX12_named_6 : decode cX12_named 6 = .ok (.iconst 1, 1) := dk_4 (dk_at dksX12_named_0 6 rfl rfl)
theorem dX12_named_7 : decode cX12_named 7 = .ok (.invokevirtual 287, 3) := dk_182 1 31 (dk_at dksX12_named_0 7 rfl rfl)
theorem dX12_named_10 : decode cX12_named 10 = .ok (.iconst 0, 1) := dk_3 (dk_at dksX12_named_0 10 rfl rfl)
theorem dX12_named_11 : decode cX12_named 11 = .ok (.istore_n 2, 1) := dk_61 (dk_at dksX12_named_0 11 rfl rfl)
theorem dX12_named_12 : decode cX12_named 12 = .ok (.iload_n 2, 1) := dk_28 (dk_at dksX12_named_0 12 rfl rfl)
theorem dX12_named_13 : decode cX12_named 13 = .ok (.aload_n 0, 1) := dk_42 (dk_at dksX12_named_0 13 rfl rfl)
theorem dX12_named_14 : decode cX12_named 14 = .ok (.getfield 245, 3) := dk_180 0 245 (dk_at dksX12_named_0 14 rfl rfl)
theorem dX12_named_17 : decode cX12_named 17 = .ok (.if_icmp .ge 38, 3) := dk_162 0 38 (dk_at dksX12_named_0 17 rfl rfl)
theorem dX12_named_20 : decode cX12_named 20 = .ok (.aload_n 0, 1) := dk_42 (dk_at dksX12_named_0 20 rfl rfl)
theorem dX12_named_21 : decode cX12_named 21 = .ok (.getfield 209, 3) := dk_180 0 209 (dk_at dksX12_named_0 21 rfl rfl)
theorem dX12_named_24 : decode cX12_named 24 = .ok (.ifCond .ne 31, 3) := dk_154 0 31 (dk_at dksX12_named_1 0 rfl rfl)
theorem dX12_named_27 : decode cX12_named 27 = .ok (.aload_n 0, 1) := dk_42 (dk_at dksX12_named_1 3 rfl rfl)
theorem dX12_named_28 : decode cX12_named 28 = .ok (.getfield 40, 3) := dk_180 0 40 (dk_at dksX12_named_1 4 rfl rfl)
theorem dX12_named_31 : decode cX12_named 31 = .ok (.iload_n 2, 1) := dk_28 (dk_at dksX12_named_1 7 rfl rfl)
theorem dX12_named_32 : decode cX12_named 32 = .ok (.laload, 1) := dk_47 (dk_at dksX12_named_1 8 rfl rfl)
theorem dX12_named_33 : decode cX12_named 33 = .ok (.aload_n 0, 1) := dk_42 (dk_at dksX12_named_1 9 rfl rfl)
theorem dX12_named_34 : decode cX12_named 34 = .ok (.getfield 30, 3) := dk_180 0 30 (dk_at dksX12_named_1 10 rfl rfl)
theorem dX12_named_37 : decode cX12_named 37 = .ok (.iload_n 1, 1) := dk_27 (dk_at dksX12_named_1 13 rfl rfl)
theorem dX12_named_38 : decode cX12_named 38 = .ok (.laload, 1) := dk_47 (dk_at dksX12_named_1 14 rfl rfl)
theorem dX12_named_39 : decode cX12_named 39 = .ok (.lcmp, 1) := dk_148 (dk_at dksX12_named_1 15 rfl rfl)
theorem dX12_named_40 : decode cX12_named 40 = .ok (.ifCond .ne 9, 3) := dk_154 0 9 (dk_at dksX12_named_1 16 rfl rfl)
theorem dX12_named_43 : decode cX12_named 43 = .ok (.aload_n 0, 1) := dk_42 (dk_at dksX12_named_1 19 rfl rfl)
theorem dX12_named_44 : decode cX12_named 44 = .ok (.iconst 3, 1) := dk_6 (dk_at dksX12_named_1 20 rfl rfl)
theorem dX12_named_45 : decode cX12_named 45 = .ok (.iload_n 1, 1) := dk_27 (dk_at dksX12_named_1 21 rfl rfl)
theorem dX12_named_46 : decode cX12_named 46 = .ok (.invokevirtual 261, 3) := dk_182 1 5 (dk_at dksX12_named_2 0 rfl rfl)
theorem dX12_named_49 : decode cX12_named 49 = .ok (.iinc 2 1, 3) := dk_132 2 1 (dk_at dksX12_named_2 3 rfl rfl)
theorem dX12_named_52 : decode cX12_named 52 = .ok (.goto (-40), 3) := dk_167 255 216 (dk_at dksX12_named_2 6 rfl rfl)
theorem dX12_named_55 : decode cX12_named 55 = .ok (.iload_n 1, 1) := dk_27 (dk_at dksX12_named_2 9 rfl rfl)
theorem dX12_named_56 : decode cX12_named 56 = .ok (.ireturn, 1) := dk_172 (dk_at dksX12_named_2 10 rfl rfl)
abbrev cX12_bounded : ByteArray := prog_22_method_27_code
def yX12_bounded : MethodName := ⟨RX12, "bounded", "(II)I"⟩
def dkwX12_bounded_2 : List UInt8 := [180, 0, 212, 182, 1, 5, 42, 182, 0, 230, 29, 172]
abbrev dktX12_bounded_2 : List UInt8 := dkwX12_bounded_2 ++ []
def dkwX12_bounded_1 : List UInt8 := [180, 0, 27, 42, 180, 0, 212, 46, 62, 29, 27, 161, 0, 8, 29, 28, 164, 0, 12, 42, 8, 42]
abbrev dktX12_bounded_1 : List UInt8 := dkwX12_bounded_1 ++ dktX12_bounded_2
def dkwX12_bounded_0 : List UInt8 := [42, 180, 0, 209, 157, 0, 11, 42, 5, 182, 0, 227, 154, 0, 10, 42, 4, 182, 0, 224, 27, 172, 42]
abbrev dktX12_bounded_0 : List UInt8 := dkwX12_bounded_0 ++ dktX12_bounded_1
theorem dksX12_bounded_0 : cX12_bounded.data.toList.drop 0 = dktX12_bounded_0 := by decide +kernel
theorem dksX12_bounded_1 : cX12_bounded.data.toList.drop 23 = dktX12_bounded_1 := dk_seg dksX12_bounded_0 23 rfl rfl
theorem dksX12_bounded_2 : cX12_bounded.data.toList.drop 45 = dktX12_bounded_2 := dk_seg dksX12_bounded_1 22 rfl rfl
theorem dX12_bounded_0 : decode cX12_bounded 0 = .ok (.aload_n 0, 1) := dk_42 (dk_at dksX12_bounded_0 0 rfl rfl)
theorem dX12_bounded_1 : decode cX12_bounded 1 = .ok (.getfield 209, 3) := dk_180 0 209 (dk_at dksX12_bounded_0 1 rfl rfl)
theorem dX12_bounded_4 : decode cX12_bounded 4 = .ok (.ifCond .gt 11, 3) := dk_157 0 11 (dk_at dksX12_bounded_0 4 rfl rfl)
theorem dX12_bounded_7 : decode cX12_bounded 7 = .ok (.aload_n 0, 1) := dk_42 (dk_at dksX12_bounded_0 7 rfl rfl)
theorem dX12_bounded_8 : decode cX12_bounded 8 = .ok (.iconst 2, 1) := dk_5 (dk_at dksX12_bounded_0 8 rfl rfl)
theorem dX12_bounded_9 : decode cX12_bounded 9 = .ok (.invokevirtual 227, 3) := dk_182 0 227 (dk_at dksX12_bounded_0 9 rfl rfl)
theorem dX12_bounded_12 : decode cX12_bounded 12 = .ok (.ifCond .ne 10, 3) := dk_154 0 10 (dk_at dksX12_bounded_0 12 rfl rfl)
theorem dX12_bounded_15 : decode cX12_bounded 15 = .ok (.aload_n 0, 1) := dk_42 (dk_at dksX12_bounded_0 15 rfl rfl)
theorem dX12_bounded_16 : decode cX12_bounded 16 = .ok (.iconst 1, 1) := dk_4 (dk_at dksX12_bounded_0 16 rfl rfl)
theorem dX12_bounded_17 : decode cX12_bounded 17 = .ok (.invokevirtual 224, 3) := dk_182 0 224 (dk_at dksX12_bounded_0 17 rfl rfl)
theorem dX12_bounded_20 : decode cX12_bounded 20 = .ok (.iload_n 1, 1) := dk_27 (dk_at dksX12_bounded_0 20 rfl rfl)
theorem dX12_bounded_21 : decode cX12_bounded 21 = .ok (.ireturn, 1) := dk_172 (dk_at dksX12_bounded_0 21 rfl rfl)
theorem dX12_bounded_22 : decode cX12_bounded 22 = .ok (.aload_n 0, 1) := dk_42 (dk_at dksX12_bounded_0 22 rfl rfl)
theorem dX12_bounded_23 : decode cX12_bounded 23 = .ok (.getfield 27, 3) := dk_180 0 27 (dk_at dksX12_bounded_1 0 rfl rfl)
theorem dX12_bounded_26 : decode cX12_bounded 26 = .ok (.aload_n 0, 1) := dk_42 (dk_at dksX12_bounded_1 3 rfl rfl)
theorem dX12_bounded_27 : decode cX12_bounded 27 = .ok (.getfield 212, 3) := dk_180 0 212 (dk_at dksX12_bounded_1 4 rfl rfl)
theorem dX12_bounded_30 : decode cX12_bounded 30 = .ok (.iaload, 1) := dk_46 (dk_at dksX12_bounded_1 7 rfl rfl)
theorem dX12_bounded_31 : decode cX12_bounded 31 = .ok (.istore_n 3, 1) := dk_62 (dk_at dksX12_bounded_1 8 rfl rfl)
theorem dX12_bounded_32 : decode cX12_bounded 32 = .ok (.iload_n 3, 1) := dk_29 (dk_at dksX12_bounded_1 9 rfl rfl)
theorem dX12_bounded_33 : decode cX12_bounded 33 = .ok (.iload_n 1, 1) := dk_27 (dk_at dksX12_bounded_1 10 rfl rfl)
theorem dX12_bounded_34 : decode cX12_bounded 34 = .ok (.if_icmp .lt 8, 3) := dk_161 0 8 (dk_at dksX12_bounded_1 11 rfl rfl)
theorem dX12_bounded_37 : decode cX12_bounded 37 = .ok (.iload_n 3, 1) := dk_29 (dk_at dksX12_bounded_1 14 rfl rfl)
theorem dX12_bounded_38 : decode cX12_bounded 38 = .ok (.iload_n 2, 1) := dk_28 (dk_at dksX12_bounded_1 15 rfl rfl)
theorem dX12_bounded_39 : decode cX12_bounded 39 = .ok (.if_icmp .le 12, 3) := dk_164 0 12 (dk_at dksX12_bounded_1 16 rfl rfl)
theorem dX12_bounded_42 : decode cX12_bounded 42 = .ok (.aload_n 0, 1) := dk_42 (dk_at dksX12_bounded_1 19 rfl rfl)
theorem dX12_bounded_43 : decode cX12_bounded 43 = .ok (.iconst 5, 1) := dk_8 (dk_at dksX12_bounded_1 20 rfl rfl)
theorem dX12_bounded_44 : decode cX12_bounded 44 = .ok (.aload_n 0, 1) := dk_42 (dk_at dksX12_bounded_1 21 rfl rfl)
theorem dX12_bounded_45 : decode cX12_bounded 45 = .ok (.getfield 212, 3) := dk_180 0 212 (dk_at dksX12_bounded_2 0 rfl rfl)
theorem dX12_bounded_48 : decode cX12_bounded 48 = .ok (.invokevirtual 261, 3) := dk_182 1 5 (dk_at dksX12_bounded_2 3 rfl rfl)
theorem dX12_bounded_51 : decode cX12_bounded 51 = .ok (.aload_n 0, 1) := dk_42 (dk_at dksX12_bounded_2 6 rfl rfl)
theorem dX12_bounded_52 : decode cX12_bounded 52 = .ok (.invokevirtual 230, 3) := dk_182 0 230 (dk_at dksX12_bounded_2 7 rfl rfl)
theorem dX12_bounded_55 : decode cX12_bounded 55 = .ok (.iload_n 3, 1) := dk_29 (dk_at dksX12_bounded_2 10 rfl rfl)
theorem dX12_bounded_56 : decode cX12_bounded 56 = .ok (.ireturn, 1) := dk_172 (dk_at dksX12_bounded_2 11 rfl rfl)
abbrev cX12_ends : ByteArray := prog_22_method_26_code
def yX12_ends : MethodName := ⟨RX12, "ends", "(I)V"⟩
def dkwX12_ends_1 : List UInt8 := [180, 0, 30, 27, 47, 80, 42, 89, 180, 0, 245, 4, 96, 181, 0, 245, 177]
abbrev dktX12_ends_1 : List UInt8 := dkwX12_ends_1 ++ []
def dkwX12_ends_0 : List UInt8 := [42, 7, 182, 1, 31, 42, 180, 0, 209, 158, 0, 4, 177, 42, 180, 0, 40, 42, 180, 0, 245, 42]
abbrev dktX12_ends_0 : List UInt8 := dkwX12_ends_0 ++ dktX12_ends_1
theorem dksX12_ends_0 : cX12_ends.data.toList.drop 0 = dktX12_ends_0 := by decide +kernel
theorem dksX12_ends_1 : cX12_ends.data.toList.drop 22 = dktX12_ends_1 := dk_seg dksX12_ends_0 22 rfl rfl
theorem dX12_ends_0 : decode cX12_ends 0 = .ok (.aload_n 0, 1) := dk_42 (dk_at dksX12_ends_0 0 rfl rfl)
theorem dX12_ends_1 : decode cX12_ends 1 = .ok (.iconst 4, 1) := dk_7 (dk_at dksX12_ends_0 1 rfl rfl)
theorem dX12_ends_2 : decode cX12_ends 2 = .ok (.invokevirtual 287, 3) := dk_182 1 31 (dk_at dksX12_ends_0 2 rfl rfl)
theorem dX12_ends_5 : decode cX12_ends 5 = .ok (.aload_n 0, 1) := dk_42 (dk_at dksX12_ends_0 5 rfl rfl)
theorem dX12_ends_6 : decode cX12_ends 6 = .ok (.getfield 209, 3) := dk_180 0 209 (dk_at dksX12_ends_0 6 rfl rfl)
theorem dX12_ends_9 : decode cX12_ends 9 = .ok (.ifCond .le 4, 3) := dk_158 0 4 (dk_at dksX12_ends_0 9 rfl rfl)
theorem dX12_ends_12 : decode cX12_ends 12 = .ok (.return_, 1) := dk_177 (dk_at dksX12_ends_0 12 rfl rfl)
theorem dX12_ends_13 : decode cX12_ends 13 = .ok (.aload_n 0, 1) := dk_42 (dk_at dksX12_ends_0 13 rfl rfl)
theorem dX12_ends_14 : decode cX12_ends 14 = .ok (.getfield 40, 3) := dk_180 0 40 (dk_at dksX12_ends_0 14 rfl rfl)
theorem dX12_ends_17 : decode cX12_ends 17 = .ok (.aload_n 0, 1) := dk_42 (dk_at dksX12_ends_0 17 rfl rfl)
theorem dX12_ends_18 : decode cX12_ends 18 = .ok (.getfield 245, 3) := dk_180 0 245 (dk_at dksX12_ends_0 18 rfl rfl)
theorem dX12_ends_21 : decode cX12_ends 21 = .ok (.aload_n 0, 1) := dk_42 (dk_at dksX12_ends_0 21 rfl rfl)
theorem dX12_ends_22 : decode cX12_ends 22 = .ok (.getfield 30, 3) := dk_180 0 30 (dk_at dksX12_ends_1 0 rfl rfl)
theorem dX12_ends_25 : decode cX12_ends 25 = .ok (.iload_n 1, 1) := dk_27 (dk_at dksX12_ends_1 3 rfl rfl)
theorem dX12_ends_26 : decode cX12_ends 26 = .ok (.laload, 1) := dk_47 (dk_at dksX12_ends_1 4 rfl rfl)
theorem dX12_ends_27 : decode cX12_ends 27 = .ok (.lastore, 1) := dk_80 (dk_at dksX12_ends_1 5 rfl rfl)
theorem dX12_ends_28 : decode cX12_ends 28 = .ok (.aload_n 0, 1) := dk_42 (dk_at dksX12_ends_1 6 rfl rfl)
theorem dX12_ends_29 : decode cX12_ends 29 = .ok (.dup, 1) := dk_89 (dk_at dksX12_ends_1 7 rfl rfl)
theorem dX12_ends_30 : decode cX12_ends 30 = .ok (.getfield 245, 3) := dk_180 0 245 (dk_at dksX12_ends_1 8 rfl rfl)
theorem dX12_ends_33 : decode cX12_ends 33 = .ok (.iconst 1, 1) := dk_4 (dk_at dksX12_ends_1 11 rfl rfl)
theorem dX12_ends_34 : decode cX12_ends 34 = .ok (.iadd, 1) := dk_96 (dk_at dksX12_ends_1 12 rfl rfl)
theorem dX12_ends_35 : decode cX12_ends 35 = .ok (.putfield 245, 3) := dk_181 0 245 (dk_at dksX12_ends_1 13 rfl rfl)
theorem dX12_ends_38 : decode cX12_ends 38 = .ok (.return_, 1) := dk_177 (dk_at dksX12_ends_1 16 rfl rfl)
abbrev cX12_tellLoom : ByteArray := prog_22_method_30_code
def yX12_tellLoom : MethodName := ⟨RX12, "tellLoom", "()V"⟩
def dkwX12_tellLoom_3 : List UInt8 := [96, 79, 177]
abbrev dktX12_tellLoom_3 : List UInt8 := dkwX12_tellLoom_3 ++ []
def dkwX12_tellLoom_2 : List UInt8 := [79, 42, 28, 182, 1, 41, 42, 180, 0, 209, 154, 0, 16, 42, 180, 0, 61, 42, 180, 0, 242, 92, 46, 4]
abbrev dktX12_tellLoom_2 : List UInt8 := dkwX12_tellLoom_2 ++ dktX12_tellLoom_3
def dkwX12_tellLoom_1 : List UInt8 := [180, 0, 64, 27, 42, 4, 16, 8, 182, 1, 27, 79, 42, 180, 0, 67, 27, 42, 3, 16, 99, 182, 1, 27]
abbrev dktX12_tellLoom_1 : List UInt8 := dkwX12_tellLoom_1 ++ dktX12_tellLoom_2
def dkwX12_tellLoom_0 : List UInt8 := [7, 42, 180, 0, 242, 104, 42, 180, 0, 61, 42, 180, 0, 242, 46, 96, 60, 42, 182, 1, 37, 61, 42]
abbrev dktX12_tellLoom_0 : List UInt8 := dkwX12_tellLoom_0 ++ dktX12_tellLoom_1
theorem dksX12_tellLoom_0 : cX12_tellLoom.data.toList.drop 0 = dktX12_tellLoom_0 := by decide +kernel
theorem dksX12_tellLoom_1 : cX12_tellLoom.data.toList.drop 23 = dktX12_tellLoom_1 := dk_seg dksX12_tellLoom_0 23 rfl rfl
theorem dksX12_tellLoom_2 : cX12_tellLoom.data.toList.drop 47 = dktX12_tellLoom_2 := dk_seg dksX12_tellLoom_1 24 rfl rfl
theorem dksX12_tellLoom_3 : cX12_tellLoom.data.toList.drop 71 = dktX12_tellLoom_3 := dk_seg dksX12_tellLoom_2 24 rfl rfl
theorem dX12_tellLoom_0 : decode cX12_tellLoom 0 = .ok (.iconst 4, 1) := dk_7 (dk_at dksX12_tellLoom_0 0 rfl rfl)
theorem dX12_tellLoom_1 : decode cX12_tellLoom 1 = .ok (.aload_n 0, 1) := dk_42 (dk_at dksX12_tellLoom_0 1 rfl rfl)
theorem dX12_tellLoom_2 : decode cX12_tellLoom 2 = .ok (.getfield 242, 3) := dk_180 0 242 (dk_at dksX12_tellLoom_0 2 rfl rfl)
theorem dX12_tellLoom_5 : decode cX12_tellLoom 5 = .ok (.imul, 1) := dk_104 (dk_at dksX12_tellLoom_0 5 rfl rfl)
theorem dX12_tellLoom_6 : decode cX12_tellLoom 6 = .ok (.aload_n 0, 1) := dk_42 (dk_at dksX12_tellLoom_0 6 rfl rfl)
theorem dX12_tellLoom_7 : decode cX12_tellLoom 7 = .ok (.getfield 61, 3) := dk_180 0 61 (dk_at dksX12_tellLoom_0 7 rfl rfl)
theorem dX12_tellLoom_10 : decode cX12_tellLoom 10 = .ok (.aload_n 0, 1) := dk_42 (dk_at dksX12_tellLoom_0 10 rfl rfl)
theorem dX12_tellLoom_11 : decode cX12_tellLoom 11 = .ok (.getfield 242, 3) := dk_180 0 242 (dk_at dksX12_tellLoom_0 11 rfl rfl)
theorem dX12_tellLoom_14 : decode cX12_tellLoom 14 = .ok (.iaload, 1) := dk_46 (dk_at dksX12_tellLoom_0 14 rfl rfl)
theorem dX12_tellLoom_15 : decode cX12_tellLoom 15 = .ok (.iadd, 1) := dk_96 (dk_at dksX12_tellLoom_0 15 rfl rfl)
theorem dX12_tellLoom_16 : decode cX12_tellLoom 16 = .ok (.istore_n 1, 1) := dk_60 (dk_at dksX12_tellLoom_0 16 rfl rfl)
theorem dX12_tellLoom_17 : decode cX12_tellLoom 17 = .ok (.aload_n 0, 1) := dk_42 (dk_at dksX12_tellLoom_0 17 rfl rfl)
theorem dX12_tellLoom_18 : decode cX12_tellLoom 18 = .ok (.invokevirtual 293, 3) := dk_182 1 37 (dk_at dksX12_tellLoom_0 18 rfl rfl)
theorem dX12_tellLoom_21 : decode cX12_tellLoom 21 = .ok (.istore_n 2, 1) := dk_61 (dk_at dksX12_tellLoom_0 21 rfl rfl)
theorem dX12_tellLoom_22 : decode cX12_tellLoom 22 = .ok (.aload_n 0, 1) := dk_42 (dk_at dksX12_tellLoom_0 22 rfl rfl)
theorem dX12_tellLoom_23 : decode cX12_tellLoom 23 = .ok (.getfield 64, 3) := dk_180 0 64 (dk_at dksX12_tellLoom_1 0 rfl rfl)
theorem dX12_tellLoom_26 : decode cX12_tellLoom 26 = .ok (.iload_n 1, 1) := dk_27 (dk_at dksX12_tellLoom_1 3 rfl rfl)
theorem dX12_tellLoom_27 : decode cX12_tellLoom 27 = .ok (.aload_n 0, 1) := dk_42 (dk_at dksX12_tellLoom_1 4 rfl rfl)
theorem dX12_tellLoom_28 : decode cX12_tellLoom 28 = .ok (.iconst 1, 1) := dk_4 (dk_at dksX12_tellLoom_1 5 rfl rfl)
theorem dX12_tellLoom_29 : decode cX12_tellLoom 29 = .ok (.bipush 8, 2) := dk_16 8 (dk_at dksX12_tellLoom_1 6 rfl rfl)
theorem dX12_tellLoom_31 : decode cX12_tellLoom 31 = .ok (.invokevirtual 283, 3) := dk_182 1 27 (dk_at dksX12_tellLoom_1 8 rfl rfl)
theorem dX12_tellLoom_34 : decode cX12_tellLoom 34 = .ok (.iastore, 1) := dk_79 (dk_at dksX12_tellLoom_1 11 rfl rfl)
theorem dX12_tellLoom_35 : decode cX12_tellLoom 35 = .ok (.aload_n 0, 1) := dk_42 (dk_at dksX12_tellLoom_1 12 rfl rfl)
theorem dX12_tellLoom_36 : decode cX12_tellLoom 36 = .ok (.getfield 67, 3) := dk_180 0 67 (dk_at dksX12_tellLoom_1 13 rfl rfl)
theorem dX12_tellLoom_39 : decode cX12_tellLoom 39 = .ok (.iload_n 1, 1) := dk_27 (dk_at dksX12_tellLoom_1 16 rfl rfl)
theorem dX12_tellLoom_40 : decode cX12_tellLoom 40 = .ok (.aload_n 0, 1) := dk_42 (dk_at dksX12_tellLoom_1 17 rfl rfl)
theorem dX12_tellLoom_41 : decode cX12_tellLoom 41 = .ok (.iconst 0, 1) := dk_3 (dk_at dksX12_tellLoom_1 18 rfl rfl)
theorem dX12_tellLoom_42 : decode cX12_tellLoom 42 = .ok (.bipush 99, 2) := dk_16 99 (dk_at dksX12_tellLoom_1 19 rfl rfl)
theorem dX12_tellLoom_44 : decode cX12_tellLoom 44 = .ok (.invokevirtual 283, 3) := dk_182 1 27 (dk_at dksX12_tellLoom_1 21 rfl rfl)
theorem dX12_tellLoom_47 : decode cX12_tellLoom 47 = .ok (.iastore, 1) := dk_79 (dk_at dksX12_tellLoom_2 0 rfl rfl)
theorem dX12_tellLoom_48 : decode cX12_tellLoom 48 = .ok (.aload_n 0, 1) := dk_42 (dk_at dksX12_tellLoom_2 1 rfl rfl)
theorem dX12_tellLoom_49 : decode cX12_tellLoom 49 = .ok (.iload_n 2, 1) := dk_28 (dk_at dksX12_tellLoom_2 2 rfl rfl)
theorem dX12_tellLoom_50 : decode cX12_tellLoom 50 = .ok (.invokevirtual 297, 3) := dk_182 1 41 (dk_at dksX12_tellLoom_2 3 rfl rfl)
theorem dX12_tellLoom_53 : decode cX12_tellLoom 53 = .ok (.aload_n 0, 1) := dk_42 (dk_at dksX12_tellLoom_2 6 rfl rfl)
theorem dX12_tellLoom_54 : decode cX12_tellLoom 54 = .ok (.getfield 209, 3) := dk_180 0 209 (dk_at dksX12_tellLoom_2 7 rfl rfl)
theorem dX12_tellLoom_57 : decode cX12_tellLoom 57 = .ok (.ifCond .ne 16, 3) := dk_154 0 16 (dk_at dksX12_tellLoom_2 10 rfl rfl)
theorem dX12_tellLoom_60 : decode cX12_tellLoom 60 = .ok (.aload_n 0, 1) := dk_42 (dk_at dksX12_tellLoom_2 13 rfl rfl)
theorem dX12_tellLoom_61 : decode cX12_tellLoom 61 = .ok (.getfield 61, 3) := dk_180 0 61 (dk_at dksX12_tellLoom_2 14 rfl rfl)
theorem dX12_tellLoom_64 : decode cX12_tellLoom 64 = .ok (.aload_n 0, 1) := dk_42 (dk_at dksX12_tellLoom_2 17 rfl rfl)
theorem dX12_tellLoom_65 : decode cX12_tellLoom 65 = .ok (.getfield 242, 3) := dk_180 0 242 (dk_at dksX12_tellLoom_2 18 rfl rfl)
theorem dX12_tellLoom_68 : decode cX12_tellLoom 68 = .ok (.dup2, 1) := dk_92 (dk_at dksX12_tellLoom_2 21 rfl rfl)
theorem dX12_tellLoom_69 : decode cX12_tellLoom 69 = .ok (.iaload, 1) := dk_46 (dk_at dksX12_tellLoom_2 22 rfl rfl)
theorem dX12_tellLoom_70 : decode cX12_tellLoom 70 = .ok (.iconst 1, 1) := dk_4 (dk_at dksX12_tellLoom_2 23 rfl rfl)
theorem dX12_tellLoom_71 : decode cX12_tellLoom 71 = .ok (.iadd, 1) := dk_96 (dk_at dksX12_tellLoom_3 0 rfl rfl)
theorem dX12_tellLoom_72 : decode cX12_tellLoom 72 = .ok (.iastore, 1) := dk_79 (dk_at dksX12_tellLoom_3 1 rfl rfl)
theorem dX12_tellLoom_73 : decode cX12_tellLoom 73 = .ok (.return_, 1) := dk_177 (dk_at dksX12_tellLoom_3 2 rfl rfl)
abbrev cX12_tellLaw : ByteArray := prog_22_method_31_code
def yX12_tellLaw : MethodName := ⟨RX12, "tellLaw", "(I)V"⟩
def dkwX12_tellLaw_8 : List UInt8 := [180, 0, 248, 79, 177]
abbrev dktX12_tellLaw_8 : List UInt8 := dkwX12_tellLaw_8 ++ []
def dkwX12_tellLaw_7 : List UInt8 := [42, 180, 0, 242, 104, 27, 96, 28, 79, 42, 180, 0, 82, 6, 42, 180, 0, 242, 104, 27, 96, 42]
abbrev dktX12_tellLaw_7 : List UInt8 := dkwX12_tellLaw_7 ++ dktX12_tellLaw_8
def dkwX12_tellLaw_6 : List UInt8 := [3, 84, 42, 182, 1, 47, 42, 7, 182, 1, 31, 42, 180, 0, 209, 158, 0, 4, 177, 42, 180, 0, 79, 6]
abbrev dktX12_tellLaw_6 : List UInt8 := dkwX12_tellLaw_6 ++ dktX12_tellLaw_7
def dkwX12_tellLaw_5 : List UInt8 := [182, 1, 31, 42, 182, 1, 47, 42, 16, 31, 182, 1, 31, 167, 255, 142, 42, 180, 0, 85, 42, 180, 0, 248]
abbrev dktX12_tellLaw_5 : List UInt8 := dkwX12_tellLaw_5 ++ dktX12_tellLaw_6
def dkwX12_tellLaw_4 : List UInt8 := [180, 0, 248, 42, 180, 0, 251, 79, 42, 180, 0, 209, 154, 0, 7, 42, 182, 1, 44, 42, 16, 30]
abbrev dktX12_tellLaw_4 : List UInt8 := dkwX12_tellLaw_4 ++ dktX12_tellLaw_5
def dkwX12_tellLaw_3 : List UInt8 := [180, 0, 248, 42, 180, 0, 251, 79, 42, 182, 1, 44, 42, 16, 13, 182, 1, 31, 42, 180, 0, 92, 42]
abbrev dktX12_tellLaw_3 : List UInt8 := dkwX12_tellLaw_3 ++ dktX12_tellLaw_4
def dkwX12_tellLaw_2 : List UInt8 := [132, 3, 1, 42, 182, 0, 230, 42, 180, 0, 85, 42, 180, 0, 248, 4, 84, 42, 180, 0, 89, 42]
abbrev dktX12_tellLaw_2 : List UInt8 := dkwX12_tellLaw_2 ++ dktX12_tellLaw_3
def dkwX12_tellLaw_1 : List UInt8 := [182, 0, 227, 153, 0, 104, 29, 7, 160, 0, 8, 42, 5, 182, 0, 224, 42, 180, 0, 209, 158, 0, 4, 177]
abbrev dktX12_tellLaw_1 : List UInt8 := dkwX12_tellLaw_1 ++ dktX12_tellLaw_2
def dkwX12_tellLaw_0 : List UInt8 := [42, 8, 182, 1, 31, 42, 180, 0, 248, 61, 3, 62, 42, 180, 0, 209, 154, 0, 113, 42, 16, 29]
abbrev dktX12_tellLaw_0 : List UInt8 := dkwX12_tellLaw_0 ++ dktX12_tellLaw_1
theorem dksX12_tellLaw_0 : cX12_tellLaw.data.toList.drop 0 = dktX12_tellLaw_0 := by decide +kernel
theorem dksX12_tellLaw_1 : cX12_tellLaw.data.toList.drop 22 = dktX12_tellLaw_1 := dk_seg dksX12_tellLaw_0 22 rfl rfl
theorem dksX12_tellLaw_2 : cX12_tellLaw.data.toList.drop 46 = dktX12_tellLaw_2 := dk_seg dksX12_tellLaw_1 24 rfl rfl
theorem dksX12_tellLaw_3 : cX12_tellLaw.data.toList.drop 68 = dktX12_tellLaw_3 := dk_seg dksX12_tellLaw_2 22 rfl rfl
theorem dksX12_tellLaw_4 : cX12_tellLaw.data.toList.drop 91 = dktX12_tellLaw_4 := dk_seg dksX12_tellLaw_3 23 rfl rfl
theorem dksX12_tellLaw_5 : cX12_tellLaw.data.toList.drop 113 = dktX12_tellLaw_5 := dk_seg dksX12_tellLaw_4 22 rfl rfl
theorem dksX12_tellLaw_6 : cX12_tellLaw.data.toList.drop 137 = dktX12_tellLaw_6 := dk_seg dksX12_tellLaw_5 24 rfl rfl
theorem dksX12_tellLaw_7 : cX12_tellLaw.data.toList.drop 161 = dktX12_tellLaw_7 := dk_seg dksX12_tellLaw_6 24 rfl rfl
theorem dksX12_tellLaw_8 : cX12_tellLaw.data.toList.drop 183 = dktX12_tellLaw_8 := dk_seg dksX12_tellLaw_7 22 rfl rfl
theorem dX12_tellLaw_0 : decode cX12_tellLaw 0 = .ok (.aload_n 0, 1) := dk_42 (dk_at dksX12_tellLaw_0 0 rfl rfl)
theorem dX12_tellLaw_1 : decode cX12_tellLaw 1 = .ok (.iconst 5, 1) := dk_8 (dk_at dksX12_tellLaw_0 1 rfl rfl)
theorem dX12_tellLaw_2 : decode cX12_tellLaw 2 = .ok (.invokevirtual 287, 3) := dk_182 1 31 (dk_at dksX12_tellLaw_0 2 rfl rfl)
theorem dX12_tellLaw_5 : decode cX12_tellLaw 5 = .ok (.aload_n 0, 1) := dk_42 (dk_at dksX12_tellLaw_0 5 rfl rfl)
theorem dX12_tellLaw_6 : decode cX12_tellLaw 6 = .ok (.getfield 248, 3) := dk_180 0 248 (dk_at dksX12_tellLaw_0 6 rfl rfl)
theorem dX12_tellLaw_9 : decode cX12_tellLaw 9 = .ok (.istore_n 2, 1) := dk_61 (dk_at dksX12_tellLaw_0 9 rfl rfl)
theorem dX12_tellLaw_10 : decode cX12_tellLaw 10 = .ok (.iconst 0, 1) := dk_3 (dk_at dksX12_tellLaw_0 10 rfl rfl)
theorem dX12_tellLaw_11 : decode cX12_tellLaw 11 = .ok (.istore_n 3, 1) := dk_62 (dk_at dksX12_tellLaw_0 11 rfl rfl)
theorem dX12_tellLaw_12 : decode cX12_tellLaw 12 = .ok (.aload_n 0, 1) := dk_42 (dk_at dksX12_tellLaw_0 12 rfl rfl)
theorem dX12_tellLaw_13 : decode cX12_tellLaw 13 = .ok (.getfield 209, 3) := dk_180 0 209 (dk_at dksX12_tellLaw_0 13 rfl rfl)
theorem dX12_tellLaw_16 : decode cX12_tellLaw 16 = .ok (.ifCond .ne 113, 3) := dk_154 0 113 (dk_at dksX12_tellLaw_0 16 rfl rfl)
theorem dX12_tellLaw_19 : decode cX12_tellLaw 19 = .ok (.aload_n 0, 1) := dk_42 (dk_at dksX12_tellLaw_0 19 rfl rfl)
theorem dX12_tellLaw_20 : decode cX12_tellLaw 20 = .ok (.bipush 29, 2) := dk_16 29 (dk_at dksX12_tellLaw_0 20 rfl rfl)
theorem dX12_tellLaw_22 : decode cX12_tellLaw 22 = .ok (.invokevirtual 227, 3) := dk_182 0 227 (dk_at dksX12_tellLaw_1 0 rfl rfl)
theorem dX12_tellLaw_25 : decode cX12_tellLaw 25 = .ok (.ifCond .eq 104, 3) := dk_153 0 104 (dk_at dksX12_tellLaw_1 3 rfl rfl)
theorem dX12_tellLaw_28 : decode cX12_tellLaw 28 = .ok (.iload_n 3, 1) := dk_29 (dk_at dksX12_tellLaw_1 6 rfl rfl)
theorem dX12_tellLaw_29 : decode cX12_tellLaw 29 = .ok (.iconst 4, 1) := dk_7 (dk_at dksX12_tellLaw_1 7 rfl rfl)
theorem dX12_tellLaw_30 : decode cX12_tellLaw 30 = .ok (.if_icmp .ne 8, 3) := dk_160 0 8 (dk_at dksX12_tellLaw_1 8 rfl rfl)
theorem dX12_tellLaw_33 : decode cX12_tellLaw 33 = .ok (.aload_n 0, 1) := dk_42 (dk_at dksX12_tellLaw_1 11 rfl rfl)
theorem dX12_tellLaw_34 : decode cX12_tellLaw 34 = .ok (.iconst 2, 1) := dk_5 (dk_at dksX12_tellLaw_1 12 rfl rfl)
theorem dX12_tellLaw_35 : decode cX12_tellLaw 35 = .ok (.invokevirtual 224, 3) := dk_182 0 224 (dk_at dksX12_tellLaw_1 13 rfl rfl)
theorem dX12_tellLaw_38 : decode cX12_tellLaw 38 = .ok (.aload_n 0, 1) := dk_42 (dk_at dksX12_tellLaw_1 16 rfl rfl)
theorem dX12_tellLaw_39 : decode cX12_tellLaw 39 = .ok (.getfield 209, 3) := dk_180 0 209 (dk_at dksX12_tellLaw_1 17 rfl rfl)
theorem dX12_tellLaw_42 : decode cX12_tellLaw 42 = .ok (.ifCond .le 4, 3) := dk_158 0 4 (dk_at dksX12_tellLaw_1 20 rfl rfl)
theorem dX12_tellLaw_45 : decode cX12_tellLaw 45 = .ok (.return_, 1) := dk_177 (dk_at dksX12_tellLaw_1 23 rfl rfl)
theorem dX12_tellLaw_46 : decode cX12_tellLaw 46 = .ok (.iinc 3 1, 3) := dk_132 3 1 (dk_at dksX12_tellLaw_2 0 rfl rfl)
theorem dX12_tellLaw_49 : decode cX12_tellLaw 49 = .ok (.aload_n 0, 1) := dk_42 (dk_at dksX12_tellLaw_2 3 rfl rfl)
theorem dX12_tellLaw_50 : decode cX12_tellLaw 50 = .ok (.invokevirtual 230, 3) := dk_182 0 230 (dk_at dksX12_tellLaw_2 4 rfl rfl)
theorem dX12_tellLaw_53 : decode cX12_tellLaw 53 = .ok (.aload_n 0, 1) := dk_42 (dk_at dksX12_tellLaw_2 7 rfl rfl)
theorem dX12_tellLaw_54 : decode cX12_tellLaw 54 = .ok (.getfield 85, 3) := dk_180 0 85 (dk_at dksX12_tellLaw_2 8 rfl rfl)
theorem dX12_tellLaw_57 : decode cX12_tellLaw 57 = .ok (.aload_n 0, 1) := dk_42 (dk_at dksX12_tellLaw_2 11 rfl rfl)
theorem dX12_tellLaw_58 : decode cX12_tellLaw 58 = .ok (.getfield 248, 3) := dk_180 0 248 (dk_at dksX12_tellLaw_2 12 rfl rfl)
theorem dX12_tellLaw_61 : decode cX12_tellLaw 61 = .ok (.iconst 1, 1) := dk_4 (dk_at dksX12_tellLaw_2 15 rfl rfl)
theorem dX12_tellLaw_62 : decode cX12_tellLaw 62 = .ok (.bastore, 1) := dk_84 (dk_at dksX12_tellLaw_2 16 rfl rfl)
theorem dX12_tellLaw_63 : decode cX12_tellLaw 63 = .ok (.aload_n 0, 1) := dk_42 (dk_at dksX12_tellLaw_2 17 rfl rfl)
theorem dX12_tellLaw_64 : decode cX12_tellLaw 64 = .ok (.getfield 89, 3) := dk_180 0 89 (dk_at dksX12_tellLaw_2 18 rfl rfl)
theorem dX12_tellLaw_67 : decode cX12_tellLaw 67 = .ok (.aload_n 0, 1) := dk_42 (dk_at dksX12_tellLaw_2 21 rfl rfl)
theorem dX12_tellLaw_68 : decode cX12_tellLaw 68 = .ok (.getfield 248, 3) := dk_180 0 248 (dk_at dksX12_tellLaw_3 0 rfl rfl)
theorem dX12_tellLaw_71 : decode cX12_tellLaw 71 = .ok (.aload_n 0, 1) := dk_42 (dk_at dksX12_tellLaw_3 3 rfl rfl)
theorem dX12_tellLaw_72 : decode cX12_tellLaw 72 = .ok (.getfield 251, 3) := dk_180 0 251 (dk_at dksX12_tellLaw_3 4 rfl rfl)
theorem dX12_tellLaw_75 : decode cX12_tellLaw 75 = .ok (.iastore, 1) := dk_79 (dk_at dksX12_tellLaw_3 7 rfl rfl)
theorem dX12_tellLaw_76 : decode cX12_tellLaw 76 = .ok (.aload_n 0, 1) := dk_42 (dk_at dksX12_tellLaw_3 8 rfl rfl)
theorem dX12_tellLaw_77 : decode cX12_tellLaw 77 = .ok (.invokevirtual 300, 3) := dk_182 1 44 (dk_at dksX12_tellLaw_3 9 rfl rfl)
theorem dX12_tellLaw_80 : decode cX12_tellLaw 80 = .ok (.aload_n 0, 1) := dk_42 (dk_at dksX12_tellLaw_3 12 rfl rfl)
theorem dX12_tellLaw_81 : decode cX12_tellLaw 81 = .ok (.bipush 13, 2) := dk_16 13 (dk_at dksX12_tellLaw_3 13 rfl rfl)
theorem dX12_tellLaw_83 : decode cX12_tellLaw 83 = .ok (.invokevirtual 287, 3) := dk_182 1 31 (dk_at dksX12_tellLaw_3 15 rfl rfl)
theorem dX12_tellLaw_86 : decode cX12_tellLaw 86 = .ok (.aload_n 0, 1) := dk_42 (dk_at dksX12_tellLaw_3 18 rfl rfl)
theorem dX12_tellLaw_87 : decode cX12_tellLaw 87 = .ok (.getfield 92, 3) := dk_180 0 92 (dk_at dksX12_tellLaw_3 19 rfl rfl)
theorem dX12_tellLaw_90 : decode cX12_tellLaw 90 = .ok (.aload_n 0, 1) := dk_42 (dk_at dksX12_tellLaw_3 22 rfl rfl)
theorem dX12_tellLaw_91 : decode cX12_tellLaw 91 = .ok (.getfield 248, 3) := dk_180 0 248 (dk_at dksX12_tellLaw_4 0 rfl rfl)
theorem dX12_tellLaw_94 : decode cX12_tellLaw 94 = .ok (.aload_n 0, 1) := dk_42 (dk_at dksX12_tellLaw_4 3 rfl rfl)
theorem dX12_tellLaw_95 : decode cX12_tellLaw 95 = .ok (.getfield 251, 3) := dk_180 0 251 (dk_at dksX12_tellLaw_4 4 rfl rfl)
theorem dX12_tellLaw_98 : decode cX12_tellLaw 98 = .ok (.iastore, 1) := dk_79 (dk_at dksX12_tellLaw_4 7 rfl rfl)
theorem dX12_tellLaw_99 : decode cX12_tellLaw 99 = .ok (.aload_n 0, 1) := dk_42 (dk_at dksX12_tellLaw_4 8 rfl rfl)
theorem dX12_tellLaw_100 : decode cX12_tellLaw 100 = .ok (.getfield 209, 3) := dk_180 0 209 (dk_at dksX12_tellLaw_4 9 rfl rfl)
theorem dX12_tellLaw_103 : decode cX12_tellLaw 103 = .ok (.ifCond .ne 7, 3) := dk_154 0 7 (dk_at dksX12_tellLaw_4 12 rfl rfl)
theorem dX12_tellLaw_106 : decode cX12_tellLaw 106 = .ok (.aload_n 0, 1) := dk_42 (dk_at dksX12_tellLaw_4 15 rfl rfl)
theorem dX12_tellLaw_107 : decode cX12_tellLaw 107 = .ok (.invokevirtual 300, 3) := dk_182 1 44 (dk_at dksX12_tellLaw_4 16 rfl rfl)
theorem dX12_tellLaw_110 : decode cX12_tellLaw 110 = .ok (.aload_n 0, 1) := dk_42 (dk_at dksX12_tellLaw_4 19 rfl rfl)
theorem dX12_tellLaw_111 : decode cX12_tellLaw 111 = .ok (.bipush 30, 2) := dk_16 30 (dk_at dksX12_tellLaw_4 20 rfl rfl)
theorem dX12_tellLaw_113 : decode cX12_tellLaw 113 = .ok (.invokevirtual 287, 3) := dk_182 1 31 (dk_at dksX12_tellLaw_5 0 rfl rfl)
theorem dX12_tellLaw_116 : decode cX12_tellLaw 116 = .ok (.aload_n 0, 1) := dk_42 (dk_at dksX12_tellLaw_5 3 rfl rfl)
theorem dX12_tellLaw_117 : decode cX12_tellLaw 117 = .ok (.invokevirtual 303, 3) := dk_182 1 47 (dk_at dksX12_tellLaw_5 4 rfl rfl)
theorem dX12_tellLaw_120 : decode cX12_tellLaw 120 = .ok (.aload_n 0, 1) := dk_42 (dk_at dksX12_tellLaw_5 7 rfl rfl)
theorem dX12_tellLaw_121 : decode cX12_tellLaw 121 = .ok (.bipush 31, 2) := dk_16 31 (dk_at dksX12_tellLaw_5 8 rfl rfl)
theorem dX12_tellLaw_123 : decode cX12_tellLaw 123 = .ok (.invokevirtual 287, 3) := dk_182 1 31 (dk_at dksX12_tellLaw_5 10 rfl rfl)
theorem dX12_tellLaw_126 : decode cX12_tellLaw 126 = .ok (.goto (-114), 3) := dk_167 255 142 (dk_at dksX12_tellLaw_5 13 rfl rfl)
theorem dX12_tellLaw_129 : decode cX12_tellLaw 129 = .ok (.aload_n 0, 1) := dk_42 (dk_at dksX12_tellLaw_5 16 rfl rfl)
theorem dX12_tellLaw_130 : decode cX12_tellLaw 130 = .ok (.getfield 85, 3) := dk_180 0 85 (dk_at dksX12_tellLaw_5 17 rfl rfl)
theorem dX12_tellLaw_133 : decode cX12_tellLaw 133 = .ok (.aload_n 0, 1) := dk_42 (dk_at dksX12_tellLaw_5 20 rfl rfl)
theorem dX12_tellLaw_134 : decode cX12_tellLaw 134 = .ok (.getfield 248, 3) := dk_180 0 248 (dk_at dksX12_tellLaw_5 21 rfl rfl)
theorem dX12_tellLaw_137 : decode cX12_tellLaw 137 = .ok (.iconst 0, 1) := dk_3 (dk_at dksX12_tellLaw_6 0 rfl rfl)
theorem dX12_tellLaw_138 : decode cX12_tellLaw 138 = .ok (.bastore, 1) := dk_84 (dk_at dksX12_tellLaw_6 1 rfl rfl)
theorem dX12_tellLaw_139 : decode cX12_tellLaw 139 = .ok (.aload_n 0, 1) := dk_42 (dk_at dksX12_tellLaw_6 2 rfl rfl)
theorem dX12_tellLaw_140 : decode cX12_tellLaw 140 = .ok (.invokevirtual 303, 3) := dk_182 1 47 (dk_at dksX12_tellLaw_6 3 rfl rfl)
theorem dX12_tellLaw_143 : decode cX12_tellLaw 143 = .ok (.aload_n 0, 1) := dk_42 (dk_at dksX12_tellLaw_6 6 rfl rfl)
theorem dX12_tellLaw_144 : decode cX12_tellLaw 144 = .ok (.iconst 4, 1) := dk_7 (dk_at dksX12_tellLaw_6 7 rfl rfl)
theorem dX12_tellLaw_145 : decode cX12_tellLaw 145 = .ok (.invokevirtual 287, 3) := dk_182 1 31 (dk_at dksX12_tellLaw_6 8 rfl rfl)
theorem dX12_tellLaw_148 : decode cX12_tellLaw 148 = .ok (.aload_n 0, 1) := dk_42 (dk_at dksX12_tellLaw_6 11 rfl rfl)
theorem dX12_tellLaw_149 : decode cX12_tellLaw 149 = .ok (.getfield 209, 3) := dk_180 0 209 (dk_at dksX12_tellLaw_6 12 rfl rfl)
theorem dX12_tellLaw_152 : decode cX12_tellLaw 152 = .ok (.ifCond .le 4, 3) := dk_158 0 4 (dk_at dksX12_tellLaw_6 15 rfl rfl)
theorem dX12_tellLaw_155 : decode cX12_tellLaw 155 = .ok (.return_, 1) := dk_177 (dk_at dksX12_tellLaw_6 18 rfl rfl)
theorem dX12_tellLaw_156 : decode cX12_tellLaw 156 = .ok (.aload_n 0, 1) := dk_42 (dk_at dksX12_tellLaw_6 19 rfl rfl)
theorem dX12_tellLaw_157 : decode cX12_tellLaw 157 = .ok (.getfield 79, 3) := dk_180 0 79 (dk_at dksX12_tellLaw_6 20 rfl rfl)
theorem dX12_tellLaw_160 : decode cX12_tellLaw 160 = .ok (.iconst 3, 1) := dk_6 (dk_at dksX12_tellLaw_6 23 rfl rfl)
theorem dX12_tellLaw_161 : decode cX12_tellLaw 161 = .ok (.aload_n 0, 1) := dk_42 (dk_at dksX12_tellLaw_7 0 rfl rfl)
theorem dX12_tellLaw_162 : decode cX12_tellLaw 162 = .ok (.getfield 242, 3) := dk_180 0 242 (dk_at dksX12_tellLaw_7 1 rfl rfl)
theorem dX12_tellLaw_165 : decode cX12_tellLaw 165 = .ok (.imul, 1) := dk_104 (dk_at dksX12_tellLaw_7 4 rfl rfl)
theorem dX12_tellLaw_166 : decode cX12_tellLaw 166 = .ok (.iload_n 1, 1) := dk_27 (dk_at dksX12_tellLaw_7 5 rfl rfl)
theorem dX12_tellLaw_167 : decode cX12_tellLaw 167 = .ok (.iadd, 1) := dk_96 (dk_at dksX12_tellLaw_7 6 rfl rfl)
theorem dX12_tellLaw_168 : decode cX12_tellLaw 168 = .ok (.iload_n 2, 1) := dk_28 (dk_at dksX12_tellLaw_7 7 rfl rfl)
theorem dX12_tellLaw_169 : decode cX12_tellLaw 169 = .ok (.iastore, 1) := dk_79 (dk_at dksX12_tellLaw_7 8 rfl rfl)
theorem dX12_tellLaw_170 : decode cX12_tellLaw 170 = .ok (.aload_n 0, 1) := dk_42 (dk_at dksX12_tellLaw_7 9 rfl rfl)
theorem dX12_tellLaw_171 : decode cX12_tellLaw 171 = .ok (.getfield 82, 3) := dk_180 0 82 (dk_at dksX12_tellLaw_7 10 rfl rfl)
theorem dX12_tellLaw_174 : decode cX12_tellLaw 174 = .ok (.iconst 3, 1) := dk_6 (dk_at dksX12_tellLaw_7 13 rfl rfl)
theorem dX12_tellLaw_175 : decode cX12_tellLaw 175 = .ok (.aload_n 0, 1) := dk_42 (dk_at dksX12_tellLaw_7 14 rfl rfl)
theorem dX12_tellLaw_176 : decode cX12_tellLaw 176 = .ok (.getfield 242, 3) := dk_180 0 242 (dk_at dksX12_tellLaw_7 15 rfl rfl)
theorem dX12_tellLaw_179 : decode cX12_tellLaw 179 = .ok (.imul, 1) := dk_104 (dk_at dksX12_tellLaw_7 18 rfl rfl)
theorem dX12_tellLaw_180 : decode cX12_tellLaw 180 = .ok (.iload_n 1, 1) := dk_27 (dk_at dksX12_tellLaw_7 19 rfl rfl)
theorem dX12_tellLaw_181 : decode cX12_tellLaw 181 = .ok (.iadd, 1) := dk_96 (dk_at dksX12_tellLaw_7 20 rfl rfl)
theorem dX12_tellLaw_182 : decode cX12_tellLaw 182 = .ok (.aload_n 0, 1) := dk_42 (dk_at dksX12_tellLaw_7 21 rfl rfl)
theorem dX12_tellLaw_183 : decode cX12_tellLaw 183 = .ok (.getfield 248, 3) := dk_180 0 248 (dk_at dksX12_tellLaw_8 0 rfl rfl)
theorem dX12_tellLaw_186 : decode cX12_tellLaw 186 = .ok (.iastore, 1) := dk_79 (dk_at dksX12_tellLaw_8 3 rfl rfl)
theorem dX12_tellLaw_187 : decode cX12_tellLaw 187 = .ok (.return_, 1) := dk_177 (dk_at dksX12_tellLaw_8 4 rfl rfl)
abbrev cX12_expression : ByteArray := prog_22_method_35_code
def yX12_expression : MethodName := ⟨RX12, "expression", "()V"⟩
def dkwX12_expression_11 : List UInt8 := [180, 1, 50, 4, 96, 181, 1, 50, 42, 182, 0, 230, 167, 254, 255, 177]
abbrev dktX12_expression_11 : List UInt8 := dkwX12_expression_11 ++ []
def dkwX12_expression_10 : List UInt8 := [182, 1, 59, 42, 180, 0, 107, 42, 180, 1, 50, 42, 180, 0, 20, 42, 180, 0, 212, 46, 79, 42, 89]
abbrev dktX12_expression_10 : List UInt8 := dkwX12_expression_10 ++ dktX12_expression_11
def dkwX12_expression_9 : List UInt8 := [16, 10, 182, 0, 227, 154, 0, 12, 42, 16, 15, 182, 0, 227, 153, 0, 7, 4, 167, 0, 4, 3]
abbrev dktX12_expression_9 : List UInt8 := dkwX12_expression_9 ++ dktX12_expression_10
def dkwX12_expression_8 : List UInt8 := [154, 0, 22, 42, 180, 0, 236, 27, 164, 0, 8, 42, 4, 182, 0, 224, 42, 3, 182, 1, 59, 177, 42, 42]
abbrev dktX12_expression_8 : List UInt8 := dkwX12_expression_8 ++ dktX12_expression_9
def dkwX12_expression_7 : List UInt8 := [182, 0, 227, 154, 0, 12, 42, 16, 15, 182, 0, 227, 153, 0, 7, 4, 167, 0, 4, 3, 61, 28]
abbrev dktX12_expression_7 : List UInt8 := dkwX12_expression_7 ++ dktX12_expression_8
def dkwX12_expression_6 : List UInt8 := [167, 255, 210, 42, 16, 8, 182, 0, 227, 154, 0, 30, 42, 16, 9, 182, 0, 227, 154, 0, 21, 42, 16, 10]
abbrev dktX12_expression_6 : List UInt8 := dkwX12_expression_6 ++ dktX12_expression_7
def dkwX12_expression_5 : List UInt8 := [180, 1, 50, 4, 100, 181, 1, 50, 42, 89, 180, 0, 236, 4, 100, 181, 0, 236, 42, 182, 0, 230]
abbrev dktX12_expression_5 : List UInt8 := dkwX12_expression_5 ++ dktX12_expression_6
def dkwX12_expression_4 : List UInt8 := [42, 16, 7, 182, 0, 227, 153, 0, 43, 42, 180, 0, 236, 27, 164, 0, 35, 42, 3, 182, 1, 59, 42, 89]
abbrev dktX12_expression_4 : List UInt8 := dkwX12_expression_4 ++ dktX12_expression_5
def dkwX12_expression_3 : List UInt8 := [89, 180, 1, 50, 4, 96, 181, 1, 50, 167, 255, 198, 42, 182, 1, 56, 42, 180, 0, 209, 158, 0, 4, 177]
abbrev dktX12_expression_3 : List UInt8 := dkwX12_expression_3 ++ dktX12_expression_4
def dkwX12_expression_2 : List UInt8 := [180, 0, 236, 4, 96, 181, 0, 236, 42, 182, 0, 230, 42, 180, 0, 107, 42, 180, 1, 50, 16, 6, 79, 42]
abbrev dktX12_expression_2 : List UInt8 := dkwX12_expression_2 ++ dktX12_expression_3
def dkwX12_expression_1 : List UInt8 := [16, 6, 182, 0, 227, 153, 0, 55, 42, 180, 0, 236, 16, 6, 160, 0, 8, 42, 5, 182, 0, 224, 42, 89]
abbrev dktX12_expression_1 : List UInt8 := dkwX12_expression_1 ++ dktX12_expression_2
def dkwX12_expression_0 : List UInt8 := [42, 3, 181, 1, 50, 42, 180, 0, 236, 60, 4, 61, 28, 153, 1, 3, 42, 180, 0, 209, 154, 0, 252, 42]
abbrev dktX12_expression_0 : List UInt8 := dkwX12_expression_0 ++ dktX12_expression_1
theorem dksX12_expression_0 : cX12_expression.data.toList.drop 0 = dktX12_expression_0 := by decide +kernel
theorem dksX12_expression_1 : cX12_expression.data.toList.drop 24 = dktX12_expression_1 := dk_seg dksX12_expression_0 24 rfl rfl
theorem dksX12_expression_2 : cX12_expression.data.toList.drop 48 = dktX12_expression_2 := dk_seg dksX12_expression_1 24 rfl rfl
theorem dksX12_expression_3 : cX12_expression.data.toList.drop 72 = dktX12_expression_3 := dk_seg dksX12_expression_2 24 rfl rfl
theorem dksX12_expression_4 : cX12_expression.data.toList.drop 96 = dktX12_expression_4 := dk_seg dksX12_expression_3 24 rfl rfl
theorem dksX12_expression_5 : cX12_expression.data.toList.drop 120 = dktX12_expression_5 := dk_seg dksX12_expression_4 24 rfl rfl
theorem dksX12_expression_6 : cX12_expression.data.toList.drop 142 = dktX12_expression_6 := dk_seg dksX12_expression_5 22 rfl rfl
theorem dksX12_expression_7 : cX12_expression.data.toList.drop 166 = dktX12_expression_7 := dk_seg dksX12_expression_6 24 rfl rfl
theorem dksX12_expression_8 : cX12_expression.data.toList.drop 188 = dktX12_expression_8 := dk_seg dksX12_expression_7 22 rfl rfl
theorem dksX12_expression_9 : cX12_expression.data.toList.drop 212 = dktX12_expression_9 := dk_seg dksX12_expression_8 24 rfl rfl
theorem dksX12_expression_10 : cX12_expression.data.toList.drop 234 = dktX12_expression_10 := dk_seg dksX12_expression_9 22 rfl rfl
theorem dksX12_expression_11 : cX12_expression.data.toList.drop 257 = dktX12_expression_11 := dk_seg dksX12_expression_10 23 rfl rfl
theorem dX12_expression_0 : decode cX12_expression 0 = .ok (.aload_n 0, 1) := dk_42 (dk_at dksX12_expression_0 0 rfl rfl)
theorem dX12_expression_1 : decode cX12_expression 1 = .ok (.iconst 0, 1) := dk_3 (dk_at dksX12_expression_0 1 rfl rfl)
theorem dX12_expression_2 : decode cX12_expression 2 = .ok (.putfield 306, 3) := dk_181 1 50 (dk_at dksX12_expression_0 2 rfl rfl)
theorem dX12_expression_5 : decode cX12_expression 5 = .ok (.aload_n 0, 1) := dk_42 (dk_at dksX12_expression_0 5 rfl rfl)
theorem dX12_expression_6 : decode cX12_expression 6 = .ok (.getfield 236, 3) := dk_180 0 236 (dk_at dksX12_expression_0 6 rfl rfl)
theorem dX12_expression_9 : decode cX12_expression 9 = .ok (.istore_n 1, 1) := dk_60 (dk_at dksX12_expression_0 9 rfl rfl)
theorem dX12_expression_10 : decode cX12_expression 10 = .ok (.iconst 1, 1) := dk_4 (dk_at dksX12_expression_0 10 rfl rfl)
theorem dX12_expression_11 : decode cX12_expression 11 = .ok (.istore_n 2, 1) := dk_61 (dk_at dksX12_expression_0 11 rfl rfl)
theorem dX12_expression_12 : decode cX12_expression 12 = .ok (.iload_n 2, 1) := dk_28 (dk_at dksX12_expression_0 12 rfl rfl)
theorem dX12_expression_13 : decode cX12_expression 13 = .ok (.ifCond .eq 259, 3) := dk_153 1 3 (dk_at dksX12_expression_0 13 rfl rfl)
theorem dX12_expression_16 : decode cX12_expression 16 = .ok (.aload_n 0, 1) := dk_42 (dk_at dksX12_expression_0 16 rfl rfl)
theorem dX12_expression_17 : decode cX12_expression 17 = .ok (.getfield 209, 3) := dk_180 0 209 (dk_at dksX12_expression_0 17 rfl rfl)
theorem dX12_expression_20 : decode cX12_expression 20 = .ok (.ifCond .ne 252, 3) := dk_154 0 252 (dk_at dksX12_expression_0 20 rfl rfl)
theorem dX12_expression_23 : decode cX12_expression 23 = .ok (.aload_n 0, 1) := dk_42 (dk_at dksX12_expression_0 23 rfl rfl)
theorem dX12_expression_24 : decode cX12_expression 24 = .ok (.bipush 6, 2) := dk_16 6 (dk_at dksX12_expression_1 0 rfl rfl)
theorem dX12_expression_26 : decode cX12_expression 26 = .ok (.invokevirtual 227, 3) := dk_182 0 227 (dk_at dksX12_expression_1 2 rfl rfl)
theorem dX12_expression_29 : decode cX12_expression 29 = .ok (.ifCond .eq 55, 3) := dk_153 0 55 (dk_at dksX12_expression_1 5 rfl rfl)
theorem dX12_expression_32 : decode cX12_expression 32 = .ok (.aload_n 0, 1) := dk_42 (dk_at dksX12_expression_1 8 rfl rfl)
theorem dX12_expression_33 : decode cX12_expression 33 = .ok (.getfield 236, 3) := dk_180 0 236 (dk_at dksX12_expression_1 9 rfl rfl)
theorem dX12_expression_36 : decode cX12_expression 36 = .ok (.bipush 6, 2) := dk_16 6 (dk_at dksX12_expression_1 12 rfl rfl)
theorem dX12_expression_38 : decode cX12_expression 38 = .ok (.if_icmp .ne 8, 3) := dk_160 0 8 (dk_at dksX12_expression_1 14 rfl rfl)
theorem dX12_expression_41 : decode cX12_expression 41 = .ok (.aload_n 0, 1) := dk_42 (dk_at dksX12_expression_1 17 rfl rfl)
theorem dX12_expression_42 : decode cX12_expression 42 = .ok (.iconst 2, 1) := dk_5 (dk_at dksX12_expression_1 18 rfl rfl)
theorem dX12_expression_43 : decode cX12_expression 43 = .ok (.invokevirtual 224, 3) := dk_182 0 224 (dk_at dksX12_expression_1 19 rfl rfl)
theorem dX12_expression_46 : decode cX12_expression 46 = .ok (.aload_n 0, 1) := dk_42 (dk_at dksX12_expression_1 22 rfl rfl)
theorem dX12_expression_47 : decode cX12_expression 47 = .ok (.dup, 1) := dk_89 (dk_at dksX12_expression_1 23 rfl rfl)
theorem dX12_expression_48 : decode cX12_expression 48 = .ok (.getfield 236, 3) := dk_180 0 236 (dk_at dksX12_expression_2 0 rfl rfl)
theorem dX12_expression_51 : decode cX12_expression 51 = .ok (.iconst 1, 1) := dk_4 (dk_at dksX12_expression_2 3 rfl rfl)
theorem dX12_expression_52 : decode cX12_expression 52 = .ok (.iadd, 1) := dk_96 (dk_at dksX12_expression_2 4 rfl rfl)
theorem dX12_expression_53 : decode cX12_expression 53 = .ok (.putfield 236, 3) := dk_181 0 236 (dk_at dksX12_expression_2 5 rfl rfl)
theorem dX12_expression_56 : decode cX12_expression 56 = .ok (.aload_n 0, 1) := dk_42 (dk_at dksX12_expression_2 8 rfl rfl)
theorem dX12_expression_57 : decode cX12_expression 57 = .ok (.invokevirtual 230, 3) := dk_182 0 230 (dk_at dksX12_expression_2 9 rfl rfl)
theorem dX12_expression_60 : decode cX12_expression 60 = .ok (.aload_n 0, 1) := dk_42 (dk_at dksX12_expression_2 12 rfl rfl)
theorem dX12_expression_61 : decode cX12_expression 61 = .ok (.getfield 107, 3) := dk_180 0 107 (dk_at dksX12_expression_2 13 rfl rfl)
theorem dX12_expression_64 : decode cX12_expression 64 = .ok (.aload_n 0, 1) := dk_42 (dk_at dksX12_expression_2 16 rfl rfl)
theorem dX12_expression_65 : decode cX12_expression 65 = .ok (.getfield 306, 3) := dk_180 1 50 (dk_at dksX12_expression_2 17 rfl rfl)
theorem dX12_expression_68 : decode cX12_expression 68 = .ok (.bipush 6, 2) := dk_16 6 (dk_at dksX12_expression_2 20 rfl rfl)
theorem dX12_expression_70 : decode cX12_expression 70 = .ok (.iastore, 1) := dk_79 (dk_at dksX12_expression_2 22 rfl rfl)
theorem dX12_expression_71 : decode cX12_expression 71 = .ok (.aload_n 0, 1) := dk_42 (dk_at dksX12_expression_2 23 rfl rfl)
theorem dX12_expression_72 : decode cX12_expression 72 = .ok (.dup, 1) := dk_89 (dk_at dksX12_expression_3 0 rfl rfl)
theorem dX12_expression_73 : decode cX12_expression 73 = .ok (.getfield 306, 3) := dk_180 1 50 (dk_at dksX12_expression_3 1 rfl rfl)
theorem dX12_expression_76 : decode cX12_expression 76 = .ok (.iconst 1, 1) := dk_4 (dk_at dksX12_expression_3 4 rfl rfl)
theorem dX12_expression_77 : decode cX12_expression 77 = .ok (.iadd, 1) := dk_96 (dk_at dksX12_expression_3 5 rfl rfl)
theorem dX12_expression_78 : decode cX12_expression 78 = .ok (.putfield 306, 3) := dk_181 1 50 (dk_at dksX12_expression_3 6 rfl rfl)
theorem dX12_expression_81 : decode cX12_expression 81 = .ok (.goto (-58), 3) := dk_167 255 198 (dk_at dksX12_expression_3 9 rfl rfl)
theorem dX12_expression_84 : decode cX12_expression 84 = .ok (.aload_n 0, 1) := dk_42 (dk_at dksX12_expression_3 12 rfl rfl)
theorem dX12_expression_85 : decode cX12_expression 85 = .ok (.invokevirtual 312, 3) := dk_182 1 56 (dk_at dksX12_expression_3 13 rfl rfl)
theorem dX12_expression_88 : decode cX12_expression 88 = .ok (.aload_n 0, 1) := dk_42 (dk_at dksX12_expression_3 16 rfl rfl)
theorem dX12_expression_89 : decode cX12_expression 89 = .ok (.getfield 209, 3) := dk_180 0 209 (dk_at dksX12_expression_3 17 rfl rfl)
theorem dX12_expression_92 : decode cX12_expression 92 = .ok (.ifCond .le 4, 3) := dk_158 0 4 (dk_at dksX12_expression_3 20 rfl rfl)
theorem dX12_expression_95 : decode cX12_expression 95 = .ok (.return_, 1) := dk_177 (dk_at dksX12_expression_3 23 rfl rfl)
theorem dX12_expression_96 : decode cX12_expression 96 = .ok (.aload_n 0, 1) := dk_42 (dk_at dksX12_expression_4 0 rfl rfl)
theorem dX12_expression_97 : decode cX12_expression 97 = .ok (.bipush 7, 2) := dk_16 7 (dk_at dksX12_expression_4 1 rfl rfl)
theorem dX12_expression_99 : decode cX12_expression 99 = .ok (.invokevirtual 227, 3) := dk_182 0 227 (dk_at dksX12_expression_4 3 rfl rfl)
theorem dX12_expression_102 : decode cX12_expression 102 = .ok (.ifCond .eq 43, 3) := dk_153 0 43 (dk_at dksX12_expression_4 6 rfl rfl)
theorem dX12_expression_105 : decode cX12_expression 105 = .ok (.aload_n 0, 1) := dk_42 (dk_at dksX12_expression_4 9 rfl rfl)
theorem dX12_expression_106 : decode cX12_expression 106 = .ok (.getfield 236, 3) := dk_180 0 236 (dk_at dksX12_expression_4 10 rfl rfl)
theorem dX12_expression_109 : decode cX12_expression 109 = .ok (.iload_n 1, 1) := dk_27 (dk_at dksX12_expression_4 13 rfl rfl)
theorem dX12_expression_110 : decode cX12_expression 110 = .ok (.if_icmp .le 35, 3) := dk_164 0 35 (dk_at dksX12_expression_4 14 rfl rfl)
theorem dX12_expression_113 : decode cX12_expression 113 = .ok (.aload_n 0, 1) := dk_42 (dk_at dksX12_expression_4 17 rfl rfl)
theorem dX12_expression_114 : decode cX12_expression 114 = .ok (.iconst 0, 1) := dk_3 (dk_at dksX12_expression_4 18 rfl rfl)
theorem dX12_expression_115 : decode cX12_expression 115 = .ok (.invokevirtual 315, 3) := dk_182 1 59 (dk_at dksX12_expression_4 19 rfl rfl)
theorem dX12_expression_118 : decode cX12_expression 118 = .ok (.aload_n 0, 1) := dk_42 (dk_at dksX12_expression_4 22 rfl rfl)
theorem dX12_expression_119 : decode cX12_expression 119 = .ok (.dup, 1) := dk_89 (dk_at dksX12_expression_4 23 rfl rfl)
theorem dX12_expression_120 : decode cX12_expression 120 = .ok (.getfield 306, 3) := dk_180 1 50 (dk_at dksX12_expression_5 0 rfl rfl)
theorem dX12_expression_123 : decode cX12_expression 123 = .ok (.iconst 1, 1) := dk_4 (dk_at dksX12_expression_5 3 rfl rfl)
theorem dX12_expression_124 : decode cX12_expression 124 = .ok (.isub, 1) := dk_100 (dk_at dksX12_expression_5 4 rfl rfl)
theorem dX12_expression_125 : decode cX12_expression 125 = .ok (.putfield 306, 3) := dk_181 1 50 (dk_at dksX12_expression_5 5 rfl rfl)
theorem dX12_expression_128 : decode cX12_expression 128 = .ok (.aload_n 0, 1) := dk_42 (dk_at dksX12_expression_5 8 rfl rfl)
theorem dX12_expression_129 : decode cX12_expression 129 = .ok (.dup, 1) := dk_89 (dk_at dksX12_expression_5 9 rfl rfl)
theorem dX12_expression_130 : decode cX12_expression 130 = .ok (.getfield 236, 3) := dk_180 0 236 (dk_at dksX12_expression_5 10 rfl rfl)
theorem dX12_expression_133 : decode cX12_expression 133 = .ok (.iconst 1, 1) := dk_4 (dk_at dksX12_expression_5 13 rfl rfl)
theorem dX12_expression_134 : decode cX12_expression 134 = .ok (.isub, 1) := dk_100 (dk_at dksX12_expression_5 14 rfl rfl)
theorem dX12_expression_135 : decode cX12_expression 135 = .ok (.putfield 236, 3) := dk_181 0 236 (dk_at dksX12_expression_5 15 rfl rfl)
theorem dX12_expression_138 : decode cX12_expression 138 = .ok (.aload_n 0, 1) := dk_42 (dk_at dksX12_expression_5 18 rfl rfl)
theorem dX12_expression_139 : decode cX12_expression 139 = .ok (.invokevirtual 230, 3) := dk_182 0 230 (dk_at dksX12_expression_5 19 rfl rfl)
theorem dX12_expression_142 : decode cX12_expression 142 = .ok (.goto (-46), 3) := dk_167 255 210 (dk_at dksX12_expression_6 0 rfl rfl)
theorem dX12_expression_145 : decode cX12_expression 145 = .ok (.aload_n 0, 1) := dk_42 (dk_at dksX12_expression_6 3 rfl rfl)
theorem dX12_expression_146 : decode cX12_expression 146 = .ok (.bipush 8, 2) := dk_16 8 (dk_at dksX12_expression_6 4 rfl rfl)
theorem dX12_expression_148 : decode cX12_expression 148 = .ok (.invokevirtual 227, 3) := dk_182 0 227 (dk_at dksX12_expression_6 6 rfl rfl)
theorem dX12_expression_151 : decode cX12_expression 151 = .ok (.ifCond .ne 30, 3) := dk_154 0 30 (dk_at dksX12_expression_6 9 rfl rfl)
theorem dX12_expression_154 : decode cX12_expression 154 = .ok (.aload_n 0, 1) := dk_42 (dk_at dksX12_expression_6 12 rfl rfl)
theorem dX12_expression_155 : decode cX12_expression 155 = .ok (.bipush 9, 2) := dk_16 9 (dk_at dksX12_expression_6 13 rfl rfl)
theorem dX12_expression_157 : decode cX12_expression 157 = .ok (.invokevirtual 227, 3) := dk_182 0 227 (dk_at dksX12_expression_6 15 rfl rfl)
theorem dX12_expression_160 : decode cX12_expression 160 = .ok (.ifCond .ne 21, 3) := dk_154 0 21 (dk_at dksX12_expression_6 18 rfl rfl)
theorem dX12_expression_163 : decode cX12_expression 163 = .ok (.aload_n 0, 1) := dk_42 (dk_at dksX12_expression_6 21 rfl rfl)
theorem dX12_expression_164 : decode cX12_expression 164 = .ok (.bipush 10, 2) := dk_16 10 (dk_at dksX12_expression_6 22 rfl rfl)
theorem dX12_expression_166 : decode cX12_expression 166 = .ok (.invokevirtual 227, 3) := dk_182 0 227 (dk_at dksX12_expression_7 0 rfl rfl)
theorem dX12_expression_169 : decode cX12_expression 169 = .ok (.ifCond .ne 12, 3) := dk_154 0 12 (dk_at dksX12_expression_7 3 rfl rfl)
theorem dX12_expression_172 : decode cX12_expression 172 = .ok (.aload_n 0, 1) := dk_42 (dk_at dksX12_expression_7 6 rfl rfl)
theorem dX12_expression_173 : decode cX12_expression 173 = .ok (.bipush 15, 2) := dk_16 15 (dk_at dksX12_expression_7 7 rfl rfl)
theorem dX12_expression_175 : decode cX12_expression 175 = .ok (.invokevirtual 227, 3) := dk_182 0 227 (dk_at dksX12_expression_7 9 rfl rfl)
theorem dX12_expression_178 : decode cX12_expression 178 = .ok (.ifCond .eq 7, 3) := dk_153 0 7 (dk_at dksX12_expression_7 12 rfl rfl)
theorem dX12_expression_181 : decode cX12_expression 181 = .ok (.iconst 1, 1) := dk_4 (dk_at dksX12_expression_7 15 rfl rfl)
theorem dX12_expression_182 : decode cX12_expression 182 = .ok (.goto 4, 3) := dk_167 0 4 (dk_at dksX12_expression_7 16 rfl rfl)
theorem dX12_expression_185 : decode cX12_expression 185 = .ok (.iconst 0, 1) := dk_3 (dk_at dksX12_expression_7 19 rfl rfl)
theorem dX12_expression_186 : decode cX12_expression 186 = .ok (.istore_n 2, 1) := dk_61 (dk_at dksX12_expression_7 20 rfl rfl)
theorem dX12_expression_187 : decode cX12_expression 187 = .ok (.iload_n 2, 1) := dk_28 (dk_at dksX12_expression_7 21 rfl rfl)
theorem dX12_expression_188 : decode cX12_expression 188 = .ok (.ifCond .ne 22, 3) := dk_154 0 22 (dk_at dksX12_expression_8 0 rfl rfl)
theorem dX12_expression_191 : decode cX12_expression 191 = .ok (.aload_n 0, 1) := dk_42 (dk_at dksX12_expression_8 3 rfl rfl)
theorem dX12_expression_192 : decode cX12_expression 192 = .ok (.getfield 236, 3) := dk_180 0 236 (dk_at dksX12_expression_8 4 rfl rfl)
theorem dX12_expression_195 : decode cX12_expression 195 = .ok (.iload_n 1, 1) := dk_27 (dk_at dksX12_expression_8 7 rfl rfl)
theorem dX12_expression_196 : decode cX12_expression 196 = .ok (.if_icmp .le 8, 3) := dk_164 0 8 (dk_at dksX12_expression_8 8 rfl rfl)
theorem dX12_expression_199 : decode cX12_expression 199 = .ok (.aload_n 0, 1) := dk_42 (dk_at dksX12_expression_8 11 rfl rfl)
theorem dX12_expression_200 : decode cX12_expression 200 = .ok (.iconst 1, 1) := dk_4 (dk_at dksX12_expression_8 12 rfl rfl)
theorem dX12_expression_201 : decode cX12_expression 201 = .ok (.invokevirtual 224, 3) := dk_182 0 224 (dk_at dksX12_expression_8 13 rfl rfl)
theorem dX12_expression_204 : decode cX12_expression 204 = .ok (.aload_n 0, 1) := dk_42 (dk_at dksX12_expression_8 16 rfl rfl)
theorem dX12_expression_205 : decode cX12_expression 205 = .ok (.iconst 0, 1) := dk_3 (dk_at dksX12_expression_8 17 rfl rfl)
theorem dX12_expression_206 : decode cX12_expression 206 = .ok (.invokevirtual 315, 3) := dk_182 1 59 (dk_at dksX12_expression_8 18 rfl rfl)
theorem dX12_expression_209 : decode cX12_expression 209 = .ok (.return_, 1) := dk_177 (dk_at dksX12_expression_8 21 rfl rfl)
theorem dX12_expression_210 : decode cX12_expression 210 = .ok (.aload_n 0, 1) := dk_42 (dk_at dksX12_expression_8 22 rfl rfl)
theorem dX12_expression_211 : decode cX12_expression 211 = .ok (.aload_n 0, 1) := dk_42 (dk_at dksX12_expression_8 23 rfl rfl)
theorem dX12_expression_212 : decode cX12_expression 212 = .ok (.bipush 10, 2) := dk_16 10 (dk_at dksX12_expression_9 0 rfl rfl)
theorem dX12_expression_214 : decode cX12_expression 214 = .ok (.invokevirtual 227, 3) := dk_182 0 227 (dk_at dksX12_expression_9 2 rfl rfl)
theorem dX12_expression_217 : decode cX12_expression 217 = .ok (.ifCond .ne 12, 3) := dk_154 0 12 (dk_at dksX12_expression_9 5 rfl rfl)
theorem dX12_expression_220 : decode cX12_expression 220 = .ok (.aload_n 0, 1) := dk_42 (dk_at dksX12_expression_9 8 rfl rfl)
theorem dX12_expression_221 : decode cX12_expression 221 = .ok (.bipush 15, 2) := dk_16 15 (dk_at dksX12_expression_9 9 rfl rfl)
theorem dX12_expression_223 : decode cX12_expression 223 = .ok (.invokevirtual 227, 3) := dk_182 0 227 (dk_at dksX12_expression_9 11 rfl rfl)
theorem dX12_expression_226 : decode cX12_expression 226 = .ok (.ifCond .eq 7, 3) := dk_153 0 7 (dk_at dksX12_expression_9 14 rfl rfl)
theorem dX12_expression_229 : decode cX12_expression 229 = .ok (.iconst 1, 1) := dk_4 (dk_at dksX12_expression_9 17 rfl rfl)
theorem dX12_expression_230 : decode cX12_expression 230 = .ok (.goto 4, 3) := dk_167 0 4 (dk_at dksX12_expression_9 18 rfl rfl)
theorem dX12_expression_233 : decode cX12_expression 233 = .ok (.iconst 0, 1) := dk_3 (dk_at dksX12_expression_9 21 rfl rfl)
theorem dX12_expression_234 : decode cX12_expression 234 = .ok (.invokevirtual 315, 3) := dk_182 1 59 (dk_at dksX12_expression_10 0 rfl rfl)
theorem dX12_expression_237 : decode cX12_expression 237 = .ok (.aload_n 0, 1) := dk_42 (dk_at dksX12_expression_10 3 rfl rfl)
theorem dX12_expression_238 : decode cX12_expression 238 = .ok (.getfield 107, 3) := dk_180 0 107 (dk_at dksX12_expression_10 4 rfl rfl)
theorem dX12_expression_241 : decode cX12_expression 241 = .ok (.aload_n 0, 1) := dk_42 (dk_at dksX12_expression_10 7 rfl rfl)
theorem dX12_expression_242 : decode cX12_expression 242 = .ok (.getfield 306, 3) := dk_180 1 50 (dk_at dksX12_expression_10 8 rfl rfl)
theorem dX12_expression_245 : decode cX12_expression 245 = .ok (.aload_n 0, 1) := dk_42 (dk_at dksX12_expression_10 11 rfl rfl)
theorem dX12_expression_246 : decode cX12_expression 246 = .ok (.getfield 20, 3) := dk_180 0 20 (dk_at dksX12_expression_10 12 rfl rfl)
theorem dX12_expression_249 : decode cX12_expression 249 = .ok (.aload_n 0, 1) := dk_42 (dk_at dksX12_expression_10 15 rfl rfl)
theorem dX12_expression_250 : decode cX12_expression 250 = .ok (.getfield 212, 3) := dk_180 0 212 (dk_at dksX12_expression_10 16 rfl rfl)
theorem dX12_expression_253 : decode cX12_expression 253 = .ok (.iaload, 1) := dk_46 (dk_at dksX12_expression_10 19 rfl rfl)
theorem dX12_expression_254 : decode cX12_expression 254 = .ok (.iastore, 1) := dk_79 (dk_at dksX12_expression_10 20 rfl rfl)
theorem dX12_expression_255 : decode cX12_expression 255 = .ok (.aload_n 0, 1) := dk_42 (dk_at dksX12_expression_10 21 rfl rfl)
theorem dX12_expression_256 : decode cX12_expression 256 = .ok (.dup, 1) := dk_89 (dk_at dksX12_expression_10 22 rfl rfl)
theorem dX12_expression_257 : decode cX12_expression 257 = .ok (.getfield 306, 3) := dk_180 1 50 (dk_at dksX12_expression_11 0 rfl rfl)
theorem dX12_expression_260 : decode cX12_expression 260 = .ok (.iconst 1, 1) := dk_4 (dk_at dksX12_expression_11 3 rfl rfl)
theorem dX12_expression_261 : decode cX12_expression 261 = .ok (.iadd, 1) := dk_96 (dk_at dksX12_expression_11 4 rfl rfl)
theorem dX12_expression_262 : decode cX12_expression 262 = .ok (.putfield 306, 3) := dk_181 1 50 (dk_at dksX12_expression_11 5 rfl rfl)
theorem dX12_expression_265 : decode cX12_expression 265 = .ok (.aload_n 0, 1) := dk_42 (dk_at dksX12_expression_11 8 rfl rfl)
theorem dX12_expression_266 : decode cX12_expression 266 = .ok (.invokevirtual 230, 3) := dk_182 0 230 (dk_at dksX12_expression_11 9 rfl rfl)
theorem dX12_expression_269 : decode cX12_expression 269 = .ok (.goto (-257), 3) := dk_167 254 255 (dk_at dksX12_expression_11 12 rfl rfl)
theorem dX12_expression_272 : decode cX12_expression 272 = .ok (.return_, 1) := dk_177 (dk_at dksX12_expression_11 15 rfl rfl)
abbrev cX12_unit : ByteArray := prog_22_method_36_code
def yX12_unit : MethodName := ⟨RX12, "unit", "()V"⟩
def dkwX12_unit_3 : List UInt8 := [180, 0, 212, 46, 16, 32, 100, 182, 1, 53, 42, 182, 0, 230, 167, 0, 8, 42, 4, 182, 0, 224, 177]
abbrev dktX12_unit_3 : List UInt8 := dkwX12_unit_3 ++ []
def dkwX12_unit_2 : List UInt8 := [161, 0, 41, 42, 180, 0, 20, 42, 180, 0, 212, 46, 16, 40, 163, 0, 27, 42, 4, 42, 180, 0, 20, 42]
abbrev dktX12_unit_2 : List UInt8 := dkwX12_unit_2 ++ dktX12_unit_3
def dkwX12_unit_1 : List UInt8 := [182, 0, 230, 167, 0, 67, 42, 180, 0, 209, 154, 0, 55, 42, 180, 0, 20, 42, 180, 0, 212, 46, 16, 32]
abbrev dktX12_unit_1 : List UInt8 := dkwX12_unit_1 ++ dktX12_unit_2
def dkwX12_unit_0 : List UInt8 := [42, 5, 182, 0, 227, 153, 0, 24, 42, 3, 42, 180, 0, 27, 42, 180, 0, 212, 46, 182, 1, 53, 42]
abbrev dktX12_unit_0 : List UInt8 := dkwX12_unit_0 ++ dktX12_unit_1
theorem dksX12_unit_0 : cX12_unit.data.toList.drop 0 = dktX12_unit_0 := by decide +kernel
theorem dksX12_unit_1 : cX12_unit.data.toList.drop 23 = dktX12_unit_1 := dk_seg dksX12_unit_0 23 rfl rfl
theorem dksX12_unit_2 : cX12_unit.data.toList.drop 47 = dktX12_unit_2 := dk_seg dksX12_unit_1 24 rfl rfl
theorem dksX12_unit_3 : cX12_unit.data.toList.drop 71 = dktX12_unit_3 := dk_seg dksX12_unit_2 24 rfl rfl
theorem dX12_unit_0 : decode cX12_unit 0 = .ok (.aload_n 0, 1) := dk_42 (dk_at dksX12_unit_0 0 rfl rfl)
theorem dX12_unit_1 : decode cX12_unit 1 = .ok (.iconst 2, 1) := dk_5 (dk_at dksX12_unit_0 1 rfl rfl)
theorem dX12_unit_2 : decode cX12_unit 2 = .ok (.invokevirtual 227, 3) := dk_182 0 227 (dk_at dksX12_unit_0 2 rfl rfl)
theorem dX12_unit_5 : decode cX12_unit 5 = .ok (.ifCond .eq 24, 3) := dk_153 0 24 (dk_at dksX12_unit_0 5 rfl rfl)
theorem dX12_unit_8 : decode cX12_unit 8 = .ok (.aload_n 0, 1) := dk_42 (dk_at dksX12_unit_0 8 rfl rfl)
theorem dX12_unit_9 : decode cX12_unit 9 = .ok (.iconst 0, 1) := dk_3 (dk_at dksX12_unit_0 9 rfl rfl)
theorem dX12_unit_10 : decode cX12_unit 10 = .ok (.aload_n 0, 1) := dk_42 (dk_at dksX12_unit_0 10 rfl rfl)
theorem dX12_unit_11 : decode cX12_unit 11 = .ok (.getfield 27, 3) := dk_180 0 27 (dk_at dksX12_unit_0 11 rfl rfl)
theorem dX12_unit_14 : decode cX12_unit 14 = .ok (.aload_n 0, 1) := dk_42 (dk_at dksX12_unit_0 14 rfl rfl)
theorem dX12_unit_15 : decode cX12_unit 15 = .ok (.getfield 212, 3) := dk_180 0 212 (dk_at dksX12_unit_0 15 rfl rfl)
theorem dX12_unit_18 : decode cX12_unit 18 = .ok (.iaload, 1) := dk_46 (dk_at dksX12_unit_0 18 rfl rfl)
theorem dX12_unit_19 : decode cX12_unit 19 = .ok (.invokevirtual 309, 3) := dk_182 1 53 (dk_at dksX12_unit_0 19 rfl rfl)
theorem dX12_unit_22 : decode cX12_unit 22 = .ok (.aload_n 0, 1) := dk_42 (dk_at dksX12_unit_0 22 rfl rfl)
theorem dX12_unit_23 : decode cX12_unit 23 = .ok (.invokevirtual 230, 3) := dk_182 0 230 (dk_at dksX12_unit_1 0 rfl rfl)
theorem dX12_unit_26 : decode cX12_unit 26 = .ok (.goto 67, 3) := dk_167 0 67 (dk_at dksX12_unit_1 3 rfl rfl)
theorem dX12_unit_29 : decode cX12_unit 29 = .ok (.aload_n 0, 1) := dk_42 (dk_at dksX12_unit_1 6 rfl rfl)
theorem dX12_unit_30 : decode cX12_unit 30 = .ok (.getfield 209, 3) := dk_180 0 209 (dk_at dksX12_unit_1 7 rfl rfl)
theorem dX12_unit_33 : decode cX12_unit 33 = .ok (.ifCond .ne 55, 3) := dk_154 0 55 (dk_at dksX12_unit_1 10 rfl rfl)
theorem dX12_unit_36 : decode cX12_unit 36 = .ok (.aload_n 0, 1) := dk_42 (dk_at dksX12_unit_1 13 rfl rfl)
theorem dX12_unit_37 : decode cX12_unit 37 = .ok (.getfield 20, 3) := dk_180 0 20 (dk_at dksX12_unit_1 14 rfl rfl)
theorem dX12_unit_40 : decode cX12_unit 40 = .ok (.aload_n 0, 1) := dk_42 (dk_at dksX12_unit_1 17 rfl rfl)
theorem dX12_unit_41 : decode cX12_unit 41 = .ok (.getfield 212, 3) := dk_180 0 212 (dk_at dksX12_unit_1 18 rfl rfl)
theorem dX12_unit_44 : decode cX12_unit 44 = .ok (.iaload, 1) := dk_46 (dk_at dksX12_unit_1 21 rfl rfl)
theorem dX12_unit_45 : decode cX12_unit 45 = .ok (.bipush 32, 2) := dk_16 32 (dk_at dksX12_unit_1 22 rfl rfl)
theorem dX12_unit_47 : decode cX12_unit 47 = .ok (.if_icmp .lt 41, 3) := dk_161 0 41 (dk_at dksX12_unit_2 0 rfl rfl)
theorem dX12_unit_50 : decode cX12_unit 50 = .ok (.aload_n 0, 1) := dk_42 (dk_at dksX12_unit_2 3 rfl rfl)
theorem dX12_unit_51 : decode cX12_unit 51 = .ok (.getfield 20, 3) := dk_180 0 20 (dk_at dksX12_unit_2 4 rfl rfl)
theorem dX12_unit_54 : decode cX12_unit 54 = .ok (.aload_n 0, 1) := dk_42 (dk_at dksX12_unit_2 7 rfl rfl)
theorem dX12_unit_55 : decode cX12_unit 55 = .ok (.getfield 212, 3) := dk_180 0 212 (dk_at dksX12_unit_2 8 rfl rfl)
theorem dX12_unit_58 : decode cX12_unit 58 = .ok (.iaload, 1) := dk_46 (dk_at dksX12_unit_2 11 rfl rfl)
theorem dX12_unit_59 : decode cX12_unit 59 = .ok (.bipush 40, 2) := dk_16 40 (dk_at dksX12_unit_2 12 rfl rfl)
theorem dX12_unit_61 : decode cX12_unit 61 = .ok (.if_icmp .gt 27, 3) := dk_163 0 27 (dk_at dksX12_unit_2 14 rfl rfl)
theorem dX12_unit_64 : decode cX12_unit 64 = .ok (.aload_n 0, 1) := dk_42 (dk_at dksX12_unit_2 17 rfl rfl)
theorem dX12_unit_65 : decode cX12_unit 65 = .ok (.iconst 1, 1) := dk_4 (dk_at dksX12_unit_2 18 rfl rfl)
theorem dX12_unit_66 : decode cX12_unit 66 = .ok (.aload_n 0, 1) := dk_42 (dk_at dksX12_unit_2 19 rfl rfl)
theorem dX12_unit_67 : decode cX12_unit 67 = .ok (.getfield 20, 3) := dk_180 0 20 (dk_at dksX12_unit_2 20 rfl rfl)
theorem dX12_unit_70 : decode cX12_unit 70 = .ok (.aload_n 0, 1) := dk_42 (dk_at dksX12_unit_2 23 rfl rfl)
theorem dX12_unit_71 : decode cX12_unit 71 = .ok (.getfield 212, 3) := dk_180 0 212 (dk_at dksX12_unit_3 0 rfl rfl)
theorem dX12_unit_74 : decode cX12_unit 74 = .ok (.iaload, 1) := dk_46 (dk_at dksX12_unit_3 3 rfl rfl)
theorem dX12_unit_75 : decode cX12_unit 75 = .ok (.bipush 32, 2) := dk_16 32 (dk_at dksX12_unit_3 4 rfl rfl)
theorem dX12_unit_77 : decode cX12_unit 77 = .ok (.isub, 1) := dk_100 (dk_at dksX12_unit_3 6 rfl rfl)
theorem dX12_unit_78 : decode cX12_unit 78 = .ok (.invokevirtual 309, 3) := dk_182 1 53 (dk_at dksX12_unit_3 7 rfl rfl)
theorem dX12_unit_81 : decode cX12_unit 81 = .ok (.aload_n 0, 1) := dk_42 (dk_at dksX12_unit_3 10 rfl rfl)
theorem dX12_unit_82 : decode cX12_unit 82 = .ok (.invokevirtual 230, 3) := dk_182 0 230 (dk_at dksX12_unit_3 11 rfl rfl)
theorem dX12_unit_85 : decode cX12_unit 85 = .ok (.goto 8, 3) := dk_167 0 8 (dk_at dksX12_unit_3 14 rfl rfl)
theorem dX12_unit_88 : decode cX12_unit 88 = .ok (.aload_n 0, 1) := dk_42 (dk_at dksX12_unit_3 17 rfl rfl)
theorem dX12_unit_89 : decode cX12_unit 89 = .ok (.iconst 1, 1) := dk_4 (dk_at dksX12_unit_3 18 rfl rfl)
theorem dX12_unit_90 : decode cX12_unit 90 = .ok (.invokevirtual 224, 3) := dk_182 0 224 (dk_at dksX12_unit_3 19 rfl rfl)
theorem dX12_unit_93 : decode cX12_unit 93 = .ok (.return_, 1) := dk_177 (dk_at dksX12_unit_3 22 rfl rfl)
abbrev cX12_emit : ByteArray := prog_22_method_33_code
def yX12_emit : MethodName := ⟨RX12, "emit", "(II)V"⟩
def dkwX12_emit_1 : List UInt8 := [180, 0, 251, 4, 96, 181, 0, 251, 177]
abbrev dktX12_emit_1 : List UInt8 := dkwX12_emit_1 ++ []
def dkwX12_emit_0 : List UInt8 := [42, 180, 0, 101, 42, 180, 0, 251, 27, 79, 42, 180, 0, 104, 42, 180, 0, 251, 28, 79, 42, 89]
abbrev dktX12_emit_0 : List UInt8 := dkwX12_emit_0 ++ dktX12_emit_1
theorem dksX12_emit_0 : cX12_emit.data.toList.drop 0 = dktX12_emit_0 := by decide +kernel
theorem dksX12_emit_1 : cX12_emit.data.toList.drop 22 = dktX12_emit_1 := dk_seg dksX12_emit_0 22 rfl rfl
theorem dX12_emit_0 : decode cX12_emit 0 = .ok (.aload_n 0, 1) := dk_42 (dk_at dksX12_emit_0 0 rfl rfl)
theorem dX12_emit_1 : decode cX12_emit 1 = .ok (.getfield 101, 3) := dk_180 0 101 (dk_at dksX12_emit_0 1 rfl rfl)
theorem dX12_emit_4 : decode cX12_emit 4 = .ok (.aload_n 0, 1) := dk_42 (dk_at dksX12_emit_0 4 rfl rfl)
theorem dX12_emit_5 : decode cX12_emit 5 = .ok (.getfield 251, 3) := dk_180 0 251 (dk_at dksX12_emit_0 5 rfl rfl)
theorem dX12_emit_8 : decode cX12_emit 8 = .ok (.iload_n 1, 1) := dk_27 (dk_at dksX12_emit_0 8 rfl rfl)
theorem dX12_emit_9 : decode cX12_emit 9 = .ok (.iastore, 1) := dk_79 (dk_at dksX12_emit_0 9 rfl rfl)
theorem dX12_emit_10 : decode cX12_emit 10 = .ok (.aload_n 0, 1) := dk_42 (dk_at dksX12_emit_0 10 rfl rfl)
theorem dX12_emit_11 : decode cX12_emit 11 = .ok (.getfield 104, 3) := dk_180 0 104 (dk_at dksX12_emit_0 11 rfl rfl)
theorem dX12_emit_14 : decode cX12_emit 14 = .ok (.aload_n 0, 1) := dk_42 (dk_at dksX12_emit_0 14 rfl rfl)
theorem dX12_emit_15 : decode cX12_emit 15 = .ok (.getfield 251, 3) := dk_180 0 251 (dk_at dksX12_emit_0 15 rfl rfl)
theorem dX12_emit_18 : decode cX12_emit 18 = .ok (.iload_n 2, 1) := dk_28 (dk_at dksX12_emit_0 18 rfl rfl)
theorem dX12_emit_19 : decode cX12_emit 19 = .ok (.iastore, 1) := dk_79 (dk_at dksX12_emit_0 19 rfl rfl)
theorem dX12_emit_20 : decode cX12_emit 20 = .ok (.aload_n 0, 1) := dk_42 (dk_at dksX12_emit_0 20 rfl rfl)
theorem dX12_emit_21 : decode cX12_emit 21 = .ok (.dup, 1) := dk_89 (dk_at dksX12_emit_0 21 rfl rfl)
theorem dX12_emit_22 : decode cX12_emit 22 = .ok (.getfield 251, 3) := dk_180 0 251 (dk_at dksX12_emit_1 0 rfl rfl)
theorem dX12_emit_25 : decode cX12_emit 25 = .ok (.iconst 1, 1) := dk_4 (dk_at dksX12_emit_1 3 rfl rfl)
theorem dX12_emit_26 : decode cX12_emit 26 = .ok (.iadd, 1) := dk_96 (dk_at dksX12_emit_1 4 rfl rfl)
theorem dX12_emit_27 : decode cX12_emit 27 = .ok (.putfield 251, 3) := dk_181 0 251 (dk_at dksX12_emit_1 5 rfl rfl)
theorem dX12_emit_30 : decode cX12_emit 30 = .ok (.return_, 1) := dk_177 (dk_at dksX12_emit_1 8 rfl rfl)
abbrev cX12_comesOut : ByteArray := prog_22_method_34_code
def yX12_comesOut : MethodName := ⟨RX12, "comesOut", "(Z)V"⟩
def dkwX12_comesOut_4 : List UInt8 := [167, 255, 168, 177]
abbrev dktX12_comesOut_4 : List UInt8 := dkwX12_comesOut_4 ++ []
def dkwX12_comesOut_3 : List UInt8 := [160, 0, 7, 6, 167, 0, 14, 28, 16, 10, 160, 0, 7, 7, 167, 0, 4, 8, 3, 182, 1, 53]
abbrev dktX12_comesOut_3 : List UInt8 := dkwX12_comesOut_3 ++ dktX12_comesOut_4
def dkwX12_comesOut_2 : List UInt8 := [180, 1, 50, 4, 100, 181, 1, 50, 42, 28, 16, 8, 160, 0, 7, 5, 167, 0, 24, 28, 16, 9]
abbrev dktX12_comesOut_2 : List UInt8 := dkwX12_comesOut_2 ++ dktX12_comesOut_3
def dkwX12_comesOut_1 : List UInt8 := [159, 0, 19, 27, 153, 0, 16, 28, 16, 8, 159, 0, 9, 28, 16, 9, 160, 0, 4, 177, 42, 89]
abbrev dktX12_comesOut_1 : List UInt8 := dkwX12_comesOut_1 ++ dktX12_comesOut_2
def dkwX12_comesOut_0 : List UInt8 := [42, 180, 1, 50, 158, 0, 87, 42, 180, 0, 107, 42, 180, 1, 50, 4, 100, 46, 61, 28, 16, 6]
abbrev dktX12_comesOut_0 : List UInt8 := dkwX12_comesOut_0 ++ dktX12_comesOut_1
theorem dksX12_comesOut_0 : cX12_comesOut.data.toList.drop 0 = dktX12_comesOut_0 := by decide +kernel
theorem dksX12_comesOut_1 : cX12_comesOut.data.toList.drop 22 = dktX12_comesOut_1 := dk_seg dksX12_comesOut_0 22 rfl rfl
theorem dksX12_comesOut_2 : cX12_comesOut.data.toList.drop 44 = dktX12_comesOut_2 := dk_seg dksX12_comesOut_1 22 rfl rfl
theorem dksX12_comesOut_3 : cX12_comesOut.data.toList.drop 66 = dktX12_comesOut_3 := dk_seg dksX12_comesOut_2 22 rfl rfl
theorem dksX12_comesOut_4 : cX12_comesOut.data.toList.drop 88 = dktX12_comesOut_4 := dk_seg dksX12_comesOut_3 22 rfl rfl
theorem dX12_comesOut_0 : decode cX12_comesOut 0 = .ok (.aload_n 0, 1) := dk_42 (dk_at dksX12_comesOut_0 0 rfl rfl)
theorem dX12_comesOut_1 : decode cX12_comesOut 1 = .ok (.getfield 306, 3) := dk_180 1 50 (dk_at dksX12_comesOut_0 1 rfl rfl)
theorem dX12_comesOut_4 : decode cX12_comesOut 4 = .ok (.ifCond .le 87, 3) := dk_158 0 87 (dk_at dksX12_comesOut_0 4 rfl rfl)
theorem dX12_comesOut_7 : decode cX12_comesOut 7 = .ok (.aload_n 0, 1) := dk_42 (dk_at dksX12_comesOut_0 7 rfl rfl)
theorem dX12_comesOut_8 : decode cX12_comesOut 8 = .ok (.getfield 107, 3) := dk_180 0 107 (dk_at dksX12_comesOut_0 8 rfl rfl)
theorem dX12_comesOut_11 : decode cX12_comesOut 11 = .ok (.aload_n 0, 1) := dk_42 (dk_at dksX12_comesOut_0 11 rfl rfl)
theorem dX12_comesOut_12 : decode cX12_comesOut 12 = .ok (.getfield 306, 3) := dk_180 1 50 (dk_at dksX12_comesOut_0 12 rfl rfl)
theorem dX12_comesOut_15 : decode cX12_comesOut 15 = .ok (.iconst 1, 1) := dk_4 (dk_at dksX12_comesOut_0 15 rfl rfl)
theorem dX12_comesOut_16 : decode cX12_comesOut 16 = .ok (.isub, 1) := dk_100 (dk_at dksX12_comesOut_0 16 rfl rfl)
theorem dX12_comesOut_17 : decode cX12_comesOut 17 = .ok (.iaload, 1) := dk_46 (dk_at dksX12_comesOut_0 17 rfl rfl)
theorem dX12_comesOut_18 : decode cX12_comesOut 18 = .ok (.istore_n 2, 1) := dk_61 (dk_at dksX12_comesOut_0 18 rfl rfl)
theorem dX12_comesOut_19 : decode cX12_comesOut 19 = .ok (.iload_n 2, 1) := dk_28 (dk_at dksX12_comesOut_0 19 rfl rfl)
theorem dX12_comesOut_20 : decode cX12_comesOut 20 = .ok (.bipush 6, 2) := dk_16 6 (dk_at dksX12_comesOut_0 20 rfl rfl)
theorem dX12_comesOut_22 : decode cX12_comesOut 22 = .ok (.if_icmp .eq 19, 3) := dk_159 0 19 (dk_at dksX12_comesOut_1 0 rfl rfl)
theorem dX12_comesOut_25 : decode cX12_comesOut 25 = .ok (.iload_n 1, 1) := dk_27 (dk_at dksX12_comesOut_1 3 rfl rfl)
theorem dX12_comesOut_26 : decode cX12_comesOut 26 = .ok (.ifCond .eq 16, 3) := dk_153 0 16 (dk_at dksX12_comesOut_1 4 rfl rfl)
theorem dX12_comesOut_29 : decode cX12_comesOut 29 = .ok (.iload_n 2, 1) := dk_28 (dk_at dksX12_comesOut_1 7 rfl rfl)
theorem dX12_comesOut_30 : decode cX12_comesOut 30 = .ok (.bipush 8, 2) := dk_16 8 (dk_at dksX12_comesOut_1 8 rfl rfl)
theorem dX12_comesOut_32 : decode cX12_comesOut 32 = .ok (.if_icmp .eq 9, 3) := dk_159 0 9 (dk_at dksX12_comesOut_1 10 rfl rfl)
theorem dX12_comesOut_35 : decode cX12_comesOut 35 = .ok (.iload_n 2, 1) := dk_28 (dk_at dksX12_comesOut_1 13 rfl rfl)
theorem dX12_comesOut_36 : decode cX12_comesOut 36 = .ok (.bipush 9, 2) := dk_16 9 (dk_at dksX12_comesOut_1 14 rfl rfl)
theorem dX12_comesOut_38 : decode cX12_comesOut 38 = .ok (.if_icmp .ne 4, 3) := dk_160 0 4 (dk_at dksX12_comesOut_1 16 rfl rfl)
theorem dX12_comesOut_41 : decode cX12_comesOut 41 = .ok (.return_, 1) := dk_177 (dk_at dksX12_comesOut_1 19 rfl rfl)
theorem dX12_comesOut_42 : decode cX12_comesOut 42 = .ok (.aload_n 0, 1) := dk_42 (dk_at dksX12_comesOut_1 20 rfl rfl)
theorem dX12_comesOut_43 : decode cX12_comesOut 43 = .ok (.dup, 1) := dk_89 (dk_at dksX12_comesOut_1 21 rfl rfl)
theorem dX12_comesOut_44 : decode cX12_comesOut 44 = .ok (.getfield 306, 3) := dk_180 1 50 (dk_at dksX12_comesOut_2 0 rfl rfl)
theorem dX12_comesOut_47 : decode cX12_comesOut 47 = .ok (.iconst 1, 1) := dk_4 (dk_at dksX12_comesOut_2 3 rfl rfl)
theorem dX12_comesOut_48 : decode cX12_comesOut 48 = .ok (.isub, 1) := dk_100 (dk_at dksX12_comesOut_2 4 rfl rfl)
theorem dX12_comesOut_49 : decode cX12_comesOut 49 = .ok (.putfield 306, 3) := dk_181 1 50 (dk_at dksX12_comesOut_2 5 rfl rfl)
theorem dX12_comesOut_52 : decode cX12_comesOut 52 = .ok (.aload_n 0, 1) := dk_42 (dk_at dksX12_comesOut_2 8 rfl rfl)
theorem dX12_comesOut_53 : decode cX12_comesOut 53 = .ok (.iload_n 2, 1) := dk_28 (dk_at dksX12_comesOut_2 9 rfl rfl)
theorem dX12_comesOut_54 : decode cX12_comesOut 54 = .ok (.bipush 8, 2) := dk_16 8 (dk_at dksX12_comesOut_2 10 rfl rfl)
theorem dX12_comesOut_56 : decode cX12_comesOut 56 = .ok (.if_icmp .ne 7, 3) := dk_160 0 7 (dk_at dksX12_comesOut_2 12 rfl rfl)
theorem dX12_comesOut_59 : decode cX12_comesOut 59 = .ok (.iconst 2, 1) := dk_5 (dk_at dksX12_comesOut_2 15 rfl rfl)
theorem dX12_comesOut_60 : decode cX12_comesOut 60 = .ok (.goto 24, 3) := dk_167 0 24 (dk_at dksX12_comesOut_2 16 rfl rfl)
theorem dX12_comesOut_63 : decode cX12_comesOut 63 = .ok (.iload_n 2, 1) := dk_28 (dk_at dksX12_comesOut_2 19 rfl rfl)
theorem dX12_comesOut_64 : decode cX12_comesOut 64 = .ok (.bipush 9, 2) := dk_16 9 (dk_at dksX12_comesOut_2 20 rfl rfl)
theorem dX12_comesOut_66 : decode cX12_comesOut 66 = .ok (.if_icmp .ne 7, 3) := dk_160 0 7 (dk_at dksX12_comesOut_3 0 rfl rfl)
theorem dX12_comesOut_69 : decode cX12_comesOut 69 = .ok (.iconst 3, 1) := dk_6 (dk_at dksX12_comesOut_3 3 rfl rfl)
theorem dX12_comesOut_70 : decode cX12_comesOut 70 = .ok (.goto 14, 3) := dk_167 0 14 (dk_at dksX12_comesOut_3 4 rfl rfl)
theorem dX12_comesOut_73 : decode cX12_comesOut 73 = .ok (.iload_n 2, 1) := dk_28 (dk_at dksX12_comesOut_3 7 rfl rfl)
theorem dX12_comesOut_74 : decode cX12_comesOut 74 = .ok (.bipush 10, 2) := dk_16 10 (dk_at dksX12_comesOut_3 8 rfl rfl)
theorem dX12_comesOut_76 : decode cX12_comesOut 76 = .ok (.if_icmp .ne 7, 3) := dk_160 0 7 (dk_at dksX12_comesOut_3 10 rfl rfl)
theorem dX12_comesOut_79 : decode cX12_comesOut 79 = .ok (.iconst 4, 1) := dk_7 (dk_at dksX12_comesOut_3 13 rfl rfl)
theorem dX12_comesOut_80 : decode cX12_comesOut 80 = .ok (.goto 4, 3) := dk_167 0 4 (dk_at dksX12_comesOut_3 14 rfl rfl)
theorem dX12_comesOut_83 : decode cX12_comesOut 83 = .ok (.iconst 5, 1) := dk_8 (dk_at dksX12_comesOut_3 17 rfl rfl)
theorem dX12_comesOut_84 : decode cX12_comesOut 84 = .ok (.iconst 0, 1) := dk_3 (dk_at dksX12_comesOut_3 18 rfl rfl)
theorem dX12_comesOut_85 : decode cX12_comesOut 85 = .ok (.invokevirtual 309, 3) := dk_182 1 53 (dk_at dksX12_comesOut_3 19 rfl rfl)
theorem dX12_comesOut_88 : decode cX12_comesOut 88 = .ok (.goto (-88), 3) := dk_167 255 168 (dk_at dksX12_comesOut_4 0 rfl rfl)
theorem dX12_comesOut_91 : decode cX12_comesOut 91 = .ok (.return_, 1) := dk_177 (dk_at dksX12_comesOut_4 3 rfl rfl)
abbrev cX12_term : ByteArray := prog_22_method_32_code
def yX12_term : MethodName := ⟨RX12, "term", "()V"⟩
def dkwX12_term_1 : List UInt8 := [42, 180, 0, 98, 42, 180, 0, 248, 42, 180, 0, 251, 79, 42, 89, 180, 0, 248, 4, 96, 181, 0, 248, 177]
abbrev dktX12_term_1 : List UInt8 := dkwX12_term_1 ++ []
def dkwX12_term_0 : List UInt8 := [42, 180, 0, 95, 42, 180, 0, 248, 42, 180, 0, 251, 79, 42, 180, 0, 209, 154, 0, 7, 42, 182, 1, 44]
abbrev dktX12_term_0 : List UInt8 := dkwX12_term_0 ++ dktX12_term_1
theorem dksX12_term_0 : cX12_term.data.toList.drop 0 = dktX12_term_0 := by decide +kernel
theorem dksX12_term_1 : cX12_term.data.toList.drop 24 = dktX12_term_1 := dk_seg dksX12_term_0 24 rfl rfl
theorem dX12_term_0 : decode cX12_term 0 = .ok (.aload_n 0, 1) := dk_42 (dk_at dksX12_term_0 0 rfl rfl)
theorem dX12_term_1 : decode cX12_term 1 = .ok (.getfield 95, 3) := dk_180 0 95 (dk_at dksX12_term_0 1 rfl rfl)
theorem dX12_term_4 : decode cX12_term 4 = .ok (.aload_n 0, 1) := dk_42 (dk_at dksX12_term_0 4 rfl rfl)
theorem dX12_term_5 : decode cX12_term 5 = .ok (.getfield 248, 3) := dk_180 0 248 (dk_at dksX12_term_0 5 rfl rfl)
theorem dX12_term_8 : decode cX12_term 8 = .ok (.aload_n 0, 1) := dk_42 (dk_at dksX12_term_0 8 rfl rfl)
theorem dX12_term_9 : decode cX12_term 9 = .ok (.getfield 251, 3) := dk_180 0 251 (dk_at dksX12_term_0 9 rfl rfl)
theorem dX12_term_12 : decode cX12_term 12 = .ok (.iastore, 1) := dk_79 (dk_at dksX12_term_0 12 rfl rfl)
theorem dX12_term_13 : decode cX12_term 13 = .ok (.aload_n 0, 1) := dk_42 (dk_at dksX12_term_0 13 rfl rfl)
theorem dX12_term_14 : decode cX12_term 14 = .ok (.getfield 209, 3) := dk_180 0 209 (dk_at dksX12_term_0 14 rfl rfl)
theorem dX12_term_17 : decode cX12_term 17 = .ok (.ifCond .ne 7, 3) := dk_154 0 7 (dk_at dksX12_term_0 17 rfl rfl)
theorem dX12_term_20 : decode cX12_term 20 = .ok (.aload_n 0, 1) := dk_42 (dk_at dksX12_term_0 20 rfl rfl)
theorem dX12_term_21 : decode cX12_term 21 = .ok (.invokevirtual 300, 3) := dk_182 1 44 (dk_at dksX12_term_0 21 rfl rfl)
theorem dX12_term_24 : decode cX12_term 24 = .ok (.aload_n 0, 1) := dk_42 (dk_at dksX12_term_1 0 rfl rfl)
theorem dX12_term_25 : decode cX12_term 25 = .ok (.getfield 98, 3) := dk_180 0 98 (dk_at dksX12_term_1 1 rfl rfl)
theorem dX12_term_28 : decode cX12_term 28 = .ok (.aload_n 0, 1) := dk_42 (dk_at dksX12_term_1 4 rfl rfl)
theorem dX12_term_29 : decode cX12_term 29 = .ok (.getfield 248, 3) := dk_180 0 248 (dk_at dksX12_term_1 5 rfl rfl)
theorem dX12_term_32 : decode cX12_term 32 = .ok (.aload_n 0, 1) := dk_42 (dk_at dksX12_term_1 8 rfl rfl)
theorem dX12_term_33 : decode cX12_term 33 = .ok (.getfield 251, 3) := dk_180 0 251 (dk_at dksX12_term_1 9 rfl rfl)
theorem dX12_term_36 : decode cX12_term 36 = .ok (.iastore, 1) := dk_79 (dk_at dksX12_term_1 12 rfl rfl)
theorem dX12_term_37 : decode cX12_term 37 = .ok (.aload_n 0, 1) := dk_42 (dk_at dksX12_term_1 13 rfl rfl)
theorem dX12_term_38 : decode cX12_term 38 = .ok (.dup, 1) := dk_89 (dk_at dksX12_term_1 14 rfl rfl)
theorem dX12_term_39 : decode cX12_term 39 = .ok (.getfield 248, 3) := dk_180 0 248 (dk_at dksX12_term_1 15 rfl rfl)
theorem dX12_term_42 : decode cX12_term 42 = .ok (.iconst 1, 1) := dk_4 (dk_at dksX12_term_1 18 rfl rfl)
theorem dX12_term_43 : decode cX12_term 43 = .ok (.iadd, 1) := dk_96 (dk_at dksX12_term_1 19 rfl rfl)
theorem dX12_term_44 : decode cX12_term 44 = .ok (.putfield 248, 3) := dk_181 0 248 (dk_at dksX12_term_1 20 rfl rfl)
theorem dX12_term_47 : decode cX12_term 47 = .ok (.return_, 1) := dk_177 (dk_at dksX12_term_1 23 rfl rfl)
abbrev cX12_areFields : ByteArray := prog_22_method_22_code
def yX12_areFields : MethodName := ⟨RX12, "areFields", "()Z"⟩
def dkwX12_areFields_3 : List UInt8 := [132, 1, 1, 167, 255, 186, 4, 172]
abbrev dktX12_areFields_3 : List UInt8 := dkwX12_areFields_3 ++ []
def dkwX12_areFields_2 : List UInt8 := [96, 46, 42, 180, 0, 52, 42, 180, 0, 242, 46, 161, 0, 5, 3, 172, 132, 2, 1, 167, 255, 207]
abbrev dktX12_areFields_2 : List UInt8 := dkwX12_areFields_2 ++ dktX12_areFields_3
def dkwX12_areFields_1 : List UInt8 := [180, 0, 242, 46, 162, 0, 42, 42, 180, 0, 49, 16, 48, 42, 180, 0, 242, 104, 16, 8, 27, 104, 96, 28]
abbrev dktX12_areFields_1 : List UInt8 := dkwX12_areFields_1 ++ dktX12_areFields_2
def dkwX12_areFields_0 : List UInt8 := [3, 60, 27, 42, 180, 0, 43, 42, 180, 0, 242, 46, 162, 0, 63, 3, 61, 28, 42, 180, 0, 46, 42]
abbrev dktX12_areFields_0 : List UInt8 := dkwX12_areFields_0 ++ dktX12_areFields_1
theorem dksX12_areFields_0 : cX12_areFields.data.toList.drop 0 = dktX12_areFields_0 := by decide +kernel
theorem dksX12_areFields_1 : cX12_areFields.data.toList.drop 23 = dktX12_areFields_1 := dk_seg dksX12_areFields_0 23 rfl rfl
theorem dksX12_areFields_2 : cX12_areFields.data.toList.drop 47 = dktX12_areFields_2 := dk_seg dksX12_areFields_1 24 rfl rfl
theorem dksX12_areFields_3 : cX12_areFields.data.toList.drop 69 = dktX12_areFields_3 := dk_seg dksX12_areFields_2 22 rfl rfl
theorem dX12_areFields_0 : decode cX12_areFields 0 = .ok (.iconst 0, 1) := dk_3 (dk_at dksX12_areFields_0 0 rfl rfl)
theorem dX12_areFields_1 : decode cX12_areFields 1 = .ok (.istore_n 1, 1) := dk_60 (dk_at dksX12_areFields_0 1 rfl rfl)
theorem dX12_areFields_2 : decode cX12_areFields 2 = .ok (.iload_n 1, 1) := dk_27 (dk_at dksX12_areFields_0 2 rfl rfl)
theorem dX12_areFields_3 : decode cX12_areFields 3 = .ok (.aload_n 0, 1) := dk_42 (dk_at dksX12_areFields_0 3 rfl rfl)
theorem dX12_areFields_4 : decode cX12_areFields 4 = .ok (.getfield 43, 3) := dk_180 0 43 (dk_at dksX12_areFields_0 4 rfl rfl)
theorem dX12_areFields_7 : decode cX12_areFields 7 = .ok (.aload_n 0, 1) := dk_42 (dk_at dksX12_areFields_0 7 rfl rfl)
theorem dX12_areFields_8 : decode cX12_areFields 8 = .ok (.getfield 242, 3) := dk_180 0 242 (dk_at dksX12_areFields_0 8 rfl rfl)
theorem dX12_areFields_11 : decode cX12_areFields 11 = .ok (.iaload, 1) := dk_46 (dk_at dksX12_areFields_0 11 rfl rfl)
theorem dX12_areFields_12 : decode cX12_areFields 12 = .ok (.if_icmp .ge 63, 3) := dk_162 0 63 (dk_at dksX12_areFields_0 12 rfl rfl)
theorem dX12_areFields_15 : decode cX12_areFields 15 = .ok (.iconst 0, 1) := dk_3 (dk_at dksX12_areFields_0 15 rfl rfl)
theorem dX12_areFields_16 : decode cX12_areFields 16 = .ok (.istore_n 2, 1) := dk_61 (dk_at dksX12_areFields_0 16 rfl rfl)
theorem dX12_areFields_17 : decode cX12_areFields 17 = .ok (.iload_n 2, 1) := dk_28 (dk_at dksX12_areFields_0 17 rfl rfl)
theorem dX12_areFields_18 : decode cX12_areFields 18 = .ok (.aload_n 0, 1) := dk_42 (dk_at dksX12_areFields_0 18 rfl rfl)
theorem dX12_areFields_19 : decode cX12_areFields 19 = .ok (.getfield 46, 3) := dk_180 0 46 (dk_at dksX12_areFields_0 19 rfl rfl)
theorem dX12_areFields_22 : decode cX12_areFields 22 = .ok (.aload_n 0, 1) := dk_42 (dk_at dksX12_areFields_0 22 rfl rfl)
theorem dX12_areFields_23 : decode cX12_areFields 23 = .ok (.getfield 242, 3) := dk_180 0 242 (dk_at dksX12_areFields_1 0 rfl rfl)
theorem dX12_areFields_26 : decode cX12_areFields 26 = .ok (.iaload, 1) := dk_46 (dk_at dksX12_areFields_1 3 rfl rfl)
theorem dX12_areFields_27 : decode cX12_areFields 27 = .ok (.if_icmp .ge 42, 3) := dk_162 0 42 (dk_at dksX12_areFields_1 4 rfl rfl)
theorem dX12_areFields_30 : decode cX12_areFields 30 = .ok (.aload_n 0, 1) := dk_42 (dk_at dksX12_areFields_1 7 rfl rfl)
theorem dX12_areFields_31 : decode cX12_areFields 31 = .ok (.getfield 49, 3) := dk_180 0 49 (dk_at dksX12_areFields_1 8 rfl rfl)
theorem dX12_areFields_34 : decode cX12_areFields 34 = .ok (.bipush 48, 2) := dk_16 48 (dk_at dksX12_areFields_1 11 rfl rfl)
theorem dX12_areFields_36 : decode cX12_areFields 36 = .ok (.aload_n 0, 1) := dk_42 (dk_at dksX12_areFields_1 13 rfl rfl)
theorem dX12_areFields_37 : decode cX12_areFields 37 = .ok (.getfield 242, 3) := dk_180 0 242 (dk_at dksX12_areFields_1 14 rfl rfl)
theorem dX12_areFields_40 : decode cX12_areFields 40 = .ok (.imul, 1) := dk_104 (dk_at dksX12_areFields_1 17 rfl rfl)
theorem dX12_areFields_41 : decode cX12_areFields 41 = .ok (.bipush 8, 2) := dk_16 8 (dk_at dksX12_areFields_1 18 rfl rfl)
theorem dX12_areFields_43 : decode cX12_areFields 43 = .ok (.iload_n 1, 1) := dk_27 (dk_at dksX12_areFields_1 20 rfl rfl)
theorem dX12_areFields_44 : decode cX12_areFields 44 = .ok (.imul, 1) := dk_104 (dk_at dksX12_areFields_1 21 rfl rfl)
theorem dX12_areFields_45 : decode cX12_areFields 45 = .ok (.iadd, 1) := dk_96 (dk_at dksX12_areFields_1 22 rfl rfl)
theorem dX12_areFields_46 : decode cX12_areFields 46 = .ok (.iload_n 2, 1) := dk_28 (dk_at dksX12_areFields_1 23 rfl rfl)
theorem dX12_areFields_47 : decode cX12_areFields 47 = .ok (.iadd, 1) := dk_96 (dk_at dksX12_areFields_2 0 rfl rfl)
theorem dX12_areFields_48 : decode cX12_areFields 48 = .ok (.iaload, 1) := dk_46 (dk_at dksX12_areFields_2 1 rfl rfl)
theorem dX12_areFields_49 : decode cX12_areFields 49 = .ok (.aload_n 0, 1) := dk_42 (dk_at dksX12_areFields_2 2 rfl rfl)
theorem dX12_areFields_50 : decode cX12_areFields 50 = .ok (.getfield 52, 3) := dk_180 0 52 (dk_at dksX12_areFields_2 3 rfl rfl)
theorem dX12_areFields_53 : decode cX12_areFields 53 = .ok (.aload_n 0, 1) := dk_42 (dk_at dksX12_areFields_2 6 rfl rfl)
theorem dX12_areFields_54 : decode cX12_areFields 54 = .ok (.getfield 242, 3) := dk_180 0 242 (dk_at dksX12_areFields_2 7 rfl rfl)
theorem dX12_areFields_57 : decode cX12_areFields 57 = .ok (.iaload, 1) := dk_46 (dk_at dksX12_areFields_2 10 rfl rfl)
theorem dX12_areFields_58 : decode cX12_areFields 58 = .ok (.if_icmp .lt 5, 3) := dk_161 0 5 (dk_at dksX12_areFields_2 11 rfl rfl)
theorem dX12_areFields_61 : decode cX12_areFields 61 = .ok (.iconst 0, 1) := dk_3 (dk_at dksX12_areFields_2 14 rfl rfl)
theorem dX12_areFields_62 : decode cX12_areFields 62 = .ok (.ireturn, 1) := dk_172 (dk_at dksX12_areFields_2 15 rfl rfl)
theorem dX12_areFields_63 : decode cX12_areFields 63 = .ok (.iinc 2 1, 3) := dk_132 2 1 (dk_at dksX12_areFields_2 16 rfl rfl)
theorem dX12_areFields_66 : decode cX12_areFields 66 = .ok (.goto (-49), 3) := dk_167 255 207 (dk_at dksX12_areFields_2 19 rfl rfl)
theorem dX12_areFields_69 : decode cX12_areFields 69 = .ok (.iinc 1 1, 3) := dk_132 1 1 (dk_at dksX12_areFields_3 0 rfl rfl)
theorem dX12_areFields_72 : decode cX12_areFields 72 = .ok (.goto (-70), 3) := dk_167 255 186 (dk_at dksX12_areFields_3 3 rfl rfl)
theorem dX12_areFields_75 : decode cX12_areFields 75 = .ok (.iconst 1, 1) := dk_4 (dk_at dksX12_areFields_3 6 rfl rfl)
theorem dX12_areFields_76 : decode cX12_areFields 76 = .ok (.ireturn, 1) := dk_172 (dk_at dksX12_areFields_3 7 rfl rfl)
abbrev cX12_place : ByteArray := prog_22_method_21_code
def yX12_place : MethodName := ⟨RX12, "place", "()I"⟩
theorem dX12_place_0 : decode cX12_place 0 = .ok (.aload_n 0, 1) := by decide +kernel
theorem dX12_place_1 : decode cX12_place 1 = .ok (.getfield 37, 3) := by decide +kernel
theorem dX12_place_4 : decode cX12_place 4 = .ok (.ireturn, 1) := by decide +kernel
abbrev cX12_cell : ByteArray := prog_22_method_60_code
def yX12_cell : MethodName := ⟨RX12, "cell", "(III)I"⟩
def dkwX12_cell_3 : List UInt8 := [4, 167, 0, 4, 3, 172, 42, 21, 4, 182, 1, 116, 153, 0, 7, 4, 167, 0, 4, 3, 172, 2, 172]
abbrev dktX12_cell_3 : List UInt8 := dkwX12_cell_3 ++ []
def dkwX12_cell_2 : List UInt8 := [42, 21, 4, 182, 1, 91, 172, 42, 180, 0, 119, 21, 4, 46, 172, 42, 21, 4, 182, 1, 113, 153, 0, 7]
abbrev dktX12_cell_2 : List UInt8 := dkwX12_cell_2 ++ dktX12_cell_3
def dkwX12_cell_1 : List UInt8 := [170, 0, 0, 0, 0, 0, 0, 77, 0, 0, 0, 0, 0, 0, 0, 3, 0, 0, 0, 32, 0, 0, 0, 39, 0, 0, 0, 47, 0, 0, 0, 62]
abbrev dktX12_cell_1 : List UInt8 := dkwX12_cell_1 ++ dktX12_cell_2
def dkwX12_cell_0 : List UInt8 := [42, 27, 28, 182, 1, 87, 154, 0, 5, 2, 172, 42, 182, 1, 125, 16, 8, 28, 104, 27, 96, 54, 4, 29]
abbrev dktX12_cell_0 : List UInt8 := dkwX12_cell_0 ++ dktX12_cell_1
theorem dksX12_cell_0 : cX12_cell.data.toList.drop 0 = dktX12_cell_0 := by decide +kernel
theorem dksX12_cell_1 : cX12_cell.data.toList.drop 24 = dktX12_cell_1 := dk_seg dksX12_cell_0 24 rfl rfl
theorem dksX12_cell_2 : cX12_cell.data.toList.drop 56 = dktX12_cell_2 := dk_seg dksX12_cell_1 32 rfl rfl
theorem dksX12_cell_3 : cX12_cell.data.toList.drop 80 = dktX12_cell_3 := dk_seg dksX12_cell_2 24 rfl rfl
theorem dX12_cell_0 : decode cX12_cell 0 = .ok (.aload_n 0, 1) := dk_42 (dk_at dksX12_cell_0 0 rfl rfl)
theorem dX12_cell_1 : decode cX12_cell 1 = .ok (.iload_n 1, 1) := dk_27 (dk_at dksX12_cell_0 1 rfl rfl)
theorem dX12_cell_2 : decode cX12_cell 2 = .ok (.iload_n 2, 1) := dk_28 (dk_at dksX12_cell_0 2 rfl rfl)
theorem dX12_cell_3 : decode cX12_cell 3 = .ok (.invokevirtual 343, 3) := dk_182 1 87 (dk_at dksX12_cell_0 3 rfl rfl)
theorem dX12_cell_6 : decode cX12_cell 6 = .ok (.ifCond .ne 5, 3) := dk_154 0 5 (dk_at dksX12_cell_0 6 rfl rfl)
theorem dX12_cell_9 : decode cX12_cell 9 = .ok (.iconst (-1), 1) := dk_2 (dk_at dksX12_cell_0 9 rfl rfl)
theorem dX12_cell_10 : decode cX12_cell 10 = .ok (.ireturn, 1) := dk_172 (dk_at dksX12_cell_0 10 rfl rfl)
theorem dX12_cell_11 : decode cX12_cell 11 = .ok (.aload_n 0, 1) := dk_42 (dk_at dksX12_cell_0 11 rfl rfl)
theorem dX12_cell_12 : decode cX12_cell 12 = .ok (.invokevirtual 381, 3) := dk_182 1 125 (dk_at dksX12_cell_0 12 rfl rfl)
theorem dX12_cell_15 : decode cX12_cell 15 = .ok (.bipush 8, 2) := dk_16 8 (dk_at dksX12_cell_0 15 rfl rfl)
theorem dX12_cell_17 : decode cX12_cell 17 = .ok (.iload_n 2, 1) := dk_28 (dk_at dksX12_cell_0 17 rfl rfl)
theorem dX12_cell_18 : decode cX12_cell 18 = .ok (.imul, 1) := dk_104 (dk_at dksX12_cell_0 18 rfl rfl)
theorem dX12_cell_19 : decode cX12_cell 19 = .ok (.iload_n 1, 1) := dk_27 (dk_at dksX12_cell_0 19 rfl rfl)
theorem dX12_cell_20 : decode cX12_cell 20 = .ok (.iadd, 1) := dk_96 (dk_at dksX12_cell_0 20 rfl rfl)
theorem dX12_cell_21 : decode cX12_cell 21 = .ok (.istore 4, 2) := dk_54 4 (dk_at dksX12_cell_0 21 rfl rfl)
theorem dX12_cell_23 : decode cX12_cell 23 = .ok (.iload_n 3, 1) := dk_29 (dk_at dksX12_cell_0 23 rfl rfl)
theorem dX12_cell_24 : decode cX12_cell 24 = .ok (.tableswitch 77 0 3 #[32, 39, 47, 62], 32) := by decide +kernel
theorem dX12_cell_56 : decode cX12_cell 56 = .ok (.aload_n 0, 1) := dk_42 (dk_at dksX12_cell_2 0 rfl rfl)
theorem dX12_cell_57 : decode cX12_cell 57 = .ok (.iload 4, 2) := dk_21 4 (dk_at dksX12_cell_2 1 rfl rfl)
theorem dX12_cell_59 : decode cX12_cell 59 = .ok (.invokevirtual 347, 3) := dk_182 1 91 (dk_at dksX12_cell_2 3 rfl rfl)
theorem dX12_cell_62 : decode cX12_cell 62 = .ok (.ireturn, 1) := dk_172 (dk_at dksX12_cell_2 6 rfl rfl)
theorem dX12_cell_63 : decode cX12_cell 63 = .ok (.aload_n 0, 1) := dk_42 (dk_at dksX12_cell_2 7 rfl rfl)
theorem dX12_cell_64 : decode cX12_cell 64 = .ok (.getfield 119, 3) := dk_180 0 119 (dk_at dksX12_cell_2 8 rfl rfl)
theorem dX12_cell_67 : decode cX12_cell 67 = .ok (.iload 4, 2) := dk_21 4 (dk_at dksX12_cell_2 11 rfl rfl)
theorem dX12_cell_69 : decode cX12_cell 69 = .ok (.iaload, 1) := dk_46 (dk_at dksX12_cell_2 13 rfl rfl)
theorem dX12_cell_70 : decode cX12_cell 70 = .ok (.ireturn, 1) := dk_172 (dk_at dksX12_cell_2 14 rfl rfl)
theorem dX12_cell_71 : decode cX12_cell 71 = .ok (.aload_n 0, 1) := dk_42 (dk_at dksX12_cell_2 15 rfl rfl)
theorem dX12_cell_72 : decode cX12_cell 72 = .ok (.iload 4, 2) := dk_21 4 (dk_at dksX12_cell_2 16 rfl rfl)
theorem dX12_cell_74 : decode cX12_cell 74 = .ok (.invokevirtual 369, 3) := dk_182 1 113 (dk_at dksX12_cell_2 18 rfl rfl)
theorem dX12_cell_77 : decode cX12_cell 77 = .ok (.ifCond .eq 7, 3) := dk_153 0 7 (dk_at dksX12_cell_2 21 rfl rfl)
theorem dX12_cell_80 : decode cX12_cell 80 = .ok (.iconst 1, 1) := dk_4 (dk_at dksX12_cell_3 0 rfl rfl)
theorem dX12_cell_81 : decode cX12_cell 81 = .ok (.goto 4, 3) := dk_167 0 4 (dk_at dksX12_cell_3 1 rfl rfl)
theorem dX12_cell_84 : decode cX12_cell 84 = .ok (.iconst 0, 1) := dk_3 (dk_at dksX12_cell_3 4 rfl rfl)
theorem dX12_cell_85 : decode cX12_cell 85 = .ok (.ireturn, 1) := dk_172 (dk_at dksX12_cell_3 5 rfl rfl)
theorem dX12_cell_86 : decode cX12_cell 86 = .ok (.aload_n 0, 1) := dk_42 (dk_at dksX12_cell_3 6 rfl rfl)
theorem dX12_cell_87 : decode cX12_cell 87 = .ok (.iload 4, 2) := dk_21 4 (dk_at dksX12_cell_3 7 rfl rfl)
theorem dX12_cell_89 : decode cX12_cell 89 = .ok (.invokevirtual 372, 3) := dk_182 1 116 (dk_at dksX12_cell_3 9 rfl rfl)
theorem dX12_cell_92 : decode cX12_cell 92 = .ok (.ifCond .eq 7, 3) := dk_153 0 7 (dk_at dksX12_cell_3 12 rfl rfl)
theorem dX12_cell_95 : decode cX12_cell 95 = .ok (.iconst 1, 1) := dk_4 (dk_at dksX12_cell_3 15 rfl rfl)
theorem dX12_cell_96 : decode cX12_cell 96 = .ok (.goto 4, 3) := dk_167 0 4 (dk_at dksX12_cell_3 16 rfl rfl)
theorem dX12_cell_99 : decode cX12_cell 99 = .ok (.iconst 0, 1) := dk_3 (dk_at dksX12_cell_3 19 rfl rfl)
theorem dX12_cell_100 : decode cX12_cell 100 = .ok (.ireturn, 1) := dk_172 (dk_at dksX12_cell_3 20 rfl rfl)
theorem dX12_cell_101 : decode cX12_cell 101 = .ok (.iconst (-1), 1) := dk_2 (dk_at dksX12_cell_3 21 rfl rfl)
theorem dX12_cell_102 : decode cX12_cell 102 = .ok (.ireturn, 1) := dk_172 (dk_at dksX12_cell_3 22 rfl rfl)
abbrev cX12_isCell : ByteArray := prog_22_method_39_code
def yX12_isCell : MethodName := ⟨RX12, "isCell", "(II)Z"⟩
def dkwX12_isCell_1 : List UInt8 := [180, 0, 43, 42, 180, 0, 239, 46, 4, 100, 184, 1, 67, 153, 0, 7, 4, 167, 0, 4, 3, 172]
abbrev dktX12_isCell_1 : List UInt8 := dkwX12_isCell_1 ++ []
def dkwX12_isCell_0 : List UInt8 := [27, 3, 42, 180, 0, 46, 42, 180, 0, 239, 46, 4, 100, 184, 1, 67, 153, 0, 26, 28, 3, 42]
abbrev dktX12_isCell_0 : List UInt8 := dkwX12_isCell_0 ++ dktX12_isCell_1
theorem dksX12_isCell_0 : cX12_isCell.data.toList.drop 0 = dktX12_isCell_0 := by decide +kernel
theorem dksX12_isCell_1 : cX12_isCell.data.toList.drop 22 = dktX12_isCell_1 := dk_seg dksX12_isCell_0 22 rfl rfl
theorem dX12_isCell_0 : decode cX12_isCell 0 = .ok (.iload_n 1, 1) := dk_27 (dk_at dksX12_isCell_0 0 rfl rfl)
theorem dX12_isCell_1 : decode cX12_isCell 1 = .ok (.iconst 0, 1) := dk_3 (dk_at dksX12_isCell_0 1 rfl rfl)
theorem dX12_isCell_2 : decode cX12_isCell 2 = .ok (.aload_n 0, 1) := dk_42 (dk_at dksX12_isCell_0 2 rfl rfl)
theorem dX12_isCell_3 : decode cX12_isCell 3 = .ok (.getfield 46, 3) := dk_180 0 46 (dk_at dksX12_isCell_0 3 rfl rfl)
theorem dX12_isCell_6 : decode cX12_isCell 6 = .ok (.aload_n 0, 1) := dk_42 (dk_at dksX12_isCell_0 6 rfl rfl)
theorem dX12_isCell_7 : decode cX12_isCell 7 = .ok (.getfield 239, 3) := dk_180 0 239 (dk_at dksX12_isCell_0 7 rfl rfl)
theorem dX12_isCell_10 : decode cX12_isCell 10 = .ok (.iaload, 1) := dk_46 (dk_at dksX12_isCell_0 10 rfl rfl)
theorem dX12_isCell_11 : decode cX12_isCell 11 = .ok (.iconst 1, 1) := dk_4 (dk_at dksX12_isCell_0 11 rfl rfl)
theorem dX12_isCell_12 : decode cX12_isCell 12 = .ok (.isub, 1) := dk_100 (dk_at dksX12_isCell_0 12 rfl rfl)
theorem dX12_isCell_13 : decode cX12_isCell 13 = .ok (.invokestatic 323, 3) := dk_184 1 67 (dk_at dksX12_isCell_0 13 rfl rfl)
theorem dX12_isCell_16 : decode cX12_isCell 16 = .ok (.ifCond .eq 26, 3) := dk_153 0 26 (dk_at dksX12_isCell_0 16 rfl rfl)
theorem dX12_isCell_19 : decode cX12_isCell 19 = .ok (.iload_n 2, 1) := dk_28 (dk_at dksX12_isCell_0 19 rfl rfl)
theorem dX12_isCell_20 : decode cX12_isCell 20 = .ok (.iconst 0, 1) := dk_3 (dk_at dksX12_isCell_0 20 rfl rfl)
theorem dX12_isCell_21 : decode cX12_isCell 21 = .ok (.aload_n 0, 1) := dk_42 (dk_at dksX12_isCell_0 21 rfl rfl)
theorem dX12_isCell_22 : decode cX12_isCell 22 = .ok (.getfield 43, 3) := dk_180 0 43 (dk_at dksX12_isCell_1 0 rfl rfl)
theorem dX12_isCell_25 : decode cX12_isCell 25 = .ok (.aload_n 0, 1) := dk_42 (dk_at dksX12_isCell_1 3 rfl rfl)
theorem dX12_isCell_26 : decode cX12_isCell 26 = .ok (.getfield 239, 3) := dk_180 0 239 (dk_at dksX12_isCell_1 4 rfl rfl)
theorem dX12_isCell_29 : decode cX12_isCell 29 = .ok (.iaload, 1) := dk_46 (dk_at dksX12_isCell_1 7 rfl rfl)
theorem dX12_isCell_30 : decode cX12_isCell 30 = .ok (.iconst 1, 1) := dk_4 (dk_at dksX12_isCell_1 8 rfl rfl)
theorem dX12_isCell_31 : decode cX12_isCell 31 = .ok (.isub, 1) := dk_100 (dk_at dksX12_isCell_1 9 rfl rfl)
theorem dX12_isCell_32 : decode cX12_isCell 32 = .ok (.invokestatic 323, 3) := dk_184 1 67 (dk_at dksX12_isCell_1 10 rfl rfl)
theorem dX12_isCell_35 : decode cX12_isCell 35 = .ok (.ifCond .eq 7, 3) := dk_153 0 7 (dk_at dksX12_isCell_1 13 rfl rfl)
theorem dX12_isCell_38 : decode cX12_isCell 38 = .ok (.iconst 1, 1) := dk_4 (dk_at dksX12_isCell_1 16 rfl rfl)
theorem dX12_isCell_39 : decode cX12_isCell 39 = .ok (.goto 4, 3) := dk_167 0 4 (dk_at dksX12_isCell_1 17 rfl rfl)
theorem dX12_isCell_42 : decode cX12_isCell 42 = .ok (.iconst 0, 1) := dk_3 (dk_at dksX12_isCell_1 20 rfl rfl)
theorem dX12_isCell_43 : decode cX12_isCell 43 = .ok (.ireturn, 1) := dk_172 (dk_at dksX12_isCell_1 21 rfl rfl)
abbrev cX12_in : ByteArray := prog_22_method_38_code
def yX12_in : MethodName := ⟨RX12, "in", "(III)Z"⟩
def dkwX12_in_0 : List UInt8 := [26, 27, 161, 0, 12, 26, 28, 163, 0, 7, 4, 167, 0, 4, 3, 172]
abbrev dktX12_in_0 : List UInt8 := dkwX12_in_0 ++ []
theorem dksX12_in_0 : cX12_in.data.toList.drop 0 = dktX12_in_0 := by decide +kernel
theorem dX12_in_0 : decode cX12_in 0 = .ok (.iload_n 0, 1) := dk_26 (dk_at dksX12_in_0 0 rfl rfl)
theorem dX12_in_1 : decode cX12_in 1 = .ok (.iload_n 1, 1) := dk_27 (dk_at dksX12_in_0 1 rfl rfl)
theorem dX12_in_2 : decode cX12_in 2 = .ok (.if_icmp .lt 12, 3) := dk_161 0 12 (dk_at dksX12_in_0 2 rfl rfl)
theorem dX12_in_5 : decode cX12_in 5 = .ok (.iload_n 0, 1) := dk_26 (dk_at dksX12_in_0 5 rfl rfl)
theorem dX12_in_6 : decode cX12_in 6 = .ok (.iload_n 2, 1) := dk_28 (dk_at dksX12_in_0 6 rfl rfl)
theorem dX12_in_7 : decode cX12_in 7 = .ok (.if_icmp .gt 7, 3) := dk_163 0 7 (dk_at dksX12_in_0 7 rfl rfl)
theorem dX12_in_10 : decode cX12_in 10 = .ok (.iconst 1, 1) := dk_4 (dk_at dksX12_in_0 10 rfl rfl)
theorem dX12_in_11 : decode cX12_in 11 = .ok (.goto 4, 3) := dk_167 0 4 (dk_at dksX12_in_0 11 rfl rfl)
theorem dX12_in_14 : decode cX12_in 14 = .ok (.iconst 0, 1) := dk_3 (dk_at dksX12_in_0 14 rfl rfl)
theorem dX12_in_15 : decode cX12_in 15 = .ok (.ireturn, 1) := dk_172 (dk_at dksX12_in_0 15 rfl rfl)
abbrev cX12_copies : ByteArray := prog_22_method_44_code
def yX12_copies : MethodName := ⟨RX12, "copies", "()V"⟩
def dkwX12_copies_1 : List UInt8 := [167, 255, 235, 42, 42, 180, 0, 76, 42, 180, 0, 239, 46, 181, 1, 71, 177]
abbrev dktX12_copies_1 : List UInt8 := dkwX12_copies_1 ++ []
def dkwX12_copies_0 : List UInt8 := [3, 60, 27, 16, 92, 162, 0, 21, 42, 180, 0, 119, 27, 42, 180, 0, 116, 27, 46, 79, 132, 1, 1]
abbrev dktX12_copies_0 : List UInt8 := dkwX12_copies_0 ++ dktX12_copies_1
theorem dksX12_copies_0 : cX12_copies.data.toList.drop 0 = dktX12_copies_0 := by decide +kernel
theorem dksX12_copies_1 : cX12_copies.data.toList.drop 23 = dktX12_copies_1 := dk_seg dksX12_copies_0 23 rfl rfl
theorem dX12_copies_0 : decode cX12_copies 0 = .ok (.iconst 0, 1) := dk_3 (dk_at dksX12_copies_0 0 rfl rfl)
theorem dX12_copies_1 : decode cX12_copies 1 = .ok (.istore_n 1, 1) := dk_60 (dk_at dksX12_copies_0 1 rfl rfl)
theorem dX12_copies_2 : decode cX12_copies 2 = .ok (.iload_n 1, 1) := dk_27 (dk_at dksX12_copies_0 2 rfl rfl)
theorem dX12_copies_3 : decode cX12_copies 3 = .ok (.bipush 92, 2) := dk_16 92 (dk_at dksX12_copies_0 3 rfl rfl)
theorem dX12_copies_5 : decode cX12_copies 5 = .ok (.if_icmp .ge 21, 3) := dk_162 0 21 (dk_at dksX12_copies_0 5 rfl rfl)
theorem dX12_copies_8 : decode cX12_copies 8 = .ok (.aload_n 0, 1) := dk_42 (dk_at dksX12_copies_0 8 rfl rfl)
theorem dX12_copies_9 : decode cX12_copies 9 = .ok (.getfield 119, 3) := dk_180 0 119 (dk_at dksX12_copies_0 9 rfl rfl)
theorem dX12_copies_12 : decode cX12_copies 12 = .ok (.iload_n 1, 1) := dk_27 (dk_at dksX12_copies_0 12 rfl rfl)
theorem dX12_copies_13 : decode cX12_copies 13 = .ok (.aload_n 0, 1) := dk_42 (dk_at dksX12_copies_0 13 rfl rfl)
theorem dX12_copies_14 : decode cX12_copies 14 = .ok (.getfield 116, 3) := dk_180 0 116 (dk_at dksX12_copies_0 14 rfl rfl)
theorem dX12_copies_17 : decode cX12_copies 17 = .ok (.iload_n 1, 1) := dk_27 (dk_at dksX12_copies_0 17 rfl rfl)
theorem dX12_copies_18 : decode cX12_copies 18 = .ok (.iaload, 1) := dk_46 (dk_at dksX12_copies_0 18 rfl rfl)
theorem dX12_copies_19 : decode cX12_copies 19 = .ok (.iastore, 1) := dk_79 (dk_at dksX12_copies_0 19 rfl rfl)
theorem dX12_copies_20 : decode cX12_copies 20 = .ok (.iinc 1 1, 3) := dk_132 1 1 (dk_at dksX12_copies_0 20 rfl rfl)
theorem dX12_copies_23 : decode cX12_copies 23 = .ok (.goto (-21), 3) := dk_167 255 235 (dk_at dksX12_copies_1 0 rfl rfl)
theorem dX12_copies_26 : decode cX12_copies 26 = .ok (.aload_n 0, 1) := dk_42 (dk_at dksX12_copies_1 3 rfl rfl)
theorem dX12_copies_27 : decode cX12_copies 27 = .ok (.aload_n 0, 1) := dk_42 (dk_at dksX12_copies_1 4 rfl rfl)
theorem dX12_copies_28 : decode cX12_copies 28 = .ok (.getfield 76, 3) := dk_180 0 76 (dk_at dksX12_copies_1 5 rfl rfl)
theorem dX12_copies_31 : decode cX12_copies 31 = .ok (.aload_n 0, 1) := dk_42 (dk_at dksX12_copies_1 8 rfl rfl)
theorem dX12_copies_32 : decode cX12_copies 32 = .ok (.getfield 239, 3) := dk_180 0 239 (dk_at dksX12_copies_1 9 rfl rfl)
theorem dX12_copies_35 : decode cX12_copies 35 = .ok (.iaload, 1) := dk_46 (dk_at dksX12_copies_1 12 rfl rfl)
theorem dX12_copies_36 : decode cX12_copies 36 = .ok (.putfield 327, 3) := dk_181 1 71 (dk_at dksX12_copies_1 13 rfl rfl)
theorem dX12_copies_39 : decode cX12_copies 39 = .ok (.return_, 1) := dk_177 (dk_at dksX12_copies_1 16 rfl rfl)
abbrev cX12_fieldAt : ByteArray := prog_22_method_50_code
def yX12_fieldAt : MethodName := ⟨RX12, "fieldAt", "(I)I"⟩
def dkwX12_fieldAt_0 : List UInt8 := [42, 180, 0, 49, 16, 48, 42, 180, 0, 239, 104, 27, 96, 46, 172]
abbrev dktX12_fieldAt_0 : List UInt8 := dkwX12_fieldAt_0 ++ []
theorem dksX12_fieldAt_0 : cX12_fieldAt.data.toList.drop 0 = dktX12_fieldAt_0 := by decide +kernel
theorem dX12_fieldAt_0 : decode cX12_fieldAt 0 = .ok (.aload_n 0, 1) := dk_42 (dk_at dksX12_fieldAt_0 0 rfl rfl)
theorem dX12_fieldAt_1 : decode cX12_fieldAt 1 = .ok (.getfield 49, 3) := dk_180 0 49 (dk_at dksX12_fieldAt_0 1 rfl rfl)
theorem dX12_fieldAt_4 : decode cX12_fieldAt 4 = .ok (.bipush 48, 2) := dk_16 48 (dk_at dksX12_fieldAt_0 4 rfl rfl)
theorem dX12_fieldAt_6 : decode cX12_fieldAt 6 = .ok (.aload_n 0, 1) := dk_42 (dk_at dksX12_fieldAt_0 6 rfl rfl)
theorem dX12_fieldAt_7 : decode cX12_fieldAt 7 = .ok (.getfield 239, 3) := dk_180 0 239 (dk_at dksX12_fieldAt_0 7 rfl rfl)
theorem dX12_fieldAt_10 : decode cX12_fieldAt 10 = .ok (.imul, 1) := dk_104 (dk_at dksX12_fieldAt_0 10 rfl rfl)
theorem dX12_fieldAt_11 : decode cX12_fieldAt 11 = .ok (.iload_n 1, 1) := dk_27 (dk_at dksX12_fieldAt_0 11 rfl rfl)
theorem dX12_fieldAt_12 : decode cX12_fieldAt 12 = .ok (.iadd, 1) := dk_96 (dk_at dksX12_fieldAt_0 12 rfl rfl)
theorem dX12_fieldAt_13 : decode cX12_fieldAt 13 = .ok (.iaload, 1) := dk_46 (dk_at dksX12_fieldAt_0 13 rfl rfl)
theorem dX12_fieldAt_14 : decode cX12_fieldAt 14 = .ok (.ireturn, 1) := dk_172 (dk_at dksX12_fieldAt_0 14 rfl rfl)
abbrev cX12_isLacking : ByteArray := prog_22_method_54_code
def yX12_isLacking : MethodName := ⟨RX12, "isLacking", "(I)Z"⟩
def dkwX12_isLacking_1 : List UInt8 := [167, 0, 4, 3, 172]
abbrev dktX12_isLacking_1 : List UInt8 := dkwX12_isLacking_1 ++ []
def dkwX12_isLacking_0 : List UInt8 := [42, 27, 182, 1, 91, 155, 0, 21, 42, 180, 0, 119, 27, 46, 42, 27, 182, 1, 94, 162, 0, 7, 4]
abbrev dktX12_isLacking_0 : List UInt8 := dkwX12_isLacking_0 ++ dktX12_isLacking_1
theorem dksX12_isLacking_0 : cX12_isLacking.data.toList.drop 0 = dktX12_isLacking_0 := by decide +kernel
theorem dksX12_isLacking_1 : cX12_isLacking.data.toList.drop 23 = dktX12_isLacking_1 := dk_seg dksX12_isLacking_0 23 rfl rfl
theorem dX12_isLacking_0 : decode cX12_isLacking 0 = .ok (.aload_n 0, 1) := dk_42 (dk_at dksX12_isLacking_0 0 rfl rfl)
theorem dX12_isLacking_1 : decode cX12_isLacking 1 = .ok (.iload_n 1, 1) := dk_27 (dk_at dksX12_isLacking_0 1 rfl rfl)
theorem dX12_isLacking_2 : decode cX12_isLacking 2 = .ok (.invokevirtual 347, 3) := dk_182 1 91 (dk_at dksX12_isLacking_0 2 rfl rfl)
theorem dX12_isLacking_5 : decode cX12_isLacking 5 = .ok (.ifCond .lt 21, 3) := dk_155 0 21 (dk_at dksX12_isLacking_0 5 rfl rfl)
theorem dX12_isLacking_8 : decode cX12_isLacking 8 = .ok (.aload_n 0, 1) := dk_42 (dk_at dksX12_isLacking_0 8 rfl rfl)
theorem dX12_isLacking_9 : decode cX12_isLacking 9 = .ok (.getfield 119, 3) := dk_180 0 119 (dk_at dksX12_isLacking_0 9 rfl rfl)
theorem dX12_isLacking_12 : decode cX12_isLacking 12 = .ok (.iload_n 1, 1) := dk_27 (dk_at dksX12_isLacking_0 12 rfl rfl)
theorem dX12_isLacking_13 : decode cX12_isLacking 13 = .ok (.iaload, 1) := dk_46 (dk_at dksX12_isLacking_0 13 rfl rfl)
theorem dX12_isLacking_14 : decode cX12_isLacking 14 = .ok (.aload_n 0, 1) := dk_42 (dk_at dksX12_isLacking_0 14 rfl rfl)
theorem dX12_isLacking_15 : decode cX12_isLacking 15 = .ok (.iload_n 1, 1) := dk_27 (dk_at dksX12_isLacking_0 15 rfl rfl)
theorem dX12_isLacking_16 : decode cX12_isLacking 16 = .ok (.invokevirtual 350, 3) := dk_182 1 94 (dk_at dksX12_isLacking_0 16 rfl rfl)
theorem dX12_isLacking_19 : decode cX12_isLacking 19 = .ok (.if_icmp .ge 7, 3) := dk_162 0 7 (dk_at dksX12_isLacking_0 19 rfl rfl)
theorem dX12_isLacking_22 : decode cX12_isLacking 22 = .ok (.iconst 1, 1) := dk_4 (dk_at dksX12_isLacking_0 22 rfl rfl)
theorem dX12_isLacking_23 : decode cX12_isLacking 23 = .ok (.goto 4, 3) := dk_167 0 4 (dk_at dksX12_isLacking_1 0 rfl rfl)
theorem dX12_isLacking_26 : decode cX12_isLacking 26 = .ok (.iconst 0, 1) := dk_3 (dk_at dksX12_isLacking_1 3 rfl rfl)
theorem dX12_isLacking_27 : decode cX12_isLacking 27 = .ok (.ireturn, 1) := dk_172 (dk_at dksX12_isLacking_1 4 rfl rfl)
abbrev cX12_needOf : ByteArray := prog_22_method_52_code
def yX12_needOf : MethodName := ⟨RX12, "needOf", "(I)I"⟩
def dkwX12_needOf_1 : List UInt8 := [27, 182, 1, 91, 96, 46, 172]
abbrev dktX12_needOf_1 : List UInt8 := dkwX12_needOf_1 ++ []
def dkwX12_needOf_0 : List UInt8 := [42, 27, 182, 1, 91, 156, 0, 7, 3, 167, 0, 21, 42, 180, 0, 55, 16, 6, 42, 180, 0, 239, 104, 42]
abbrev dktX12_needOf_0 : List UInt8 := dkwX12_needOf_0 ++ dktX12_needOf_1
theorem dksX12_needOf_0 : cX12_needOf.data.toList.drop 0 = dktX12_needOf_0 := by decide +kernel
theorem dksX12_needOf_1 : cX12_needOf.data.toList.drop 24 = dktX12_needOf_1 := dk_seg dksX12_needOf_0 24 rfl rfl
theorem dX12_needOf_0 : decode cX12_needOf 0 = .ok (.aload_n 0, 1) := dk_42 (dk_at dksX12_needOf_0 0 rfl rfl)
theorem dX12_needOf_1 : decode cX12_needOf 1 = .ok (.iload_n 1, 1) := dk_27 (dk_at dksX12_needOf_0 1 rfl rfl)
theorem dX12_needOf_2 : decode cX12_needOf 2 = .ok (.invokevirtual 347, 3) := dk_182 1 91 (dk_at dksX12_needOf_0 2 rfl rfl)
theorem dX12_needOf_5 : decode cX12_needOf 5 = .ok (.ifCond .ge 7, 3) := dk_156 0 7 (dk_at dksX12_needOf_0 5 rfl rfl)
theorem dX12_needOf_8 : decode cX12_needOf 8 = .ok (.iconst 0, 1) := dk_3 (dk_at dksX12_needOf_0 8 rfl rfl)
theorem dX12_needOf_9 : decode cX12_needOf 9 = .ok (.goto 21, 3) := dk_167 0 21 (dk_at dksX12_needOf_0 9 rfl rfl)
theorem dX12_needOf_12 : decode cX12_needOf 12 = .ok (.aload_n 0, 1) := dk_42 (dk_at dksX12_needOf_0 12 rfl rfl)
theorem dX12_needOf_13 : decode cX12_needOf 13 = .ok (.getfield 55, 3) := dk_180 0 55 (dk_at dksX12_needOf_0 13 rfl rfl)
theorem dX12_needOf_16 : decode cX12_needOf 16 = .ok (.bipush 6, 2) := dk_16 6 (dk_at dksX12_needOf_0 16 rfl rfl)
theorem dX12_needOf_18 : decode cX12_needOf 18 = .ok (.aload_n 0, 1) := dk_42 (dk_at dksX12_needOf_0 18 rfl rfl)
theorem dX12_needOf_19 : decode cX12_needOf 19 = .ok (.getfield 239, 3) := dk_180 0 239 (dk_at dksX12_needOf_0 19 rfl rfl)
theorem dX12_needOf_22 : decode cX12_needOf 22 = .ok (.imul, 1) := dk_104 (dk_at dksX12_needOf_0 22 rfl rfl)
theorem dX12_needOf_23 : decode cX12_needOf 23 = .ok (.aload_n 0, 1) := dk_42 (dk_at dksX12_needOf_0 23 rfl rfl)
theorem dX12_needOf_24 : decode cX12_needOf 24 = .ok (.iload_n 1, 1) := dk_27 (dk_at dksX12_needOf_1 0 rfl rfl)
theorem dX12_needOf_25 : decode cX12_needOf 25 = .ok (.invokevirtual 347, 3) := dk_182 1 91 (dk_at dksX12_needOf_1 1 rfl rfl)
theorem dX12_needOf_28 : decode cX12_needOf 28 = .ok (.iadd, 1) := dk_96 (dk_at dksX12_needOf_1 4 rfl rfl)
theorem dX12_needOf_29 : decode cX12_needOf 29 = .ok (.iaload, 1) := dk_46 (dk_at dksX12_needOf_1 5 rfl rfl)
theorem dX12_needOf_30 : decode cX12_needOf 30 = .ok (.ireturn, 1) := dk_172 (dk_at dksX12_needOf_1 6 rfl rfl)
abbrev cX12_isFlooded : ByteArray := prog_22_method_55_code
def yX12_isFlooded : MethodName := ⟨RX12, "isFlooded", "(I)Z"⟩
def dkwX12_isFlooded_1 : List UInt8 := [167, 0, 4, 3, 172]
abbrev dktX12_isFlooded_1 : List UInt8 := dkwX12_isFlooded_1 ++ []
def dkwX12_isFlooded_0 : List UInt8 := [42, 27, 182, 1, 91, 155, 0, 21, 42, 180, 0, 119, 27, 46, 42, 27, 182, 1, 97, 164, 0, 7, 4]
abbrev dktX12_isFlooded_0 : List UInt8 := dkwX12_isFlooded_0 ++ dktX12_isFlooded_1
theorem dksX12_isFlooded_0 : cX12_isFlooded.data.toList.drop 0 = dktX12_isFlooded_0 := by decide +kernel
theorem dksX12_isFlooded_1 : cX12_isFlooded.data.toList.drop 23 = dktX12_isFlooded_1 := dk_seg dksX12_isFlooded_0 23 rfl rfl
theorem dX12_isFlooded_0 : decode cX12_isFlooded 0 = .ok (.aload_n 0, 1) := dk_42 (dk_at dksX12_isFlooded_0 0 rfl rfl)
theorem dX12_isFlooded_1 : decode cX12_isFlooded 1 = .ok (.iload_n 1, 1) := dk_27 (dk_at dksX12_isFlooded_0 1 rfl rfl)
theorem dX12_isFlooded_2 : decode cX12_isFlooded 2 = .ok (.invokevirtual 347, 3) := dk_182 1 91 (dk_at dksX12_isFlooded_0 2 rfl rfl)
theorem dX12_isFlooded_5 : decode cX12_isFlooded 5 = .ok (.ifCond .lt 21, 3) := dk_155 0 21 (dk_at dksX12_isFlooded_0 5 rfl rfl)
theorem dX12_isFlooded_8 : decode cX12_isFlooded 8 = .ok (.aload_n 0, 1) := dk_42 (dk_at dksX12_isFlooded_0 8 rfl rfl)
theorem dX12_isFlooded_9 : decode cX12_isFlooded 9 = .ok (.getfield 119, 3) := dk_180 0 119 (dk_at dksX12_isFlooded_0 9 rfl rfl)
theorem dX12_isFlooded_12 : decode cX12_isFlooded 12 = .ok (.iload_n 1, 1) := dk_27 (dk_at dksX12_isFlooded_0 12 rfl rfl)
theorem dX12_isFlooded_13 : decode cX12_isFlooded 13 = .ok (.iaload, 1) := dk_46 (dk_at dksX12_isFlooded_0 13 rfl rfl)
theorem dX12_isFlooded_14 : decode cX12_isFlooded 14 = .ok (.aload_n 0, 1) := dk_42 (dk_at dksX12_isFlooded_0 14 rfl rfl)
theorem dX12_isFlooded_15 : decode cX12_isFlooded 15 = .ok (.iload_n 1, 1) := dk_27 (dk_at dksX12_isFlooded_0 15 rfl rfl)
theorem dX12_isFlooded_16 : decode cX12_isFlooded 16 = .ok (.invokevirtual 353, 3) := dk_182 1 97 (dk_at dksX12_isFlooded_0 16 rfl rfl)
theorem dX12_isFlooded_19 : decode cX12_isFlooded 19 = .ok (.if_icmp .le 7, 3) := dk_164 0 7 (dk_at dksX12_isFlooded_0 19 rfl rfl)
theorem dX12_isFlooded_22 : decode cX12_isFlooded 22 = .ok (.iconst 1, 1) := dk_4 (dk_at dksX12_isFlooded_0 22 rfl rfl)
theorem dX12_isFlooded_23 : decode cX12_isFlooded 23 = .ok (.goto 4, 3) := dk_167 0 4 (dk_at dksX12_isFlooded_1 0 rfl rfl)
theorem dX12_isFlooded_26 : decode cX12_isFlooded 26 = .ok (.iconst 0, 1) := dk_3 (dk_at dksX12_isFlooded_1 3 rfl rfl)
theorem dX12_isFlooded_27 : decode cX12_isFlooded 27 = .ok (.ireturn, 1) := dk_172 (dk_at dksX12_isFlooded_1 4 rfl rfl)
abbrev cX12_drownOf : ByteArray := prog_22_method_53_code
def yX12_drownOf : MethodName := ⟨RX12, "drownOf", "(I)I"⟩
def dkwX12_drownOf_1 : List UInt8 := [27, 182, 1, 91, 96, 46, 172]
abbrev dktX12_drownOf_1 : List UInt8 := dkwX12_drownOf_1 ++ []
def dkwX12_drownOf_0 : List UInt8 := [42, 27, 182, 1, 91, 156, 0, 7, 3, 167, 0, 21, 42, 180, 0, 58, 16, 6, 42, 180, 0, 239, 104, 42]
abbrev dktX12_drownOf_0 : List UInt8 := dkwX12_drownOf_0 ++ dktX12_drownOf_1
theorem dksX12_drownOf_0 : cX12_drownOf.data.toList.drop 0 = dktX12_drownOf_0 := by decide +kernel
theorem dksX12_drownOf_1 : cX12_drownOf.data.toList.drop 24 = dktX12_drownOf_1 := dk_seg dksX12_drownOf_0 24 rfl rfl
theorem dX12_drownOf_0 : decode cX12_drownOf 0 = .ok (.aload_n 0, 1) := dk_42 (dk_at dksX12_drownOf_0 0 rfl rfl)
theorem dX12_drownOf_1 : decode cX12_drownOf 1 = .ok (.iload_n 1, 1) := dk_27 (dk_at dksX12_drownOf_0 1 rfl rfl)
theorem dX12_drownOf_2 : decode cX12_drownOf 2 = .ok (.invokevirtual 347, 3) := dk_182 1 91 (dk_at dksX12_drownOf_0 2 rfl rfl)
theorem dX12_drownOf_5 : decode cX12_drownOf 5 = .ok (.ifCond .ge 7, 3) := dk_156 0 7 (dk_at dksX12_drownOf_0 5 rfl rfl)
theorem dX12_drownOf_8 : decode cX12_drownOf 8 = .ok (.iconst 0, 1) := dk_3 (dk_at dksX12_drownOf_0 8 rfl rfl)
theorem dX12_drownOf_9 : decode cX12_drownOf 9 = .ok (.goto 21, 3) := dk_167 0 21 (dk_at dksX12_drownOf_0 9 rfl rfl)
theorem dX12_drownOf_12 : decode cX12_drownOf 12 = .ok (.aload_n 0, 1) := dk_42 (dk_at dksX12_drownOf_0 12 rfl rfl)
theorem dX12_drownOf_13 : decode cX12_drownOf 13 = .ok (.getfield 58, 3) := dk_180 0 58 (dk_at dksX12_drownOf_0 13 rfl rfl)
theorem dX12_drownOf_16 : decode cX12_drownOf 16 = .ok (.bipush 6, 2) := dk_16 6 (dk_at dksX12_drownOf_0 16 rfl rfl)
theorem dX12_drownOf_18 : decode cX12_drownOf 18 = .ok (.aload_n 0, 1) := dk_42 (dk_at dksX12_drownOf_0 18 rfl rfl)
theorem dX12_drownOf_19 : decode cX12_drownOf 19 = .ok (.getfield 239, 3) := dk_180 0 239 (dk_at dksX12_drownOf_0 19 rfl rfl)
theorem dX12_drownOf_22 : decode cX12_drownOf 22 = .ok (.imul, 1) := dk_104 (dk_at dksX12_drownOf_0 22 rfl rfl)
theorem dX12_drownOf_23 : decode cX12_drownOf 23 = .ok (.aload_n 0, 1) := dk_42 (dk_at dksX12_drownOf_0 23 rfl rfl)
theorem dX12_drownOf_24 : decode cX12_drownOf 24 = .ok (.iload_n 1, 1) := dk_27 (dk_at dksX12_drownOf_1 0 rfl rfl)
theorem dX12_drownOf_25 : decode cX12_drownOf 25 = .ok (.invokevirtual 347, 3) := dk_182 1 91 (dk_at dksX12_drownOf_1 1 rfl rfl)
theorem dX12_drownOf_28 : decode cX12_drownOf 28 = .ok (.iadd, 1) := dk_96 (dk_at dksX12_drownOf_1 4 rfl rfl)
theorem dX12_drownOf_29 : decode cX12_drownOf 29 = .ok (.iaload, 1) := dk_46 (dk_at dksX12_drownOf_1 5 rfl rfl)
theorem dX12_drownOf_30 : decode cX12_drownOf 30 = .ok (.ireturn, 1) := dk_172 (dk_at dksX12_drownOf_1 6 rfl rfl)
abbrev cX12_field : ByteArray := prog_22_method_63_code
def yX12_field : MethodName := ⟨RX12, "field", "(II)I"⟩
def dkwX12_field_5 : List UInt8 := [27, 96, 46, 172, 42, 27, 182, 1, 134, 172, 2, 172]
abbrev dktX12_field_5 : List UInt8 := dkwX12_field_5 ++ []
def dkwX12_field_4 : List UInt8 := [132, 4, 1, 167, 255, 217, 29, 172, 42, 180, 0, 116, 16, 76, 27, 96, 46, 172, 42, 180, 0, 116, 16, 82]
abbrev dktX12_field_4 : List UInt8 := dkwX12_field_4 ++ dktX12_field_5
def dkwX12_field_3 : List UInt8 := [153, 0, 23, 42, 21, 4, 182, 1, 91, 27, 160, 0, 13, 29, 42, 180, 0, 116, 21, 4, 46, 96, 62]
abbrev dktX12_field_3 : List UInt8 := dkwX12_field_3 ++ dktX12_field_4
def dkwX12_field_2 : List UInt8 := [42, 27, 182, 1, 128, 172, 3, 62, 3, 54, 4, 21, 4, 16, 48, 162, 0, 38, 42, 21, 4, 182, 1, 110]
abbrev dktX12_field_2 : List UInt8 := dkwX12_field_2 ++ dktX12_field_3
def dkwX12_field_1 : List UInt8 := [170, 0, 0, 0, 114, 0, 0, 0, 0, 0, 0, 0, 4, 0, 0, 0, 33, 0, 0, 0, 39, 0, 0, 0, 88, 0, 0, 0, 98, 0, 0, 0, 108]
abbrev dktX12_field_1 : List UInt8 := dkwX12_field_1 ++ dktX12_field_2
def dkwX12_field_0 : List UInt8 := [42, 27, 182, 1, 131, 154, 0, 5, 2, 172, 28]
abbrev dktX12_field_0 : List UInt8 := dkwX12_field_0 ++ dktX12_field_1
theorem dksX12_field_0 : cX12_field.data.toList.drop 0 = dktX12_field_0 := by decide +kernel
theorem dksX12_field_1 : cX12_field.data.toList.drop 11 = dktX12_field_1 := dk_seg dksX12_field_0 11 rfl rfl
theorem dksX12_field_2 : cX12_field.data.toList.drop 44 = dktX12_field_2 := dk_seg dksX12_field_1 33 rfl rfl
theorem dksX12_field_3 : cX12_field.data.toList.drop 68 = dktX12_field_3 := dk_seg dksX12_field_2 24 rfl rfl
theorem dksX12_field_4 : cX12_field.data.toList.drop 91 = dktX12_field_4 := dk_seg dksX12_field_3 23 rfl rfl
theorem dksX12_field_5 : cX12_field.data.toList.drop 115 = dktX12_field_5 := dk_seg dksX12_field_4 24 rfl rfl
theorem dX12_field_0 : decode cX12_field 0 = .ok (.aload_n 0, 1) := dk_42 (dk_at dksX12_field_0 0 rfl rfl)
theorem dX12_field_1 : decode cX12_field 1 = .ok (.iload_n 1, 1) := dk_27 (dk_at dksX12_field_0 1 rfl rfl)
theorem dX12_field_2 : decode cX12_field 2 = .ok (.invokevirtual 387, 3) := dk_182 1 131 (dk_at dksX12_field_0 2 rfl rfl)
theorem dX12_field_5 : decode cX12_field 5 = .ok (.ifCond .ne 5, 3) := dk_154 0 5 (dk_at dksX12_field_0 5 rfl rfl)
theorem dX12_field_8 : decode cX12_field 8 = .ok (.iconst (-1), 1) := dk_2 (dk_at dksX12_field_0 8 rfl rfl)
theorem dX12_field_9 : decode cX12_field 9 = .ok (.ireturn, 1) := dk_172 (dk_at dksX12_field_0 9 rfl rfl)
theorem dX12_field_10 : decode cX12_field 10 = .ok (.iload_n 2, 1) := dk_28 (dk_at dksX12_field_0 10 rfl rfl)
theorem dX12_field_11 : decode cX12_field 11 = .ok (.tableswitch 114 0 4 #[33, 39, 88, 98, 108], 33) := by decide +kernel
theorem dX12_field_44 : decode cX12_field 44 = .ok (.aload_n 0, 1) := dk_42 (dk_at dksX12_field_2 0 rfl rfl)
theorem dX12_field_45 : decode cX12_field 45 = .ok (.iload_n 1, 1) := dk_27 (dk_at dksX12_field_2 1 rfl rfl)
theorem dX12_field_46 : decode cX12_field 46 = .ok (.invokevirtual 384, 3) := dk_182 1 128 (dk_at dksX12_field_2 2 rfl rfl)
theorem dX12_field_49 : decode cX12_field 49 = .ok (.ireturn, 1) := dk_172 (dk_at dksX12_field_2 5 rfl rfl)
theorem dX12_field_50 : decode cX12_field 50 = .ok (.iconst 0, 1) := dk_3 (dk_at dksX12_field_2 6 rfl rfl)
theorem dX12_field_51 : decode cX12_field 51 = .ok (.istore_n 3, 1) := dk_62 (dk_at dksX12_field_2 7 rfl rfl)
theorem dX12_field_52 : decode cX12_field 52 = .ok (.iconst 0, 1) := dk_3 (dk_at dksX12_field_2 8 rfl rfl)
theorem dX12_field_53 : decode cX12_field 53 = .ok (.istore 4, 2) := dk_54 4 (dk_at dksX12_field_2 9 rfl rfl)
theorem dX12_field_55 : decode cX12_field 55 = .ok (.iload 4, 2) := dk_21 4 (dk_at dksX12_field_2 11 rfl rfl)
theorem dX12_field_57 : decode cX12_field 57 = .ok (.bipush 48, 2) := dk_16 48 (dk_at dksX12_field_2 13 rfl rfl)
theorem dX12_field_59 : decode cX12_field 59 = .ok (.if_icmp .ge 38, 3) := dk_162 0 38 (dk_at dksX12_field_2 15 rfl rfl)
theorem dX12_field_62 : decode cX12_field 62 = .ok (.aload_n 0, 1) := dk_42 (dk_at dksX12_field_2 18 rfl rfl)
theorem dX12_field_63 : decode cX12_field 63 = .ok (.iload 4, 2) := dk_21 4 (dk_at dksX12_field_2 19 rfl rfl)
theorem dX12_field_65 : decode cX12_field 65 = .ok (.invokevirtual 366, 3) := dk_182 1 110 (dk_at dksX12_field_2 21 rfl rfl)
theorem dX12_field_68 : decode cX12_field 68 = .ok (.ifCond .eq 23, 3) := dk_153 0 23 (dk_at dksX12_field_3 0 rfl rfl)
theorem dX12_field_71 : decode cX12_field 71 = .ok (.aload_n 0, 1) := dk_42 (dk_at dksX12_field_3 3 rfl rfl)
theorem dX12_field_72 : decode cX12_field 72 = .ok (.iload 4, 2) := dk_21 4 (dk_at dksX12_field_3 4 rfl rfl)
theorem dX12_field_74 : decode cX12_field 74 = .ok (.invokevirtual 347, 3) := dk_182 1 91 (dk_at dksX12_field_3 6 rfl rfl)
theorem dX12_field_77 : decode cX12_field 77 = .ok (.iload_n 1, 1) := dk_27 (dk_at dksX12_field_3 9 rfl rfl)
theorem dX12_field_78 : decode cX12_field 78 = .ok (.if_icmp .ne 13, 3) := dk_160 0 13 (dk_at dksX12_field_3 10 rfl rfl)
theorem dX12_field_81 : decode cX12_field 81 = .ok (.iload_n 3, 1) := dk_29 (dk_at dksX12_field_3 13 rfl rfl)
theorem dX12_field_82 : decode cX12_field 82 = .ok (.aload_n 0, 1) := dk_42 (dk_at dksX12_field_3 14 rfl rfl)
theorem dX12_field_83 : decode cX12_field 83 = .ok (.getfield 116, 3) := dk_180 0 116 (dk_at dksX12_field_3 15 rfl rfl)
theorem dX12_field_86 : decode cX12_field 86 = .ok (.iload 4, 2) := dk_21 4 (dk_at dksX12_field_3 18 rfl rfl)
theorem dX12_field_88 : decode cX12_field 88 = .ok (.iaload, 1) := dk_46 (dk_at dksX12_field_3 20 rfl rfl)
theorem dX12_field_89 : decode cX12_field 89 = .ok (.iadd, 1) := dk_96 (dk_at dksX12_field_3 21 rfl rfl)
theorem dX12_field_90 : decode cX12_field 90 = .ok (.istore_n 3, 1) := dk_62 (dk_at dksX12_field_3 22 rfl rfl)
theorem dX12_field_91 : decode cX12_field 91 = .ok (.iinc 4 1, 3) := dk_132 4 1 (dk_at dksX12_field_4 0 rfl rfl)
theorem dX12_field_94 : decode cX12_field 94 = .ok (.goto (-39), 3) := dk_167 255 217 (dk_at dksX12_field_4 3 rfl rfl)
theorem dX12_field_97 : decode cX12_field 97 = .ok (.iload_n 3, 1) := dk_29 (dk_at dksX12_field_4 6 rfl rfl)
theorem dX12_field_98 : decode cX12_field 98 = .ok (.ireturn, 1) := dk_172 (dk_at dksX12_field_4 7 rfl rfl)
theorem dX12_field_99 : decode cX12_field 99 = .ok (.aload_n 0, 1) := dk_42 (dk_at dksX12_field_4 8 rfl rfl)
theorem dX12_field_100 : decode cX12_field 100 = .ok (.getfield 116, 3) := dk_180 0 116 (dk_at dksX12_field_4 9 rfl rfl)
theorem dX12_field_103 : decode cX12_field 103 = .ok (.bipush 76, 2) := dk_16 76 (dk_at dksX12_field_4 12 rfl rfl)
theorem dX12_field_105 : decode cX12_field 105 = .ok (.iload_n 1, 1) := dk_27 (dk_at dksX12_field_4 14 rfl rfl)
theorem dX12_field_106 : decode cX12_field 106 = .ok (.iadd, 1) := dk_96 (dk_at dksX12_field_4 15 rfl rfl)
theorem dX12_field_107 : decode cX12_field 107 = .ok (.iaload, 1) := dk_46 (dk_at dksX12_field_4 16 rfl rfl)
theorem dX12_field_108 : decode cX12_field 108 = .ok (.ireturn, 1) := dk_172 (dk_at dksX12_field_4 17 rfl rfl)
theorem dX12_field_109 : decode cX12_field 109 = .ok (.aload_n 0, 1) := dk_42 (dk_at dksX12_field_4 18 rfl rfl)
theorem dX12_field_110 : decode cX12_field 110 = .ok (.getfield 116, 3) := dk_180 0 116 (dk_at dksX12_field_4 19 rfl rfl)
theorem dX12_field_113 : decode cX12_field 113 = .ok (.bipush 82, 2) := dk_16 82 (dk_at dksX12_field_4 22 rfl rfl)
theorem dX12_field_115 : decode cX12_field 115 = .ok (.iload_n 1, 1) := dk_27 (dk_at dksX12_field_5 0 rfl rfl)
theorem dX12_field_116 : decode cX12_field 116 = .ok (.iadd, 1) := dk_96 (dk_at dksX12_field_5 1 rfl rfl)
theorem dX12_field_117 : decode cX12_field 117 = .ok (.iaload, 1) := dk_46 (dk_at dksX12_field_5 2 rfl rfl)
theorem dX12_field_118 : decode cX12_field 118 = .ok (.ireturn, 1) := dk_172 (dk_at dksX12_field_5 3 rfl rfl)
theorem dX12_field_119 : decode cX12_field 119 = .ok (.aload_n 0, 1) := dk_42 (dk_at dksX12_field_5 4 rfl rfl)
theorem dX12_field_120 : decode cX12_field 120 = .ok (.iload_n 1, 1) := dk_27 (dk_at dksX12_field_5 5 rfl rfl)
theorem dX12_field_121 : decode cX12_field 121 = .ok (.invokevirtual 390, 3) := dk_182 1 134 (dk_at dksX12_field_5 6 rfl rfl)
theorem dX12_field_124 : decode cX12_field 124 = .ok (.ireturn, 1) := dk_172 (dk_at dksX12_field_5 9 rfl rfl)
theorem dX12_field_125 : decode cX12_field 125 = .ok (.iconst (-1), 1) := dk_2 (dk_at dksX12_field_5 10 rfl rfl)
theorem dX12_field_126 : decode cX12_field 126 = .ok (.ireturn, 1) := dk_172 (dk_at dksX12_field_5 11 rfl rfl)
abbrev cX12_isField : ByteArray := prog_22_method_40_code
def yX12_isField : MethodName := ⟨RX12, "isField", "(I)Z"⟩
def dkwX12_isField_0 : List UInt8 := [27, 3, 42, 180, 0, 52, 42, 180, 0, 239, 46, 4, 100, 184, 1, 67, 172]
abbrev dktX12_isField_0 : List UInt8 := dkwX12_isField_0 ++ []
theorem dksX12_isField_0 : cX12_isField.data.toList.drop 0 = dktX12_isField_0 := by decide +kernel
theorem dX12_isField_0 : decode cX12_isField 0 = .ok (.iload_n 1, 1) := dk_27 (dk_at dksX12_isField_0 0 rfl rfl)
theorem dX12_isField_1 : decode cX12_isField 1 = .ok (.iconst 0, 1) := dk_3 (dk_at dksX12_isField_0 1 rfl rfl)
theorem dX12_isField_2 : decode cX12_isField 2 = .ok (.aload_n 0, 1) := dk_42 (dk_at dksX12_isField_0 2 rfl rfl)
theorem dX12_isField_3 : decode cX12_isField 3 = .ok (.getfield 52, 3) := dk_180 0 52 (dk_at dksX12_isField_0 3 rfl rfl)
theorem dX12_isField_6 : decode cX12_isField 6 = .ok (.aload_n 0, 1) := dk_42 (dk_at dksX12_isField_0 6 rfl rfl)
theorem dX12_isField_7 : decode cX12_isField 7 = .ok (.getfield 239, 3) := dk_180 0 239 (dk_at dksX12_isField_0 7 rfl rfl)
theorem dX12_isField_10 : decode cX12_isField 10 = .ok (.iaload, 1) := dk_46 (dk_at dksX12_isField_0 10 rfl rfl)
theorem dX12_isField_11 : decode cX12_isField 11 = .ok (.iconst 1, 1) := dk_4 (dk_at dksX12_isField_0 11 rfl rfl)
theorem dX12_isField_12 : decode cX12_isField 12 = .ok (.isub, 1) := dk_100 (dk_at dksX12_isField_0 12 rfl rfl)
theorem dX12_isField_13 : decode cX12_isField 13 = .ok (.invokestatic 323, 3) := dk_184 1 67 (dk_at dksX12_isField_0 13 rfl rfl)
theorem dX12_isField_16 : decode cX12_isField 16 = .ok (.ireturn, 1) := dk_172 (dk_at dksX12_isField_0 16 rfl rfl)
abbrev cX12_cellsOf : ByteArray := prog_22_method_61_code
def yX12_cellsOf : MethodName := ⟨RX12, "cellsOf", "(I)I"⟩
def dkwX12_cellsOf_1 : List UInt8 := [160, 0, 6, 132, 2, 1, 132, 3, 1, 167, 255, 227, 28, 172]
abbrev dktX12_cellsOf_1 : List UInt8 := dkwX12_cellsOf_1 ++ []
def dkwX12_cellsOf_0 : List UInt8 := [3, 61, 3, 62, 29, 16, 48, 162, 0, 29, 42, 29, 182, 1, 110, 153, 0, 15, 42, 29, 182, 1, 91, 27]
abbrev dktX12_cellsOf_0 : List UInt8 := dkwX12_cellsOf_0 ++ dktX12_cellsOf_1
theorem dksX12_cellsOf_0 : cX12_cellsOf.data.toList.drop 0 = dktX12_cellsOf_0 := by decide +kernel
theorem dksX12_cellsOf_1 : cX12_cellsOf.data.toList.drop 24 = dktX12_cellsOf_1 := dk_seg dksX12_cellsOf_0 24 rfl rfl
theorem dX12_cellsOf_0 : decode cX12_cellsOf 0 = .ok (.iconst 0, 1) := dk_3 (dk_at dksX12_cellsOf_0 0 rfl rfl)
theorem dX12_cellsOf_1 : decode cX12_cellsOf 1 = .ok (.istore_n 2, 1) := dk_61 (dk_at dksX12_cellsOf_0 1 rfl rfl)
theorem dX12_cellsOf_2 : decode cX12_cellsOf 2 = .ok (.iconst 0, 1) := dk_3 (dk_at dksX12_cellsOf_0 2 rfl rfl)
theorem dX12_cellsOf_3 : decode cX12_cellsOf 3 = .ok (.istore_n 3, 1) := dk_62 (dk_at dksX12_cellsOf_0 3 rfl rfl)
theorem dX12_cellsOf_4 : decode cX12_cellsOf 4 = .ok (.iload_n 3, 1) := dk_29 (dk_at dksX12_cellsOf_0 4 rfl rfl)
theorem dX12_cellsOf_5 : decode cX12_cellsOf 5 = .ok (.bipush 48, 2) := dk_16 48 (dk_at dksX12_cellsOf_0 5 rfl rfl)
theorem dX12_cellsOf_7 : decode cX12_cellsOf 7 = .ok (.if_icmp .ge 29, 3) := dk_162 0 29 (dk_at dksX12_cellsOf_0 7 rfl rfl)
theorem dX12_cellsOf_10 : decode cX12_cellsOf 10 = .ok (.aload_n 0, 1) := dk_42 (dk_at dksX12_cellsOf_0 10 rfl rfl)
theorem dX12_cellsOf_11 : decode cX12_cellsOf 11 = .ok (.iload_n 3, 1) := dk_29 (dk_at dksX12_cellsOf_0 11 rfl rfl)
theorem dX12_cellsOf_12 : decode cX12_cellsOf 12 = .ok (.invokevirtual 366, 3) := dk_182 1 110 (dk_at dksX12_cellsOf_0 12 rfl rfl)
theorem dX12_cellsOf_15 : decode cX12_cellsOf 15 = .ok (.ifCond .eq 15, 3) := dk_153 0 15 (dk_at dksX12_cellsOf_0 15 rfl rfl)
theorem dX12_cellsOf_18 : decode cX12_cellsOf 18 = .ok (.aload_n 0, 1) := dk_42 (dk_at dksX12_cellsOf_0 18 rfl rfl)
theorem dX12_cellsOf_19 : decode cX12_cellsOf 19 = .ok (.iload_n 3, 1) := dk_29 (dk_at dksX12_cellsOf_0 19 rfl rfl)
theorem dX12_cellsOf_20 : decode cX12_cellsOf 20 = .ok (.invokevirtual 347, 3) := dk_182 1 91 (dk_at dksX12_cellsOf_0 20 rfl rfl)
theorem dX12_cellsOf_23 : decode cX12_cellsOf 23 = .ok (.iload_n 1, 1) := dk_27 (dk_at dksX12_cellsOf_0 23 rfl rfl)
theorem dX12_cellsOf_24 : decode cX12_cellsOf 24 = .ok (.if_icmp .ne 6, 3) := dk_160 0 6 (dk_at dksX12_cellsOf_1 0 rfl rfl)
theorem dX12_cellsOf_27 : decode cX12_cellsOf 27 = .ok (.iinc 2 1, 3) := dk_132 2 1 (dk_at dksX12_cellsOf_1 3 rfl rfl)
theorem dX12_cellsOf_30 : decode cX12_cellsOf 30 = .ok (.iinc 3 1, 3) := dk_132 3 1 (dk_at dksX12_cellsOf_1 6 rfl rfl)
theorem dX12_cellsOf_33 : decode cX12_cellsOf 33 = .ok (.goto (-29), 3) := dk_167 255 227 (dk_at dksX12_cellsOf_1 9 rfl rfl)
theorem dX12_cellsOf_36 : decode cX12_cellsOf 36 = .ok (.iload_n 2, 1) := dk_28 (dk_at dksX12_cellsOf_1 12 rfl rfl)
theorem dX12_cellsOf_37 : decode cX12_cellsOf 37 = .ok (.ireturn, 1) := dk_172 (dk_at dksX12_cellsOf_1 13 rfl rfl)
abbrev cX12_isLand : ByteArray := prog_22_method_51_code
def yX12_isLand : MethodName := ⟨RX12, "isLand", "(I)Z"⟩
def dkwX12_isLand_0 : List UInt8 := [42, 27, 16, 8, 112, 27, 16, 8, 108, 182, 1, 87, 172]
abbrev dktX12_isLand_0 : List UInt8 := dkwX12_isLand_0 ++ []
theorem dksX12_isLand_0 : cX12_isLand.data.toList.drop 0 = dktX12_isLand_0 := by decide +kernel
theorem dX12_isLand_0 : decode cX12_isLand 0 = .ok (.aload_n 0, 1) := dk_42 (dk_at dksX12_isLand_0 0 rfl rfl)
theorem dX12_isLand_1 : decode cX12_isLand 1 = .ok (.iload_n 1, 1) := dk_27 (dk_at dksX12_isLand_0 1 rfl rfl)
theorem dX12_isLand_2 : decode cX12_isLand 2 = .ok (.bipush 8, 2) := dk_16 8 (dk_at dksX12_isLand_0 2 rfl rfl)
theorem dX12_isLand_4 : decode cX12_isLand 4 = .ok (.irem, 1) := dk_112 (dk_at dksX12_isLand_0 4 rfl rfl)
theorem dX12_isLand_5 : decode cX12_isLand 5 = .ok (.iload_n 1, 1) := dk_27 (dk_at dksX12_isLand_0 5 rfl rfl)
theorem dX12_isLand_6 : decode cX12_isLand 6 = .ok (.bipush 8, 2) := dk_16 8 (dk_at dksX12_isLand_0 6 rfl rfl)
theorem dX12_isLand_8 : decode cX12_isLand 8 = .ok (.idiv, 1) := dk_108 (dk_at dksX12_isLand_0 8 rfl rfl)
theorem dX12_isLand_9 : decode cX12_isLand 9 = .ok (.invokevirtual 343, 3) := dk_182 1 87 (dk_at dksX12_isLand_0 9 rfl rfl)
theorem dX12_isLand_12 : decode cX12_isLand 12 = .ok (.ireturn, 1) := dk_172 (dk_at dksX12_isLand_0 12 rfl rfl)
abbrev cX12_needAll : ByteArray := prog_22_method_62_code
def yX12_needAll : MethodName := ⟨RX12, "needAll", "(I)I"⟩
def dkwX12_needAll_0 : List UInt8 := [42, 27, 182, 1, 128, 42, 180, 0, 55, 16, 6, 42, 180, 0, 239, 104, 27, 96, 46, 104, 172]
abbrev dktX12_needAll_0 : List UInt8 := dkwX12_needAll_0 ++ []
theorem dksX12_needAll_0 : cX12_needAll.data.toList.drop 0 = dktX12_needAll_0 := by decide +kernel
theorem dX12_needAll_0 : decode cX12_needAll 0 = .ok (.aload_n 0, 1) := dk_42 (dk_at dksX12_needAll_0 0 rfl rfl)
theorem dX12_needAll_1 : decode cX12_needAll 1 = .ok (.iload_n 1, 1) := dk_27 (dk_at dksX12_needAll_0 1 rfl rfl)
theorem dX12_needAll_2 : decode cX12_needAll 2 = .ok (.invokevirtual 384, 3) := dk_182 1 128 (dk_at dksX12_needAll_0 2 rfl rfl)
theorem dX12_needAll_5 : decode cX12_needAll 5 = .ok (.aload_n 0, 1) := dk_42 (dk_at dksX12_needAll_0 5 rfl rfl)
theorem dX12_needAll_6 : decode cX12_needAll 6 = .ok (.getfield 55, 3) := dk_180 0 55 (dk_at dksX12_needAll_0 6 rfl rfl)
theorem dX12_needAll_9 : decode cX12_needAll 9 = .ok (.bipush 6, 2) := dk_16 6 (dk_at dksX12_needAll_0 9 rfl rfl)
theorem dX12_needAll_11 : decode cX12_needAll 11 = .ok (.aload_n 0, 1) := dk_42 (dk_at dksX12_needAll_0 11 rfl rfl)
theorem dX12_needAll_12 : decode cX12_needAll 12 = .ok (.getfield 239, 3) := dk_180 0 239 (dk_at dksX12_needAll_0 12 rfl rfl)
theorem dX12_needAll_15 : decode cX12_needAll 15 = .ok (.imul, 1) := dk_104 (dk_at dksX12_needAll_0 15 rfl rfl)
theorem dX12_needAll_16 : decode cX12_needAll 16 = .ok (.iload_n 1, 1) := dk_27 (dk_at dksX12_needAll_0 16 rfl rfl)
theorem dX12_needAll_17 : decode cX12_needAll 17 = .ok (.iadd, 1) := dk_96 (dk_at dksX12_needAll_0 17 rfl rfl)
theorem dX12_needAll_18 : decode cX12_needAll 18 = .ok (.iaload, 1) := dk_46 (dk_at dksX12_needAll_0 18 rfl rfl)
theorem dX12_needAll_19 : decode cX12_needAll 19 = .ok (.imul, 1) := dk_104 (dk_at dksX12_needAll_0 19 rfl rfl)
theorem dX12_needAll_20 : decode cX12_needAll 20 = .ok (.ireturn, 1) := dk_172 (dk_at dksX12_needAll_0 20 rfl rfl)
abbrev cX12_loom : ByteArray := prog_22_method_64_code
def yX12_loom : MethodName := ⟨RX12, "loom", "(II)I"⟩
def dkwX12_loom_4 : List UInt8 := [28, 104, 96, 27, 96, 46, 172, 42, 180, 0, 116, 16, 44, 7, 28, 104, 96, 27, 96, 46, 172, 2, 172]
abbrev dktX12_loom_4 : List UInt8 := dkwX12_loom_4 ++ []
def dkwX12_loom_3 : List UInt8 := [42, 180, 0, 116, 16, 52, 27, 96, 46, 154, 0, 8, 16, 254, 167, 0, 16, 42, 180, 0, 116, 16, 44, 7]
abbrev dktX12_loom_3 : List UInt8 := dkwX12_loom_3 ++ dktX12_loom_4
def dkwX12_loom_2 : List UInt8 := [42, 180, 0, 64, 7, 42, 180, 0, 239, 104, 27, 96, 46, 172, 42, 180, 0, 116, 16, 48, 27, 96, 46, 172]
abbrev dktX12_loom_2 : List UInt8 := dkwX12_loom_2 ++ dktX12_loom_3
def dkwX12_loom_1 : List UInt8 := [170, 0, 0, 0, 114, 0, 0, 0, 0, 0, 0, 0, 7, 0, 0, 0, 45, 0, 0, 0, 59, 0, 0, 0, 69, 0, 0, 0, 69, 0, 0, 0, 69, 0, 0, 0, 69, 0, 0, 0, 100, 0, 0, 0, 100]
abbrev dktX12_loom_1 : List UInt8 := dkwX12_loom_1 ++ dktX12_loom_2
def dkwX12_loom_0 : List UInt8 := [42, 27, 182, 1, 137, 154, 0, 5, 2, 172, 28]
abbrev dktX12_loom_0 : List UInt8 := dkwX12_loom_0 ++ dktX12_loom_1
theorem dksX12_loom_0 : cX12_loom.data.toList.drop 0 = dktX12_loom_0 := by decide +kernel
theorem dksX12_loom_1 : cX12_loom.data.toList.drop 11 = dktX12_loom_1 := dk_seg dksX12_loom_0 11 rfl rfl
theorem dksX12_loom_2 : cX12_loom.data.toList.drop 56 = dktX12_loom_2 := dk_seg dksX12_loom_1 45 rfl rfl
theorem dksX12_loom_3 : cX12_loom.data.toList.drop 80 = dktX12_loom_3 := dk_seg dksX12_loom_2 24 rfl rfl
theorem dksX12_loom_4 : cX12_loom.data.toList.drop 104 = dktX12_loom_4 := dk_seg dksX12_loom_3 24 rfl rfl
theorem dX12_loom_0 : decode cX12_loom 0 = .ok (.aload_n 0, 1) := dk_42 (dk_at dksX12_loom_0 0 rfl rfl)
theorem dX12_loom_1 : decode cX12_loom 1 = .ok (.iload_n 1, 1) := dk_27 (dk_at dksX12_loom_0 1 rfl rfl)
theorem dX12_loom_2 : decode cX12_loom 2 = .ok (.invokevirtual 393, 3) := dk_182 1 137 (dk_at dksX12_loom_0 2 rfl rfl)
theorem dX12_loom_5 : decode cX12_loom 5 = .ok (.ifCond .ne 5, 3) := dk_154 0 5 (dk_at dksX12_loom_0 5 rfl rfl)
theorem dX12_loom_8 : decode cX12_loom 8 = .ok (.iconst (-1), 1) := dk_2 (dk_at dksX12_loom_0 8 rfl rfl)
theorem dX12_loom_9 : decode cX12_loom 9 = .ok (.ireturn, 1) := dk_172 (dk_at dksX12_loom_0 9 rfl rfl)
theorem dX12_loom_10 : decode cX12_loom 10 = .ok (.iload_n 2, 1) := dk_28 (dk_at dksX12_loom_0 10 rfl rfl)
theorem dX12_loom_11 : decode cX12_loom 11 = .ok (.tableswitch 114 0 7 #[45, 59, 69, 69, 69, 69, 100, 100], 45) := by decide +kernel
theorem dX12_loom_56 : decode cX12_loom 56 = .ok (.aload_n 0, 1) := dk_42 (dk_at dksX12_loom_2 0 rfl rfl)
theorem dX12_loom_57 : decode cX12_loom 57 = .ok (.getfield 64, 3) := dk_180 0 64 (dk_at dksX12_loom_2 1 rfl rfl)
theorem dX12_loom_60 : decode cX12_loom 60 = .ok (.iconst 4, 1) := dk_7 (dk_at dksX12_loom_2 4 rfl rfl)
theorem dX12_loom_61 : decode cX12_loom 61 = .ok (.aload_n 0, 1) := dk_42 (dk_at dksX12_loom_2 5 rfl rfl)
theorem dX12_loom_62 : decode cX12_loom 62 = .ok (.getfield 239, 3) := dk_180 0 239 (dk_at dksX12_loom_2 6 rfl rfl)
theorem dX12_loom_65 : decode cX12_loom 65 = .ok (.imul, 1) := dk_104 (dk_at dksX12_loom_2 9 rfl rfl)
theorem dX12_loom_66 : decode cX12_loom 66 = .ok (.iload_n 1, 1) := dk_27 (dk_at dksX12_loom_2 10 rfl rfl)
theorem dX12_loom_67 : decode cX12_loom 67 = .ok (.iadd, 1) := dk_96 (dk_at dksX12_loom_2 11 rfl rfl)
theorem dX12_loom_68 : decode cX12_loom 68 = .ok (.iaload, 1) := dk_46 (dk_at dksX12_loom_2 12 rfl rfl)
theorem dX12_loom_69 : decode cX12_loom 69 = .ok (.ireturn, 1) := dk_172 (dk_at dksX12_loom_2 13 rfl rfl)
theorem dX12_loom_70 : decode cX12_loom 70 = .ok (.aload_n 0, 1) := dk_42 (dk_at dksX12_loom_2 14 rfl rfl)
theorem dX12_loom_71 : decode cX12_loom 71 = .ok (.getfield 116, 3) := dk_180 0 116 (dk_at dksX12_loom_2 15 rfl rfl)
theorem dX12_loom_74 : decode cX12_loom 74 = .ok (.bipush 48, 2) := dk_16 48 (dk_at dksX12_loom_2 18 rfl rfl)
theorem dX12_loom_76 : decode cX12_loom 76 = .ok (.iload_n 1, 1) := dk_27 (dk_at dksX12_loom_2 20 rfl rfl)
theorem dX12_loom_77 : decode cX12_loom 77 = .ok (.iadd, 1) := dk_96 (dk_at dksX12_loom_2 21 rfl rfl)
theorem dX12_loom_78 : decode cX12_loom 78 = .ok (.iaload, 1) := dk_46 (dk_at dksX12_loom_2 22 rfl rfl)
theorem dX12_loom_79 : decode cX12_loom 79 = .ok (.ireturn, 1) := dk_172 (dk_at dksX12_loom_2 23 rfl rfl)
theorem dX12_loom_80 : decode cX12_loom 80 = .ok (.aload_n 0, 1) := dk_42 (dk_at dksX12_loom_3 0 rfl rfl)
theorem dX12_loom_81 : decode cX12_loom 81 = .ok (.getfield 116, 3) := dk_180 0 116 (dk_at dksX12_loom_3 1 rfl rfl)
theorem dX12_loom_84 : decode cX12_loom 84 = .ok (.bipush 52, 2) := dk_16 52 (dk_at dksX12_loom_3 4 rfl rfl)
theorem dX12_loom_86 : decode cX12_loom 86 = .ok (.iload_n 1, 1) := dk_27 (dk_at dksX12_loom_3 6 rfl rfl)
theorem dX12_loom_87 : decode cX12_loom 87 = .ok (.iadd, 1) := dk_96 (dk_at dksX12_loom_3 7 rfl rfl)
theorem dX12_loom_88 : decode cX12_loom 88 = .ok (.iaload, 1) := dk_46 (dk_at dksX12_loom_3 8 rfl rfl)
theorem dX12_loom_89 : decode cX12_loom 89 = .ok (.ifCond .ne 8, 3) := dk_154 0 8 (dk_at dksX12_loom_3 9 rfl rfl)
theorem dX12_loom_92 : decode cX12_loom 92 = .ok (.bipush (-2), 2) := dk_16 254 (dk_at dksX12_loom_3 12 rfl rfl)
theorem dX12_loom_94 : decode cX12_loom 94 = .ok (.goto 16, 3) := dk_167 0 16 (dk_at dksX12_loom_3 14 rfl rfl)
theorem dX12_loom_97 : decode cX12_loom 97 = .ok (.aload_n 0, 1) := dk_42 (dk_at dksX12_loom_3 17 rfl rfl)
theorem dX12_loom_98 : decode cX12_loom 98 = .ok (.getfield 116, 3) := dk_180 0 116 (dk_at dksX12_loom_3 18 rfl rfl)
theorem dX12_loom_101 : decode cX12_loom 101 = .ok (.bipush 44, 2) := dk_16 44 (dk_at dksX12_loom_3 21 rfl rfl)
theorem dX12_loom_103 : decode cX12_loom 103 = .ok (.iconst 4, 1) := dk_7 (dk_at dksX12_loom_3 23 rfl rfl)
theorem dX12_loom_104 : decode cX12_loom 104 = .ok (.iload_n 2, 1) := dk_28 (dk_at dksX12_loom_4 0 rfl rfl)
theorem dX12_loom_105 : decode cX12_loom 105 = .ok (.imul, 1) := dk_104 (dk_at dksX12_loom_4 1 rfl rfl)
theorem dX12_loom_106 : decode cX12_loom 106 = .ok (.iadd, 1) := dk_96 (dk_at dksX12_loom_4 2 rfl rfl)
theorem dX12_loom_107 : decode cX12_loom 107 = .ok (.iload_n 1, 1) := dk_27 (dk_at dksX12_loom_4 3 rfl rfl)
theorem dX12_loom_108 : decode cX12_loom 108 = .ok (.iadd, 1) := dk_96 (dk_at dksX12_loom_4 4 rfl rfl)
theorem dX12_loom_109 : decode cX12_loom 109 = .ok (.iaload, 1) := dk_46 (dk_at dksX12_loom_4 5 rfl rfl)
theorem dX12_loom_110 : decode cX12_loom 110 = .ok (.ireturn, 1) := dk_172 (dk_at dksX12_loom_4 6 rfl rfl)
theorem dX12_loom_111 : decode cX12_loom 111 = .ok (.aload_n 0, 1) := dk_42 (dk_at dksX12_loom_4 7 rfl rfl)
theorem dX12_loom_112 : decode cX12_loom 112 = .ok (.getfield 116, 3) := dk_180 0 116 (dk_at dksX12_loom_4 8 rfl rfl)
theorem dX12_loom_115 : decode cX12_loom 115 = .ok (.bipush 44, 2) := dk_16 44 (dk_at dksX12_loom_4 11 rfl rfl)
theorem dX12_loom_117 : decode cX12_loom 117 = .ok (.iconst 4, 1) := dk_7 (dk_at dksX12_loom_4 13 rfl rfl)
theorem dX12_loom_118 : decode cX12_loom 118 = .ok (.iload_n 2, 1) := dk_28 (dk_at dksX12_loom_4 14 rfl rfl)
theorem dX12_loom_119 : decode cX12_loom 119 = .ok (.imul, 1) := dk_104 (dk_at dksX12_loom_4 15 rfl rfl)
theorem dX12_loom_120 : decode cX12_loom 120 = .ok (.iadd, 1) := dk_96 (dk_at dksX12_loom_4 16 rfl rfl)
theorem dX12_loom_121 : decode cX12_loom 121 = .ok (.iload_n 1, 1) := dk_27 (dk_at dksX12_loom_4 17 rfl rfl)
theorem dX12_loom_122 : decode cX12_loom 122 = .ok (.iadd, 1) := dk_96 (dk_at dksX12_loom_4 18 rfl rfl)
theorem dX12_loom_123 : decode cX12_loom 123 = .ok (.iaload, 1) := dk_46 (dk_at dksX12_loom_4 19 rfl rfl)
theorem dX12_loom_124 : decode cX12_loom 124 = .ok (.ireturn, 1) := dk_172 (dk_at dksX12_loom_4 20 rfl rfl)
theorem dX12_loom_125 : decode cX12_loom 125 = .ok (.iconst (-1), 1) := dk_2 (dk_at dksX12_loom_4 21 rfl rfl)
theorem dX12_loom_126 : decode cX12_loom 126 = .ok (.ireturn, 1) := dk_172 (dk_at dksX12_loom_4 22 rfl rfl)
abbrev cX12_isLoom : ByteArray := prog_22_method_41_code
def yX12_isLoom : MethodName := ⟨RX12, "isLoom", "(I)Z"⟩
def dkwX12_isLoom_0 : List UInt8 := [27, 3, 42, 180, 0, 61, 42, 180, 0, 239, 46, 4, 100, 184, 1, 67, 172]
abbrev dktX12_isLoom_0 : List UInt8 := dkwX12_isLoom_0 ++ []
theorem dksX12_isLoom_0 : cX12_isLoom.data.toList.drop 0 = dktX12_isLoom_0 := by decide +kernel
theorem dX12_isLoom_0 : decode cX12_isLoom 0 = .ok (.iload_n 1, 1) := dk_27 (dk_at dksX12_isLoom_0 0 rfl rfl)
theorem dX12_isLoom_1 : decode cX12_isLoom 1 = .ok (.iconst 0, 1) := dk_3 (dk_at dksX12_isLoom_0 1 rfl rfl)
theorem dX12_isLoom_2 : decode cX12_isLoom 2 = .ok (.aload_n 0, 1) := dk_42 (dk_at dksX12_isLoom_0 2 rfl rfl)
theorem dX12_isLoom_3 : decode cX12_isLoom 3 = .ok (.getfield 61, 3) := dk_180 0 61 (dk_at dksX12_isLoom_0 3 rfl rfl)
theorem dX12_isLoom_6 : decode cX12_isLoom 6 = .ok (.aload_n 0, 1) := dk_42 (dk_at dksX12_isLoom_0 6 rfl rfl)
theorem dX12_isLoom_7 : decode cX12_isLoom 7 = .ok (.getfield 239, 3) := dk_180 0 239 (dk_at dksX12_isLoom_0 7 rfl rfl)
theorem dX12_isLoom_10 : decode cX12_isLoom 10 = .ok (.iaload, 1) := dk_46 (dk_at dksX12_isLoom_0 10 rfl rfl)
theorem dX12_isLoom_11 : decode cX12_isLoom 11 = .ok (.iconst 1, 1) := dk_4 (dk_at dksX12_isLoom_0 11 rfl rfl)
theorem dX12_isLoom_12 : decode cX12_isLoom 12 = .ok (.isub, 1) := dk_100 (dk_at dksX12_isLoom_0 12 rfl rfl)
theorem dX12_isLoom_13 : decode cX12_isLoom 13 = .ok (.invokestatic 323, 3) := dk_184 1 67 (dk_at dksX12_isLoom_0 13 rfl rfl)
theorem dX12_isLoom_16 : decode cX12_isLoom 16 = .ok (.ireturn, 1) := dk_172 (dk_at dksX12_isLoom_0 16 rfl rfl)
abbrev cX12_thread : ByteArray := prog_22_method_65_code
def yX12_thread : MethodName := ⟨RX12, "thread", "(III)I"⟩
def dkwX12_thread_2 : List UInt8 := [182, 1, 100, 172]
abbrev dktX12_thread_2 : List UInt8 := dkwX12_thread_2 ++ []
def dkwX12_thread_1 : List UInt8 := [100, 184, 1, 67, 153, 0, 14, 29, 3, 17, 39, 15, 184, 1, 67, 154, 0, 5, 2, 172, 42, 27, 28, 29]
abbrev dktX12_thread_1 : List UInt8 := dkwX12_thread_1 ++ dktX12_thread_2
def dkwX12_thread_0 : List UInt8 := [42, 27, 182, 1, 137, 153, 0, 37, 28, 3, 42, 180, 0, 64, 7, 42, 180, 0, 239, 104, 27, 96, 46, 4]
abbrev dktX12_thread_0 : List UInt8 := dkwX12_thread_0 ++ dktX12_thread_1
theorem dksX12_thread_0 : cX12_thread.data.toList.drop 0 = dktX12_thread_0 := by decide +kernel
theorem dksX12_thread_1 : cX12_thread.data.toList.drop 24 = dktX12_thread_1 := dk_seg dksX12_thread_0 24 rfl rfl
theorem dksX12_thread_2 : cX12_thread.data.toList.drop 48 = dktX12_thread_2 := dk_seg dksX12_thread_1 24 rfl rfl
theorem dX12_thread_0 : decode cX12_thread 0 = .ok (.aload_n 0, 1) := dk_42 (dk_at dksX12_thread_0 0 rfl rfl)
theorem dX12_thread_1 : decode cX12_thread 1 = .ok (.iload_n 1, 1) := dk_27 (dk_at dksX12_thread_0 1 rfl rfl)
theorem dX12_thread_2 : decode cX12_thread 2 = .ok (.invokevirtual 393, 3) := dk_182 1 137 (dk_at dksX12_thread_0 2 rfl rfl)
theorem dX12_thread_5 : decode cX12_thread 5 = .ok (.ifCond .eq 37, 3) := dk_153 0 37 (dk_at dksX12_thread_0 5 rfl rfl)
theorem dX12_thread_8 : decode cX12_thread 8 = .ok (.iload_n 2, 1) := dk_28 (dk_at dksX12_thread_0 8 rfl rfl)
theorem dX12_thread_9 : decode cX12_thread 9 = .ok (.iconst 0, 1) := dk_3 (dk_at dksX12_thread_0 9 rfl rfl)
theorem dX12_thread_10 : decode cX12_thread 10 = .ok (.aload_n 0, 1) := dk_42 (dk_at dksX12_thread_0 10 rfl rfl)
theorem dX12_thread_11 : decode cX12_thread 11 = .ok (.getfield 64, 3) := dk_180 0 64 (dk_at dksX12_thread_0 11 rfl rfl)
theorem dX12_thread_14 : decode cX12_thread 14 = .ok (.iconst 4, 1) := dk_7 (dk_at dksX12_thread_0 14 rfl rfl)
theorem dX12_thread_15 : decode cX12_thread 15 = .ok (.aload_n 0, 1) := dk_42 (dk_at dksX12_thread_0 15 rfl rfl)
theorem dX12_thread_16 : decode cX12_thread 16 = .ok (.getfield 239, 3) := dk_180 0 239 (dk_at dksX12_thread_0 16 rfl rfl)
theorem dX12_thread_19 : decode cX12_thread 19 = .ok (.imul, 1) := dk_104 (dk_at dksX12_thread_0 19 rfl rfl)
theorem dX12_thread_20 : decode cX12_thread 20 = .ok (.iload_n 1, 1) := dk_27 (dk_at dksX12_thread_0 20 rfl rfl)
theorem dX12_thread_21 : decode cX12_thread 21 = .ok (.iadd, 1) := dk_96 (dk_at dksX12_thread_0 21 rfl rfl)
theorem dX12_thread_22 : decode cX12_thread 22 = .ok (.iaload, 1) := dk_46 (dk_at dksX12_thread_0 22 rfl rfl)
theorem dX12_thread_23 : decode cX12_thread 23 = .ok (.iconst 1, 1) := dk_4 (dk_at dksX12_thread_0 23 rfl rfl)
theorem dX12_thread_24 : decode cX12_thread 24 = .ok (.isub, 1) := dk_100 (dk_at dksX12_thread_1 0 rfl rfl)
theorem dX12_thread_25 : decode cX12_thread 25 = .ok (.invokestatic 323, 3) := dk_184 1 67 (dk_at dksX12_thread_1 1 rfl rfl)
theorem dX12_thread_28 : decode cX12_thread 28 = .ok (.ifCond .eq 14, 3) := dk_153 0 14 (dk_at dksX12_thread_1 4 rfl rfl)
theorem dX12_thread_31 : decode cX12_thread 31 = .ok (.iload_n 3, 1) := dk_29 (dk_at dksX12_thread_1 7 rfl rfl)
theorem dX12_thread_32 : decode cX12_thread 32 = .ok (.iconst 0, 1) := dk_3 (dk_at dksX12_thread_1 8 rfl rfl)
theorem dX12_thread_33 : decode cX12_thread 33 = .ok (.sipush 9999, 3) := dk_17 39 15 (dk_at dksX12_thread_1 9 rfl rfl)
theorem dX12_thread_36 : decode cX12_thread 36 = .ok (.invokestatic 323, 3) := dk_184 1 67 (dk_at dksX12_thread_1 12 rfl rfl)
theorem dX12_thread_39 : decode cX12_thread 39 = .ok (.ifCond .ne 5, 3) := dk_154 0 5 (dk_at dksX12_thread_1 15 rfl rfl)
theorem dX12_thread_42 : decode cX12_thread 42 = .ok (.iconst (-1), 1) := dk_2 (dk_at dksX12_thread_1 18 rfl rfl)
theorem dX12_thread_43 : decode cX12_thread 43 = .ok (.ireturn, 1) := dk_172 (dk_at dksX12_thread_1 19 rfl rfl)
theorem dX12_thread_44 : decode cX12_thread 44 = .ok (.aload_n 0, 1) := dk_42 (dk_at dksX12_thread_1 20 rfl rfl)
theorem dX12_thread_45 : decode cX12_thread 45 = .ok (.iload_n 1, 1) := dk_27 (dk_at dksX12_thread_1 21 rfl rfl)
theorem dX12_thread_46 : decode cX12_thread 46 = .ok (.iload_n 2, 1) := dk_28 (dk_at dksX12_thread_1 22 rfl rfl)
theorem dX12_thread_47 : decode cX12_thread 47 = .ok (.iload_n 3, 1) := dk_29 (dk_at dksX12_thread_1 23 rfl rfl)
theorem dX12_thread_48 : decode cX12_thread 48 = .ok (.invokevirtual 356, 3) := dk_182 1 100 (dk_at dksX12_thread_2 0 rfl rfl)
theorem dX12_thread_51 : decode cX12_thread 51 = .ok (.ireturn, 1) := dk_172 (dk_at dksX12_thread_2 3 rfl rfl)
abbrev cX12_threadOf : ByteArray := prog_22_method_49_code
def yX12_threadOf : MethodName := ⟨RX12, "threadOf", "(III)I"⟩
def dkwX12_threadOf_2 : List UInt8 := [180, 0, 239, 104, 27, 96, 46, 79, 42, 3, 4, 16, 9, 182, 1, 84, 172]
abbrev dktX12_threadOf_2 : List UInt8 := dkwX12_threadOf_2 ++ []
def dkwX12_threadOf_1 : List UInt8 := [5, 29, 79, 42, 180, 0, 110, 16, 7, 27, 79, 42, 180, 0, 110, 16, 8, 42, 180, 0, 64, 7, 42]
abbrev dktX12_threadOf_1 : List UInt8 := dkwX12_threadOf_1 ++ dktX12_threadOf_2
def dkwX12_threadOf_0 : List UInt8 := [42, 182, 1, 81, 42, 180, 0, 110, 3, 29, 7, 112, 79, 42, 180, 0, 110, 4, 28, 79, 42, 180, 0, 110]
abbrev dktX12_threadOf_0 : List UInt8 := dkwX12_threadOf_0 ++ dktX12_threadOf_1
theorem dksX12_threadOf_0 : cX12_threadOf.data.toList.drop 0 = dktX12_threadOf_0 := by decide +kernel
theorem dksX12_threadOf_1 : cX12_threadOf.data.toList.drop 24 = dktX12_threadOf_1 := dk_seg dksX12_threadOf_0 24 rfl rfl
theorem dksX12_threadOf_2 : cX12_threadOf.data.toList.drop 47 = dktX12_threadOf_2 := dk_seg dksX12_threadOf_1 23 rfl rfl
theorem dX12_threadOf_0 : decode cX12_threadOf 0 = .ok (.aload_n 0, 1) := dk_42 (dk_at dksX12_threadOf_0 0 rfl rfl)
theorem dX12_threadOf_1 : decode cX12_threadOf 1 = .ok (.invokevirtual 337, 3) := dk_182 1 81 (dk_at dksX12_threadOf_0 1 rfl rfl)
theorem dX12_threadOf_4 : decode cX12_threadOf 4 = .ok (.aload_n 0, 1) := dk_42 (dk_at dksX12_threadOf_0 4 rfl rfl)
theorem dX12_threadOf_5 : decode cX12_threadOf 5 = .ok (.getfield 110, 3) := dk_180 0 110 (dk_at dksX12_threadOf_0 5 rfl rfl)
theorem dX12_threadOf_8 : decode cX12_threadOf 8 = .ok (.iconst 0, 1) := dk_3 (dk_at dksX12_threadOf_0 8 rfl rfl)
theorem dX12_threadOf_9 : decode cX12_threadOf 9 = .ok (.iload_n 3, 1) := dk_29 (dk_at dksX12_threadOf_0 9 rfl rfl)
theorem dX12_threadOf_10 : decode cX12_threadOf 10 = .ok (.iconst 4, 1) := dk_7 (dk_at dksX12_threadOf_0 10 rfl rfl)
theorem dX12_threadOf_11 : decode cX12_threadOf 11 = .ok (.irem, 1) := dk_112 (dk_at dksX12_threadOf_0 11 rfl rfl)
theorem dX12_threadOf_12 : decode cX12_threadOf 12 = .ok (.iastore, 1) := dk_79 (dk_at dksX12_threadOf_0 12 rfl rfl)
theorem dX12_threadOf_13 : decode cX12_threadOf 13 = .ok (.aload_n 0, 1) := dk_42 (dk_at dksX12_threadOf_0 13 rfl rfl)
theorem dX12_threadOf_14 : decode cX12_threadOf 14 = .ok (.getfield 110, 3) := dk_180 0 110 (dk_at dksX12_threadOf_0 14 rfl rfl)
theorem dX12_threadOf_17 : decode cX12_threadOf 17 = .ok (.iconst 1, 1) := dk_4 (dk_at dksX12_threadOf_0 17 rfl rfl)
theorem dX12_threadOf_18 : decode cX12_threadOf 18 = .ok (.iload_n 2, 1) := dk_28 (dk_at dksX12_threadOf_0 18 rfl rfl)
theorem dX12_threadOf_19 : decode cX12_threadOf 19 = .ok (.iastore, 1) := dk_79 (dk_at dksX12_threadOf_0 19 rfl rfl)
theorem dX12_threadOf_20 : decode cX12_threadOf 20 = .ok (.aload_n 0, 1) := dk_42 (dk_at dksX12_threadOf_0 20 rfl rfl)
theorem dX12_threadOf_21 : decode cX12_threadOf 21 = .ok (.getfield 110, 3) := dk_180 0 110 (dk_at dksX12_threadOf_0 21 rfl rfl)
theorem dX12_threadOf_24 : decode cX12_threadOf 24 = .ok (.iconst 2, 1) := dk_5 (dk_at dksX12_threadOf_1 0 rfl rfl)
theorem dX12_threadOf_25 : decode cX12_threadOf 25 = .ok (.iload_n 3, 1) := dk_29 (dk_at dksX12_threadOf_1 1 rfl rfl)
theorem dX12_threadOf_26 : decode cX12_threadOf 26 = .ok (.iastore, 1) := dk_79 (dk_at dksX12_threadOf_1 2 rfl rfl)
theorem dX12_threadOf_27 : decode cX12_threadOf 27 = .ok (.aload_n 0, 1) := dk_42 (dk_at dksX12_threadOf_1 3 rfl rfl)
theorem dX12_threadOf_28 : decode cX12_threadOf 28 = .ok (.getfield 110, 3) := dk_180 0 110 (dk_at dksX12_threadOf_1 4 rfl rfl)
theorem dX12_threadOf_31 : decode cX12_threadOf 31 = .ok (.bipush 7, 2) := dk_16 7 (dk_at dksX12_threadOf_1 7 rfl rfl)
theorem dX12_threadOf_33 : decode cX12_threadOf 33 = .ok (.iload_n 1, 1) := dk_27 (dk_at dksX12_threadOf_1 9 rfl rfl)
theorem dX12_threadOf_34 : decode cX12_threadOf 34 = .ok (.iastore, 1) := dk_79 (dk_at dksX12_threadOf_1 10 rfl rfl)
theorem dX12_threadOf_35 : decode cX12_threadOf 35 = .ok (.aload_n 0, 1) := dk_42 (dk_at dksX12_threadOf_1 11 rfl rfl)
theorem dX12_threadOf_36 : decode cX12_threadOf 36 = .ok (.getfield 110, 3) := dk_180 0 110 (dk_at dksX12_threadOf_1 12 rfl rfl)
theorem dX12_threadOf_39 : decode cX12_threadOf 39 = .ok (.bipush 8, 2) := dk_16 8 (dk_at dksX12_threadOf_1 15 rfl rfl)
theorem dX12_threadOf_41 : decode cX12_threadOf 41 = .ok (.aload_n 0, 1) := dk_42 (dk_at dksX12_threadOf_1 17 rfl rfl)
theorem dX12_threadOf_42 : decode cX12_threadOf 42 = .ok (.getfield 64, 3) := dk_180 0 64 (dk_at dksX12_threadOf_1 18 rfl rfl)
theorem dX12_threadOf_45 : decode cX12_threadOf 45 = .ok (.iconst 4, 1) := dk_7 (dk_at dksX12_threadOf_1 21 rfl rfl)
theorem dX12_threadOf_46 : decode cX12_threadOf 46 = .ok (.aload_n 0, 1) := dk_42 (dk_at dksX12_threadOf_1 22 rfl rfl)
theorem dX12_threadOf_47 : decode cX12_threadOf 47 = .ok (.getfield 239, 3) := dk_180 0 239 (dk_at dksX12_threadOf_2 0 rfl rfl)
theorem dX12_threadOf_50 : decode cX12_threadOf 50 = .ok (.imul, 1) := dk_104 (dk_at dksX12_threadOf_2 3 rfl rfl)
theorem dX12_threadOf_51 : decode cX12_threadOf 51 = .ok (.iload_n 1, 1) := dk_27 (dk_at dksX12_threadOf_2 4 rfl rfl)
theorem dX12_threadOf_52 : decode cX12_threadOf 52 = .ok (.iadd, 1) := dk_96 (dk_at dksX12_threadOf_2 5 rfl rfl)
theorem dX12_threadOf_53 : decode cX12_threadOf 53 = .ok (.iaload, 1) := dk_46 (dk_at dksX12_threadOf_2 6 rfl rfl)
theorem dX12_threadOf_54 : decode cX12_threadOf 54 = .ok (.iastore, 1) := dk_79 (dk_at dksX12_threadOf_2 7 rfl rfl)
theorem dX12_threadOf_55 : decode cX12_threadOf 55 = .ok (.aload_n 0, 1) := dk_42 (dk_at dksX12_threadOf_2 8 rfl rfl)
theorem dX12_threadOf_56 : decode cX12_threadOf 56 = .ok (.iconst 0, 1) := dk_3 (dk_at dksX12_threadOf_2 9 rfl rfl)
theorem dX12_threadOf_57 : decode cX12_threadOf 57 = .ok (.iconst 1, 1) := dk_4 (dk_at dksX12_threadOf_2 10 rfl rfl)
theorem dX12_threadOf_58 : decode cX12_threadOf 58 = .ok (.bipush 9, 2) := dk_16 9 (dk_at dksX12_threadOf_2 11 rfl rfl)
theorem dX12_threadOf_60 : decode cX12_threadOf 60 = .ok (.invokevirtual 340, 3) := dk_182 1 84 (dk_at dksX12_threadOf_2 13 rfl rfl)
theorem dX12_threadOf_63 : decode cX12_threadOf 63 = .ok (.ireturn, 1) := dk_172 (dk_at dksX12_threadOf_2 16 rfl rfl)
abbrev cX12_looks : ByteArray := prog_22_method_47_code
def yX12_looks : MethodName := ⟨RX12, "looks", "()V"⟩
def dkwX12_looks_0 : List UInt8 := [3, 60, 27, 16, 9, 162, 0, 16, 42, 180, 0, 110, 27, 3, 79, 132, 1, 1, 167, 255, 240, 177]
abbrev dktX12_looks_0 : List UInt8 := dkwX12_looks_0 ++ []
theorem dksX12_looks_0 : cX12_looks.data.toList.drop 0 = dktX12_looks_0 := by decide +kernel
theorem dX12_looks_0 : decode cX12_looks 0 = .ok (.iconst 0, 1) := dk_3 (dk_at dksX12_looks_0 0 rfl rfl)
theorem dX12_looks_1 : decode cX12_looks 1 = .ok (.istore_n 1, 1) := dk_60 (dk_at dksX12_looks_0 1 rfl rfl)
theorem dX12_looks_2 : decode cX12_looks 2 = .ok (.iload_n 1, 1) := dk_27 (dk_at dksX12_looks_0 2 rfl rfl)
theorem dX12_looks_3 : decode cX12_looks 3 = .ok (.bipush 9, 2) := dk_16 9 (dk_at dksX12_looks_0 3 rfl rfl)
theorem dX12_looks_5 : decode cX12_looks 5 = .ok (.if_icmp .ge 16, 3) := dk_162 0 16 (dk_at dksX12_looks_0 5 rfl rfl)
theorem dX12_looks_8 : decode cX12_looks 8 = .ok (.aload_n 0, 1) := dk_42 (dk_at dksX12_looks_0 8 rfl rfl)
theorem dX12_looks_9 : decode cX12_looks 9 = .ok (.getfield 110, 3) := dk_180 0 110 (dk_at dksX12_looks_0 9 rfl rfl)
theorem dX12_looks_12 : decode cX12_looks 12 = .ok (.iload_n 1, 1) := dk_27 (dk_at dksX12_looks_0 12 rfl rfl)
theorem dX12_looks_13 : decode cX12_looks 13 = .ok (.iconst 0, 1) := dk_3 (dk_at dksX12_looks_0 13 rfl rfl)
theorem dX12_looks_14 : decode cX12_looks 14 = .ok (.iastore, 1) := dk_79 (dk_at dksX12_looks_0 14 rfl rfl)
theorem dX12_looks_15 : decode cX12_looks 15 = .ok (.iinc 1 1, 3) := dk_132 1 1 (dk_at dksX12_looks_0 15 rfl rfl)
theorem dX12_looks_18 : decode cX12_looks 18 = .ok (.goto (-16), 3) := dk_167 255 240 (dk_at dksX12_looks_0 18 rfl rfl)
theorem dX12_looks_21 : decode cX12_looks 21 = .ok (.return_, 1) := dk_177 (dk_at dksX12_looks_0 21 rfl rfl)
abbrev cX12_asks : ByteArray := prog_22_method_48_code
def yX12_asks : MethodName := ⟨RX12, "asks", "(III)I"⟩
def dkwX12_asks_7 : List UInt8 := [29, 167, 0, 5, 21, 6, 172, 132, 5, 1, 167, 255, 123, 3, 172]
abbrev dktX12_asks_7 : List UInt8 := dkwX12_asks_7 ++ []
def dkwX12_asks_6 : List UInt8 := [54, 6, 42, 180, 1, 63, 154, 0, 8, 21, 6, 156, 0, 7, 3, 167, 0, 15, 21, 6, 29, 164, 0, 7]
abbrev dktX12_asks_6 : List UInt8 := dkwX12_asks_6 ++ dktX12_asks_7
def dkwX12_asks_5 : List UInt8 := [161, 0, 6, 167, 0, 52, 42, 42, 180, 0, 95, 21, 5, 46, 42, 180, 0, 98, 21, 5, 46, 182, 1, 78]
abbrev dktX12_asks_5 : List UInt8 := dkwX12_asks_5 ++ dktX12_asks_6
def dkwX12_asks_4 : List UInt8 := [180, 0, 95, 21, 5, 46, 182, 1, 78, 54, 7, 42, 180, 1, 63, 153, 0, 5, 3, 172, 21, 6, 21, 7]
abbrev dktX12_asks_4 : List UInt8 := dkwX12_asks_4 ++ dktX12_asks_5
def dkwX12_asks_3 : List UInt8 := [21, 5, 46, 42, 180, 0, 92, 21, 5, 46, 182, 1, 78, 54, 6, 42, 42, 180, 0, 92, 21, 5, 46, 42]
abbrev dktX12_asks_3 : List UInt8 := dkwX12_asks_3 ++ dktX12_asks_4
def dkwX12_asks_2 : List UInt8 := [180, 0, 82, 21, 4, 46, 162, 0, 127, 42, 180, 0, 85, 21, 5, 51, 153, 0, 62, 42, 42, 180, 0, 89]
abbrev dktX12_asks_2 : List UInt8 := dkwX12_asks_2 ++ dktX12_asks_3
def dkwX12_asks_1 : List UInt8 := [160, 0, 5, 28, 172, 42, 3, 181, 1, 63, 42, 180, 0, 79, 21, 4, 46, 54, 5, 21, 5, 42]
abbrev dktX12_asks_1 : List UInt8 := dkwX12_asks_1 ++ dktX12_asks_2
def dkwX12_asks_0 : List UInt8 := [6, 42, 180, 0, 239, 104, 27, 96, 54, 4, 42, 180, 0, 79, 21, 4, 46, 42, 180, 0, 82, 21, 4, 46]
abbrev dktX12_asks_0 : List UInt8 := dkwX12_asks_0 ++ dktX12_asks_1
theorem dksX12_asks_0 : cX12_asks.data.toList.drop 0 = dktX12_asks_0 := by decide +kernel
theorem dksX12_asks_1 : cX12_asks.data.toList.drop 24 = dktX12_asks_1 := dk_seg dksX12_asks_0 24 rfl rfl
theorem dksX12_asks_2 : cX12_asks.data.toList.drop 46 = dktX12_asks_2 := dk_seg dksX12_asks_1 22 rfl rfl
theorem dksX12_asks_3 : cX12_asks.data.toList.drop 70 = dktX12_asks_3 := dk_seg dksX12_asks_2 24 rfl rfl
theorem dksX12_asks_4 : cX12_asks.data.toList.drop 94 = dktX12_asks_4 := dk_seg dksX12_asks_3 24 rfl rfl
theorem dksX12_asks_5 : cX12_asks.data.toList.drop 118 = dktX12_asks_5 := dk_seg dksX12_asks_4 24 rfl rfl
theorem dksX12_asks_6 : cX12_asks.data.toList.drop 142 = dktX12_asks_6 := dk_seg dksX12_asks_5 24 rfl rfl
theorem dksX12_asks_7 : cX12_asks.data.toList.drop 166 = dktX12_asks_7 := dk_seg dksX12_asks_6 24 rfl rfl
theorem dX12_asks_0 : decode cX12_asks 0 = .ok (.iconst 3, 1) := dk_6 (dk_at dksX12_asks_0 0 rfl rfl)
theorem dX12_asks_1 : decode cX12_asks 1 = .ok (.aload_n 0, 1) := dk_42 (dk_at dksX12_asks_0 1 rfl rfl)
theorem dX12_asks_2 : decode cX12_asks 2 = .ok (.getfield 239, 3) := dk_180 0 239 (dk_at dksX12_asks_0 2 rfl rfl)
theorem dX12_asks_5 : decode cX12_asks 5 = .ok (.imul, 1) := dk_104 (dk_at dksX12_asks_0 5 rfl rfl)
theorem dX12_asks_6 : decode cX12_asks 6 = .ok (.iload_n 1, 1) := dk_27 (dk_at dksX12_asks_0 6 rfl rfl)
theorem dX12_asks_7 : decode cX12_asks 7 = .ok (.iadd, 1) := dk_96 (dk_at dksX12_asks_0 7 rfl rfl)
theorem dX12_asks_8 : decode cX12_asks 8 = .ok (.istore 4, 2) := dk_54 4 (dk_at dksX12_asks_0 8 rfl rfl)
theorem dX12_asks_10 : decode cX12_asks 10 = .ok (.aload_n 0, 1) := dk_42 (dk_at dksX12_asks_0 10 rfl rfl)
theorem dX12_asks_11 : decode cX12_asks 11 = .ok (.getfield 79, 3) := dk_180 0 79 (dk_at dksX12_asks_0 11 rfl rfl)
theorem dX12_asks_14 : decode cX12_asks 14 = .ok (.iload 4, 2) := dk_21 4 (dk_at dksX12_asks_0 14 rfl rfl)
theorem dX12_asks_16 : decode cX12_asks 16 = .ok (.iaload, 1) := dk_46 (dk_at dksX12_asks_0 16 rfl rfl)
theorem dX12_asks_17 : decode cX12_asks 17 = .ok (.aload_n 0, 1) := dk_42 (dk_at dksX12_asks_0 17 rfl rfl)
theorem dX12_asks_18 : decode cX12_asks 18 = .ok (.getfield 82, 3) := dk_180 0 82 (dk_at dksX12_asks_0 18 rfl rfl)
theorem dX12_asks_21 : decode cX12_asks 21 = .ok (.iload 4, 2) := dk_21 4 (dk_at dksX12_asks_0 21 rfl rfl)
theorem dX12_asks_23 : decode cX12_asks 23 = .ok (.iaload, 1) := dk_46 (dk_at dksX12_asks_0 23 rfl rfl)
theorem dX12_asks_24 : decode cX12_asks 24 = .ok (.if_icmp .ne 5, 3) := dk_160 0 5 (dk_at dksX12_asks_1 0 rfl rfl)
theorem dX12_asks_27 : decode cX12_asks 27 = .ok (.iload_n 2, 1) := dk_28 (dk_at dksX12_asks_1 3 rfl rfl)
theorem dX12_asks_28 : decode cX12_asks 28 = .ok (.ireturn, 1) := dk_172 (dk_at dksX12_asks_1 4 rfl rfl)
theorem dX12_asks_29 : decode cX12_asks 29 = .ok (.aload_n 0, 1) := dk_42 (dk_at dksX12_asks_1 5 rfl rfl)
theorem dX12_asks_30 : decode cX12_asks 30 = .ok (.iconst 0, 1) := dk_3 (dk_at dksX12_asks_1 6 rfl rfl)
theorem dX12_asks_31 : decode cX12_asks 31 = .ok (.putfield 319, 3) := dk_181 1 63 (dk_at dksX12_asks_1 7 rfl rfl)
theorem dX12_asks_34 : decode cX12_asks 34 = .ok (.aload_n 0, 1) := dk_42 (dk_at dksX12_asks_1 10 rfl rfl)
theorem dX12_asks_35 : decode cX12_asks 35 = .ok (.getfield 79, 3) := dk_180 0 79 (dk_at dksX12_asks_1 11 rfl rfl)
theorem dX12_asks_38 : decode cX12_asks 38 = .ok (.iload 4, 2) := dk_21 4 (dk_at dksX12_asks_1 14 rfl rfl)
theorem dX12_asks_40 : decode cX12_asks 40 = .ok (.iaload, 1) := dk_46 (dk_at dksX12_asks_1 16 rfl rfl)
theorem dX12_asks_41 : decode cX12_asks 41 = .ok (.istore 5, 2) := dk_54 5 (dk_at dksX12_asks_1 17 rfl rfl)
theorem dX12_asks_43 : decode cX12_asks 43 = .ok (.iload 5, 2) := dk_21 5 (dk_at dksX12_asks_1 19 rfl rfl)
theorem dX12_asks_45 : decode cX12_asks 45 = .ok (.aload_n 0, 1) := dk_42 (dk_at dksX12_asks_1 21 rfl rfl)
theorem dX12_asks_46 : decode cX12_asks 46 = .ok (.getfield 82, 3) := dk_180 0 82 (dk_at dksX12_asks_2 0 rfl rfl)
theorem dX12_asks_49 : decode cX12_asks 49 = .ok (.iload 4, 2) := dk_21 4 (dk_at dksX12_asks_2 3 rfl rfl)
theorem dX12_asks_51 : decode cX12_asks 51 = .ok (.iaload, 1) := dk_46 (dk_at dksX12_asks_2 5 rfl rfl)
theorem dX12_asks_52 : decode cX12_asks 52 = .ok (.if_icmp .ge 127, 3) := dk_162 0 127 (dk_at dksX12_asks_2 6 rfl rfl)
theorem dX12_asks_55 : decode cX12_asks 55 = .ok (.aload_n 0, 1) := dk_42 (dk_at dksX12_asks_2 9 rfl rfl)
theorem dX12_asks_56 : decode cX12_asks 56 = .ok (.getfield 85, 3) := dk_180 0 85 (dk_at dksX12_asks_2 10 rfl rfl)
theorem dX12_asks_59 : decode cX12_asks 59 = .ok (.iload 5, 2) := dk_21 5 (dk_at dksX12_asks_2 13 rfl rfl)
theorem dX12_asks_61 : decode cX12_asks 61 = .ok (.baload, 1) := dk_51 (dk_at dksX12_asks_2 15 rfl rfl)
theorem dX12_asks_62 : decode cX12_asks 62 = .ok (.ifCond .eq 62, 3) := dk_153 0 62 (dk_at dksX12_asks_2 16 rfl rfl)
theorem dX12_asks_65 : decode cX12_asks 65 = .ok (.aload_n 0, 1) := dk_42 (dk_at dksX12_asks_2 19 rfl rfl)
theorem dX12_asks_66 : decode cX12_asks 66 = .ok (.aload_n 0, 1) := dk_42 (dk_at dksX12_asks_2 20 rfl rfl)
theorem dX12_asks_67 : decode cX12_asks 67 = .ok (.getfield 89, 3) := dk_180 0 89 (dk_at dksX12_asks_2 21 rfl rfl)
theorem dX12_asks_70 : decode cX12_asks 70 = .ok (.iload 5, 2) := dk_21 5 (dk_at dksX12_asks_3 0 rfl rfl)
theorem dX12_asks_72 : decode cX12_asks 72 = .ok (.iaload, 1) := dk_46 (dk_at dksX12_asks_3 2 rfl rfl)
theorem dX12_asks_73 : decode cX12_asks 73 = .ok (.aload_n 0, 1) := dk_42 (dk_at dksX12_asks_3 3 rfl rfl)
theorem dX12_asks_74 : decode cX12_asks 74 = .ok (.getfield 92, 3) := dk_180 0 92 (dk_at dksX12_asks_3 4 rfl rfl)
theorem dX12_asks_77 : decode cX12_asks 77 = .ok (.iload 5, 2) := dk_21 5 (dk_at dksX12_asks_3 7 rfl rfl)
theorem dX12_asks_79 : decode cX12_asks 79 = .ok (.iaload, 1) := dk_46 (dk_at dksX12_asks_3 9 rfl rfl)
theorem dX12_asks_80 : decode cX12_asks 80 = .ok (.invokevirtual 334, 3) := dk_182 1 78 (dk_at dksX12_asks_3 10 rfl rfl)
theorem dX12_asks_83 : decode cX12_asks 83 = .ok (.istore 6, 2) := dk_54 6 (dk_at dksX12_asks_3 13 rfl rfl)
theorem dX12_asks_85 : decode cX12_asks 85 = .ok (.aload_n 0, 1) := dk_42 (dk_at dksX12_asks_3 15 rfl rfl)
theorem dX12_asks_86 : decode cX12_asks 86 = .ok (.aload_n 0, 1) := dk_42 (dk_at dksX12_asks_3 16 rfl rfl)
theorem dX12_asks_87 : decode cX12_asks 87 = .ok (.getfield 92, 3) := dk_180 0 92 (dk_at dksX12_asks_3 17 rfl rfl)
theorem dX12_asks_90 : decode cX12_asks 90 = .ok (.iload 5, 2) := dk_21 5 (dk_at dksX12_asks_3 20 rfl rfl)
theorem dX12_asks_92 : decode cX12_asks 92 = .ok (.iaload, 1) := dk_46 (dk_at dksX12_asks_3 22 rfl rfl)
theorem dX12_asks_93 : decode cX12_asks 93 = .ok (.aload_n 0, 1) := dk_42 (dk_at dksX12_asks_3 23 rfl rfl)
theorem dX12_asks_94 : decode cX12_asks 94 = .ok (.getfield 95, 3) := dk_180 0 95 (dk_at dksX12_asks_4 0 rfl rfl)
theorem dX12_asks_97 : decode cX12_asks 97 = .ok (.iload 5, 2) := dk_21 5 (dk_at dksX12_asks_4 3 rfl rfl)
theorem dX12_asks_99 : decode cX12_asks 99 = .ok (.iaload, 1) := dk_46 (dk_at dksX12_asks_4 5 rfl rfl)
theorem dX12_asks_100 : decode cX12_asks 100 = .ok (.invokevirtual 334, 3) := dk_182 1 78 (dk_at dksX12_asks_4 6 rfl rfl)
theorem dX12_asks_103 : decode cX12_asks 103 = .ok (.istore 7, 2) := dk_54 7 (dk_at dksX12_asks_4 9 rfl rfl)
theorem dX12_asks_105 : decode cX12_asks 105 = .ok (.aload_n 0, 1) := dk_42 (dk_at dksX12_asks_4 11 rfl rfl)
theorem dX12_asks_106 : decode cX12_asks 106 = .ok (.getfield 319, 3) := dk_180 1 63 (dk_at dksX12_asks_4 12 rfl rfl)
theorem dX12_asks_109 : decode cX12_asks 109 = .ok (.ifCond .eq 5, 3) := dk_153 0 5 (dk_at dksX12_asks_4 15 rfl rfl)
theorem dX12_asks_112 : decode cX12_asks 112 = .ok (.iconst 0, 1) := dk_3 (dk_at dksX12_asks_4 18 rfl rfl)
theorem dX12_asks_113 : decode cX12_asks 113 = .ok (.ireturn, 1) := dk_172 (dk_at dksX12_asks_4 19 rfl rfl)
theorem dX12_asks_114 : decode cX12_asks 114 = .ok (.iload 6, 2) := dk_21 6 (dk_at dksX12_asks_4 20 rfl rfl)
theorem dX12_asks_116 : decode cX12_asks 116 = .ok (.iload 7, 2) := dk_21 7 (dk_at dksX12_asks_4 22 rfl rfl)
theorem dX12_asks_118 : decode cX12_asks 118 = .ok (.if_icmp .lt 6, 3) := dk_161 0 6 (dk_at dksX12_asks_5 0 rfl rfl)
theorem dX12_asks_121 : decode cX12_asks 121 = .ok (.goto 52, 3) := dk_167 0 52 (dk_at dksX12_asks_5 3 rfl rfl)
theorem dX12_asks_124 : decode cX12_asks 124 = .ok (.aload_n 0, 1) := dk_42 (dk_at dksX12_asks_5 6 rfl rfl)
theorem dX12_asks_125 : decode cX12_asks 125 = .ok (.aload_n 0, 1) := dk_42 (dk_at dksX12_asks_5 7 rfl rfl)
theorem dX12_asks_126 : decode cX12_asks 126 = .ok (.getfield 95, 3) := dk_180 0 95 (dk_at dksX12_asks_5 8 rfl rfl)
theorem dX12_asks_129 : decode cX12_asks 129 = .ok (.iload 5, 2) := dk_21 5 (dk_at dksX12_asks_5 11 rfl rfl)
theorem dX12_asks_131 : decode cX12_asks 131 = .ok (.iaload, 1) := dk_46 (dk_at dksX12_asks_5 13 rfl rfl)
theorem dX12_asks_132 : decode cX12_asks 132 = .ok (.aload_n 0, 1) := dk_42 (dk_at dksX12_asks_5 14 rfl rfl)
theorem dX12_asks_133 : decode cX12_asks 133 = .ok (.getfield 98, 3) := dk_180 0 98 (dk_at dksX12_asks_5 15 rfl rfl)
theorem dX12_asks_136 : decode cX12_asks 136 = .ok (.iload 5, 2) := dk_21 5 (dk_at dksX12_asks_5 18 rfl rfl)
theorem dX12_asks_138 : decode cX12_asks 138 = .ok (.iaload, 1) := dk_46 (dk_at dksX12_asks_5 20 rfl rfl)
theorem dX12_asks_139 : decode cX12_asks 139 = .ok (.invokevirtual 334, 3) := dk_182 1 78 (dk_at dksX12_asks_5 21 rfl rfl)
theorem dX12_asks_142 : decode cX12_asks 142 = .ok (.istore 6, 2) := dk_54 6 (dk_at dksX12_asks_6 0 rfl rfl)
theorem dX12_asks_144 : decode cX12_asks 144 = .ok (.aload_n 0, 1) := dk_42 (dk_at dksX12_asks_6 2 rfl rfl)
theorem dX12_asks_145 : decode cX12_asks 145 = .ok (.getfield 319, 3) := dk_180 1 63 (dk_at dksX12_asks_6 3 rfl rfl)
theorem dX12_asks_148 : decode cX12_asks 148 = .ok (.ifCond .ne 8, 3) := dk_154 0 8 (dk_at dksX12_asks_6 6 rfl rfl)
theorem dX12_asks_151 : decode cX12_asks 151 = .ok (.iload 6, 2) := dk_21 6 (dk_at dksX12_asks_6 9 rfl rfl)
theorem dX12_asks_153 : decode cX12_asks 153 = .ok (.ifCond .ge 7, 3) := dk_156 0 7 (dk_at dksX12_asks_6 11 rfl rfl)
theorem dX12_asks_156 : decode cX12_asks 156 = .ok (.iconst 0, 1) := dk_3 (dk_at dksX12_asks_6 14 rfl rfl)
theorem dX12_asks_157 : decode cX12_asks 157 = .ok (.goto 15, 3) := dk_167 0 15 (dk_at dksX12_asks_6 15 rfl rfl)
theorem dX12_asks_160 : decode cX12_asks 160 = .ok (.iload 6, 2) := dk_21 6 (dk_at dksX12_asks_6 18 rfl rfl)
theorem dX12_asks_162 : decode cX12_asks 162 = .ok (.iload_n 3, 1) := dk_29 (dk_at dksX12_asks_6 20 rfl rfl)
theorem dX12_asks_163 : decode cX12_asks 163 = .ok (.if_icmp .le 7, 3) := dk_164 0 7 (dk_at dksX12_asks_6 21 rfl rfl)
theorem dX12_asks_166 : decode cX12_asks 166 = .ok (.iload_n 3, 1) := dk_29 (dk_at dksX12_asks_7 0 rfl rfl)
theorem dX12_asks_167 : decode cX12_asks 167 = .ok (.goto 5, 3) := dk_167 0 5 (dk_at dksX12_asks_7 1 rfl rfl)
theorem dX12_asks_170 : decode cX12_asks 170 = .ok (.iload 6, 2) := dk_21 6 (dk_at dksX12_asks_7 4 rfl rfl)
theorem dX12_asks_172 : decode cX12_asks 172 = .ok (.ireturn, 1) := dk_172 (dk_at dksX12_asks_7 6 rfl rfl)
theorem dX12_asks_173 : decode cX12_asks 173 = .ok (.iinc 5 1, 3) := dk_132 5 1 (dk_at dksX12_asks_7 7 rfl rfl)
theorem dX12_asks_176 : decode cX12_asks 176 = .ok (.goto (-133), 3) := dk_167 255 123 (dk_at dksX12_asks_7 10 rfl rfl)
theorem dX12_asks_179 : decode cX12_asks 179 = .ok (.iconst 0, 1) := dk_3 (dk_at dksX12_asks_7 13 rfl rfl)
theorem dX12_asks_180 : decode cX12_asks 180 = .ok (.ireturn, 1) := dk_172 (dk_at dksX12_asks_7 14 rfl rfl)
abbrev cX12_termOf : ByteArray := prog_22_method_37_code
def yX12_termOf : MethodName := ⟨RX12, "termOf", "(II)I"⟩
def dkwX12_termOf_7 : List UInt8 := [132, 4, 1, 167, 255, 99, 42, 180, 0, 113, 3, 46, 172]
abbrev dktX12_termOf_7 : List UInt8 := dkwX12_termOf_7 ++ []
def dkwX12_termOf_6 : List UInt8 := [167, 0, 22, 21, 5, 7, 160, 0, 11, 21, 6, 21, 7, 104, 167, 0, 8, 21, 6, 21, 7, 108, 79]
abbrev dktX12_termOf_6 : List UInt8 := dkwX12_termOf_6 ++ dktX12_termOf_7
def dkwX12_termOf_5 : List UInt8 := [160, 0, 11, 21, 6, 21, 7, 96, 167, 0, 36, 21, 5, 6, 160, 0, 11, 21, 6, 21, 7, 100]
abbrev dktX12_termOf_5 : List UInt8 := dkwX12_termOf_5 ++ dktX12_termOf_6
def dkwX12_termOf_4 : List UInt8 := [21, 7, 154, 0, 10, 42, 4, 181, 1, 63, 3, 172, 42, 180, 0, 113, 29, 4, 100, 21, 5, 5]
abbrev dktX12_termOf_4 : List UInt8 := dkwX12_termOf_4 ++ dktX12_termOf_5
def dkwX12_termOf_3 : List UInt8 := [180, 0, 113, 29, 4, 100, 46, 54, 6, 42, 180, 0, 113, 29, 46, 54, 7, 21, 5, 8, 160, 0, 15]
abbrev dktX12_termOf_3 : List UInt8 := dkwX12_termOf_3 ++ dktX12_termOf_4
def dkwX12_termOf_2 : List UInt8 := [180, 0, 110, 42, 180, 0, 104, 21, 4, 46, 46, 79, 132, 3, 1, 167, 0, 97, 132, 3, 255, 42]
abbrev dktX12_termOf_2 : List UInt8 := dkwX12_termOf_2 ++ dktX12_termOf_3
def dkwX12_termOf_1 : List UInt8 := [162, 0, 42, 42, 180, 0, 113, 29, 21, 5, 154, 0, 13, 42, 180, 0, 104, 21, 4, 46, 167, 0, 15, 42]
abbrev dktX12_termOf_1 : List UInt8 := dkwX12_termOf_1 ++ dktX12_termOf_2
def dkwX12_termOf_0 : List UInt8 := [3, 62, 27, 54, 4, 21, 4, 28, 162, 0, 157, 42, 180, 0, 101, 21, 4, 46, 54, 5, 21, 5, 5]
abbrev dktX12_termOf_0 : List UInt8 := dkwX12_termOf_0 ++ dktX12_termOf_1
theorem dksX12_termOf_0 : cX12_termOf.data.toList.drop 0 = dktX12_termOf_0 := by decide +kernel
theorem dksX12_termOf_1 : cX12_termOf.data.toList.drop 23 = dktX12_termOf_1 := dk_seg dksX12_termOf_0 23 rfl rfl
theorem dksX12_termOf_2 : cX12_termOf.data.toList.drop 47 = dktX12_termOf_2 := dk_seg dksX12_termOf_1 24 rfl rfl
theorem dksX12_termOf_3 : cX12_termOf.data.toList.drop 69 = dktX12_termOf_3 := dk_seg dksX12_termOf_2 22 rfl rfl
theorem dksX12_termOf_4 : cX12_termOf.data.toList.drop 92 = dktX12_termOf_4 := dk_seg dksX12_termOf_3 23 rfl rfl
theorem dksX12_termOf_5 : cX12_termOf.data.toList.drop 114 = dktX12_termOf_5 := dk_seg dksX12_termOf_4 22 rfl rfl
theorem dksX12_termOf_6 : cX12_termOf.data.toList.drop 136 = dktX12_termOf_6 := dk_seg dksX12_termOf_5 22 rfl rfl
theorem dksX12_termOf_7 : cX12_termOf.data.toList.drop 159 = dktX12_termOf_7 := dk_seg dksX12_termOf_6 23 rfl rfl
theorem dX12_termOf_0 : decode cX12_termOf 0 = .ok (.iconst 0, 1) := dk_3 (dk_at dksX12_termOf_0 0 rfl rfl)
theorem dX12_termOf_1 : decode cX12_termOf 1 = .ok (.istore_n 3, 1) := dk_62 (dk_at dksX12_termOf_0 1 rfl rfl)
theorem dX12_termOf_2 : decode cX12_termOf 2 = .ok (.iload_n 1, 1) := dk_27 (dk_at dksX12_termOf_0 2 rfl rfl)
theorem dX12_termOf_3 : decode cX12_termOf 3 = .ok (.istore 4, 2) := dk_54 4 (dk_at dksX12_termOf_0 3 rfl rfl)
theorem dX12_termOf_5 : decode cX12_termOf 5 = .ok (.iload 4, 2) := dk_21 4 (dk_at dksX12_termOf_0 5 rfl rfl)
theorem dX12_termOf_7 : decode cX12_termOf 7 = .ok (.iload_n 2, 1) := dk_28 (dk_at dksX12_termOf_0 7 rfl rfl)
theorem dX12_termOf_8 : decode cX12_termOf 8 = .ok (.if_icmp .ge 157, 3) := dk_162 0 157 (dk_at dksX12_termOf_0 8 rfl rfl)
theorem dX12_termOf_11 : decode cX12_termOf 11 = .ok (.aload_n 0, 1) := dk_42 (dk_at dksX12_termOf_0 11 rfl rfl)
theorem dX12_termOf_12 : decode cX12_termOf 12 = .ok (.getfield 101, 3) := dk_180 0 101 (dk_at dksX12_termOf_0 12 rfl rfl)
theorem dX12_termOf_15 : decode cX12_termOf 15 = .ok (.iload 4, 2) := dk_21 4 (dk_at dksX12_termOf_0 15 rfl rfl)
theorem dX12_termOf_17 : decode cX12_termOf 17 = .ok (.iaload, 1) := dk_46 (dk_at dksX12_termOf_0 17 rfl rfl)
theorem dX12_termOf_18 : decode cX12_termOf 18 = .ok (.istore 5, 2) := dk_54 5 (dk_at dksX12_termOf_0 18 rfl rfl)
theorem dX12_termOf_20 : decode cX12_termOf 20 = .ok (.iload 5, 2) := dk_21 5 (dk_at dksX12_termOf_0 20 rfl rfl)
theorem dX12_termOf_22 : decode cX12_termOf 22 = .ok (.iconst 2, 1) := dk_5 (dk_at dksX12_termOf_0 22 rfl rfl)
theorem dX12_termOf_23 : decode cX12_termOf 23 = .ok (.if_icmp .ge 42, 3) := dk_162 0 42 (dk_at dksX12_termOf_1 0 rfl rfl)
theorem dX12_termOf_26 : decode cX12_termOf 26 = .ok (.aload_n 0, 1) := dk_42 (dk_at dksX12_termOf_1 3 rfl rfl)
theorem dX12_termOf_27 : decode cX12_termOf 27 = .ok (.getfield 113, 3) := dk_180 0 113 (dk_at dksX12_termOf_1 4 rfl rfl)
theorem dX12_termOf_30 : decode cX12_termOf 30 = .ok (.iload_n 3, 1) := dk_29 (dk_at dksX12_termOf_1 7 rfl rfl)
theorem dX12_termOf_31 : decode cX12_termOf 31 = .ok (.iload 5, 2) := dk_21 5 (dk_at dksX12_termOf_1 8 rfl rfl)
theorem dX12_termOf_33 : decode cX12_termOf 33 = .ok (.ifCond .ne 13, 3) := dk_154 0 13 (dk_at dksX12_termOf_1 10 rfl rfl)
theorem dX12_termOf_36 : decode cX12_termOf 36 = .ok (.aload_n 0, 1) := dk_42 (dk_at dksX12_termOf_1 13 rfl rfl)
theorem dX12_termOf_37 : decode cX12_termOf 37 = .ok (.getfield 104, 3) := dk_180 0 104 (dk_at dksX12_termOf_1 14 rfl rfl)
theorem dX12_termOf_40 : decode cX12_termOf 40 = .ok (.iload 4, 2) := dk_21 4 (dk_at dksX12_termOf_1 17 rfl rfl)
theorem dX12_termOf_42 : decode cX12_termOf 42 = .ok (.iaload, 1) := dk_46 (dk_at dksX12_termOf_1 19 rfl rfl)
theorem dX12_termOf_43 : decode cX12_termOf 43 = .ok (.goto 15, 3) := dk_167 0 15 (dk_at dksX12_termOf_1 20 rfl rfl)
theorem dX12_termOf_46 : decode cX12_termOf 46 = .ok (.aload_n 0, 1) := dk_42 (dk_at dksX12_termOf_1 23 rfl rfl)
theorem dX12_termOf_47 : decode cX12_termOf 47 = .ok (.getfield 110, 3) := dk_180 0 110 (dk_at dksX12_termOf_2 0 rfl rfl)
theorem dX12_termOf_50 : decode cX12_termOf 50 = .ok (.aload_n 0, 1) := dk_42 (dk_at dksX12_termOf_2 3 rfl rfl)
theorem dX12_termOf_51 : decode cX12_termOf 51 = .ok (.getfield 104, 3) := dk_180 0 104 (dk_at dksX12_termOf_2 4 rfl rfl)
theorem dX12_termOf_54 : decode cX12_termOf 54 = .ok (.iload 4, 2) := dk_21 4 (dk_at dksX12_termOf_2 7 rfl rfl)
theorem dX12_termOf_56 : decode cX12_termOf 56 = .ok (.iaload, 1) := dk_46 (dk_at dksX12_termOf_2 9 rfl rfl)
theorem dX12_termOf_57 : decode cX12_termOf 57 = .ok (.iaload, 1) := dk_46 (dk_at dksX12_termOf_2 10 rfl rfl)
theorem dX12_termOf_58 : decode cX12_termOf 58 = .ok (.iastore, 1) := dk_79 (dk_at dksX12_termOf_2 11 rfl rfl)
theorem dX12_termOf_59 : decode cX12_termOf 59 = .ok (.iinc 3 1, 3) := dk_132 3 1 (dk_at dksX12_termOf_2 12 rfl rfl)
theorem dX12_termOf_62 : decode cX12_termOf 62 = .ok (.goto 97, 3) := dk_167 0 97 (dk_at dksX12_termOf_2 15 rfl rfl)
theorem dX12_termOf_65 : decode cX12_termOf 65 = .ok (.iinc 3 (-1), 3) := dk_132 3 255 (dk_at dksX12_termOf_2 18 rfl rfl)
theorem dX12_termOf_68 : decode cX12_termOf 68 = .ok (.aload_n 0, 1) := dk_42 (dk_at dksX12_termOf_2 21 rfl rfl)
theorem dX12_termOf_69 : decode cX12_termOf 69 = .ok (.getfield 113, 3) := dk_180 0 113 (dk_at dksX12_termOf_3 0 rfl rfl)
theorem dX12_termOf_72 : decode cX12_termOf 72 = .ok (.iload_n 3, 1) := dk_29 (dk_at dksX12_termOf_3 3 rfl rfl)
theorem dX12_termOf_73 : decode cX12_termOf 73 = .ok (.iconst 1, 1) := dk_4 (dk_at dksX12_termOf_3 4 rfl rfl)
theorem dX12_termOf_74 : decode cX12_termOf 74 = .ok (.isub, 1) := dk_100 (dk_at dksX12_termOf_3 5 rfl rfl)
theorem dX12_termOf_75 : decode cX12_termOf 75 = .ok (.iaload, 1) := dk_46 (dk_at dksX12_termOf_3 6 rfl rfl)
theorem dX12_termOf_76 : decode cX12_termOf 76 = .ok (.istore 6, 2) := dk_54 6 (dk_at dksX12_termOf_3 7 rfl rfl)
theorem dX12_termOf_78 : decode cX12_termOf 78 = .ok (.aload_n 0, 1) := dk_42 (dk_at dksX12_termOf_3 9 rfl rfl)
theorem dX12_termOf_79 : decode cX12_termOf 79 = .ok (.getfield 113, 3) := dk_180 0 113 (dk_at dksX12_termOf_3 10 rfl rfl)
theorem dX12_termOf_82 : decode cX12_termOf 82 = .ok (.iload_n 3, 1) := dk_29 (dk_at dksX12_termOf_3 13 rfl rfl)
theorem dX12_termOf_83 : decode cX12_termOf 83 = .ok (.iaload, 1) := dk_46 (dk_at dksX12_termOf_3 14 rfl rfl)
theorem dX12_termOf_84 : decode cX12_termOf 84 = .ok (.istore 7, 2) := dk_54 7 (dk_at dksX12_termOf_3 15 rfl rfl)
theorem dX12_termOf_86 : decode cX12_termOf 86 = .ok (.iload 5, 2) := dk_21 5 (dk_at dksX12_termOf_3 17 rfl rfl)
theorem dX12_termOf_88 : decode cX12_termOf 88 = .ok (.iconst 5, 1) := dk_8 (dk_at dksX12_termOf_3 19 rfl rfl)
theorem dX12_termOf_89 : decode cX12_termOf 89 = .ok (.if_icmp .ne 15, 3) := dk_160 0 15 (dk_at dksX12_termOf_3 20 rfl rfl)
theorem dX12_termOf_92 : decode cX12_termOf 92 = .ok (.iload 7, 2) := dk_21 7 (dk_at dksX12_termOf_4 0 rfl rfl)
theorem dX12_termOf_94 : decode cX12_termOf 94 = .ok (.ifCond .ne 10, 3) := dk_154 0 10 (dk_at dksX12_termOf_4 2 rfl rfl)
theorem dX12_termOf_97 : decode cX12_termOf 97 = .ok (.aload_n 0, 1) := dk_42 (dk_at dksX12_termOf_4 5 rfl rfl)
theorem dX12_termOf_98 : decode cX12_termOf 98 = .ok (.iconst 1, 1) := dk_4 (dk_at dksX12_termOf_4 6 rfl rfl)
theorem dX12_termOf_99 : decode cX12_termOf 99 = .ok (.putfield 319, 3) := dk_181 1 63 (dk_at dksX12_termOf_4 7 rfl rfl)
theorem dX12_termOf_102 : decode cX12_termOf 102 = .ok (.iconst 0, 1) := dk_3 (dk_at dksX12_termOf_4 10 rfl rfl)
theorem dX12_termOf_103 : decode cX12_termOf 103 = .ok (.ireturn, 1) := dk_172 (dk_at dksX12_termOf_4 11 rfl rfl)
theorem dX12_termOf_104 : decode cX12_termOf 104 = .ok (.aload_n 0, 1) := dk_42 (dk_at dksX12_termOf_4 12 rfl rfl)
theorem dX12_termOf_105 : decode cX12_termOf 105 = .ok (.getfield 113, 3) := dk_180 0 113 (dk_at dksX12_termOf_4 13 rfl rfl)
theorem dX12_termOf_108 : decode cX12_termOf 108 = .ok (.iload_n 3, 1) := dk_29 (dk_at dksX12_termOf_4 16 rfl rfl)
theorem dX12_termOf_109 : decode cX12_termOf 109 = .ok (.iconst 1, 1) := dk_4 (dk_at dksX12_termOf_4 17 rfl rfl)
theorem dX12_termOf_110 : decode cX12_termOf 110 = .ok (.isub, 1) := dk_100 (dk_at dksX12_termOf_4 18 rfl rfl)
theorem dX12_termOf_111 : decode cX12_termOf 111 = .ok (.iload 5, 2) := dk_21 5 (dk_at dksX12_termOf_4 19 rfl rfl)
theorem dX12_termOf_113 : decode cX12_termOf 113 = .ok (.iconst 2, 1) := dk_5 (dk_at dksX12_termOf_4 21 rfl rfl)
theorem dX12_termOf_114 : decode cX12_termOf 114 = .ok (.if_icmp .ne 11, 3) := dk_160 0 11 (dk_at dksX12_termOf_5 0 rfl rfl)
theorem dX12_termOf_117 : decode cX12_termOf 117 = .ok (.iload 6, 2) := dk_21 6 (dk_at dksX12_termOf_5 3 rfl rfl)
theorem dX12_termOf_119 : decode cX12_termOf 119 = .ok (.iload 7, 2) := dk_21 7 (dk_at dksX12_termOf_5 5 rfl rfl)
theorem dX12_termOf_121 : decode cX12_termOf 121 = .ok (.iadd, 1) := dk_96 (dk_at dksX12_termOf_5 7 rfl rfl)
theorem dX12_termOf_122 : decode cX12_termOf 122 = .ok (.goto 36, 3) := dk_167 0 36 (dk_at dksX12_termOf_5 8 rfl rfl)
theorem dX12_termOf_125 : decode cX12_termOf 125 = .ok (.iload 5, 2) := dk_21 5 (dk_at dksX12_termOf_5 11 rfl rfl)
theorem dX12_termOf_127 : decode cX12_termOf 127 = .ok (.iconst 3, 1) := dk_6 (dk_at dksX12_termOf_5 13 rfl rfl)
theorem dX12_termOf_128 : decode cX12_termOf 128 = .ok (.if_icmp .ne 11, 3) := dk_160 0 11 (dk_at dksX12_termOf_5 14 rfl rfl)
theorem dX12_termOf_131 : decode cX12_termOf 131 = .ok (.iload 6, 2) := dk_21 6 (dk_at dksX12_termOf_5 17 rfl rfl)
theorem dX12_termOf_133 : decode cX12_termOf 133 = .ok (.iload 7, 2) := dk_21 7 (dk_at dksX12_termOf_5 19 rfl rfl)
theorem dX12_termOf_135 : decode cX12_termOf 135 = .ok (.isub, 1) := dk_100 (dk_at dksX12_termOf_5 21 rfl rfl)
theorem dX12_termOf_136 : decode cX12_termOf 136 = .ok (.goto 22, 3) := dk_167 0 22 (dk_at dksX12_termOf_6 0 rfl rfl)
theorem dX12_termOf_139 : decode cX12_termOf 139 = .ok (.iload 5, 2) := dk_21 5 (dk_at dksX12_termOf_6 3 rfl rfl)
theorem dX12_termOf_141 : decode cX12_termOf 141 = .ok (.iconst 4, 1) := dk_7 (dk_at dksX12_termOf_6 5 rfl rfl)
theorem dX12_termOf_142 : decode cX12_termOf 142 = .ok (.if_icmp .ne 11, 3) := dk_160 0 11 (dk_at dksX12_termOf_6 6 rfl rfl)
theorem dX12_termOf_145 : decode cX12_termOf 145 = .ok (.iload 6, 2) := dk_21 6 (dk_at dksX12_termOf_6 9 rfl rfl)
theorem dX12_termOf_147 : decode cX12_termOf 147 = .ok (.iload 7, 2) := dk_21 7 (dk_at dksX12_termOf_6 11 rfl rfl)
theorem dX12_termOf_149 : decode cX12_termOf 149 = .ok (.imul, 1) := dk_104 (dk_at dksX12_termOf_6 13 rfl rfl)
theorem dX12_termOf_150 : decode cX12_termOf 150 = .ok (.goto 8, 3) := dk_167 0 8 (dk_at dksX12_termOf_6 14 rfl rfl)
theorem dX12_termOf_153 : decode cX12_termOf 153 = .ok (.iload 6, 2) := dk_21 6 (dk_at dksX12_termOf_6 17 rfl rfl)
theorem dX12_termOf_155 : decode cX12_termOf 155 = .ok (.iload 7, 2) := dk_21 7 (dk_at dksX12_termOf_6 19 rfl rfl)
theorem dX12_termOf_157 : decode cX12_termOf 157 = .ok (.idiv, 1) := dk_108 (dk_at dksX12_termOf_6 21 rfl rfl)
theorem dX12_termOf_158 : decode cX12_termOf 158 = .ok (.iastore, 1) := dk_79 (dk_at dksX12_termOf_6 22 rfl rfl)
theorem dX12_termOf_159 : decode cX12_termOf 159 = .ok (.iinc 4 1, 3) := dk_132 4 1 (dk_at dksX12_termOf_7 0 rfl rfl)
theorem dX12_termOf_162 : decode cX12_termOf 162 = .ok (.goto (-157), 3) := dk_167 255 99 (dk_at dksX12_termOf_7 3 rfl rfl)
theorem dX12_termOf_165 : decode cX12_termOf 165 = .ok (.aload_n 0, 1) := dk_42 (dk_at dksX12_termOf_7 6 rfl rfl)
theorem dX12_termOf_166 : decode cX12_termOf 166 = .ok (.getfield 113, 3) := dk_180 0 113 (dk_at dksX12_termOf_7 7 rfl rfl)
theorem dX12_termOf_169 : decode cX12_termOf 169 = .ok (.iconst 0, 1) := dk_3 (dk_at dksX12_termOf_7 10 rfl rfl)
theorem dX12_termOf_170 : decode cX12_termOf 170 = .ok (.iaload, 1) := dk_46 (dk_at dksX12_termOf_7 11 rfl rfl)
theorem dX12_termOf_171 : decode cX12_termOf 171 = .ok (.ireturn, 1) := dk_172 (dk_at dksX12_termOf_7 12 rfl rfl)
abbrev cX12_order : ByteArray := prog_22_method_68_code
def yX12_order : MethodName := ⟨RX12, "order", "(IIIII)Z"⟩
def dkwX12_order_5 : List UInt8 := [16, 64, 27, 96, 21, 5, 79, 42, 182, 1, 143, 4, 172]
abbrev dktX12_order_5 : List UInt8 := dkwX12_order_5 ++ []
def dkwX12_order_4 : List UInt8 := [180, 0, 119, 16, 56, 27, 96, 29, 79, 42, 180, 0, 119, 16, 60, 27, 96, 21, 4, 79, 42, 180, 0, 119]
abbrev dktX12_order_4 : List UInt8 := dkwX12_order_4 ++ dktX12_order_5
def dkwX12_order_3 : List UInt8 := [96, 46, 21, 5, 160, 0, 5, 3, 172, 42, 182, 1, 125, 42, 180, 0, 119, 16, 52, 27, 96, 28, 79, 42]
abbrev dktX12_order_3 : List UInt8 := dkwX12_order_3 ++ dktX12_order_4
def dkwX12_order_2 : List UInt8 := [160, 0, 33, 42, 180, 0, 116, 16, 60, 27, 96, 46, 21, 4, 160, 0, 19, 42, 180, 0, 116, 16, 64, 27]
abbrev dktX12_order_2 : List UInt8 := dkwX12_order_2 ++ dktX12_order_3
def dkwX12_order_1 : List UInt8 := [180, 0, 116, 16, 52, 27, 96, 46, 28, 160, 0, 46, 42, 180, 0, 116, 16, 56, 27, 96, 46, 29]
abbrev dktX12_order_1 : List UInt8 := dkwX12_order_1 ++ dktX12_order_2
def dkwX12_order_0 : List UInt8 := [42, 27, 28, 29, 182, 1, 140, 153, 0, 68, 42, 21, 4, 21, 5, 182, 1, 87, 153, 0, 57, 42]
abbrev dktX12_order_0 : List UInt8 := dkwX12_order_0 ++ dktX12_order_1
theorem dksX12_order_0 : cX12_order.data.toList.drop 0 = dktX12_order_0 := by decide +kernel
theorem dksX12_order_1 : cX12_order.data.toList.drop 22 = dktX12_order_1 := dk_seg dksX12_order_0 22 rfl rfl
theorem dksX12_order_2 : cX12_order.data.toList.drop 44 = dktX12_order_2 := dk_seg dksX12_order_1 22 rfl rfl
theorem dksX12_order_3 : cX12_order.data.toList.drop 68 = dktX12_order_3 := dk_seg dksX12_order_2 24 rfl rfl
theorem dksX12_order_4 : cX12_order.data.toList.drop 92 = dktX12_order_4 := dk_seg dksX12_order_3 24 rfl rfl
theorem dksX12_order_5 : cX12_order.data.toList.drop 116 = dktX12_order_5 := dk_seg dksX12_order_4 24 rfl rfl
theorem dX12_order_0 : decode cX12_order 0 = .ok (.aload_n 0, 1) := dk_42 (dk_at dksX12_order_0 0 rfl rfl)
theorem dX12_order_1 : decode cX12_order 1 = .ok (.iload_n 1, 1) := dk_27 (dk_at dksX12_order_0 1 rfl rfl)
theorem dX12_order_2 : decode cX12_order 2 = .ok (.iload_n 2, 1) := dk_28 (dk_at dksX12_order_0 2 rfl rfl)
theorem dX12_order_3 : decode cX12_order 3 = .ok (.iload_n 3, 1) := dk_29 (dk_at dksX12_order_0 3 rfl rfl)
theorem dX12_order_4 : decode cX12_order 4 = .ok (.invokevirtual 396, 3) := dk_182 1 140 (dk_at dksX12_order_0 4 rfl rfl)
theorem dX12_order_7 : decode cX12_order 7 = .ok (.ifCond .eq 68, 3) := dk_153 0 68 (dk_at dksX12_order_0 7 rfl rfl)
theorem dX12_order_10 : decode cX12_order 10 = .ok (.aload_n 0, 1) := dk_42 (dk_at dksX12_order_0 10 rfl rfl)
theorem dX12_order_11 : decode cX12_order 11 = .ok (.iload 4, 2) := dk_21 4 (dk_at dksX12_order_0 11 rfl rfl)
theorem dX12_order_13 : decode cX12_order 13 = .ok (.iload 5, 2) := dk_21 5 (dk_at dksX12_order_0 13 rfl rfl)
theorem dX12_order_15 : decode cX12_order 15 = .ok (.invokevirtual 343, 3) := dk_182 1 87 (dk_at dksX12_order_0 15 rfl rfl)
theorem dX12_order_18 : decode cX12_order 18 = .ok (.ifCond .eq 57, 3) := dk_153 0 57 (dk_at dksX12_order_0 18 rfl rfl)
theorem dX12_order_21 : decode cX12_order 21 = .ok (.aload_n 0, 1) := dk_42 (dk_at dksX12_order_0 21 rfl rfl)
theorem dX12_order_22 : decode cX12_order 22 = .ok (.getfield 116, 3) := dk_180 0 116 (dk_at dksX12_order_1 0 rfl rfl)
theorem dX12_order_25 : decode cX12_order 25 = .ok (.bipush 52, 2) := dk_16 52 (dk_at dksX12_order_1 3 rfl rfl)
theorem dX12_order_27 : decode cX12_order 27 = .ok (.iload_n 1, 1) := dk_27 (dk_at dksX12_order_1 5 rfl rfl)
theorem dX12_order_28 : decode cX12_order 28 = .ok (.iadd, 1) := dk_96 (dk_at dksX12_order_1 6 rfl rfl)
theorem dX12_order_29 : decode cX12_order 29 = .ok (.iaload, 1) := dk_46 (dk_at dksX12_order_1 7 rfl rfl)
theorem dX12_order_30 : decode cX12_order 30 = .ok (.iload_n 2, 1) := dk_28 (dk_at dksX12_order_1 8 rfl rfl)
theorem dX12_order_31 : decode cX12_order 31 = .ok (.if_icmp .ne 46, 3) := dk_160 0 46 (dk_at dksX12_order_1 9 rfl rfl)
theorem dX12_order_34 : decode cX12_order 34 = .ok (.aload_n 0, 1) := dk_42 (dk_at dksX12_order_1 12 rfl rfl)
theorem dX12_order_35 : decode cX12_order 35 = .ok (.getfield 116, 3) := dk_180 0 116 (dk_at dksX12_order_1 13 rfl rfl)
theorem dX12_order_38 : decode cX12_order 38 = .ok (.bipush 56, 2) := dk_16 56 (dk_at dksX12_order_1 16 rfl rfl)
theorem dX12_order_40 : decode cX12_order 40 = .ok (.iload_n 1, 1) := dk_27 (dk_at dksX12_order_1 18 rfl rfl)
theorem dX12_order_41 : decode cX12_order 41 = .ok (.iadd, 1) := dk_96 (dk_at dksX12_order_1 19 rfl rfl)
theorem dX12_order_42 : decode cX12_order 42 = .ok (.iaload, 1) := dk_46 (dk_at dksX12_order_1 20 rfl rfl)
theorem dX12_order_43 : decode cX12_order 43 = .ok (.iload_n 3, 1) := dk_29 (dk_at dksX12_order_1 21 rfl rfl)
theorem dX12_order_44 : decode cX12_order 44 = .ok (.if_icmp .ne 33, 3) := dk_160 0 33 (dk_at dksX12_order_2 0 rfl rfl)
theorem dX12_order_47 : decode cX12_order 47 = .ok (.aload_n 0, 1) := dk_42 (dk_at dksX12_order_2 3 rfl rfl)
theorem dX12_order_48 : decode cX12_order 48 = .ok (.getfield 116, 3) := dk_180 0 116 (dk_at dksX12_order_2 4 rfl rfl)
theorem dX12_order_51 : decode cX12_order 51 = .ok (.bipush 60, 2) := dk_16 60 (dk_at dksX12_order_2 7 rfl rfl)
theorem dX12_order_53 : decode cX12_order 53 = .ok (.iload_n 1, 1) := dk_27 (dk_at dksX12_order_2 9 rfl rfl)
theorem dX12_order_54 : decode cX12_order 54 = .ok (.iadd, 1) := dk_96 (dk_at dksX12_order_2 10 rfl rfl)
theorem dX12_order_55 : decode cX12_order 55 = .ok (.iaload, 1) := dk_46 (dk_at dksX12_order_2 11 rfl rfl)
theorem dX12_order_56 : decode cX12_order 56 = .ok (.iload 4, 2) := dk_21 4 (dk_at dksX12_order_2 12 rfl rfl)
theorem dX12_order_58 : decode cX12_order 58 = .ok (.if_icmp .ne 19, 3) := dk_160 0 19 (dk_at dksX12_order_2 14 rfl rfl)
theorem dX12_order_61 : decode cX12_order 61 = .ok (.aload_n 0, 1) := dk_42 (dk_at dksX12_order_2 17 rfl rfl)
theorem dX12_order_62 : decode cX12_order 62 = .ok (.getfield 116, 3) := dk_180 0 116 (dk_at dksX12_order_2 18 rfl rfl)
theorem dX12_order_65 : decode cX12_order 65 = .ok (.bipush 64, 2) := dk_16 64 (dk_at dksX12_order_2 21 rfl rfl)
theorem dX12_order_67 : decode cX12_order 67 = .ok (.iload_n 1, 1) := dk_27 (dk_at dksX12_order_2 23 rfl rfl)
theorem dX12_order_68 : decode cX12_order 68 = .ok (.iadd, 1) := dk_96 (dk_at dksX12_order_3 0 rfl rfl)
theorem dX12_order_69 : decode cX12_order 69 = .ok (.iaload, 1) := dk_46 (dk_at dksX12_order_3 1 rfl rfl)
theorem dX12_order_70 : decode cX12_order 70 = .ok (.iload 5, 2) := dk_21 5 (dk_at dksX12_order_3 2 rfl rfl)
theorem dX12_order_72 : decode cX12_order 72 = .ok (.if_icmp .ne 5, 3) := dk_160 0 5 (dk_at dksX12_order_3 4 rfl rfl)
theorem dX12_order_75 : decode cX12_order 75 = .ok (.iconst 0, 1) := dk_3 (dk_at dksX12_order_3 7 rfl rfl)
theorem dX12_order_76 : decode cX12_order 76 = .ok (.ireturn, 1) := dk_172 (dk_at dksX12_order_3 8 rfl rfl)
theorem dX12_order_77 : decode cX12_order 77 = .ok (.aload_n 0, 1) := dk_42 (dk_at dksX12_order_3 9 rfl rfl)
theorem dX12_order_78 : decode cX12_order 78 = .ok (.invokevirtual 381, 3) := dk_182 1 125 (dk_at dksX12_order_3 10 rfl rfl)
theorem dX12_order_81 : decode cX12_order 81 = .ok (.aload_n 0, 1) := dk_42 (dk_at dksX12_order_3 13 rfl rfl)
theorem dX12_order_82 : decode cX12_order 82 = .ok (.getfield 119, 3) := dk_180 0 119 (dk_at dksX12_order_3 14 rfl rfl)
theorem dX12_order_85 : decode cX12_order 85 = .ok (.bipush 52, 2) := dk_16 52 (dk_at dksX12_order_3 17 rfl rfl)
theorem dX12_order_87 : decode cX12_order 87 = .ok (.iload_n 1, 1) := dk_27 (dk_at dksX12_order_3 19 rfl rfl)
theorem dX12_order_88 : decode cX12_order 88 = .ok (.iadd, 1) := dk_96 (dk_at dksX12_order_3 20 rfl rfl)
theorem dX12_order_89 : decode cX12_order 89 = .ok (.iload_n 2, 1) := dk_28 (dk_at dksX12_order_3 21 rfl rfl)
theorem dX12_order_90 : decode cX12_order 90 = .ok (.iastore, 1) := dk_79 (dk_at dksX12_order_3 22 rfl rfl)
theorem dX12_order_91 : decode cX12_order 91 = .ok (.aload_n 0, 1) := dk_42 (dk_at dksX12_order_3 23 rfl rfl)
theorem dX12_order_92 : decode cX12_order 92 = .ok (.getfield 119, 3) := dk_180 0 119 (dk_at dksX12_order_4 0 rfl rfl)
theorem dX12_order_95 : decode cX12_order 95 = .ok (.bipush 56, 2) := dk_16 56 (dk_at dksX12_order_4 3 rfl rfl)
theorem dX12_order_97 : decode cX12_order 97 = .ok (.iload_n 1, 1) := dk_27 (dk_at dksX12_order_4 5 rfl rfl)
theorem dX12_order_98 : decode cX12_order 98 = .ok (.iadd, 1) := dk_96 (dk_at dksX12_order_4 6 rfl rfl)
theorem dX12_order_99 : decode cX12_order 99 = .ok (.iload_n 3, 1) := dk_29 (dk_at dksX12_order_4 7 rfl rfl)
theorem dX12_order_100 : decode cX12_order 100 = .ok (.iastore, 1) := dk_79 (dk_at dksX12_order_4 8 rfl rfl)
theorem dX12_order_101 : decode cX12_order 101 = .ok (.aload_n 0, 1) := dk_42 (dk_at dksX12_order_4 9 rfl rfl)
theorem dX12_order_102 : decode cX12_order 102 = .ok (.getfield 119, 3) := dk_180 0 119 (dk_at dksX12_order_4 10 rfl rfl)
theorem dX12_order_105 : decode cX12_order 105 = .ok (.bipush 60, 2) := dk_16 60 (dk_at dksX12_order_4 13 rfl rfl)
theorem dX12_order_107 : decode cX12_order 107 = .ok (.iload_n 1, 1) := dk_27 (dk_at dksX12_order_4 15 rfl rfl)
theorem dX12_order_108 : decode cX12_order 108 = .ok (.iadd, 1) := dk_96 (dk_at dksX12_order_4 16 rfl rfl)
theorem dX12_order_109 : decode cX12_order 109 = .ok (.iload 4, 2) := dk_21 4 (dk_at dksX12_order_4 17 rfl rfl)
theorem dX12_order_111 : decode cX12_order 111 = .ok (.iastore, 1) := dk_79 (dk_at dksX12_order_4 19 rfl rfl)
theorem dX12_order_112 : decode cX12_order 112 = .ok (.aload_n 0, 1) := dk_42 (dk_at dksX12_order_4 20 rfl rfl)
theorem dX12_order_113 : decode cX12_order 113 = .ok (.getfield 119, 3) := dk_180 0 119 (dk_at dksX12_order_4 21 rfl rfl)
theorem dX12_order_116 : decode cX12_order 116 = .ok (.bipush 64, 2) := dk_16 64 (dk_at dksX12_order_5 0 rfl rfl)
theorem dX12_order_118 : decode cX12_order 118 = .ok (.iload_n 1, 1) := dk_27 (dk_at dksX12_order_5 2 rfl rfl)
theorem dX12_order_119 : decode cX12_order 119 = .ok (.iadd, 1) := dk_96 (dk_at dksX12_order_5 3 rfl rfl)
theorem dX12_order_120 : decode cX12_order 120 = .ok (.iload 5, 2) := dk_21 5 (dk_at dksX12_order_5 4 rfl rfl)
theorem dX12_order_122 : decode cX12_order 122 = .ok (.iastore, 1) := dk_79 (dk_at dksX12_order_5 6 rfl rfl)
theorem dX12_order_123 : decode cX12_order 123 = .ok (.aload_n 0, 1) := dk_42 (dk_at dksX12_order_5 7 rfl rfl)
theorem dX12_order_124 : decode cX12_order 124 = .ok (.invokevirtual 399, 3) := dk_182 1 143 (dk_at dksX12_order_5 8 rfl rfl)
theorem dX12_order_127 : decode cX12_order 127 = .ok (.iconst 1, 1) := dk_4 (dk_at dksX12_order_5 11 rfl rfl)
theorem dX12_order_128 : decode cX12_order 128 = .ok (.ireturn, 1) := dk_172 (dk_at dksX12_order_5 12 rfl rfl)
abbrev cX12_isPiece : ByteArray := prog_22_method_67_code
def yX12_isPiece : MethodName := ⟨RX12, "isPiece", "(III)Z"⟩
def dkwX12_isPiece_1 : List UInt8 := [184, 1, 67, 153, 0, 17, 29, 4, 16, 6, 184, 1, 67, 153, 0, 7, 4, 167, 0, 4, 3, 172]
abbrev dktX12_isPiece_1 : List UInt8 := dkwX12_isPiece_1 ++ []
def dkwX12_isPiece_0 : List UInt8 := [42, 27, 182, 1, 137, 153, 0, 38, 28, 4, 42, 180, 0, 64, 7, 42, 180, 0, 239, 104, 27, 96, 46]
abbrev dktX12_isPiece_0 : List UInt8 := dkwX12_isPiece_0 ++ dktX12_isPiece_1
theorem dksX12_isPiece_0 : cX12_isPiece.data.toList.drop 0 = dktX12_isPiece_0 := by decide +kernel
theorem dksX12_isPiece_1 : cX12_isPiece.data.toList.drop 23 = dktX12_isPiece_1 := dk_seg dksX12_isPiece_0 23 rfl rfl
theorem dX12_isPiece_0 : decode cX12_isPiece 0 = .ok (.aload_n 0, 1) := dk_42 (dk_at dksX12_isPiece_0 0 rfl rfl)
theorem dX12_isPiece_1 : decode cX12_isPiece 1 = .ok (.iload_n 1, 1) := dk_27 (dk_at dksX12_isPiece_0 1 rfl rfl)
theorem dX12_isPiece_2 : decode cX12_isPiece 2 = .ok (.invokevirtual 393, 3) := dk_182 1 137 (dk_at dksX12_isPiece_0 2 rfl rfl)
theorem dX12_isPiece_5 : decode cX12_isPiece 5 = .ok (.ifCond .eq 38, 3) := dk_153 0 38 (dk_at dksX12_isPiece_0 5 rfl rfl)
theorem dX12_isPiece_8 : decode cX12_isPiece 8 = .ok (.iload_n 2, 1) := dk_28 (dk_at dksX12_isPiece_0 8 rfl rfl)
theorem dX12_isPiece_9 : decode cX12_isPiece 9 = .ok (.iconst 1, 1) := dk_4 (dk_at dksX12_isPiece_0 9 rfl rfl)
theorem dX12_isPiece_10 : decode cX12_isPiece 10 = .ok (.aload_n 0, 1) := dk_42 (dk_at dksX12_isPiece_0 10 rfl rfl)
theorem dX12_isPiece_11 : decode cX12_isPiece 11 = .ok (.getfield 64, 3) := dk_180 0 64 (dk_at dksX12_isPiece_0 11 rfl rfl)
theorem dX12_isPiece_14 : decode cX12_isPiece 14 = .ok (.iconst 4, 1) := dk_7 (dk_at dksX12_isPiece_0 14 rfl rfl)
theorem dX12_isPiece_15 : decode cX12_isPiece 15 = .ok (.aload_n 0, 1) := dk_42 (dk_at dksX12_isPiece_0 15 rfl rfl)
theorem dX12_isPiece_16 : decode cX12_isPiece 16 = .ok (.getfield 239, 3) := dk_180 0 239 (dk_at dksX12_isPiece_0 16 rfl rfl)
theorem dX12_isPiece_19 : decode cX12_isPiece 19 = .ok (.imul, 1) := dk_104 (dk_at dksX12_isPiece_0 19 rfl rfl)
theorem dX12_isPiece_20 : decode cX12_isPiece 20 = .ok (.iload_n 1, 1) := dk_27 (dk_at dksX12_isPiece_0 20 rfl rfl)
theorem dX12_isPiece_21 : decode cX12_isPiece 21 = .ok (.iadd, 1) := dk_96 (dk_at dksX12_isPiece_0 21 rfl rfl)
theorem dX12_isPiece_22 : decode cX12_isPiece 22 = .ok (.iaload, 1) := dk_46 (dk_at dksX12_isPiece_0 22 rfl rfl)
theorem dX12_isPiece_23 : decode cX12_isPiece 23 = .ok (.invokestatic 323, 3) := dk_184 1 67 (dk_at dksX12_isPiece_1 0 rfl rfl)
theorem dX12_isPiece_26 : decode cX12_isPiece 26 = .ok (.ifCond .eq 17, 3) := dk_153 0 17 (dk_at dksX12_isPiece_1 3 rfl rfl)
theorem dX12_isPiece_29 : decode cX12_isPiece 29 = .ok (.iload_n 3, 1) := dk_29 (dk_at dksX12_isPiece_1 6 rfl rfl)
theorem dX12_isPiece_30 : decode cX12_isPiece 30 = .ok (.iconst 1, 1) := dk_4 (dk_at dksX12_isPiece_1 7 rfl rfl)
theorem dX12_isPiece_31 : decode cX12_isPiece 31 = .ok (.bipush 6, 2) := dk_16 6 (dk_at dksX12_isPiece_1 8 rfl rfl)
theorem dX12_isPiece_33 : decode cX12_isPiece 33 = .ok (.invokestatic 323, 3) := dk_184 1 67 (dk_at dksX12_isPiece_1 10 rfl rfl)
theorem dX12_isPiece_36 : decode cX12_isPiece 36 = .ok (.ifCond .eq 7, 3) := dk_153 0 7 (dk_at dksX12_isPiece_1 13 rfl rfl)
theorem dX12_isPiece_39 : decode cX12_isPiece 39 = .ok (.iconst 1, 1) := dk_4 (dk_at dksX12_isPiece_1 16 rfl rfl)
theorem dX12_isPiece_40 : decode cX12_isPiece 40 = .ok (.goto 4, 3) := dk_167 0 4 (dk_at dksX12_isPiece_1 17 rfl rfl)
theorem dX12_isPiece_43 : decode cX12_isPiece 43 = .ok (.iconst 0, 1) := dk_3 (dk_at dksX12_isPiece_1 20 rfl rfl)
theorem dX12_isPiece_44 : decode cX12_isPiece 44 = .ok (.ireturn, 1) := dk_172 (dk_at dksX12_isPiece_1 21 rfl rfl)
abbrev cX12_keeps : ByteArray := prog_22_method_66_code
def yX12_keeps : MethodName := ⟨RX12, "keeps", "()V"⟩
def dkwX12_keeps_4 : List UInt8 := [182, 0, 169, 177]
abbrev dktX12_keeps_4 : List UInt8 := dkwX12_keeps_4 ++ []
def dkwX12_keeps_3 : List UInt8 := [42, 180, 0, 116, 27, 46, 79, 132, 1, 1, 167, 255, 227, 42, 89, 180, 1, 9, 4, 96, 181, 1, 9, 42]
abbrev dktX12_keeps_3 : List UInt8 := dkwX12_keeps_3 ++ dktX12_keeps_4
def dkwX12_keeps_2 : List UInt8 := [181, 1, 9, 3, 60, 27, 16, 92, 162, 0, 29, 42, 180, 0, 122, 16, 92, 42, 180, 1, 9, 104, 27, 96]
abbrev dktX12_keeps_2 : List UInt8 := dkwX12_keeps_2 ++ dktX12_keeps_3
def dkwX12_keeps_1 : List UInt8 := [180, 0, 122, 27, 16, 92, 96, 46, 79, 132, 1, 1, 167, 255, 231, 42, 89, 180, 1, 9, 4, 100]
abbrev dktX12_keeps_1 : List UInt8 := dkwX12_keeps_1 ++ dktX12_keeps_2
def dkwX12_keeps_0 : List UInt8 := [42, 180, 1, 9, 16, 30, 160, 0, 43, 3, 60, 27, 17, 10, 108, 162, 0, 24, 42, 180, 0, 122, 27, 42]
abbrev dktX12_keeps_0 : List UInt8 := dkwX12_keeps_0 ++ dktX12_keeps_1
theorem dksX12_keeps_0 : cX12_keeps.data.toList.drop 0 = dktX12_keeps_0 := by decide +kernel
theorem dksX12_keeps_1 : cX12_keeps.data.toList.drop 24 = dktX12_keeps_1 := dk_seg dksX12_keeps_0 24 rfl rfl
theorem dksX12_keeps_2 : cX12_keeps.data.toList.drop 46 = dktX12_keeps_2 := dk_seg dksX12_keeps_1 22 rfl rfl
theorem dksX12_keeps_3 : cX12_keeps.data.toList.drop 70 = dktX12_keeps_3 := dk_seg dksX12_keeps_2 24 rfl rfl
theorem dksX12_keeps_4 : cX12_keeps.data.toList.drop 94 = dktX12_keeps_4 := dk_seg dksX12_keeps_3 24 rfl rfl
theorem dX12_keeps_0 : decode cX12_keeps 0 = .ok (.aload_n 0, 1) := dk_42 (dk_at dksX12_keeps_0 0 rfl rfl)
theorem dX12_keeps_1 : decode cX12_keeps 1 = .ok (.getfield 265, 3) := dk_180 1 9 (dk_at dksX12_keeps_0 1 rfl rfl)
theorem dX12_keeps_4 : decode cX12_keeps 4 = .ok (.bipush 30, 2) := dk_16 30 (dk_at dksX12_keeps_0 4 rfl rfl)
theorem dX12_keeps_6 : decode cX12_keeps 6 = .ok (.if_icmp .ne 43, 3) := dk_160 0 43 (dk_at dksX12_keeps_0 6 rfl rfl)
theorem dX12_keeps_9 : decode cX12_keeps 9 = .ok (.iconst 0, 1) := dk_3 (dk_at dksX12_keeps_0 9 rfl rfl)
theorem dX12_keeps_10 : decode cX12_keeps 10 = .ok (.istore_n 1, 1) := dk_60 (dk_at dksX12_keeps_0 10 rfl rfl)
theorem dX12_keeps_11 : decode cX12_keeps 11 = .ok (.iload_n 1, 1) := dk_27 (dk_at dksX12_keeps_0 11 rfl rfl)
theorem dX12_keeps_12 : decode cX12_keeps 12 = .ok (.sipush 2668, 3) := dk_17 10 108 (dk_at dksX12_keeps_0 12 rfl rfl)
theorem dX12_keeps_15 : decode cX12_keeps 15 = .ok (.if_icmp .ge 24, 3) := dk_162 0 24 (dk_at dksX12_keeps_0 15 rfl rfl)
theorem dX12_keeps_18 : decode cX12_keeps 18 = .ok (.aload_n 0, 1) := dk_42 (dk_at dksX12_keeps_0 18 rfl rfl)
theorem dX12_keeps_19 : decode cX12_keeps 19 = .ok (.getfield 122, 3) := dk_180 0 122 (dk_at dksX12_keeps_0 19 rfl rfl)
theorem dX12_keeps_22 : decode cX12_keeps 22 = .ok (.iload_n 1, 1) := dk_27 (dk_at dksX12_keeps_0 22 rfl rfl)
theorem dX12_keeps_23 : decode cX12_keeps 23 = .ok (.aload_n 0, 1) := dk_42 (dk_at dksX12_keeps_0 23 rfl rfl)
theorem dX12_keeps_24 : decode cX12_keeps 24 = .ok (.getfield 122, 3) := dk_180 0 122 (dk_at dksX12_keeps_1 0 rfl rfl)
theorem dX12_keeps_27 : decode cX12_keeps 27 = .ok (.iload_n 1, 1) := dk_27 (dk_at dksX12_keeps_1 3 rfl rfl)
theorem dX12_keeps_28 : decode cX12_keeps 28 = .ok (.bipush 92, 2) := dk_16 92 (dk_at dksX12_keeps_1 4 rfl rfl)
theorem dX12_keeps_30 : decode cX12_keeps 30 = .ok (.iadd, 1) := dk_96 (dk_at dksX12_keeps_1 6 rfl rfl)
theorem dX12_keeps_31 : decode cX12_keeps 31 = .ok (.iaload, 1) := dk_46 (dk_at dksX12_keeps_1 7 rfl rfl)
theorem dX12_keeps_32 : decode cX12_keeps 32 = .ok (.iastore, 1) := dk_79 (dk_at dksX12_keeps_1 8 rfl rfl)
theorem dX12_keeps_33 : decode cX12_keeps 33 = .ok (.iinc 1 1, 3) := dk_132 1 1 (dk_at dksX12_keeps_1 9 rfl rfl)
theorem dX12_keeps_36 : decode cX12_keeps 36 = .ok (.goto (-25), 3) := dk_167 255 231 (dk_at dksX12_keeps_1 12 rfl rfl)
theorem dX12_keeps_39 : decode cX12_keeps 39 = .ok (.aload_n 0, 1) := dk_42 (dk_at dksX12_keeps_1 15 rfl rfl)
theorem dX12_keeps_40 : decode cX12_keeps 40 = .ok (.dup, 1) := dk_89 (dk_at dksX12_keeps_1 16 rfl rfl)
theorem dX12_keeps_41 : decode cX12_keeps 41 = .ok (.getfield 265, 3) := dk_180 1 9 (dk_at dksX12_keeps_1 17 rfl rfl)
theorem dX12_keeps_44 : decode cX12_keeps 44 = .ok (.iconst 1, 1) := dk_4 (dk_at dksX12_keeps_1 20 rfl rfl)
theorem dX12_keeps_45 : decode cX12_keeps 45 = .ok (.isub, 1) := dk_100 (dk_at dksX12_keeps_1 21 rfl rfl)
theorem dX12_keeps_46 : decode cX12_keeps 46 = .ok (.putfield 265, 3) := dk_181 1 9 (dk_at dksX12_keeps_2 0 rfl rfl)
theorem dX12_keeps_49 : decode cX12_keeps 49 = .ok (.iconst 0, 1) := dk_3 (dk_at dksX12_keeps_2 3 rfl rfl)
theorem dX12_keeps_50 : decode cX12_keeps 50 = .ok (.istore_n 1, 1) := dk_60 (dk_at dksX12_keeps_2 4 rfl rfl)
theorem dX12_keeps_51 : decode cX12_keeps 51 = .ok (.iload_n 1, 1) := dk_27 (dk_at dksX12_keeps_2 5 rfl rfl)
theorem dX12_keeps_52 : decode cX12_keeps 52 = .ok (.bipush 92, 2) := dk_16 92 (dk_at dksX12_keeps_2 6 rfl rfl)
theorem dX12_keeps_54 : decode cX12_keeps 54 = .ok (.if_icmp .ge 29, 3) := dk_162 0 29 (dk_at dksX12_keeps_2 8 rfl rfl)
theorem dX12_keeps_57 : decode cX12_keeps 57 = .ok (.aload_n 0, 1) := dk_42 (dk_at dksX12_keeps_2 11 rfl rfl)
theorem dX12_keeps_58 : decode cX12_keeps 58 = .ok (.getfield 122, 3) := dk_180 0 122 (dk_at dksX12_keeps_2 12 rfl rfl)
theorem dX12_keeps_61 : decode cX12_keeps 61 = .ok (.bipush 92, 2) := dk_16 92 (dk_at dksX12_keeps_2 15 rfl rfl)
theorem dX12_keeps_63 : decode cX12_keeps 63 = .ok (.aload_n 0, 1) := dk_42 (dk_at dksX12_keeps_2 17 rfl rfl)
theorem dX12_keeps_64 : decode cX12_keeps 64 = .ok (.getfield 265, 3) := dk_180 1 9 (dk_at dksX12_keeps_2 18 rfl rfl)
theorem dX12_keeps_67 : decode cX12_keeps 67 = .ok (.imul, 1) := dk_104 (dk_at dksX12_keeps_2 21 rfl rfl)
theorem dX12_keeps_68 : decode cX12_keeps 68 = .ok (.iload_n 1, 1) := dk_27 (dk_at dksX12_keeps_2 22 rfl rfl)
theorem dX12_keeps_69 : decode cX12_keeps 69 = .ok (.iadd, 1) := dk_96 (dk_at dksX12_keeps_2 23 rfl rfl)
theorem dX12_keeps_70 : decode cX12_keeps 70 = .ok (.aload_n 0, 1) := dk_42 (dk_at dksX12_keeps_3 0 rfl rfl)
theorem dX12_keeps_71 : decode cX12_keeps 71 = .ok (.getfield 116, 3) := dk_180 0 116 (dk_at dksX12_keeps_3 1 rfl rfl)
theorem dX12_keeps_74 : decode cX12_keeps 74 = .ok (.iload_n 1, 1) := dk_27 (dk_at dksX12_keeps_3 4 rfl rfl)
theorem dX12_keeps_75 : decode cX12_keeps 75 = .ok (.iaload, 1) := dk_46 (dk_at dksX12_keeps_3 5 rfl rfl)
theorem dX12_keeps_76 : decode cX12_keeps 76 = .ok (.iastore, 1) := dk_79 (dk_at dksX12_keeps_3 6 rfl rfl)
theorem dX12_keeps_77 : decode cX12_keeps 77 = .ok (.iinc 1 1, 3) := dk_132 1 1 (dk_at dksX12_keeps_3 7 rfl rfl)
theorem dX12_keeps_80 : decode cX12_keeps 80 = .ok (.goto (-29), 3) := dk_167 255 227 (dk_at dksX12_keeps_3 10 rfl rfl)
theorem dX12_keeps_83 : decode cX12_keeps 83 = .ok (.aload_n 0, 1) := dk_42 (dk_at dksX12_keeps_3 13 rfl rfl)
theorem dX12_keeps_84 : decode cX12_keeps 84 = .ok (.dup, 1) := dk_89 (dk_at dksX12_keeps_3 14 rfl rfl)
theorem dX12_keeps_85 : decode cX12_keeps 85 = .ok (.getfield 265, 3) := dk_180 1 9 (dk_at dksX12_keeps_3 15 rfl rfl)
theorem dX12_keeps_88 : decode cX12_keeps 88 = .ok (.iconst 1, 1) := dk_4 (dk_at dksX12_keeps_3 18 rfl rfl)
theorem dX12_keeps_89 : decode cX12_keeps 89 = .ok (.iadd, 1) := dk_96 (dk_at dksX12_keeps_3 19 rfl rfl)
theorem dX12_keeps_90 : decode cX12_keeps 90 = .ok (.putfield 265, 3) := dk_181 1 9 (dk_at dksX12_keeps_3 20 rfl rfl)
theorem dX12_keeps_93 : decode cX12_keeps 93 = .ok (.aload_n 0, 1) := dk_42 (dk_at dksX12_keeps_3 23 rfl rfl)
theorem dX12_keeps_94 : decode cX12_keeps 94 = .ok (.invokevirtual 169, 3) := dk_182 0 169 (dk_at dksX12_keeps_4 0 rfl rfl)
theorem dX12_keeps_97 : decode cX12_keeps 97 = .ok (.return_, 1) := dk_177 (dk_at dksX12_keeps_4 3 rfl rfl)
abbrev cX12_stop : ByteArray := prog_22_method_69_code
def yX12_stop : MethodName := ⟨RX12, "stop", "(I)Z"⟩
def dkwX12_stop_2 : List UInt8 := [167, 255, 238, 42, 182, 1, 143, 4, 172]
abbrev dktX12_stop_2 : List UInt8 := dkwX12_stop_2 ++ []
def dkwX12_stop_1 : List UInt8 := [182, 1, 125, 16, 52, 61, 28, 16, 68, 162, 0, 18, 42, 180, 0, 119, 28, 27, 96, 3, 79, 132, 2, 4]
abbrev dktX12_stop_1 : List UInt8 := dkwX12_stop_1 ++ dktX12_stop_2
def dkwX12_stop_0 : List UInt8 := [42, 27, 182, 1, 137, 153, 0, 15, 42, 180, 0, 116, 16, 52, 27, 96, 46, 154, 0, 5, 3, 172, 42]
abbrev dktX12_stop_0 : List UInt8 := dkwX12_stop_0 ++ dktX12_stop_1
theorem dksX12_stop_0 : cX12_stop.data.toList.drop 0 = dktX12_stop_0 := by decide +kernel
theorem dksX12_stop_1 : cX12_stop.data.toList.drop 23 = dktX12_stop_1 := dk_seg dksX12_stop_0 23 rfl rfl
theorem dksX12_stop_2 : cX12_stop.data.toList.drop 47 = dktX12_stop_2 := dk_seg dksX12_stop_1 24 rfl rfl
theorem dX12_stop_0 : decode cX12_stop 0 = .ok (.aload_n 0, 1) := dk_42 (dk_at dksX12_stop_0 0 rfl rfl)
theorem dX12_stop_1 : decode cX12_stop 1 = .ok (.iload_n 1, 1) := dk_27 (dk_at dksX12_stop_0 1 rfl rfl)
theorem dX12_stop_2 : decode cX12_stop 2 = .ok (.invokevirtual 393, 3) := dk_182 1 137 (dk_at dksX12_stop_0 2 rfl rfl)
theorem dX12_stop_5 : decode cX12_stop 5 = .ok (.ifCond .eq 15, 3) := dk_153 0 15 (dk_at dksX12_stop_0 5 rfl rfl)
theorem dX12_stop_8 : decode cX12_stop 8 = .ok (.aload_n 0, 1) := dk_42 (dk_at dksX12_stop_0 8 rfl rfl)
theorem dX12_stop_9 : decode cX12_stop 9 = .ok (.getfield 116, 3) := dk_180 0 116 (dk_at dksX12_stop_0 9 rfl rfl)
theorem dX12_stop_12 : decode cX12_stop 12 = .ok (.bipush 52, 2) := dk_16 52 (dk_at dksX12_stop_0 12 rfl rfl)
theorem dX12_stop_14 : decode cX12_stop 14 = .ok (.iload_n 1, 1) := dk_27 (dk_at dksX12_stop_0 14 rfl rfl)
theorem dX12_stop_15 : decode cX12_stop 15 = .ok (.iadd, 1) := dk_96 (dk_at dksX12_stop_0 15 rfl rfl)
theorem dX12_stop_16 : decode cX12_stop 16 = .ok (.iaload, 1) := dk_46 (dk_at dksX12_stop_0 16 rfl rfl)
theorem dX12_stop_17 : decode cX12_stop 17 = .ok (.ifCond .ne 5, 3) := dk_154 0 5 (dk_at dksX12_stop_0 17 rfl rfl)
theorem dX12_stop_20 : decode cX12_stop 20 = .ok (.iconst 0, 1) := dk_3 (dk_at dksX12_stop_0 20 rfl rfl)
theorem dX12_stop_21 : decode cX12_stop 21 = .ok (.ireturn, 1) := dk_172 (dk_at dksX12_stop_0 21 rfl rfl)
theorem dX12_stop_22 : decode cX12_stop 22 = .ok (.aload_n 0, 1) := dk_42 (dk_at dksX12_stop_0 22 rfl rfl)
theorem dX12_stop_23 : decode cX12_stop 23 = .ok (.invokevirtual 381, 3) := dk_182 1 125 (dk_at dksX12_stop_1 0 rfl rfl)
theorem dX12_stop_26 : decode cX12_stop 26 = .ok (.bipush 52, 2) := dk_16 52 (dk_at dksX12_stop_1 3 rfl rfl)
theorem dX12_stop_28 : decode cX12_stop 28 = .ok (.istore_n 2, 1) := dk_61 (dk_at dksX12_stop_1 5 rfl rfl)
theorem dX12_stop_29 : decode cX12_stop 29 = .ok (.iload_n 2, 1) := dk_28 (dk_at dksX12_stop_1 6 rfl rfl)
theorem dX12_stop_30 : decode cX12_stop 30 = .ok (.bipush 68, 2) := dk_16 68 (dk_at dksX12_stop_1 7 rfl rfl)
theorem dX12_stop_32 : decode cX12_stop 32 = .ok (.if_icmp .ge 18, 3) := dk_162 0 18 (dk_at dksX12_stop_1 9 rfl rfl)
theorem dX12_stop_35 : decode cX12_stop 35 = .ok (.aload_n 0, 1) := dk_42 (dk_at dksX12_stop_1 12 rfl rfl)
theorem dX12_stop_36 : decode cX12_stop 36 = .ok (.getfield 119, 3) := dk_180 0 119 (dk_at dksX12_stop_1 13 rfl rfl)
theorem dX12_stop_39 : decode cX12_stop 39 = .ok (.iload_n 2, 1) := dk_28 (dk_at dksX12_stop_1 16 rfl rfl)
theorem dX12_stop_40 : decode cX12_stop 40 = .ok (.iload_n 1, 1) := dk_27 (dk_at dksX12_stop_1 17 rfl rfl)
theorem dX12_stop_41 : decode cX12_stop 41 = .ok (.iadd, 1) := dk_96 (dk_at dksX12_stop_1 18 rfl rfl)
theorem dX12_stop_42 : decode cX12_stop 42 = .ok (.iconst 0, 1) := dk_3 (dk_at dksX12_stop_1 19 rfl rfl)
theorem dX12_stop_43 : decode cX12_stop 43 = .ok (.iastore, 1) := dk_79 (dk_at dksX12_stop_1 20 rfl rfl)
theorem dX12_stop_44 : decode cX12_stop 44 = .ok (.iinc 2 4, 3) := dk_132 2 4 (dk_at dksX12_stop_1 21 rfl rfl)
theorem dX12_stop_47 : decode cX12_stop 47 = .ok (.goto (-18), 3) := dk_167 255 238 (dk_at dksX12_stop_2 0 rfl rfl)
theorem dX12_stop_50 : decode cX12_stop 50 = .ok (.aload_n 0, 1) := dk_42 (dk_at dksX12_stop_2 3 rfl rfl)
theorem dX12_stop_51 : decode cX12_stop 51 = .ok (.invokevirtual 399, 3) := dk_182 1 143 (dk_at dksX12_stop_2 4 rfl rfl)
theorem dX12_stop_54 : decode cX12_stop 54 = .ok (.iconst 1, 1) := dk_4 (dk_at dksX12_stop_2 7 rfl rfl)
theorem dX12_stop_55 : decode cX12_stop 55 = .ok (.ireturn, 1) := dk_172 (dk_at dksX12_stop_2 8 rfl rfl)
abbrev cX12_fall : ByteArray := prog_22_method_70_code
def yX12_fall : MethodName := ⟨RX12, "fall", "(IIIII)I"⟩
def dkwX12_fall_1 : List UInt8 := [182, 1, 125, 42, 27, 28, 29, 21, 4, 21, 5, 182, 1, 106, 54, 6, 42, 182, 1, 143, 21, 6, 172]
abbrev dktX12_fall_1 : List UInt8 := dkwX12_fall_1 ++ []
def dkwX12_fall_0 : List UInt8 := [42, 27, 28, 29, 182, 1, 140, 153, 0, 14, 42, 21, 4, 21, 5, 182, 1, 87, 154, 0, 5, 2, 172, 42]
abbrev dktX12_fall_0 : List UInt8 := dkwX12_fall_0 ++ dktX12_fall_1
theorem dksX12_fall_0 : cX12_fall.data.toList.drop 0 = dktX12_fall_0 := by decide +kernel
theorem dksX12_fall_1 : cX12_fall.data.toList.drop 24 = dktX12_fall_1 := dk_seg dksX12_fall_0 24 rfl rfl
theorem dX12_fall_0 : decode cX12_fall 0 = .ok (.aload_n 0, 1) := dk_42 (dk_at dksX12_fall_0 0 rfl rfl)
theorem dX12_fall_1 : decode cX12_fall 1 = .ok (.iload_n 1, 1) := dk_27 (dk_at dksX12_fall_0 1 rfl rfl)
theorem dX12_fall_2 : decode cX12_fall 2 = .ok (.iload_n 2, 1) := dk_28 (dk_at dksX12_fall_0 2 rfl rfl)
theorem dX12_fall_3 : decode cX12_fall 3 = .ok (.iload_n 3, 1) := dk_29 (dk_at dksX12_fall_0 3 rfl rfl)
theorem dX12_fall_4 : decode cX12_fall 4 = .ok (.invokevirtual 396, 3) := dk_182 1 140 (dk_at dksX12_fall_0 4 rfl rfl)
theorem dX12_fall_7 : decode cX12_fall 7 = .ok (.ifCond .eq 14, 3) := dk_153 0 14 (dk_at dksX12_fall_0 7 rfl rfl)
theorem dX12_fall_10 : decode cX12_fall 10 = .ok (.aload_n 0, 1) := dk_42 (dk_at dksX12_fall_0 10 rfl rfl)
theorem dX12_fall_11 : decode cX12_fall 11 = .ok (.iload 4, 2) := dk_21 4 (dk_at dksX12_fall_0 11 rfl rfl)
theorem dX12_fall_13 : decode cX12_fall 13 = .ok (.iload 5, 2) := dk_21 5 (dk_at dksX12_fall_0 13 rfl rfl)
theorem dX12_fall_15 : decode cX12_fall 15 = .ok (.invokevirtual 343, 3) := dk_182 1 87 (dk_at dksX12_fall_0 15 rfl rfl)
theorem dX12_fall_18 : decode cX12_fall 18 = .ok (.ifCond .ne 5, 3) := dk_154 0 5 (dk_at dksX12_fall_0 18 rfl rfl)
theorem dX12_fall_21 : decode cX12_fall 21 = .ok (.iconst (-1), 1) := dk_2 (dk_at dksX12_fall_0 21 rfl rfl)
theorem dX12_fall_22 : decode cX12_fall 22 = .ok (.ireturn, 1) := dk_172 (dk_at dksX12_fall_0 22 rfl rfl)
theorem dX12_fall_23 : decode cX12_fall 23 = .ok (.aload_n 0, 1) := dk_42 (dk_at dksX12_fall_0 23 rfl rfl)
theorem dX12_fall_24 : decode cX12_fall 24 = .ok (.invokevirtual 381, 3) := dk_182 1 125 (dk_at dksX12_fall_1 0 rfl rfl)
theorem dX12_fall_27 : decode cX12_fall 27 = .ok (.aload_n 0, 1) := dk_42 (dk_at dksX12_fall_1 3 rfl rfl)
theorem dX12_fall_28 : decode cX12_fall 28 = .ok (.iload_n 1, 1) := dk_27 (dk_at dksX12_fall_1 4 rfl rfl)
theorem dX12_fall_29 : decode cX12_fall 29 = .ok (.iload_n 2, 1) := dk_28 (dk_at dksX12_fall_1 5 rfl rfl)
theorem dX12_fall_30 : decode cX12_fall 30 = .ok (.iload_n 3, 1) := dk_29 (dk_at dksX12_fall_1 6 rfl rfl)
theorem dX12_fall_31 : decode cX12_fall 31 = .ok (.iload 4, 2) := dk_21 4 (dk_at dksX12_fall_1 7 rfl rfl)
theorem dX12_fall_33 : decode cX12_fall 33 = .ok (.iload 5, 2) := dk_21 5 (dk_at dksX12_fall_1 9 rfl rfl)
theorem dX12_fall_35 : decode cX12_fall 35 = .ok (.invokevirtual 362, 3) := dk_182 1 106 (dk_at dksX12_fall_1 11 rfl rfl)
theorem dX12_fall_38 : decode cX12_fall 38 = .ok (.istore 6, 2) := dk_54 6 (dk_at dksX12_fall_1 14 rfl rfl)
theorem dX12_fall_40 : decode cX12_fall 40 = .ok (.aload_n 0, 1) := dk_42 (dk_at dksX12_fall_1 16 rfl rfl)
theorem dX12_fall_41 : decode cX12_fall 41 = .ok (.invokevirtual 399, 3) := dk_182 1 143 (dk_at dksX12_fall_1 17 rfl rfl)
theorem dX12_fall_44 : decode cX12_fall 44 = .ok (.iload 6, 2) := dk_21 6 (dk_at dksX12_fall_1 20 rfl rfl)
theorem dX12_fall_46 : decode cX12_fall 46 = .ok (.ireturn, 1) := dk_172 (dk_at dksX12_fall_1 22 rfl rfl)
abbrev cX12_falls : ByteArray := prog_22_method_56_code
def yX12_falls : MethodName := ⟨RX12, "falls", "(IIIII)I"⟩
def dkwX12_falls_10 : List UInt8 := [21, 6, 96, 79, 21, 6, 172]
abbrev dktX12_falls_10 : List UInt8 := dkwX12_falls_10 ++ []
def dkwX12_falls_9 : List UInt8 := [153, 0, 16, 42, 180, 0, 119, 16, 72, 27, 96, 92, 46, 4, 96, 79, 42, 180, 0, 119, 16, 90, 92, 46]
abbrev dktX12_falls_9 : List UInt8 := dkwX12_falls_9 ++ dktX12_falls_10
def dkwX12_falls_8 : List UInt8 := [27, 96, 21, 7, 29, 96, 79, 42, 180, 0, 119, 16, 68, 27, 96, 92, 46, 21, 6, 96, 79, 21, 8]
abbrev dktX12_falls_8 : List UInt8 := dkwX12_falls_8 ++ dktX12_falls_9
def dkwX12_falls_7 : List UInt8 := [164, 0, 9, 17, 3, 231, 167, 0, 5, 21, 13, 79, 132, 9, 1, 167, 255, 97, 42, 180, 0, 119, 16, 48]
abbrev dktX12_falls_7 : List UInt8 := dkwX12_falls_7 ++ dktX12_falls_8
def dkwX12_falls_6 : List UInt8 := [21, 10, 96, 54, 13, 42, 180, 0, 119, 16, 8, 21, 12, 104, 21, 11, 96, 21, 13, 17, 3, 231]
abbrev dktX12_falls_6 : List UInt8 := dkwX12_falls_6 ++ dktX12_falls_7
def dkwX12_falls_5 : List UInt8 := [21, 12, 182, 1, 87, 154, 0, 6, 167, 0, 50, 42, 180, 0, 119, 16, 8, 21, 12, 104, 21, 11, 96, 46]
abbrev dktX12_falls_5 : List UInt8 := dkwX12_falls_5 ++ dktX12_falls_6
def dkwX12_falls_4 : List UInt8 := [96, 54, 6, 21, 4, 21, 9, 28, 112, 96, 54, 11, 21, 5, 21, 9, 28, 108, 96, 54, 12, 42, 21, 11]
abbrev dktX12_falls_4 : List UInt8 := dkwX12_falls_4 ++ dktX12_falls_5
def dkwX12_falls_3 : List UInt8 := [21, 8, 153, 0, 6, 167, 0, 101, 42, 180, 0, 119, 16, 88, 92, 46, 21, 10, 100, 79, 21, 6, 21, 10]
abbrev dktX12_falls_3 : List UInt8 := dkwX12_falls_3 ++ dktX12_falls_4
def dkwX12_falls_2 : List UInt8 := [182, 1, 100, 54, 10, 21, 10, 42, 180, 0, 119, 16, 88, 46, 164, 0, 7, 4, 167, 0, 4, 3, 54, 8]
abbrev dktX12_falls_2 : List UInt8 := dkwX12_falls_2 ++ dktX12_falls_3
def dkwX12_falls_1 : List UInt8 := [104, 162, 0, 157, 21, 8, 154, 0, 152, 42, 27, 21, 9, 28, 112, 21, 7, 21, 9, 28, 108, 96]
abbrev dktX12_falls_1 : List UInt8 := dkwX12_falls_1 ++ dktX12_falls_2
def dkwX12_falls_0 : List UInt8 := [3, 54, 6, 42, 180, 0, 119, 16, 48, 27, 96, 46, 54, 7, 3, 54, 8, 3, 54, 9, 21, 9, 28, 29]
abbrev dktX12_falls_0 : List UInt8 := dkwX12_falls_0 ++ dktX12_falls_1
theorem dksX12_falls_0 : cX12_falls.data.toList.drop 0 = dktX12_falls_0 := by decide +kernel
theorem dksX12_falls_1 : cX12_falls.data.toList.drop 24 = dktX12_falls_1 := dk_seg dksX12_falls_0 24 rfl rfl
theorem dksX12_falls_2 : cX12_falls.data.toList.drop 46 = dktX12_falls_2 := dk_seg dksX12_falls_1 22 rfl rfl
theorem dksX12_falls_3 : cX12_falls.data.toList.drop 70 = dktX12_falls_3 := dk_seg dksX12_falls_2 24 rfl rfl
theorem dksX12_falls_4 : cX12_falls.data.toList.drop 94 = dktX12_falls_4 := dk_seg dksX12_falls_3 24 rfl rfl
theorem dksX12_falls_5 : cX12_falls.data.toList.drop 118 = dktX12_falls_5 := dk_seg dksX12_falls_4 24 rfl rfl
theorem dksX12_falls_6 : cX12_falls.data.toList.drop 142 = dktX12_falls_6 := dk_seg dksX12_falls_5 24 rfl rfl
theorem dksX12_falls_7 : cX12_falls.data.toList.drop 164 = dktX12_falls_7 := dk_seg dksX12_falls_6 22 rfl rfl
theorem dksX12_falls_8 : cX12_falls.data.toList.drop 188 = dktX12_falls_8 := dk_seg dksX12_falls_7 24 rfl rfl
theorem dksX12_falls_9 : cX12_falls.data.toList.drop 211 = dktX12_falls_9 := dk_seg dksX12_falls_8 23 rfl rfl
theorem dksX12_falls_10 : cX12_falls.data.toList.drop 235 = dktX12_falls_10 := dk_seg dksX12_falls_9 24 rfl rfl
theorem dX12_falls_0 : decode cX12_falls 0 = .ok (.iconst 0, 1) := dk_3 (dk_at dksX12_falls_0 0 rfl rfl)
theorem dX12_falls_1 : decode cX12_falls 1 = .ok (.istore 6, 2) := dk_54 6 (dk_at dksX12_falls_0 1 rfl rfl)
theorem dX12_falls_3 : decode cX12_falls 3 = .ok (.aload_n 0, 1) := dk_42 (dk_at dksX12_falls_0 3 rfl rfl)
theorem dX12_falls_4 : decode cX12_falls 4 = .ok (.getfield 119, 3) := dk_180 0 119 (dk_at dksX12_falls_0 4 rfl rfl)
theorem dX12_falls_7 : decode cX12_falls 7 = .ok (.bipush 48, 2) := dk_16 48 (dk_at dksX12_falls_0 7 rfl rfl)
theorem dX12_falls_9 : decode cX12_falls 9 = .ok (.iload_n 1, 1) := dk_27 (dk_at dksX12_falls_0 9 rfl rfl)
theorem dX12_falls_10 : decode cX12_falls 10 = .ok (.iadd, 1) := dk_96 (dk_at dksX12_falls_0 10 rfl rfl)
theorem dX12_falls_11 : decode cX12_falls 11 = .ok (.iaload, 1) := dk_46 (dk_at dksX12_falls_0 11 rfl rfl)
theorem dX12_falls_12 : decode cX12_falls 12 = .ok (.istore 7, 2) := dk_54 7 (dk_at dksX12_falls_0 12 rfl rfl)
theorem dX12_falls_14 : decode cX12_falls 14 = .ok (.iconst 0, 1) := dk_3 (dk_at dksX12_falls_0 14 rfl rfl)
theorem dX12_falls_15 : decode cX12_falls 15 = .ok (.istore 8, 2) := dk_54 8 (dk_at dksX12_falls_0 15 rfl rfl)
theorem dX12_falls_17 : decode cX12_falls 17 = .ok (.iconst 0, 1) := dk_3 (dk_at dksX12_falls_0 17 rfl rfl)
theorem dX12_falls_18 : decode cX12_falls 18 = .ok (.istore 9, 2) := dk_54 9 (dk_at dksX12_falls_0 18 rfl rfl)
theorem dX12_falls_20 : decode cX12_falls 20 = .ok (.iload 9, 2) := dk_21 9 (dk_at dksX12_falls_0 20 rfl rfl)
theorem dX12_falls_22 : decode cX12_falls 22 = .ok (.iload_n 2, 1) := dk_28 (dk_at dksX12_falls_0 22 rfl rfl)
theorem dX12_falls_23 : decode cX12_falls 23 = .ok (.iload_n 3, 1) := dk_29 (dk_at dksX12_falls_0 23 rfl rfl)
theorem dX12_falls_24 : decode cX12_falls 24 = .ok (.imul, 1) := dk_104 (dk_at dksX12_falls_1 0 rfl rfl)
theorem dX12_falls_25 : decode cX12_falls 25 = .ok (.if_icmp .ge 157, 3) := dk_162 0 157 (dk_at dksX12_falls_1 1 rfl rfl)
theorem dX12_falls_28 : decode cX12_falls 28 = .ok (.iload 8, 2) := dk_21 8 (dk_at dksX12_falls_1 4 rfl rfl)
theorem dX12_falls_30 : decode cX12_falls 30 = .ok (.ifCond .ne 152, 3) := dk_154 0 152 (dk_at dksX12_falls_1 6 rfl rfl)
theorem dX12_falls_33 : decode cX12_falls 33 = .ok (.aload_n 0, 1) := dk_42 (dk_at dksX12_falls_1 9 rfl rfl)
theorem dX12_falls_34 : decode cX12_falls 34 = .ok (.iload_n 1, 1) := dk_27 (dk_at dksX12_falls_1 10 rfl rfl)
theorem dX12_falls_35 : decode cX12_falls 35 = .ok (.iload 9, 2) := dk_21 9 (dk_at dksX12_falls_1 11 rfl rfl)
theorem dX12_falls_37 : decode cX12_falls 37 = .ok (.iload_n 2, 1) := dk_28 (dk_at dksX12_falls_1 13 rfl rfl)
theorem dX12_falls_38 : decode cX12_falls 38 = .ok (.irem, 1) := dk_112 (dk_at dksX12_falls_1 14 rfl rfl)
theorem dX12_falls_39 : decode cX12_falls 39 = .ok (.iload 7, 2) := dk_21 7 (dk_at dksX12_falls_1 15 rfl rfl)
theorem dX12_falls_41 : decode cX12_falls 41 = .ok (.iload 9, 2) := dk_21 9 (dk_at dksX12_falls_1 17 rfl rfl)
theorem dX12_falls_43 : decode cX12_falls 43 = .ok (.iload_n 2, 1) := dk_28 (dk_at dksX12_falls_1 19 rfl rfl)
theorem dX12_falls_44 : decode cX12_falls 44 = .ok (.idiv, 1) := dk_108 (dk_at dksX12_falls_1 20 rfl rfl)
theorem dX12_falls_45 : decode cX12_falls 45 = .ok (.iadd, 1) := dk_96 (dk_at dksX12_falls_1 21 rfl rfl)
theorem dX12_falls_46 : decode cX12_falls 46 = .ok (.invokevirtual 356, 3) := dk_182 1 100 (dk_at dksX12_falls_2 0 rfl rfl)
theorem dX12_falls_49 : decode cX12_falls 49 = .ok (.istore 10, 2) := dk_54 10 (dk_at dksX12_falls_2 3 rfl rfl)
theorem dX12_falls_51 : decode cX12_falls 51 = .ok (.iload 10, 2) := dk_21 10 (dk_at dksX12_falls_2 5 rfl rfl)
theorem dX12_falls_53 : decode cX12_falls 53 = .ok (.aload_n 0, 1) := dk_42 (dk_at dksX12_falls_2 7 rfl rfl)
theorem dX12_falls_54 : decode cX12_falls 54 = .ok (.getfield 119, 3) := dk_180 0 119 (dk_at dksX12_falls_2 8 rfl rfl)
theorem dX12_falls_57 : decode cX12_falls 57 = .ok (.bipush 88, 2) := dk_16 88 (dk_at dksX12_falls_2 11 rfl rfl)
theorem dX12_falls_59 : decode cX12_falls 59 = .ok (.iaload, 1) := dk_46 (dk_at dksX12_falls_2 13 rfl rfl)
theorem dX12_falls_60 : decode cX12_falls 60 = .ok (.if_icmp .le 7, 3) := dk_164 0 7 (dk_at dksX12_falls_2 14 rfl rfl)
theorem dX12_falls_63 : decode cX12_falls 63 = .ok (.iconst 1, 1) := dk_4 (dk_at dksX12_falls_2 17 rfl rfl)
theorem dX12_falls_64 : decode cX12_falls 64 = .ok (.goto 4, 3) := dk_167 0 4 (dk_at dksX12_falls_2 18 rfl rfl)
theorem dX12_falls_67 : decode cX12_falls 67 = .ok (.iconst 0, 1) := dk_3 (dk_at dksX12_falls_2 21 rfl rfl)
theorem dX12_falls_68 : decode cX12_falls 68 = .ok (.istore 8, 2) := dk_54 8 (dk_at dksX12_falls_2 22 rfl rfl)
theorem dX12_falls_70 : decode cX12_falls 70 = .ok (.iload 8, 2) := dk_21 8 (dk_at dksX12_falls_3 0 rfl rfl)
theorem dX12_falls_72 : decode cX12_falls 72 = .ok (.ifCond .eq 6, 3) := dk_153 0 6 (dk_at dksX12_falls_3 2 rfl rfl)
theorem dX12_falls_75 : decode cX12_falls 75 = .ok (.goto 101, 3) := dk_167 0 101 (dk_at dksX12_falls_3 5 rfl rfl)
theorem dX12_falls_78 : decode cX12_falls 78 = .ok (.aload_n 0, 1) := dk_42 (dk_at dksX12_falls_3 8 rfl rfl)
theorem dX12_falls_79 : decode cX12_falls 79 = .ok (.getfield 119, 3) := dk_180 0 119 (dk_at dksX12_falls_3 9 rfl rfl)
theorem dX12_falls_82 : decode cX12_falls 82 = .ok (.bipush 88, 2) := dk_16 88 (dk_at dksX12_falls_3 12 rfl rfl)
theorem dX12_falls_84 : decode cX12_falls 84 = .ok (.dup2, 1) := dk_92 (dk_at dksX12_falls_3 14 rfl rfl)
theorem dX12_falls_85 : decode cX12_falls 85 = .ok (.iaload, 1) := dk_46 (dk_at dksX12_falls_3 15 rfl rfl)
theorem dX12_falls_86 : decode cX12_falls 86 = .ok (.iload 10, 2) := dk_21 10 (dk_at dksX12_falls_3 16 rfl rfl)
theorem dX12_falls_88 : decode cX12_falls 88 = .ok (.isub, 1) := dk_100 (dk_at dksX12_falls_3 18 rfl rfl)
theorem dX12_falls_89 : decode cX12_falls 89 = .ok (.iastore, 1) := dk_79 (dk_at dksX12_falls_3 19 rfl rfl)
theorem dX12_falls_90 : decode cX12_falls 90 = .ok (.iload 6, 2) := dk_21 6 (dk_at dksX12_falls_3 20 rfl rfl)
theorem dX12_falls_92 : decode cX12_falls 92 = .ok (.iload 10, 2) := dk_21 10 (dk_at dksX12_falls_3 22 rfl rfl)
theorem dX12_falls_94 : decode cX12_falls 94 = .ok (.iadd, 1) := dk_96 (dk_at dksX12_falls_4 0 rfl rfl)
theorem dX12_falls_95 : decode cX12_falls 95 = .ok (.istore 6, 2) := dk_54 6 (dk_at dksX12_falls_4 1 rfl rfl)
theorem dX12_falls_97 : decode cX12_falls 97 = .ok (.iload 4, 2) := dk_21 4 (dk_at dksX12_falls_4 3 rfl rfl)
theorem dX12_falls_99 : decode cX12_falls 99 = .ok (.iload 9, 2) := dk_21 9 (dk_at dksX12_falls_4 5 rfl rfl)
theorem dX12_falls_101 : decode cX12_falls 101 = .ok (.iload_n 2, 1) := dk_28 (dk_at dksX12_falls_4 7 rfl rfl)
theorem dX12_falls_102 : decode cX12_falls 102 = .ok (.irem, 1) := dk_112 (dk_at dksX12_falls_4 8 rfl rfl)
theorem dX12_falls_103 : decode cX12_falls 103 = .ok (.iadd, 1) := dk_96 (dk_at dksX12_falls_4 9 rfl rfl)
theorem dX12_falls_104 : decode cX12_falls 104 = .ok (.istore 11, 2) := dk_54 11 (dk_at dksX12_falls_4 10 rfl rfl)
theorem dX12_falls_106 : decode cX12_falls 106 = .ok (.iload 5, 2) := dk_21 5 (dk_at dksX12_falls_4 12 rfl rfl)
theorem dX12_falls_108 : decode cX12_falls 108 = .ok (.iload 9, 2) := dk_21 9 (dk_at dksX12_falls_4 14 rfl rfl)
theorem dX12_falls_110 : decode cX12_falls 110 = .ok (.iload_n 2, 1) := dk_28 (dk_at dksX12_falls_4 16 rfl rfl)
theorem dX12_falls_111 : decode cX12_falls 111 = .ok (.idiv, 1) := dk_108 (dk_at dksX12_falls_4 17 rfl rfl)
theorem dX12_falls_112 : decode cX12_falls 112 = .ok (.iadd, 1) := dk_96 (dk_at dksX12_falls_4 18 rfl rfl)
theorem dX12_falls_113 : decode cX12_falls 113 = .ok (.istore 12, 2) := dk_54 12 (dk_at dksX12_falls_4 19 rfl rfl)
theorem dX12_falls_115 : decode cX12_falls 115 = .ok (.aload_n 0, 1) := dk_42 (dk_at dksX12_falls_4 21 rfl rfl)
theorem dX12_falls_116 : decode cX12_falls 116 = .ok (.iload 11, 2) := dk_21 11 (dk_at dksX12_falls_4 22 rfl rfl)
theorem dX12_falls_118 : decode cX12_falls 118 = .ok (.iload 12, 2) := dk_21 12 (dk_at dksX12_falls_5 0 rfl rfl)
theorem dX12_falls_120 : decode cX12_falls 120 = .ok (.invokevirtual 343, 3) := dk_182 1 87 (dk_at dksX12_falls_5 2 rfl rfl)
theorem dX12_falls_123 : decode cX12_falls 123 = .ok (.ifCond .ne 6, 3) := dk_154 0 6 (dk_at dksX12_falls_5 5 rfl rfl)
theorem dX12_falls_126 : decode cX12_falls 126 = .ok (.goto 50, 3) := dk_167 0 50 (dk_at dksX12_falls_5 8 rfl rfl)
theorem dX12_falls_129 : decode cX12_falls 129 = .ok (.aload_n 0, 1) := dk_42 (dk_at dksX12_falls_5 11 rfl rfl)
theorem dX12_falls_130 : decode cX12_falls 130 = .ok (.getfield 119, 3) := dk_180 0 119 (dk_at dksX12_falls_5 12 rfl rfl)
theorem dX12_falls_133 : decode cX12_falls 133 = .ok (.bipush 8, 2) := dk_16 8 (dk_at dksX12_falls_5 15 rfl rfl)
theorem dX12_falls_135 : decode cX12_falls 135 = .ok (.iload 12, 2) := dk_21 12 (dk_at dksX12_falls_5 17 rfl rfl)
theorem dX12_falls_137 : decode cX12_falls 137 = .ok (.imul, 1) := dk_104 (dk_at dksX12_falls_5 19 rfl rfl)
theorem dX12_falls_138 : decode cX12_falls 138 = .ok (.iload 11, 2) := dk_21 11 (dk_at dksX12_falls_5 20 rfl rfl)
theorem dX12_falls_140 : decode cX12_falls 140 = .ok (.iadd, 1) := dk_96 (dk_at dksX12_falls_5 22 rfl rfl)
theorem dX12_falls_141 : decode cX12_falls 141 = .ok (.iaload, 1) := dk_46 (dk_at dksX12_falls_5 23 rfl rfl)
theorem dX12_falls_142 : decode cX12_falls 142 = .ok (.iload 10, 2) := dk_21 10 (dk_at dksX12_falls_6 0 rfl rfl)
theorem dX12_falls_144 : decode cX12_falls 144 = .ok (.iadd, 1) := dk_96 (dk_at dksX12_falls_6 2 rfl rfl)
theorem dX12_falls_145 : decode cX12_falls 145 = .ok (.istore 13, 2) := dk_54 13 (dk_at dksX12_falls_6 3 rfl rfl)
theorem dX12_falls_147 : decode cX12_falls 147 = .ok (.aload_n 0, 1) := dk_42 (dk_at dksX12_falls_6 5 rfl rfl)
theorem dX12_falls_148 : decode cX12_falls 148 = .ok (.getfield 119, 3) := dk_180 0 119 (dk_at dksX12_falls_6 6 rfl rfl)
theorem dX12_falls_151 : decode cX12_falls 151 = .ok (.bipush 8, 2) := dk_16 8 (dk_at dksX12_falls_6 9 rfl rfl)
theorem dX12_falls_153 : decode cX12_falls 153 = .ok (.iload 12, 2) := dk_21 12 (dk_at dksX12_falls_6 11 rfl rfl)
theorem dX12_falls_155 : decode cX12_falls 155 = .ok (.imul, 1) := dk_104 (dk_at dksX12_falls_6 13 rfl rfl)
theorem dX12_falls_156 : decode cX12_falls 156 = .ok (.iload 11, 2) := dk_21 11 (dk_at dksX12_falls_6 14 rfl rfl)
theorem dX12_falls_158 : decode cX12_falls 158 = .ok (.iadd, 1) := dk_96 (dk_at dksX12_falls_6 16 rfl rfl)
theorem dX12_falls_159 : decode cX12_falls 159 = .ok (.iload 13, 2) := dk_21 13 (dk_at dksX12_falls_6 17 rfl rfl)
theorem dX12_falls_161 : decode cX12_falls 161 = .ok (.sipush 999, 3) := dk_17 3 231 (dk_at dksX12_falls_6 19 rfl rfl)
theorem dX12_falls_164 : decode cX12_falls 164 = .ok (.if_icmp .le 9, 3) := dk_164 0 9 (dk_at dksX12_falls_7 0 rfl rfl)
theorem dX12_falls_167 : decode cX12_falls 167 = .ok (.sipush 999, 3) := dk_17 3 231 (dk_at dksX12_falls_7 3 rfl rfl)
theorem dX12_falls_170 : decode cX12_falls 170 = .ok (.goto 5, 3) := dk_167 0 5 (dk_at dksX12_falls_7 6 rfl rfl)
theorem dX12_falls_173 : decode cX12_falls 173 = .ok (.iload 13, 2) := dk_21 13 (dk_at dksX12_falls_7 9 rfl rfl)
theorem dX12_falls_175 : decode cX12_falls 175 = .ok (.iastore, 1) := dk_79 (dk_at dksX12_falls_7 11 rfl rfl)
theorem dX12_falls_176 : decode cX12_falls 176 = .ok (.iinc 9 1, 3) := dk_132 9 1 (dk_at dksX12_falls_7 12 rfl rfl)
theorem dX12_falls_179 : decode cX12_falls 179 = .ok (.goto (-159), 3) := dk_167 255 97 (dk_at dksX12_falls_7 15 rfl rfl)
theorem dX12_falls_182 : decode cX12_falls 182 = .ok (.aload_n 0, 1) := dk_42 (dk_at dksX12_falls_7 18 rfl rfl)
theorem dX12_falls_183 : decode cX12_falls 183 = .ok (.getfield 119, 3) := dk_180 0 119 (dk_at dksX12_falls_7 19 rfl rfl)
theorem dX12_falls_186 : decode cX12_falls 186 = .ok (.bipush 48, 2) := dk_16 48 (dk_at dksX12_falls_7 22 rfl rfl)
theorem dX12_falls_188 : decode cX12_falls 188 = .ok (.iload_n 1, 1) := dk_27 (dk_at dksX12_falls_8 0 rfl rfl)
theorem dX12_falls_189 : decode cX12_falls 189 = .ok (.iadd, 1) := dk_96 (dk_at dksX12_falls_8 1 rfl rfl)
theorem dX12_falls_190 : decode cX12_falls 190 = .ok (.iload 7, 2) := dk_21 7 (dk_at dksX12_falls_8 2 rfl rfl)
theorem dX12_falls_192 : decode cX12_falls 192 = .ok (.iload_n 3, 1) := dk_29 (dk_at dksX12_falls_8 4 rfl rfl)
theorem dX12_falls_193 : decode cX12_falls 193 = .ok (.iadd, 1) := dk_96 (dk_at dksX12_falls_8 5 rfl rfl)
theorem dX12_falls_194 : decode cX12_falls 194 = .ok (.iastore, 1) := dk_79 (dk_at dksX12_falls_8 6 rfl rfl)
theorem dX12_falls_195 : decode cX12_falls 195 = .ok (.aload_n 0, 1) := dk_42 (dk_at dksX12_falls_8 7 rfl rfl)
theorem dX12_falls_196 : decode cX12_falls 196 = .ok (.getfield 119, 3) := dk_180 0 119 (dk_at dksX12_falls_8 8 rfl rfl)
theorem dX12_falls_199 : decode cX12_falls 199 = .ok (.bipush 68, 2) := dk_16 68 (dk_at dksX12_falls_8 11 rfl rfl)
theorem dX12_falls_201 : decode cX12_falls 201 = .ok (.iload_n 1, 1) := dk_27 (dk_at dksX12_falls_8 13 rfl rfl)
theorem dX12_falls_202 : decode cX12_falls 202 = .ok (.iadd, 1) := dk_96 (dk_at dksX12_falls_8 14 rfl rfl)
theorem dX12_falls_203 : decode cX12_falls 203 = .ok (.dup2, 1) := dk_92 (dk_at dksX12_falls_8 15 rfl rfl)
theorem dX12_falls_204 : decode cX12_falls 204 = .ok (.iaload, 1) := dk_46 (dk_at dksX12_falls_8 16 rfl rfl)
theorem dX12_falls_205 : decode cX12_falls 205 = .ok (.iload 6, 2) := dk_21 6 (dk_at dksX12_falls_8 17 rfl rfl)
theorem dX12_falls_207 : decode cX12_falls 207 = .ok (.iadd, 1) := dk_96 (dk_at dksX12_falls_8 19 rfl rfl)
theorem dX12_falls_208 : decode cX12_falls 208 = .ok (.iastore, 1) := dk_79 (dk_at dksX12_falls_8 20 rfl rfl)
theorem dX12_falls_209 : decode cX12_falls 209 = .ok (.iload 8, 2) := dk_21 8 (dk_at dksX12_falls_8 21 rfl rfl)
theorem dX12_falls_211 : decode cX12_falls 211 = .ok (.ifCond .eq 16, 3) := dk_153 0 16 (dk_at dksX12_falls_9 0 rfl rfl)
theorem dX12_falls_214 : decode cX12_falls 214 = .ok (.aload_n 0, 1) := dk_42 (dk_at dksX12_falls_9 3 rfl rfl)
theorem dX12_falls_215 : decode cX12_falls 215 = .ok (.getfield 119, 3) := dk_180 0 119 (dk_at dksX12_falls_9 4 rfl rfl)
theorem dX12_falls_218 : decode cX12_falls 218 = .ok (.bipush 72, 2) := dk_16 72 (dk_at dksX12_falls_9 7 rfl rfl)
theorem dX12_falls_220 : decode cX12_falls 220 = .ok (.iload_n 1, 1) := dk_27 (dk_at dksX12_falls_9 9 rfl rfl)
theorem dX12_falls_221 : decode cX12_falls 221 = .ok (.iadd, 1) := dk_96 (dk_at dksX12_falls_9 10 rfl rfl)
theorem dX12_falls_222 : decode cX12_falls 222 = .ok (.dup2, 1) := dk_92 (dk_at dksX12_falls_9 11 rfl rfl)
theorem dX12_falls_223 : decode cX12_falls 223 = .ok (.iaload, 1) := dk_46 (dk_at dksX12_falls_9 12 rfl rfl)
theorem dX12_falls_224 : decode cX12_falls 224 = .ok (.iconst 1, 1) := dk_4 (dk_at dksX12_falls_9 13 rfl rfl)
theorem dX12_falls_225 : decode cX12_falls 225 = .ok (.iadd, 1) := dk_96 (dk_at dksX12_falls_9 14 rfl rfl)
theorem dX12_falls_226 : decode cX12_falls 226 = .ok (.iastore, 1) := dk_79 (dk_at dksX12_falls_9 15 rfl rfl)
theorem dX12_falls_227 : decode cX12_falls 227 = .ok (.aload_n 0, 1) := dk_42 (dk_at dksX12_falls_9 16 rfl rfl)
theorem dX12_falls_228 : decode cX12_falls 228 = .ok (.getfield 119, 3) := dk_180 0 119 (dk_at dksX12_falls_9 17 rfl rfl)
theorem dX12_falls_231 : decode cX12_falls 231 = .ok (.bipush 90, 2) := dk_16 90 (dk_at dksX12_falls_9 20 rfl rfl)
theorem dX12_falls_233 : decode cX12_falls 233 = .ok (.dup2, 1) := dk_92 (dk_at dksX12_falls_9 22 rfl rfl)
theorem dX12_falls_234 : decode cX12_falls 234 = .ok (.iaload, 1) := dk_46 (dk_at dksX12_falls_9 23 rfl rfl)
theorem dX12_falls_235 : decode cX12_falls 235 = .ok (.iload 6, 2) := dk_21 6 (dk_at dksX12_falls_10 0 rfl rfl)
theorem dX12_falls_237 : decode cX12_falls 237 = .ok (.iadd, 1) := dk_96 (dk_at dksX12_falls_10 2 rfl rfl)
theorem dX12_falls_238 : decode cX12_falls 238 = .ok (.iastore, 1) := dk_79 (dk_at dksX12_falls_10 3 rfl rfl)
theorem dX12_falls_239 : decode cX12_falls 239 = .ok (.iload 6, 2) := dk_21 6 (dk_at dksX12_falls_10 4 rfl rfl)
theorem dX12_falls_241 : decode cX12_falls 241 = .ok (.ireturn, 1) := dk_172 (dk_at dksX12_falls_10 6 rfl rfl)
abbrev cX12_turn : ByteArray := prog_22_method_71_code
def yX12_turn : MethodName := ⟨RX12, "turn", "(II)I"⟩
def dkwX12_turn_2 : List UInt8 := [96, 46, 172]
abbrev dktX12_turn_2 : List UInt8 := dkwX12_turn_2 ++ []
def dkwX12_turn_1 : List UInt8 := [42, 180, 0, 119, 16, 48, 27, 96, 92, 46, 28, 96, 79, 42, 182, 1, 143, 42, 180, 0, 116, 16, 48, 27]
abbrev dktX12_turn_1 : List UInt8 := dkwX12_turn_1 ++ dktX12_turn_2
def dkwX12_turn_0 : List UInt8 := [42, 27, 182, 1, 137, 153, 0, 13, 28, 4, 16, 99, 184, 1, 67, 154, 0, 5, 2, 172, 42, 182, 1, 125]
abbrev dktX12_turn_0 : List UInt8 := dkwX12_turn_0 ++ dktX12_turn_1
theorem dksX12_turn_0 : cX12_turn.data.toList.drop 0 = dktX12_turn_0 := by decide +kernel
theorem dksX12_turn_1 : cX12_turn.data.toList.drop 24 = dktX12_turn_1 := dk_seg dksX12_turn_0 24 rfl rfl
theorem dksX12_turn_2 : cX12_turn.data.toList.drop 48 = dktX12_turn_2 := dk_seg dksX12_turn_1 24 rfl rfl
theorem dX12_turn_0 : decode cX12_turn 0 = .ok (.aload_n 0, 1) := dk_42 (dk_at dksX12_turn_0 0 rfl rfl)
theorem dX12_turn_1 : decode cX12_turn 1 = .ok (.iload_n 1, 1) := dk_27 (dk_at dksX12_turn_0 1 rfl rfl)
theorem dX12_turn_2 : decode cX12_turn 2 = .ok (.invokevirtual 393, 3) := dk_182 1 137 (dk_at dksX12_turn_0 2 rfl rfl)
theorem dX12_turn_5 : decode cX12_turn 5 = .ok (.ifCond .eq 13, 3) := dk_153 0 13 (dk_at dksX12_turn_0 5 rfl rfl)
theorem dX12_turn_8 : decode cX12_turn 8 = .ok (.iload_n 2, 1) := dk_28 (dk_at dksX12_turn_0 8 rfl rfl)
theorem dX12_turn_9 : decode cX12_turn 9 = .ok (.iconst 1, 1) := dk_4 (dk_at dksX12_turn_0 9 rfl rfl)
theorem dX12_turn_10 : decode cX12_turn 10 = .ok (.bipush 99, 2) := dk_16 99 (dk_at dksX12_turn_0 10 rfl rfl)
theorem dX12_turn_12 : decode cX12_turn 12 = .ok (.invokestatic 323, 3) := dk_184 1 67 (dk_at dksX12_turn_0 12 rfl rfl)
theorem dX12_turn_15 : decode cX12_turn 15 = .ok (.ifCond .ne 5, 3) := dk_154 0 5 (dk_at dksX12_turn_0 15 rfl rfl)
theorem dX12_turn_18 : decode cX12_turn 18 = .ok (.iconst (-1), 1) := dk_2 (dk_at dksX12_turn_0 18 rfl rfl)
theorem dX12_turn_19 : decode cX12_turn 19 = .ok (.ireturn, 1) := dk_172 (dk_at dksX12_turn_0 19 rfl rfl)
theorem dX12_turn_20 : decode cX12_turn 20 = .ok (.aload_n 0, 1) := dk_42 (dk_at dksX12_turn_0 20 rfl rfl)
theorem dX12_turn_21 : decode cX12_turn 21 = .ok (.invokevirtual 381, 3) := dk_182 1 125 (dk_at dksX12_turn_0 21 rfl rfl)
theorem dX12_turn_24 : decode cX12_turn 24 = .ok (.aload_n 0, 1) := dk_42 (dk_at dksX12_turn_1 0 rfl rfl)
theorem dX12_turn_25 : decode cX12_turn 25 = .ok (.getfield 119, 3) := dk_180 0 119 (dk_at dksX12_turn_1 1 rfl rfl)
theorem dX12_turn_28 : decode cX12_turn 28 = .ok (.bipush 48, 2) := dk_16 48 (dk_at dksX12_turn_1 4 rfl rfl)
theorem dX12_turn_30 : decode cX12_turn 30 = .ok (.iload_n 1, 1) := dk_27 (dk_at dksX12_turn_1 6 rfl rfl)
theorem dX12_turn_31 : decode cX12_turn 31 = .ok (.iadd, 1) := dk_96 (dk_at dksX12_turn_1 7 rfl rfl)
theorem dX12_turn_32 : decode cX12_turn 32 = .ok (.dup2, 1) := dk_92 (dk_at dksX12_turn_1 8 rfl rfl)
theorem dX12_turn_33 : decode cX12_turn 33 = .ok (.iaload, 1) := dk_46 (dk_at dksX12_turn_1 9 rfl rfl)
theorem dX12_turn_34 : decode cX12_turn 34 = .ok (.iload_n 2, 1) := dk_28 (dk_at dksX12_turn_1 10 rfl rfl)
theorem dX12_turn_35 : decode cX12_turn 35 = .ok (.iadd, 1) := dk_96 (dk_at dksX12_turn_1 11 rfl rfl)
theorem dX12_turn_36 : decode cX12_turn 36 = .ok (.iastore, 1) := dk_79 (dk_at dksX12_turn_1 12 rfl rfl)
theorem dX12_turn_37 : decode cX12_turn 37 = .ok (.aload_n 0, 1) := dk_42 (dk_at dksX12_turn_1 13 rfl rfl)
theorem dX12_turn_38 : decode cX12_turn 38 = .ok (.invokevirtual 399, 3) := dk_182 1 143 (dk_at dksX12_turn_1 14 rfl rfl)
theorem dX12_turn_41 : decode cX12_turn 41 = .ok (.aload_n 0, 1) := dk_42 (dk_at dksX12_turn_1 17 rfl rfl)
theorem dX12_turn_42 : decode cX12_turn 42 = .ok (.getfield 116, 3) := dk_180 0 116 (dk_at dksX12_turn_1 18 rfl rfl)
theorem dX12_turn_45 : decode cX12_turn 45 = .ok (.bipush 48, 2) := dk_16 48 (dk_at dksX12_turn_1 21 rfl rfl)
theorem dX12_turn_47 : decode cX12_turn 47 = .ok (.iload_n 1, 1) := dk_27 (dk_at dksX12_turn_1 23 rfl rfl)
theorem dX12_turn_48 : decode cX12_turn 48 = .ok (.iadd, 1) := dk_96 (dk_at dksX12_turn_2 0 rfl rfl)
theorem dX12_turn_49 : decode cX12_turn 49 = .ok (.iaload, 1) := dk_46 (dk_at dksX12_turn_2 1 rfl rfl)
theorem dX12_turn_50 : decode cX12_turn 50 = .ok (.ireturn, 1) := dk_172 (dk_at dksX12_turn_2 2 rfl rfl)
abbrev cX12_days : ByteArray := prog_22_method_72_code
def yX12_days : MethodName := ⟨RX12, "days", "(I)I"⟩
def dkwX12_days_1 : List UInt8 := [42, 182, 1, 125, 42, 27, 182, 1, 146, 42, 182, 1, 143, 42, 180, 0, 116, 16, 89, 46, 172]
abbrev dktX12_days_1 : List UInt8 := dkwX12_days_1 ++ []
def dkwX12_days_0 : List UInt8 := [27, 3, 16, 30, 184, 1, 67, 154, 0, 5, 2, 172, 27, 154, 0, 11, 42, 180, 0, 116, 16, 89, 46, 172]
abbrev dktX12_days_0 : List UInt8 := dkwX12_days_0 ++ dktX12_days_1
theorem dksX12_days_0 : cX12_days.data.toList.drop 0 = dktX12_days_0 := by decide +kernel
theorem dksX12_days_1 : cX12_days.data.toList.drop 24 = dktX12_days_1 := dk_seg dksX12_days_0 24 rfl rfl
theorem dX12_days_0 : decode cX12_days 0 = .ok (.iload_n 1, 1) := dk_27 (dk_at dksX12_days_0 0 rfl rfl)
theorem dX12_days_1 : decode cX12_days 1 = .ok (.iconst 0, 1) := dk_3 (dk_at dksX12_days_0 1 rfl rfl)
theorem dX12_days_2 : decode cX12_days 2 = .ok (.bipush 30, 2) := dk_16 30 (dk_at dksX12_days_0 2 rfl rfl)
theorem dX12_days_4 : decode cX12_days 4 = .ok (.invokestatic 323, 3) := dk_184 1 67 (dk_at dksX12_days_0 4 rfl rfl)
theorem dX12_days_7 : decode cX12_days 7 = .ok (.ifCond .ne 5, 3) := dk_154 0 5 (dk_at dksX12_days_0 7 rfl rfl)
theorem dX12_days_10 : decode cX12_days 10 = .ok (.iconst (-1), 1) := dk_2 (dk_at dksX12_days_0 10 rfl rfl)
theorem dX12_days_11 : decode cX12_days 11 = .ok (.ireturn, 1) := dk_172 (dk_at dksX12_days_0 11 rfl rfl)
theorem dX12_days_12 : decode cX12_days 12 = .ok (.iload_n 1, 1) := dk_27 (dk_at dksX12_days_0 12 rfl rfl)
theorem dX12_days_13 : decode cX12_days 13 = .ok (.ifCond .ne 11, 3) := dk_154 0 11 (dk_at dksX12_days_0 13 rfl rfl)
theorem dX12_days_16 : decode cX12_days 16 = .ok (.aload_n 0, 1) := dk_42 (dk_at dksX12_days_0 16 rfl rfl)
theorem dX12_days_17 : decode cX12_days 17 = .ok (.getfield 116, 3) := dk_180 0 116 (dk_at dksX12_days_0 17 rfl rfl)
theorem dX12_days_20 : decode cX12_days 20 = .ok (.bipush 89, 2) := dk_16 89 (dk_at dksX12_days_0 20 rfl rfl)
theorem dX12_days_22 : decode cX12_days 22 = .ok (.iaload, 1) := dk_46 (dk_at dksX12_days_0 22 rfl rfl)
theorem dX12_days_23 : decode cX12_days 23 = .ok (.ireturn, 1) := dk_172 (dk_at dksX12_days_0 23 rfl rfl)
theorem dX12_days_24 : decode cX12_days 24 = .ok (.aload_n 0, 1) := dk_42 (dk_at dksX12_days_1 0 rfl rfl)
theorem dX12_days_25 : decode cX12_days 25 = .ok (.invokevirtual 381, 3) := dk_182 1 125 (dk_at dksX12_days_1 1 rfl rfl)
theorem dX12_days_28 : decode cX12_days 28 = .ok (.aload_n 0, 1) := dk_42 (dk_at dksX12_days_1 4 rfl rfl)
theorem dX12_days_29 : decode cX12_days 29 = .ok (.iload_n 1, 1) := dk_27 (dk_at dksX12_days_1 5 rfl rfl)
theorem dX12_days_30 : decode cX12_days 30 = .ok (.invokevirtual 402, 3) := dk_182 1 146 (dk_at dksX12_days_1 6 rfl rfl)
theorem dX12_days_33 : decode cX12_days 33 = .ok (.aload_n 0, 1) := dk_42 (dk_at dksX12_days_1 9 rfl rfl)
theorem dX12_days_34 : decode cX12_days 34 = .ok (.invokevirtual 399, 3) := dk_182 1 143 (dk_at dksX12_days_1 10 rfl rfl)
theorem dX12_days_37 : decode cX12_days 37 = .ok (.aload_n 0, 1) := dk_42 (dk_at dksX12_days_1 13 rfl rfl)
theorem dX12_days_38 : decode cX12_days 38 = .ok (.getfield 116, 3) := dk_180 0 116 (dk_at dksX12_days_1 14 rfl rfl)
theorem dX12_days_41 : decode cX12_days 41 = .ok (.bipush 89, 2) := dk_16 89 (dk_at dksX12_days_1 17 rfl rfl)
theorem dX12_days_43 : decode cX12_days 43 = .ok (.iaload, 1) := dk_46 (dk_at dksX12_days_1 19 rfl rfl)
theorem dX12_days_44 : decode cX12_days 44 = .ok (.ireturn, 1) := dk_172 (dk_at dksX12_days_1 20 rfl rfl)
abbrev cX12_goes : ByteArray := prog_22_method_59_code
def yX12_goes : MethodName := ⟨RX12, "goes", "(I)V"⟩
def dkwX12_goes_0 : List UInt8 := [3, 61, 28, 27, 162, 0, 13, 42, 182, 1, 122, 132, 2, 1, 167, 255, 244, 177]
abbrev dktX12_goes_0 : List UInt8 := dkwX12_goes_0 ++ []
theorem dksX12_goes_0 : cX12_goes.data.toList.drop 0 = dktX12_goes_0 := by decide +kernel
theorem dX12_goes_0 : decode cX12_goes 0 = .ok (.iconst 0, 1) := dk_3 (dk_at dksX12_goes_0 0 rfl rfl)
theorem dX12_goes_1 : decode cX12_goes 1 = .ok (.istore_n 2, 1) := dk_61 (dk_at dksX12_goes_0 1 rfl rfl)
theorem dX12_goes_2 : decode cX12_goes 2 = .ok (.iload_n 2, 1) := dk_28 (dk_at dksX12_goes_0 2 rfl rfl)
theorem dX12_goes_3 : decode cX12_goes 3 = .ok (.iload_n 1, 1) := dk_27 (dk_at dksX12_goes_0 3 rfl rfl)
theorem dX12_goes_4 : decode cX12_goes 4 = .ok (.if_icmp .ge 13, 3) := dk_162 0 13 (dk_at dksX12_goes_0 4 rfl rfl)
theorem dX12_goes_7 : decode cX12_goes 7 = .ok (.aload_n 0, 1) := dk_42 (dk_at dksX12_goes_0 7 rfl rfl)
theorem dX12_goes_8 : decode cX12_goes 8 = .ok (.invokevirtual 378, 3) := dk_182 1 122 (dk_at dksX12_goes_0 8 rfl rfl)
theorem dX12_goes_11 : decode cX12_goes 11 = .ok (.iinc 2 1, 3) := dk_132 2 1 (dk_at dksX12_goes_0 11 rfl rfl)
theorem dX12_goes_14 : decode cX12_goes 14 = .ok (.goto (-12), 3) := dk_167 255 244 (dk_at dksX12_goes_0 14 rfl rfl)
theorem dX12_goes_17 : decode cX12_goes 17 = .ok (.return_, 1) := dk_177 (dk_at dksX12_goes_0 17 rfl rfl)
abbrev cX12_dayGoes : ByteArray := prog_22_method_58_code
def yX12_dayGoes : MethodName := ⟨RX12, "dayGoes", "()V"⟩
def dkwX12_dayGoes_13 : List UInt8 := [180, 0, 119, 16, 89, 92, 46, 4, 96, 79, 177]
abbrev dktX12_dayGoes_13 : List UInt8 := dkwX12_dayGoes_13 ++ []
def dkwX12_dayGoes_12 : List UInt8 := [96, 60, 42, 180, 0, 119, 16, 88, 27, 17, 39, 15, 164, 0, 9, 17, 39, 15, 167, 0, 4, 27, 79, 42]
abbrev dktX12_dayGoes_12 : List UInt8 := dkwX12_dayGoes_12 ++ dktX12_dayGoes_13
def dkwX12_dayGoes_11 : List UInt8 := [42, 180, 0, 119, 16, 89, 46, 79, 42, 180, 0, 119, 16, 88, 46, 42, 5, 3, 17, 3, 231, 182, 1, 84]
abbrev dktX12_dayGoes_11 : List UInt8 := dkwX12_dayGoes_11 ++ dktX12_dayGoes_12
def dkwX12_dayGoes_10 : List UInt8 := [46, 28, 100, 167, 0, 4, 3, 79, 132, 1, 1, 167, 255, 202, 42, 182, 1, 81, 42, 180, 0, 110, 16, 6]
abbrev dktX12_dayGoes_10 : List UInt8 := dkwX12_dayGoes_10 ++ dktX12_dayGoes_11
def dkwX12_dayGoes_9 : List UInt8 := [182, 1, 119, 61, 42, 180, 0, 119, 27, 42, 180, 0, 119, 27, 46, 28, 164, 0, 14, 42, 180, 0, 119, 27]
abbrev dktX12_dayGoes_9 : List UInt8 := dkwX12_dayGoes_9 ++ dktX12_dayGoes_10
def dkwX12_dayGoes_8 : List UInt8 := [167, 255, 186, 3, 60, 27, 16, 48, 162, 0, 54, 42, 27, 182, 1, 110, 154, 0, 6, 167, 0, 37, 42, 27]
abbrev dktX12_dayGoes_8 : List UInt8 := dkwX12_dayGoes_8 ++ dktX12_dayGoes_9
def dkwX12_dayGoes_7 : List UInt8 := [153, 0, 20, 42, 180, 0, 119, 16, 82, 42, 27, 182, 1, 91, 96, 92, 46, 4, 96, 79, 132, 1, 1]
abbrev dktX12_dayGoes_7 : List UInt8 := dkwX12_dayGoes_7 ++ dktX12_dayGoes_8
def dkwX12_dayGoes_6 : List UInt8 := [42, 180, 0, 119, 16, 76, 42, 27, 182, 1, 91, 96, 92, 46, 4, 96, 79, 42, 27, 182, 1, 116]
abbrev dktX12_dayGoes_6 : List UInt8 := dkwX12_dayGoes_6 ++ dktX12_dayGoes_7
def dkwX12_dayGoes_5 : List UInt8 := [16, 48, 162, 0, 70, 42, 27, 182, 1, 110, 154, 0, 6, 167, 0, 53, 42, 27, 182, 1, 113, 153, 0, 20]
abbrev dktX12_dayGoes_5 : List UInt8 := dkwX12_dayGoes_5 ++ dktX12_dayGoes_6
def dkwX12_dayGoes_4 : List UInt8 := [96, 42, 180, 0, 119, 16, 64, 27, 96, 46, 182, 1, 106, 87, 132, 1, 1, 167, 255, 147, 3, 60, 27]
abbrev dktX12_dayGoes_4 : List UInt8 := dkwX12_dayGoes_4 ++ dktX12_dayGoes_5
def dkwX12_dayGoes_3 : List UInt8 := [16, 52, 27, 96, 46, 42, 180, 0, 119, 16, 56, 27, 96, 46, 42, 180, 0, 119, 16, 60, 27, 96, 46, 28]
abbrev dktX12_dayGoes_3 : List UInt8 := dkwX12_dayGoes_3 ++ dktX12_dayGoes_4
def dkwX12_dayGoes_2 : List UInt8 := [180, 0, 73, 42, 180, 0, 239, 46, 162, 0, 7, 4, 167, 0, 4, 3, 61, 42, 27, 42, 180, 0, 119]
abbrev dktX12_dayGoes_2 : List UInt8 := dkwX12_dayGoes_2 ++ dktX12_dayGoes_3
def dkwX12_dayGoes_1 : List UInt8 := [154, 0, 6, 167, 0, 81, 42, 16, 8, 42, 180, 0, 119, 16, 89, 46, 104, 27, 96, 182, 1, 103, 42]
abbrev dktX12_dayGoes_1 : List UInt8 := dkwX12_dayGoes_1 ++ dktX12_dayGoes_2
def dkwX12_dayGoes_0 : List UInt8 := [3, 60, 27, 42, 180, 0, 61, 42, 180, 0, 239, 46, 162, 0, 102, 42, 180, 0, 119, 16, 52, 27, 96, 46]
abbrev dktX12_dayGoes_0 : List UInt8 := dkwX12_dayGoes_0 ++ dktX12_dayGoes_1
theorem dksX12_dayGoes_0 : cX12_dayGoes.data.toList.drop 0 = dktX12_dayGoes_0 := by decide +kernel
theorem dksX12_dayGoes_1 : cX12_dayGoes.data.toList.drop 24 = dktX12_dayGoes_1 := dk_seg dksX12_dayGoes_0 24 rfl rfl
theorem dksX12_dayGoes_2 : cX12_dayGoes.data.toList.drop 47 = dktX12_dayGoes_2 := dk_seg dksX12_dayGoes_1 23 rfl rfl
theorem dksX12_dayGoes_3 : cX12_dayGoes.data.toList.drop 70 = dktX12_dayGoes_3 := dk_seg dksX12_dayGoes_2 23 rfl rfl
theorem dksX12_dayGoes_4 : cX12_dayGoes.data.toList.drop 94 = dktX12_dayGoes_4 := dk_seg dksX12_dayGoes_3 24 rfl rfl
theorem dksX12_dayGoes_5 : cX12_dayGoes.data.toList.drop 117 = dktX12_dayGoes_5 := dk_seg dksX12_dayGoes_4 23 rfl rfl
theorem dksX12_dayGoes_6 : cX12_dayGoes.data.toList.drop 141 = dktX12_dayGoes_6 := dk_seg dksX12_dayGoes_5 24 rfl rfl
theorem dksX12_dayGoes_7 : cX12_dayGoes.data.toList.drop 163 = dktX12_dayGoes_7 := dk_seg dksX12_dayGoes_6 22 rfl rfl
theorem dksX12_dayGoes_8 : cX12_dayGoes.data.toList.drop 186 = dktX12_dayGoes_8 := dk_seg dksX12_dayGoes_7 23 rfl rfl
theorem dksX12_dayGoes_9 : cX12_dayGoes.data.toList.drop 210 = dktX12_dayGoes_9 := dk_seg dksX12_dayGoes_8 24 rfl rfl
theorem dksX12_dayGoes_10 : cX12_dayGoes.data.toList.drop 234 = dktX12_dayGoes_10 := dk_seg dksX12_dayGoes_9 24 rfl rfl
theorem dksX12_dayGoes_11 : cX12_dayGoes.data.toList.drop 258 = dktX12_dayGoes_11 := dk_seg dksX12_dayGoes_10 24 rfl rfl
theorem dksX12_dayGoes_12 : cX12_dayGoes.data.toList.drop 282 = dktX12_dayGoes_12 := dk_seg dksX12_dayGoes_11 24 rfl rfl
theorem dksX12_dayGoes_13 : cX12_dayGoes.data.toList.drop 306 = dktX12_dayGoes_13 := dk_seg dksX12_dayGoes_12 24 rfl rfl
theorem dX12_dayGoes_0 : decode cX12_dayGoes 0 = .ok (.iconst 0, 1) := dk_3 (dk_at dksX12_dayGoes_0 0 rfl rfl)
theorem dX12_dayGoes_1 : decode cX12_dayGoes 1 = .ok (.istore_n 1, 1) := dk_60 (dk_at dksX12_dayGoes_0 1 rfl rfl)
theorem dX12_dayGoes_2 : decode cX12_dayGoes 2 = .ok (.iload_n 1, 1) := dk_27 (dk_at dksX12_dayGoes_0 2 rfl rfl)
theorem dX12_dayGoes_3 : decode cX12_dayGoes 3 = .ok (.aload_n 0, 1) := dk_42 (dk_at dksX12_dayGoes_0 3 rfl rfl)
theorem dX12_dayGoes_4 : decode cX12_dayGoes 4 = .ok (.getfield 61, 3) := dk_180 0 61 (dk_at dksX12_dayGoes_0 4 rfl rfl)
theorem dX12_dayGoes_7 : decode cX12_dayGoes 7 = .ok (.aload_n 0, 1) := dk_42 (dk_at dksX12_dayGoes_0 7 rfl rfl)
theorem dX12_dayGoes_8 : decode cX12_dayGoes 8 = .ok (.getfield 239, 3) := dk_180 0 239 (dk_at dksX12_dayGoes_0 8 rfl rfl)
theorem dX12_dayGoes_11 : decode cX12_dayGoes 11 = .ok (.iaload, 1) := dk_46 (dk_at dksX12_dayGoes_0 11 rfl rfl)
theorem dX12_dayGoes_12 : decode cX12_dayGoes 12 = .ok (.if_icmp .ge 102, 3) := dk_162 0 102 (dk_at dksX12_dayGoes_0 12 rfl rfl)
theorem dX12_dayGoes_15 : decode cX12_dayGoes 15 = .ok (.aload_n 0, 1) := dk_42 (dk_at dksX12_dayGoes_0 15 rfl rfl)
theorem dX12_dayGoes_16 : decode cX12_dayGoes 16 = .ok (.getfield 119, 3) := dk_180 0 119 (dk_at dksX12_dayGoes_0 16 rfl rfl)
theorem dX12_dayGoes_19 : decode cX12_dayGoes 19 = .ok (.bipush 52, 2) := dk_16 52 (dk_at dksX12_dayGoes_0 19 rfl rfl)
theorem dX12_dayGoes_21 : decode cX12_dayGoes 21 = .ok (.iload_n 1, 1) := dk_27 (dk_at dksX12_dayGoes_0 21 rfl rfl)
theorem dX12_dayGoes_22 : decode cX12_dayGoes 22 = .ok (.iadd, 1) := dk_96 (dk_at dksX12_dayGoes_0 22 rfl rfl)
theorem dX12_dayGoes_23 : decode cX12_dayGoes 23 = .ok (.iaload, 1) := dk_46 (dk_at dksX12_dayGoes_0 23 rfl rfl)
theorem dX12_dayGoes_24 : decode cX12_dayGoes 24 = .ok (.ifCond .ne 6, 3) := dk_154 0 6 (dk_at dksX12_dayGoes_1 0 rfl rfl)
theorem dX12_dayGoes_27 : decode cX12_dayGoes 27 = .ok (.goto 81, 3) := dk_167 0 81 (dk_at dksX12_dayGoes_1 3 rfl rfl)
theorem dX12_dayGoes_30 : decode cX12_dayGoes 30 = .ok (.aload_n 0, 1) := dk_42 (dk_at dksX12_dayGoes_1 6 rfl rfl)
theorem dX12_dayGoes_31 : decode cX12_dayGoes 31 = .ok (.bipush 8, 2) := dk_16 8 (dk_at dksX12_dayGoes_1 7 rfl rfl)
theorem dX12_dayGoes_33 : decode cX12_dayGoes 33 = .ok (.aload_n 0, 1) := dk_42 (dk_at dksX12_dayGoes_1 9 rfl rfl)
theorem dX12_dayGoes_34 : decode cX12_dayGoes 34 = .ok (.getfield 119, 3) := dk_180 0 119 (dk_at dksX12_dayGoes_1 10 rfl rfl)
theorem dX12_dayGoes_37 : decode cX12_dayGoes 37 = .ok (.bipush 89, 2) := dk_16 89 (dk_at dksX12_dayGoes_1 13 rfl rfl)
theorem dX12_dayGoes_39 : decode cX12_dayGoes 39 = .ok (.iaload, 1) := dk_46 (dk_at dksX12_dayGoes_1 15 rfl rfl)
theorem dX12_dayGoes_40 : decode cX12_dayGoes 40 = .ok (.imul, 1) := dk_104 (dk_at dksX12_dayGoes_1 16 rfl rfl)
theorem dX12_dayGoes_41 : decode cX12_dayGoes 41 = .ok (.iload_n 1, 1) := dk_27 (dk_at dksX12_dayGoes_1 17 rfl rfl)
theorem dX12_dayGoes_42 : decode cX12_dayGoes 42 = .ok (.iadd, 1) := dk_96 (dk_at dksX12_dayGoes_1 18 rfl rfl)
theorem dX12_dayGoes_43 : decode cX12_dayGoes 43 = .ok (.invokevirtual 359, 3) := dk_182 1 103 (dk_at dksX12_dayGoes_1 19 rfl rfl)
theorem dX12_dayGoes_46 : decode cX12_dayGoes 46 = .ok (.aload_n 0, 1) := dk_42 (dk_at dksX12_dayGoes_1 22 rfl rfl)
theorem dX12_dayGoes_47 : decode cX12_dayGoes 47 = .ok (.getfield 73, 3) := dk_180 0 73 (dk_at dksX12_dayGoes_2 0 rfl rfl)
theorem dX12_dayGoes_50 : decode cX12_dayGoes 50 = .ok (.aload_n 0, 1) := dk_42 (dk_at dksX12_dayGoes_2 3 rfl rfl)
theorem dX12_dayGoes_51 : decode cX12_dayGoes 51 = .ok (.getfield 239, 3) := dk_180 0 239 (dk_at dksX12_dayGoes_2 4 rfl rfl)
theorem dX12_dayGoes_54 : decode cX12_dayGoes 54 = .ok (.iaload, 1) := dk_46 (dk_at dksX12_dayGoes_2 7 rfl rfl)
theorem dX12_dayGoes_55 : decode cX12_dayGoes 55 = .ok (.if_icmp .ge 7, 3) := dk_162 0 7 (dk_at dksX12_dayGoes_2 8 rfl rfl)
theorem dX12_dayGoes_58 : decode cX12_dayGoes 58 = .ok (.iconst 1, 1) := dk_4 (dk_at dksX12_dayGoes_2 11 rfl rfl)
theorem dX12_dayGoes_59 : decode cX12_dayGoes 59 = .ok (.goto 4, 3) := dk_167 0 4 (dk_at dksX12_dayGoes_2 12 rfl rfl)
theorem dX12_dayGoes_62 : decode cX12_dayGoes 62 = .ok (.iconst 0, 1) := dk_3 (dk_at dksX12_dayGoes_2 15 rfl rfl)
theorem dX12_dayGoes_63 : decode cX12_dayGoes 63 = .ok (.istore_n 2, 1) := dk_61 (dk_at dksX12_dayGoes_2 16 rfl rfl)
theorem dX12_dayGoes_64 : decode cX12_dayGoes 64 = .ok (.aload_n 0, 1) := dk_42 (dk_at dksX12_dayGoes_2 17 rfl rfl)
theorem dX12_dayGoes_65 : decode cX12_dayGoes 65 = .ok (.iload_n 1, 1) := dk_27 (dk_at dksX12_dayGoes_2 18 rfl rfl)
theorem dX12_dayGoes_66 : decode cX12_dayGoes 66 = .ok (.aload_n 0, 1) := dk_42 (dk_at dksX12_dayGoes_2 19 rfl rfl)
theorem dX12_dayGoes_67 : decode cX12_dayGoes 67 = .ok (.getfield 119, 3) := dk_180 0 119 (dk_at dksX12_dayGoes_2 20 rfl rfl)
theorem dX12_dayGoes_70 : decode cX12_dayGoes 70 = .ok (.bipush 52, 2) := dk_16 52 (dk_at dksX12_dayGoes_3 0 rfl rfl)
theorem dX12_dayGoes_72 : decode cX12_dayGoes 72 = .ok (.iload_n 1, 1) := dk_27 (dk_at dksX12_dayGoes_3 2 rfl rfl)
theorem dX12_dayGoes_73 : decode cX12_dayGoes 73 = .ok (.iadd, 1) := dk_96 (dk_at dksX12_dayGoes_3 3 rfl rfl)
theorem dX12_dayGoes_74 : decode cX12_dayGoes 74 = .ok (.iaload, 1) := dk_46 (dk_at dksX12_dayGoes_3 4 rfl rfl)
theorem dX12_dayGoes_75 : decode cX12_dayGoes 75 = .ok (.aload_n 0, 1) := dk_42 (dk_at dksX12_dayGoes_3 5 rfl rfl)
theorem dX12_dayGoes_76 : decode cX12_dayGoes 76 = .ok (.getfield 119, 3) := dk_180 0 119 (dk_at dksX12_dayGoes_3 6 rfl rfl)
theorem dX12_dayGoes_79 : decode cX12_dayGoes 79 = .ok (.bipush 56, 2) := dk_16 56 (dk_at dksX12_dayGoes_3 9 rfl rfl)
theorem dX12_dayGoes_81 : decode cX12_dayGoes 81 = .ok (.iload_n 1, 1) := dk_27 (dk_at dksX12_dayGoes_3 11 rfl rfl)
theorem dX12_dayGoes_82 : decode cX12_dayGoes 82 = .ok (.iadd, 1) := dk_96 (dk_at dksX12_dayGoes_3 12 rfl rfl)
theorem dX12_dayGoes_83 : decode cX12_dayGoes 83 = .ok (.iaload, 1) := dk_46 (dk_at dksX12_dayGoes_3 13 rfl rfl)
theorem dX12_dayGoes_84 : decode cX12_dayGoes 84 = .ok (.aload_n 0, 1) := dk_42 (dk_at dksX12_dayGoes_3 14 rfl rfl)
theorem dX12_dayGoes_85 : decode cX12_dayGoes 85 = .ok (.getfield 119, 3) := dk_180 0 119 (dk_at dksX12_dayGoes_3 15 rfl rfl)
theorem dX12_dayGoes_88 : decode cX12_dayGoes 88 = .ok (.bipush 60, 2) := dk_16 60 (dk_at dksX12_dayGoes_3 18 rfl rfl)
theorem dX12_dayGoes_90 : decode cX12_dayGoes 90 = .ok (.iload_n 1, 1) := dk_27 (dk_at dksX12_dayGoes_3 20 rfl rfl)
theorem dX12_dayGoes_91 : decode cX12_dayGoes 91 = .ok (.iadd, 1) := dk_96 (dk_at dksX12_dayGoes_3 21 rfl rfl)
theorem dX12_dayGoes_92 : decode cX12_dayGoes 92 = .ok (.iaload, 1) := dk_46 (dk_at dksX12_dayGoes_3 22 rfl rfl)
theorem dX12_dayGoes_93 : decode cX12_dayGoes 93 = .ok (.iload_n 2, 1) := dk_28 (dk_at dksX12_dayGoes_3 23 rfl rfl)
theorem dX12_dayGoes_94 : decode cX12_dayGoes 94 = .ok (.iadd, 1) := dk_96 (dk_at dksX12_dayGoes_4 0 rfl rfl)
theorem dX12_dayGoes_95 : decode cX12_dayGoes 95 = .ok (.aload_n 0, 1) := dk_42 (dk_at dksX12_dayGoes_4 1 rfl rfl)
theorem dX12_dayGoes_96 : decode cX12_dayGoes 96 = .ok (.getfield 119, 3) := dk_180 0 119 (dk_at dksX12_dayGoes_4 2 rfl rfl)
theorem dX12_dayGoes_99 : decode cX12_dayGoes 99 = .ok (.bipush 64, 2) := dk_16 64 (dk_at dksX12_dayGoes_4 5 rfl rfl)
theorem dX12_dayGoes_101 : decode cX12_dayGoes 101 = .ok (.iload_n 1, 1) := dk_27 (dk_at dksX12_dayGoes_4 7 rfl rfl)
theorem dX12_dayGoes_102 : decode cX12_dayGoes 102 = .ok (.iadd, 1) := dk_96 (dk_at dksX12_dayGoes_4 8 rfl rfl)
theorem dX12_dayGoes_103 : decode cX12_dayGoes 103 = .ok (.iaload, 1) := dk_46 (dk_at dksX12_dayGoes_4 9 rfl rfl)
theorem dX12_dayGoes_104 : decode cX12_dayGoes 104 = .ok (.invokevirtual 362, 3) := dk_182 1 106 (dk_at dksX12_dayGoes_4 10 rfl rfl)
theorem dX12_dayGoes_107 : decode cX12_dayGoes 107 = .ok (.pop, 1) := dk_87 (dk_at dksX12_dayGoes_4 13 rfl rfl)
theorem dX12_dayGoes_108 : decode cX12_dayGoes 108 = .ok (.iinc 1 1, 3) := dk_132 1 1 (dk_at dksX12_dayGoes_4 14 rfl rfl)
theorem dX12_dayGoes_111 : decode cX12_dayGoes 111 = .ok (.goto (-109), 3) := dk_167 255 147 (dk_at dksX12_dayGoes_4 17 rfl rfl)
theorem dX12_dayGoes_114 : decode cX12_dayGoes 114 = .ok (.iconst 0, 1) := dk_3 (dk_at dksX12_dayGoes_4 20 rfl rfl)
theorem dX12_dayGoes_115 : decode cX12_dayGoes 115 = .ok (.istore_n 1, 1) := dk_60 (dk_at dksX12_dayGoes_4 21 rfl rfl)
theorem dX12_dayGoes_116 : decode cX12_dayGoes 116 = .ok (.iload_n 1, 1) := dk_27 (dk_at dksX12_dayGoes_4 22 rfl rfl)
theorem dX12_dayGoes_117 : decode cX12_dayGoes 117 = .ok (.bipush 48, 2) := dk_16 48 (dk_at dksX12_dayGoes_5 0 rfl rfl)
theorem dX12_dayGoes_119 : decode cX12_dayGoes 119 = .ok (.if_icmp .ge 70, 3) := dk_162 0 70 (dk_at dksX12_dayGoes_5 2 rfl rfl)
theorem dX12_dayGoes_122 : decode cX12_dayGoes 122 = .ok (.aload_n 0, 1) := dk_42 (dk_at dksX12_dayGoes_5 5 rfl rfl)
theorem dX12_dayGoes_123 : decode cX12_dayGoes 123 = .ok (.iload_n 1, 1) := dk_27 (dk_at dksX12_dayGoes_5 6 rfl rfl)
theorem dX12_dayGoes_124 : decode cX12_dayGoes 124 = .ok (.invokevirtual 366, 3) := dk_182 1 110 (dk_at dksX12_dayGoes_5 7 rfl rfl)
theorem dX12_dayGoes_127 : decode cX12_dayGoes 127 = .ok (.ifCond .ne 6, 3) := dk_154 0 6 (dk_at dksX12_dayGoes_5 10 rfl rfl)
theorem dX12_dayGoes_130 : decode cX12_dayGoes 130 = .ok (.goto 53, 3) := dk_167 0 53 (dk_at dksX12_dayGoes_5 13 rfl rfl)
theorem dX12_dayGoes_133 : decode cX12_dayGoes 133 = .ok (.aload_n 0, 1) := dk_42 (dk_at dksX12_dayGoes_5 16 rfl rfl)
theorem dX12_dayGoes_134 : decode cX12_dayGoes 134 = .ok (.iload_n 1, 1) := dk_27 (dk_at dksX12_dayGoes_5 17 rfl rfl)
theorem dX12_dayGoes_135 : decode cX12_dayGoes 135 = .ok (.invokevirtual 369, 3) := dk_182 1 113 (dk_at dksX12_dayGoes_5 18 rfl rfl)
theorem dX12_dayGoes_138 : decode cX12_dayGoes 138 = .ok (.ifCond .eq 20, 3) := dk_153 0 20 (dk_at dksX12_dayGoes_5 21 rfl rfl)
theorem dX12_dayGoes_141 : decode cX12_dayGoes 141 = .ok (.aload_n 0, 1) := dk_42 (dk_at dksX12_dayGoes_6 0 rfl rfl)
theorem dX12_dayGoes_142 : decode cX12_dayGoes 142 = .ok (.getfield 119, 3) := dk_180 0 119 (dk_at dksX12_dayGoes_6 1 rfl rfl)
theorem dX12_dayGoes_145 : decode cX12_dayGoes 145 = .ok (.bipush 76, 2) := dk_16 76 (dk_at dksX12_dayGoes_6 4 rfl rfl)
theorem dX12_dayGoes_147 : decode cX12_dayGoes 147 = .ok (.aload_n 0, 1) := dk_42 (dk_at dksX12_dayGoes_6 6 rfl rfl)
theorem dX12_dayGoes_148 : decode cX12_dayGoes 148 = .ok (.iload_n 1, 1) := dk_27 (dk_at dksX12_dayGoes_6 7 rfl rfl)
theorem dX12_dayGoes_149 : decode cX12_dayGoes 149 = .ok (.invokevirtual 347, 3) := dk_182 1 91 (dk_at dksX12_dayGoes_6 8 rfl rfl)
theorem dX12_dayGoes_152 : decode cX12_dayGoes 152 = .ok (.iadd, 1) := dk_96 (dk_at dksX12_dayGoes_6 11 rfl rfl)
theorem dX12_dayGoes_153 : decode cX12_dayGoes 153 = .ok (.dup2, 1) := dk_92 (dk_at dksX12_dayGoes_6 12 rfl rfl)
theorem dX12_dayGoes_154 : decode cX12_dayGoes 154 = .ok (.iaload, 1) := dk_46 (dk_at dksX12_dayGoes_6 13 rfl rfl)
theorem dX12_dayGoes_155 : decode cX12_dayGoes 155 = .ok (.iconst 1, 1) := dk_4 (dk_at dksX12_dayGoes_6 14 rfl rfl)
theorem dX12_dayGoes_156 : decode cX12_dayGoes 156 = .ok (.iadd, 1) := dk_96 (dk_at dksX12_dayGoes_6 15 rfl rfl)
theorem dX12_dayGoes_157 : decode cX12_dayGoes 157 = .ok (.iastore, 1) := dk_79 (dk_at dksX12_dayGoes_6 16 rfl rfl)
theorem dX12_dayGoes_158 : decode cX12_dayGoes 158 = .ok (.aload_n 0, 1) := dk_42 (dk_at dksX12_dayGoes_6 17 rfl rfl)
theorem dX12_dayGoes_159 : decode cX12_dayGoes 159 = .ok (.iload_n 1, 1) := dk_27 (dk_at dksX12_dayGoes_6 18 rfl rfl)
theorem dX12_dayGoes_160 : decode cX12_dayGoes 160 = .ok (.invokevirtual 372, 3) := dk_182 1 116 (dk_at dksX12_dayGoes_6 19 rfl rfl)
theorem dX12_dayGoes_163 : decode cX12_dayGoes 163 = .ok (.ifCond .eq 20, 3) := dk_153 0 20 (dk_at dksX12_dayGoes_7 0 rfl rfl)
theorem dX12_dayGoes_166 : decode cX12_dayGoes 166 = .ok (.aload_n 0, 1) := dk_42 (dk_at dksX12_dayGoes_7 3 rfl rfl)
theorem dX12_dayGoes_167 : decode cX12_dayGoes 167 = .ok (.getfield 119, 3) := dk_180 0 119 (dk_at dksX12_dayGoes_7 4 rfl rfl)
theorem dX12_dayGoes_170 : decode cX12_dayGoes 170 = .ok (.bipush 82, 2) := dk_16 82 (dk_at dksX12_dayGoes_7 7 rfl rfl)
theorem dX12_dayGoes_172 : decode cX12_dayGoes 172 = .ok (.aload_n 0, 1) := dk_42 (dk_at dksX12_dayGoes_7 9 rfl rfl)
theorem dX12_dayGoes_173 : decode cX12_dayGoes 173 = .ok (.iload_n 1, 1) := dk_27 (dk_at dksX12_dayGoes_7 10 rfl rfl)
theorem dX12_dayGoes_174 : decode cX12_dayGoes 174 = .ok (.invokevirtual 347, 3) := dk_182 1 91 (dk_at dksX12_dayGoes_7 11 rfl rfl)
theorem dX12_dayGoes_177 : decode cX12_dayGoes 177 = .ok (.iadd, 1) := dk_96 (dk_at dksX12_dayGoes_7 14 rfl rfl)
theorem dX12_dayGoes_178 : decode cX12_dayGoes 178 = .ok (.dup2, 1) := dk_92 (dk_at dksX12_dayGoes_7 15 rfl rfl)
theorem dX12_dayGoes_179 : decode cX12_dayGoes 179 = .ok (.iaload, 1) := dk_46 (dk_at dksX12_dayGoes_7 16 rfl rfl)
theorem dX12_dayGoes_180 : decode cX12_dayGoes 180 = .ok (.iconst 1, 1) := dk_4 (dk_at dksX12_dayGoes_7 17 rfl rfl)
theorem dX12_dayGoes_181 : decode cX12_dayGoes 181 = .ok (.iadd, 1) := dk_96 (dk_at dksX12_dayGoes_7 18 rfl rfl)
theorem dX12_dayGoes_182 : decode cX12_dayGoes 182 = .ok (.iastore, 1) := dk_79 (dk_at dksX12_dayGoes_7 19 rfl rfl)
theorem dX12_dayGoes_183 : decode cX12_dayGoes 183 = .ok (.iinc 1 1, 3) := dk_132 1 1 (dk_at dksX12_dayGoes_7 20 rfl rfl)
theorem dX12_dayGoes_186 : decode cX12_dayGoes 186 = .ok (.goto (-70), 3) := dk_167 255 186 (dk_at dksX12_dayGoes_8 0 rfl rfl)
theorem dX12_dayGoes_189 : decode cX12_dayGoes 189 = .ok (.iconst 0, 1) := dk_3 (dk_at dksX12_dayGoes_8 3 rfl rfl)
theorem dX12_dayGoes_190 : decode cX12_dayGoes 190 = .ok (.istore_n 1, 1) := dk_60 (dk_at dksX12_dayGoes_8 4 rfl rfl)
theorem dX12_dayGoes_191 : decode cX12_dayGoes 191 = .ok (.iload_n 1, 1) := dk_27 (dk_at dksX12_dayGoes_8 5 rfl rfl)
theorem dX12_dayGoes_192 : decode cX12_dayGoes 192 = .ok (.bipush 48, 2) := dk_16 48 (dk_at dksX12_dayGoes_8 6 rfl rfl)
theorem dX12_dayGoes_194 : decode cX12_dayGoes 194 = .ok (.if_icmp .ge 54, 3) := dk_162 0 54 (dk_at dksX12_dayGoes_8 8 rfl rfl)
theorem dX12_dayGoes_197 : decode cX12_dayGoes 197 = .ok (.aload_n 0, 1) := dk_42 (dk_at dksX12_dayGoes_8 11 rfl rfl)
theorem dX12_dayGoes_198 : decode cX12_dayGoes 198 = .ok (.iload_n 1, 1) := dk_27 (dk_at dksX12_dayGoes_8 12 rfl rfl)
theorem dX12_dayGoes_199 : decode cX12_dayGoes 199 = .ok (.invokevirtual 366, 3) := dk_182 1 110 (dk_at dksX12_dayGoes_8 13 rfl rfl)
theorem dX12_dayGoes_202 : decode cX12_dayGoes 202 = .ok (.ifCond .ne 6, 3) := dk_154 0 6 (dk_at dksX12_dayGoes_8 16 rfl rfl)
theorem dX12_dayGoes_205 : decode cX12_dayGoes 205 = .ok (.goto 37, 3) := dk_167 0 37 (dk_at dksX12_dayGoes_8 19 rfl rfl)
theorem dX12_dayGoes_208 : decode cX12_dayGoes 208 = .ok (.aload_n 0, 1) := dk_42 (dk_at dksX12_dayGoes_8 22 rfl rfl)
theorem dX12_dayGoes_209 : decode cX12_dayGoes 209 = .ok (.iload_n 1, 1) := dk_27 (dk_at dksX12_dayGoes_8 23 rfl rfl)
theorem dX12_dayGoes_210 : decode cX12_dayGoes 210 = .ok (.invokevirtual 375, 3) := dk_182 1 119 (dk_at dksX12_dayGoes_9 0 rfl rfl)
theorem dX12_dayGoes_213 : decode cX12_dayGoes 213 = .ok (.istore_n 2, 1) := dk_61 (dk_at dksX12_dayGoes_9 3 rfl rfl)
theorem dX12_dayGoes_214 : decode cX12_dayGoes 214 = .ok (.aload_n 0, 1) := dk_42 (dk_at dksX12_dayGoes_9 4 rfl rfl)
theorem dX12_dayGoes_215 : decode cX12_dayGoes 215 = .ok (.getfield 119, 3) := dk_180 0 119 (dk_at dksX12_dayGoes_9 5 rfl rfl)
theorem dX12_dayGoes_218 : decode cX12_dayGoes 218 = .ok (.iload_n 1, 1) := dk_27 (dk_at dksX12_dayGoes_9 8 rfl rfl)
theorem dX12_dayGoes_219 : decode cX12_dayGoes 219 = .ok (.aload_n 0, 1) := dk_42 (dk_at dksX12_dayGoes_9 9 rfl rfl)
theorem dX12_dayGoes_220 : decode cX12_dayGoes 220 = .ok (.getfield 119, 3) := dk_180 0 119 (dk_at dksX12_dayGoes_9 10 rfl rfl)
theorem dX12_dayGoes_223 : decode cX12_dayGoes 223 = .ok (.iload_n 1, 1) := dk_27 (dk_at dksX12_dayGoes_9 13 rfl rfl)
theorem dX12_dayGoes_224 : decode cX12_dayGoes 224 = .ok (.iaload, 1) := dk_46 (dk_at dksX12_dayGoes_9 14 rfl rfl)
theorem dX12_dayGoes_225 : decode cX12_dayGoes 225 = .ok (.iload_n 2, 1) := dk_28 (dk_at dksX12_dayGoes_9 15 rfl rfl)
theorem dX12_dayGoes_226 : decode cX12_dayGoes 226 = .ok (.if_icmp .le 14, 3) := dk_164 0 14 (dk_at dksX12_dayGoes_9 16 rfl rfl)
theorem dX12_dayGoes_229 : decode cX12_dayGoes 229 = .ok (.aload_n 0, 1) := dk_42 (dk_at dksX12_dayGoes_9 19 rfl rfl)
theorem dX12_dayGoes_230 : decode cX12_dayGoes 230 = .ok (.getfield 119, 3) := dk_180 0 119 (dk_at dksX12_dayGoes_9 20 rfl rfl)
theorem dX12_dayGoes_233 : decode cX12_dayGoes 233 = .ok (.iload_n 1, 1) := dk_27 (dk_at dksX12_dayGoes_9 23 rfl rfl)
theorem dX12_dayGoes_234 : decode cX12_dayGoes 234 = .ok (.iaload, 1) := dk_46 (dk_at dksX12_dayGoes_10 0 rfl rfl)
theorem dX12_dayGoes_235 : decode cX12_dayGoes 235 = .ok (.iload_n 2, 1) := dk_28 (dk_at dksX12_dayGoes_10 1 rfl rfl)
theorem dX12_dayGoes_236 : decode cX12_dayGoes 236 = .ok (.isub, 1) := dk_100 (dk_at dksX12_dayGoes_10 2 rfl rfl)
theorem dX12_dayGoes_237 : decode cX12_dayGoes 237 = .ok (.goto 4, 3) := dk_167 0 4 (dk_at dksX12_dayGoes_10 3 rfl rfl)
theorem dX12_dayGoes_240 : decode cX12_dayGoes 240 = .ok (.iconst 0, 1) := dk_3 (dk_at dksX12_dayGoes_10 6 rfl rfl)
theorem dX12_dayGoes_241 : decode cX12_dayGoes 241 = .ok (.iastore, 1) := dk_79 (dk_at dksX12_dayGoes_10 7 rfl rfl)
theorem dX12_dayGoes_242 : decode cX12_dayGoes 242 = .ok (.iinc 1 1, 3) := dk_132 1 1 (dk_at dksX12_dayGoes_10 8 rfl rfl)
theorem dX12_dayGoes_245 : decode cX12_dayGoes 245 = .ok (.goto (-54), 3) := dk_167 255 202 (dk_at dksX12_dayGoes_10 11 rfl rfl)
theorem dX12_dayGoes_248 : decode cX12_dayGoes 248 = .ok (.aload_n 0, 1) := dk_42 (dk_at dksX12_dayGoes_10 14 rfl rfl)
theorem dX12_dayGoes_249 : decode cX12_dayGoes 249 = .ok (.invokevirtual 337, 3) := dk_182 1 81 (dk_at dksX12_dayGoes_10 15 rfl rfl)
theorem dX12_dayGoes_252 : decode cX12_dayGoes 252 = .ok (.aload_n 0, 1) := dk_42 (dk_at dksX12_dayGoes_10 18 rfl rfl)
theorem dX12_dayGoes_253 : decode cX12_dayGoes 253 = .ok (.getfield 110, 3) := dk_180 0 110 (dk_at dksX12_dayGoes_10 19 rfl rfl)
theorem dX12_dayGoes_256 : decode cX12_dayGoes 256 = .ok (.bipush 6, 2) := dk_16 6 (dk_at dksX12_dayGoes_10 22 rfl rfl)
theorem dX12_dayGoes_258 : decode cX12_dayGoes 258 = .ok (.aload_n 0, 1) := dk_42 (dk_at dksX12_dayGoes_11 0 rfl rfl)
theorem dX12_dayGoes_259 : decode cX12_dayGoes 259 = .ok (.getfield 119, 3) := dk_180 0 119 (dk_at dksX12_dayGoes_11 1 rfl rfl)
theorem dX12_dayGoes_262 : decode cX12_dayGoes 262 = .ok (.bipush 89, 2) := dk_16 89 (dk_at dksX12_dayGoes_11 4 rfl rfl)
theorem dX12_dayGoes_264 : decode cX12_dayGoes 264 = .ok (.iaload, 1) := dk_46 (dk_at dksX12_dayGoes_11 6 rfl rfl)
theorem dX12_dayGoes_265 : decode cX12_dayGoes 265 = .ok (.iastore, 1) := dk_79 (dk_at dksX12_dayGoes_11 7 rfl rfl)
theorem dX12_dayGoes_266 : decode cX12_dayGoes 266 = .ok (.aload_n 0, 1) := dk_42 (dk_at dksX12_dayGoes_11 8 rfl rfl)
theorem dX12_dayGoes_267 : decode cX12_dayGoes 267 = .ok (.getfield 119, 3) := dk_180 0 119 (dk_at dksX12_dayGoes_11 9 rfl rfl)
theorem dX12_dayGoes_270 : decode cX12_dayGoes 270 = .ok (.bipush 88, 2) := dk_16 88 (dk_at dksX12_dayGoes_11 12 rfl rfl)
theorem dX12_dayGoes_272 : decode cX12_dayGoes 272 = .ok (.iaload, 1) := dk_46 (dk_at dksX12_dayGoes_11 14 rfl rfl)
theorem dX12_dayGoes_273 : decode cX12_dayGoes 273 = .ok (.aload_n 0, 1) := dk_42 (dk_at dksX12_dayGoes_11 15 rfl rfl)
theorem dX12_dayGoes_274 : decode cX12_dayGoes 274 = .ok (.iconst 2, 1) := dk_5 (dk_at dksX12_dayGoes_11 16 rfl rfl)
theorem dX12_dayGoes_275 : decode cX12_dayGoes 275 = .ok (.iconst 0, 1) := dk_3 (dk_at dksX12_dayGoes_11 17 rfl rfl)
theorem dX12_dayGoes_276 : decode cX12_dayGoes 276 = .ok (.sipush 999, 3) := dk_17 3 231 (dk_at dksX12_dayGoes_11 18 rfl rfl)
theorem dX12_dayGoes_279 : decode cX12_dayGoes 279 = .ok (.invokevirtual 340, 3) := dk_182 1 84 (dk_at dksX12_dayGoes_11 21 rfl rfl)
theorem dX12_dayGoes_282 : decode cX12_dayGoes 282 = .ok (.iadd, 1) := dk_96 (dk_at dksX12_dayGoes_12 0 rfl rfl)
theorem dX12_dayGoes_283 : decode cX12_dayGoes 283 = .ok (.istore_n 1, 1) := dk_60 (dk_at dksX12_dayGoes_12 1 rfl rfl)
theorem dX12_dayGoes_284 : decode cX12_dayGoes 284 = .ok (.aload_n 0, 1) := dk_42 (dk_at dksX12_dayGoes_12 2 rfl rfl)
theorem dX12_dayGoes_285 : decode cX12_dayGoes 285 = .ok (.getfield 119, 3) := dk_180 0 119 (dk_at dksX12_dayGoes_12 3 rfl rfl)
theorem dX12_dayGoes_288 : decode cX12_dayGoes 288 = .ok (.bipush 88, 2) := dk_16 88 (dk_at dksX12_dayGoes_12 6 rfl rfl)
theorem dX12_dayGoes_290 : decode cX12_dayGoes 290 = .ok (.iload_n 1, 1) := dk_27 (dk_at dksX12_dayGoes_12 8 rfl rfl)
theorem dX12_dayGoes_291 : decode cX12_dayGoes 291 = .ok (.sipush 9999, 3) := dk_17 39 15 (dk_at dksX12_dayGoes_12 9 rfl rfl)
theorem dX12_dayGoes_294 : decode cX12_dayGoes 294 = .ok (.if_icmp .le 9, 3) := dk_164 0 9 (dk_at dksX12_dayGoes_12 12 rfl rfl)
theorem dX12_dayGoes_297 : decode cX12_dayGoes 297 = .ok (.sipush 9999, 3) := dk_17 39 15 (dk_at dksX12_dayGoes_12 15 rfl rfl)
theorem dX12_dayGoes_300 : decode cX12_dayGoes 300 = .ok (.goto 4, 3) := dk_167 0 4 (dk_at dksX12_dayGoes_12 18 rfl rfl)
theorem dX12_dayGoes_303 : decode cX12_dayGoes 303 = .ok (.iload_n 1, 1) := dk_27 (dk_at dksX12_dayGoes_12 21 rfl rfl)
theorem dX12_dayGoes_304 : decode cX12_dayGoes 304 = .ok (.iastore, 1) := dk_79 (dk_at dksX12_dayGoes_12 22 rfl rfl)
theorem dX12_dayGoes_305 : decode cX12_dayGoes 305 = .ok (.aload_n 0, 1) := dk_42 (dk_at dksX12_dayGoes_12 23 rfl rfl)
theorem dX12_dayGoes_306 : decode cX12_dayGoes 306 = .ok (.getfield 119, 3) := dk_180 0 119 (dk_at dksX12_dayGoes_13 0 rfl rfl)
theorem dX12_dayGoes_309 : decode cX12_dayGoes 309 = .ok (.bipush 89, 2) := dk_16 89 (dk_at dksX12_dayGoes_13 3 rfl rfl)
theorem dX12_dayGoes_311 : decode cX12_dayGoes 311 = .ok (.dup2, 1) := dk_92 (dk_at dksX12_dayGoes_13 5 rfl rfl)
theorem dX12_dayGoes_312 : decode cX12_dayGoes 312 = .ok (.iaload, 1) := dk_46 (dk_at dksX12_dayGoes_13 6 rfl rfl)
theorem dX12_dayGoes_313 : decode cX12_dayGoes 313 = .ok (.iconst 1, 1) := dk_4 (dk_at dksX12_dayGoes_13 7 rfl rfl)
theorem dX12_dayGoes_314 : decode cX12_dayGoes 314 = .ok (.iadd, 1) := dk_96 (dk_at dksX12_dayGoes_13 8 rfl rfl)
theorem dX12_dayGoes_315 : decode cX12_dayGoes 315 = .ok (.iastore, 1) := dk_79 (dk_at dksX12_dayGoes_13 9 rfl rfl)
theorem dX12_dayGoes_316 : decode cX12_dayGoes 316 = .ok (.return_, 1) := dk_177 (dk_at dksX12_dayGoes_13 10 rfl rfl)
abbrev cX12_lotOf : ByteArray := prog_22_method_46_code
def yX12_lotOf : MethodName := ⟨RX12, "lotOf", "(I)I"⟩
def dkwX12_lotOf_0 : List UInt8 := [42, 180, 1, 71, 16, 75, 184, 1, 75, 27, 184, 1, 75, 4, 124, 16, 100, 112, 172]
abbrev dktX12_lotOf_0 : List UInt8 := dkwX12_lotOf_0 ++ []
theorem dksX12_lotOf_0 : cX12_lotOf.data.toList.drop 0 = dktX12_lotOf_0 := by decide +kernel
theorem dX12_lotOf_0 : decode cX12_lotOf 0 = .ok (.aload_n 0, 1) := dk_42 (dk_at dksX12_lotOf_0 0 rfl rfl)
theorem dX12_lotOf_1 : decode cX12_lotOf 1 = .ok (.getfield 327, 3) := dk_180 1 71 (dk_at dksX12_lotOf_0 1 rfl rfl)
theorem dX12_lotOf_4 : decode cX12_lotOf 4 = .ok (.bipush 75, 2) := dk_16 75 (dk_at dksX12_lotOf_0 4 rfl rfl)
theorem dX12_lotOf_6 : decode cX12_lotOf 6 = .ok (.invokestatic 331, 3) := dk_184 1 75 (dk_at dksX12_lotOf_0 6 rfl rfl)
theorem dX12_lotOf_9 : decode cX12_lotOf 9 = .ok (.iload_n 1, 1) := dk_27 (dk_at dksX12_lotOf_0 9 rfl rfl)
theorem dX12_lotOf_10 : decode cX12_lotOf 10 = .ok (.invokestatic 331, 3) := dk_184 1 75 (dk_at dksX12_lotOf_0 10 rfl rfl)
theorem dX12_lotOf_13 : decode cX12_lotOf 13 = .ok (.iconst 1, 1) := dk_4 (dk_at dksX12_lotOf_0 13 rfl rfl)
theorem dX12_lotOf_14 : decode cX12_lotOf 14 = .ok (.iushr, 1) := dk_124 (dk_at dksX12_lotOf_0 14 rfl rfl)
theorem dX12_lotOf_15 : decode cX12_lotOf 15 = .ok (.bipush 100, 2) := dk_16 100 (dk_at dksX12_lotOf_0 15 rfl rfl)
theorem dX12_lotOf_17 : decode cX12_lotOf 17 = .ok (.irem, 1) := dk_112 (dk_at dksX12_lotOf_0 17 rfl rfl)
theorem dX12_lotOf_18 : decode cX12_lotOf 18 = .ok (.ireturn, 1) := dk_172 (dk_at dksX12_lotOf_0 18 rfl rfl)
abbrev cX12_mixed : ByteArray := prog_22_method_45_code
def yX12_mixed : MethodName := ⟨RX12, "mixed", "(II)I"⟩
def dkwX12_mixed_0 : List UInt8 := [26, 27, 130, 19, 1, 74, 104, 17, 48, 57, 96, 61, 28, 28, 16, 15, 124, 130, 172]
abbrev dktX12_mixed_0 : List UInt8 := dkwX12_mixed_0 ++ []
theorem dksX12_mixed_0 : cX12_mixed.data.toList.drop 0 = dktX12_mixed_0 := by decide +kernel
theorem dX12_mixed_0 : decode cX12_mixed 0 = .ok (.iload_n 0, 1) := dk_26 (dk_at dksX12_mixed_0 0 rfl rfl)
theorem dX12_mixed_1 : decode cX12_mixed 1 = .ok (.iload_n 1, 1) := dk_27 (dk_at dksX12_mixed_0 1 rfl rfl)
theorem dX12_mixed_2 : decode cX12_mixed 2 = .ok (.ixor, 1) := dk_130 (dk_at dksX12_mixed_0 2 rfl rfl)
theorem dX12_mixed_3 : decode cX12_mixed 3 = .ok (.ldc_w 330, 3) := dk_19 1 74 (dk_at dksX12_mixed_0 3 rfl rfl)
theorem dX12_mixed_6 : decode cX12_mixed 6 = .ok (.imul, 1) := dk_104 (dk_at dksX12_mixed_0 6 rfl rfl)
theorem dX12_mixed_7 : decode cX12_mixed 7 = .ok (.sipush 12345, 3) := dk_17 48 57 (dk_at dksX12_mixed_0 7 rfl rfl)
theorem dX12_mixed_10 : decode cX12_mixed 10 = .ok (.iadd, 1) := dk_96 (dk_at dksX12_mixed_0 10 rfl rfl)
theorem dX12_mixed_11 : decode cX12_mixed 11 = .ok (.istore_n 2, 1) := dk_61 (dk_at dksX12_mixed_0 11 rfl rfl)
theorem dX12_mixed_12 : decode cX12_mixed 12 = .ok (.iload_n 2, 1) := dk_28 (dk_at dksX12_mixed_0 12 rfl rfl)
theorem dX12_mixed_13 : decode cX12_mixed 13 = .ok (.iload_n 2, 1) := dk_28 (dk_at dksX12_mixed_0 13 rfl rfl)
theorem dX12_mixed_14 : decode cX12_mixed 14 = .ok (.bipush 15, 2) := dk_16 15 (dk_at dksX12_mixed_0 14 rfl rfl)
theorem dX12_mixed_16 : decode cX12_mixed 16 = .ok (.iushr, 1) := dk_124 (dk_at dksX12_mixed_0 16 rfl rfl)
theorem dX12_mixed_17 : decode cX12_mixed 17 = .ok (.ixor, 1) := dk_130 (dk_at dksX12_mixed_0 17 rfl rfl)
theorem dX12_mixed_18 : decode cX12_mixed 18 = .ok (.ireturn, 1) := dk_172 (dk_at dksX12_mixed_0 18 rfl rfl)
abbrev cX12_driesIn : ByteArray := prog_22_method_57_code
def yX12_driesIn : MethodName := ⟨RX12, "driesIn", "(I)I"⟩
def dkwX12_driesIn_2 : List UInt8 := [180, 0, 119, 16, 89, 46, 79, 42, 4, 4, 16, 99, 182, 1, 84, 172]
abbrev dktX12_driesIn_2 : List UInt8 := dkwX12_driesIn_2 ++ []
def dkwX12_driesIn_1 : List UInt8 := [182, 1, 94, 79, 42, 180, 0, 110, 8, 42, 27, 182, 1, 97, 79, 42, 180, 0, 110, 16, 6, 42]
abbrev dktX12_driesIn_1 : List UInt8 := dkwX12_driesIn_1 ++ dktX12_driesIn_2
def dkwX12_driesIn_0 : List UInt8 := [42, 182, 1, 81, 42, 180, 0, 110, 6, 42, 180, 0, 119, 27, 46, 79, 42, 180, 0, 110, 7, 42, 27]
abbrev dktX12_driesIn_0 : List UInt8 := dkwX12_driesIn_0 ++ dktX12_driesIn_1
theorem dksX12_driesIn_0 : cX12_driesIn.data.toList.drop 0 = dktX12_driesIn_0 := by decide +kernel
theorem dksX12_driesIn_1 : cX12_driesIn.data.toList.drop 23 = dktX12_driesIn_1 := dk_seg dksX12_driesIn_0 23 rfl rfl
theorem dksX12_driesIn_2 : cX12_driesIn.data.toList.drop 45 = dktX12_driesIn_2 := dk_seg dksX12_driesIn_1 22 rfl rfl
theorem dX12_driesIn_0 : decode cX12_driesIn 0 = .ok (.aload_n 0, 1) := dk_42 (dk_at dksX12_driesIn_0 0 rfl rfl)
theorem dX12_driesIn_1 : decode cX12_driesIn 1 = .ok (.invokevirtual 337, 3) := dk_182 1 81 (dk_at dksX12_driesIn_0 1 rfl rfl)
theorem dX12_driesIn_4 : decode cX12_driesIn 4 = .ok (.aload_n 0, 1) := dk_42 (dk_at dksX12_driesIn_0 4 rfl rfl)
theorem dX12_driesIn_5 : decode cX12_driesIn 5 = .ok (.getfield 110, 3) := dk_180 0 110 (dk_at dksX12_driesIn_0 5 rfl rfl)
theorem dX12_driesIn_8 : decode cX12_driesIn 8 = .ok (.iconst 3, 1) := dk_6 (dk_at dksX12_driesIn_0 8 rfl rfl)
theorem dX12_driesIn_9 : decode cX12_driesIn 9 = .ok (.aload_n 0, 1) := dk_42 (dk_at dksX12_driesIn_0 9 rfl rfl)
theorem dX12_driesIn_10 : decode cX12_driesIn 10 = .ok (.getfield 119, 3) := dk_180 0 119 (dk_at dksX12_driesIn_0 10 rfl rfl)
theorem dX12_driesIn_13 : decode cX12_driesIn 13 = .ok (.iload_n 1, 1) := dk_27 (dk_at dksX12_driesIn_0 13 rfl rfl)
theorem dX12_driesIn_14 : decode cX12_driesIn 14 = .ok (.iaload, 1) := dk_46 (dk_at dksX12_driesIn_0 14 rfl rfl)
theorem dX12_driesIn_15 : decode cX12_driesIn 15 = .ok (.iastore, 1) := dk_79 (dk_at dksX12_driesIn_0 15 rfl rfl)
theorem dX12_driesIn_16 : decode cX12_driesIn 16 = .ok (.aload_n 0, 1) := dk_42 (dk_at dksX12_driesIn_0 16 rfl rfl)
theorem dX12_driesIn_17 : decode cX12_driesIn 17 = .ok (.getfield 110, 3) := dk_180 0 110 (dk_at dksX12_driesIn_0 17 rfl rfl)
theorem dX12_driesIn_20 : decode cX12_driesIn 20 = .ok (.iconst 4, 1) := dk_7 (dk_at dksX12_driesIn_0 20 rfl rfl)
theorem dX12_driesIn_21 : decode cX12_driesIn 21 = .ok (.aload_n 0, 1) := dk_42 (dk_at dksX12_driesIn_0 21 rfl rfl)
theorem dX12_driesIn_22 : decode cX12_driesIn 22 = .ok (.iload_n 1, 1) := dk_27 (dk_at dksX12_driesIn_0 22 rfl rfl)
theorem dX12_driesIn_23 : decode cX12_driesIn 23 = .ok (.invokevirtual 350, 3) := dk_182 1 94 (dk_at dksX12_driesIn_1 0 rfl rfl)
theorem dX12_driesIn_26 : decode cX12_driesIn 26 = .ok (.iastore, 1) := dk_79 (dk_at dksX12_driesIn_1 3 rfl rfl)
theorem dX12_driesIn_27 : decode cX12_driesIn 27 = .ok (.aload_n 0, 1) := dk_42 (dk_at dksX12_driesIn_1 4 rfl rfl)
theorem dX12_driesIn_28 : decode cX12_driesIn 28 = .ok (.getfield 110, 3) := dk_180 0 110 (dk_at dksX12_driesIn_1 5 rfl rfl)
theorem dX12_driesIn_31 : decode cX12_driesIn 31 = .ok (.iconst 5, 1) := dk_8 (dk_at dksX12_driesIn_1 8 rfl rfl)
theorem dX12_driesIn_32 : decode cX12_driesIn 32 = .ok (.aload_n 0, 1) := dk_42 (dk_at dksX12_driesIn_1 9 rfl rfl)
theorem dX12_driesIn_33 : decode cX12_driesIn 33 = .ok (.iload_n 1, 1) := dk_27 (dk_at dksX12_driesIn_1 10 rfl rfl)
theorem dX12_driesIn_34 : decode cX12_driesIn 34 = .ok (.invokevirtual 353, 3) := dk_182 1 97 (dk_at dksX12_driesIn_1 11 rfl rfl)
theorem dX12_driesIn_37 : decode cX12_driesIn 37 = .ok (.iastore, 1) := dk_79 (dk_at dksX12_driesIn_1 14 rfl rfl)
theorem dX12_driesIn_38 : decode cX12_driesIn 38 = .ok (.aload_n 0, 1) := dk_42 (dk_at dksX12_driesIn_1 15 rfl rfl)
theorem dX12_driesIn_39 : decode cX12_driesIn 39 = .ok (.getfield 110, 3) := dk_180 0 110 (dk_at dksX12_driesIn_1 16 rfl rfl)
theorem dX12_driesIn_42 : decode cX12_driesIn 42 = .ok (.bipush 6, 2) := dk_16 6 (dk_at dksX12_driesIn_1 19 rfl rfl)
theorem dX12_driesIn_44 : decode cX12_driesIn 44 = .ok (.aload_n 0, 1) := dk_42 (dk_at dksX12_driesIn_1 21 rfl rfl)
theorem dX12_driesIn_45 : decode cX12_driesIn 45 = .ok (.getfield 119, 3) := dk_180 0 119 (dk_at dksX12_driesIn_2 0 rfl rfl)
theorem dX12_driesIn_48 : decode cX12_driesIn 48 = .ok (.bipush 89, 2) := dk_16 89 (dk_at dksX12_driesIn_2 3 rfl rfl)
theorem dX12_driesIn_50 : decode cX12_driesIn 50 = .ok (.iaload, 1) := dk_46 (dk_at dksX12_driesIn_2 5 rfl rfl)
theorem dX12_driesIn_51 : decode cX12_driesIn 51 = .ok (.iastore, 1) := dk_79 (dk_at dksX12_driesIn_2 6 rfl rfl)
theorem dX12_driesIn_52 : decode cX12_driesIn 52 = .ok (.aload_n 0, 1) := dk_42 (dk_at dksX12_driesIn_2 7 rfl rfl)
theorem dX12_driesIn_53 : decode cX12_driesIn 53 = .ok (.iconst 1, 1) := dk_4 (dk_at dksX12_driesIn_2 8 rfl rfl)
theorem dX12_driesIn_54 : decode cX12_driesIn 54 = .ok (.iconst 1, 1) := dk_4 (dk_at dksX12_driesIn_2 9 rfl rfl)
theorem dX12_driesIn_55 : decode cX12_driesIn 55 = .ok (.bipush 99, 2) := dk_16 99 (dk_at dksX12_driesIn_2 10 rfl rfl)
theorem dX12_driesIn_57 : decode cX12_driesIn 57 = .ok (.invokevirtual 340, 3) := dk_182 1 84 (dk_at dksX12_driesIn_2 12 rfl rfl)
theorem dX12_driesIn_60 : decode cX12_driesIn 60 = .ok (.ireturn, 1) := dk_172 (dk_at dksX12_driesIn_2 15 rfl rfl)
abbrev cX12_undo : ByteArray := prog_22_method_73_code
def yX12_undo : MethodName := ⟨RX12, "undo", "()Z"⟩
def dkwX12_undo_2 : List UInt8 := [132, 1, 1, 167, 255, 227, 4, 172]
abbrev dktX12_undo_2 : List UInt8 := dkwX12_undo_2 ++ []
def dkwX12_undo_1 : List UInt8 := [162, 0, 29, 42, 180, 0, 116, 27, 42, 180, 0, 122, 16, 92, 42, 180, 1, 9, 104, 27, 96, 46, 79]
abbrev dktX12_undo_1 : List UInt8 := dkwX12_undo_1 ++ dktX12_undo_2
def dkwX12_undo_0 : List UInt8 := [42, 180, 1, 9, 154, 0, 5, 3, 172, 42, 89, 180, 1, 9, 4, 100, 181, 1, 9, 3, 60, 27, 16, 92]
abbrev dktX12_undo_0 : List UInt8 := dkwX12_undo_0 ++ dktX12_undo_1
theorem dksX12_undo_0 : cX12_undo.data.toList.drop 0 = dktX12_undo_0 := by decide +kernel
theorem dksX12_undo_1 : cX12_undo.data.toList.drop 24 = dktX12_undo_1 := dk_seg dksX12_undo_0 24 rfl rfl
theorem dksX12_undo_2 : cX12_undo.data.toList.drop 47 = dktX12_undo_2 := dk_seg dksX12_undo_1 23 rfl rfl
theorem dX12_undo_0 : decode cX12_undo 0 = .ok (.aload_n 0, 1) := dk_42 (dk_at dksX12_undo_0 0 rfl rfl)
theorem dX12_undo_1 : decode cX12_undo 1 = .ok (.getfield 265, 3) := dk_180 1 9 (dk_at dksX12_undo_0 1 rfl rfl)
theorem dX12_undo_4 : decode cX12_undo 4 = .ok (.ifCond .ne 5, 3) := dk_154 0 5 (dk_at dksX12_undo_0 4 rfl rfl)
theorem dX12_undo_7 : decode cX12_undo 7 = .ok (.iconst 0, 1) := dk_3 (dk_at dksX12_undo_0 7 rfl rfl)
theorem dX12_undo_8 : decode cX12_undo 8 = .ok (.ireturn, 1) := dk_172 (dk_at dksX12_undo_0 8 rfl rfl)
theorem dX12_undo_9 : decode cX12_undo 9 = .ok (.aload_n 0, 1) := dk_42 (dk_at dksX12_undo_0 9 rfl rfl)
theorem dX12_undo_10 : decode cX12_undo 10 = .ok (.dup, 1) := dk_89 (dk_at dksX12_undo_0 10 rfl rfl)
theorem dX12_undo_11 : decode cX12_undo 11 = .ok (.getfield 265, 3) := dk_180 1 9 (dk_at dksX12_undo_0 11 rfl rfl)
theorem dX12_undo_14 : decode cX12_undo 14 = .ok (.iconst 1, 1) := dk_4 (dk_at dksX12_undo_0 14 rfl rfl)
theorem dX12_undo_15 : decode cX12_undo 15 = .ok (.isub, 1) := dk_100 (dk_at dksX12_undo_0 15 rfl rfl)
theorem dX12_undo_16 : decode cX12_undo 16 = .ok (.putfield 265, 3) := dk_181 1 9 (dk_at dksX12_undo_0 16 rfl rfl)
theorem dX12_undo_19 : decode cX12_undo 19 = .ok (.iconst 0, 1) := dk_3 (dk_at dksX12_undo_0 19 rfl rfl)
theorem dX12_undo_20 : decode cX12_undo 20 = .ok (.istore_n 1, 1) := dk_60 (dk_at dksX12_undo_0 20 rfl rfl)
theorem dX12_undo_21 : decode cX12_undo 21 = .ok (.iload_n 1, 1) := dk_27 (dk_at dksX12_undo_0 21 rfl rfl)
theorem dX12_undo_22 : decode cX12_undo 22 = .ok (.bipush 92, 2) := dk_16 92 (dk_at dksX12_undo_0 22 rfl rfl)
theorem dX12_undo_24 : decode cX12_undo 24 = .ok (.if_icmp .ge 29, 3) := dk_162 0 29 (dk_at dksX12_undo_1 0 rfl rfl)
theorem dX12_undo_27 : decode cX12_undo 27 = .ok (.aload_n 0, 1) := dk_42 (dk_at dksX12_undo_1 3 rfl rfl)
theorem dX12_undo_28 : decode cX12_undo 28 = .ok (.getfield 116, 3) := dk_180 0 116 (dk_at dksX12_undo_1 4 rfl rfl)
theorem dX12_undo_31 : decode cX12_undo 31 = .ok (.iload_n 1, 1) := dk_27 (dk_at dksX12_undo_1 7 rfl rfl)
theorem dX12_undo_32 : decode cX12_undo 32 = .ok (.aload_n 0, 1) := dk_42 (dk_at dksX12_undo_1 8 rfl rfl)
theorem dX12_undo_33 : decode cX12_undo 33 = .ok (.getfield 122, 3) := dk_180 0 122 (dk_at dksX12_undo_1 9 rfl rfl)
theorem dX12_undo_36 : decode cX12_undo 36 = .ok (.bipush 92, 2) := dk_16 92 (dk_at dksX12_undo_1 12 rfl rfl)
theorem dX12_undo_38 : decode cX12_undo 38 = .ok (.aload_n 0, 1) := dk_42 (dk_at dksX12_undo_1 14 rfl rfl)
theorem dX12_undo_39 : decode cX12_undo 39 = .ok (.getfield 265, 3) := dk_180 1 9 (dk_at dksX12_undo_1 15 rfl rfl)
theorem dX12_undo_42 : decode cX12_undo 42 = .ok (.imul, 1) := dk_104 (dk_at dksX12_undo_1 18 rfl rfl)
theorem dX12_undo_43 : decode cX12_undo 43 = .ok (.iload_n 1, 1) := dk_27 (dk_at dksX12_undo_1 19 rfl rfl)
theorem dX12_undo_44 : decode cX12_undo 44 = .ok (.iadd, 1) := dk_96 (dk_at dksX12_undo_1 20 rfl rfl)
theorem dX12_undo_45 : decode cX12_undo 45 = .ok (.iaload, 1) := dk_46 (dk_at dksX12_undo_1 21 rfl rfl)
theorem dX12_undo_46 : decode cX12_undo 46 = .ok (.iastore, 1) := dk_79 (dk_at dksX12_undo_1 22 rfl rfl)
theorem dX12_undo_47 : decode cX12_undo 47 = .ok (.iinc 1 1, 3) := dk_132 1 1 (dk_at dksX12_undo_2 0 rfl rfl)
theorem dX12_undo_50 : decode cX12_undo 50 = .ok (.goto (-29), 3) := dk_167 255 227 (dk_at dksX12_undo_2 3 rfl rfl)
theorem dX12_undo_53 : decode cX12_undo 53 = .ok (.iconst 1, 1) := dk_4 (dk_at dksX12_undo_2 6 rfl rfl)
theorem dX12_undo_54 : decode cX12_undo 54 = .ok (.ireturn, 1) := dk_172 (dk_at dksX12_undo_2 7 rfl rfl)
abbrev cX12_holds : ByteArray := prog_22_method_75_code
def yX12_holds : MethodName := ⟨RX12, "holds", "(IIIZ)I"⟩
def dkwX12_holds_3 : List UInt8 := [132, 6, 1, 167, 255, 216, 21, 5, 172]
abbrev dktX12_holds_3 : List UInt8 := dkwX12_holds_3 ++ []
def dkwX12_holds_2 : List UInt8 := [180, 0, 116, 16, 48, 27, 96, 46, 21, 6, 28, 108, 96, 182, 1, 100, 154, 0, 6, 132, 5, 1]
abbrev dktX12_holds_2 : List UInt8 := dkwX12_holds_2 ++ dktX12_holds_3
def dkwX12_holds_1 : List UInt8 := [172, 3, 54, 5, 3, 54, 6, 21, 6, 28, 29, 104, 162, 0, 38, 42, 27, 21, 6, 28, 112, 42]
abbrev dktX12_holds_1 : List UInt8 := dkwX12_holds_1 ++ dktX12_holds_2
def dkwX12_holds_0 : List UInt8 := [42, 27, 28, 29, 182, 1, 140, 154, 0, 5, 2, 172, 21, 4, 154, 0, 11, 42, 27, 28, 29, 182, 1, 149]
abbrev dktX12_holds_0 : List UInt8 := dkwX12_holds_0 ++ dktX12_holds_1
theorem dksX12_holds_0 : cX12_holds.data.toList.drop 0 = dktX12_holds_0 := by decide +kernel
theorem dksX12_holds_1 : cX12_holds.data.toList.drop 24 = dktX12_holds_1 := dk_seg dksX12_holds_0 24 rfl rfl
theorem dksX12_holds_2 : cX12_holds.data.toList.drop 46 = dktX12_holds_2 := dk_seg dksX12_holds_1 22 rfl rfl
theorem dksX12_holds_3 : cX12_holds.data.toList.drop 68 = dktX12_holds_3 := dk_seg dksX12_holds_2 22 rfl rfl
theorem dX12_holds_0 : decode cX12_holds 0 = .ok (.aload_n 0, 1) := dk_42 (dk_at dksX12_holds_0 0 rfl rfl)
theorem dX12_holds_1 : decode cX12_holds 1 = .ok (.iload_n 1, 1) := dk_27 (dk_at dksX12_holds_0 1 rfl rfl)
theorem dX12_holds_2 : decode cX12_holds 2 = .ok (.iload_n 2, 1) := dk_28 (dk_at dksX12_holds_0 2 rfl rfl)
theorem dX12_holds_3 : decode cX12_holds 3 = .ok (.iload_n 3, 1) := dk_29 (dk_at dksX12_holds_0 3 rfl rfl)
theorem dX12_holds_4 : decode cX12_holds 4 = .ok (.invokevirtual 396, 3) := dk_182 1 140 (dk_at dksX12_holds_0 4 rfl rfl)
theorem dX12_holds_7 : decode cX12_holds 7 = .ok (.ifCond .ne 5, 3) := dk_154 0 5 (dk_at dksX12_holds_0 7 rfl rfl)
theorem dX12_holds_10 : decode cX12_holds 10 = .ok (.iconst (-1), 1) := dk_2 (dk_at dksX12_holds_0 10 rfl rfl)
theorem dX12_holds_11 : decode cX12_holds 11 = .ok (.ireturn, 1) := dk_172 (dk_at dksX12_holds_0 11 rfl rfl)
theorem dX12_holds_12 : decode cX12_holds 12 = .ok (.iload 4, 2) := dk_21 4 (dk_at dksX12_holds_0 12 rfl rfl)
theorem dX12_holds_14 : decode cX12_holds 14 = .ok (.ifCond .ne 11, 3) := dk_154 0 11 (dk_at dksX12_holds_0 14 rfl rfl)
theorem dX12_holds_17 : decode cX12_holds 17 = .ok (.aload_n 0, 1) := dk_42 (dk_at dksX12_holds_0 17 rfl rfl)
theorem dX12_holds_18 : decode cX12_holds 18 = .ok (.iload_n 1, 1) := dk_27 (dk_at dksX12_holds_0 18 rfl rfl)
theorem dX12_holds_19 : decode cX12_holds 19 = .ok (.iload_n 2, 1) := dk_28 (dk_at dksX12_holds_0 19 rfl rfl)
theorem dX12_holds_20 : decode cX12_holds 20 = .ok (.iload_n 3, 1) := dk_29 (dk_at dksX12_holds_0 20 rfl rfl)
theorem dX12_holds_21 : decode cX12_holds 21 = .ok (.invokevirtual 405, 3) := dk_182 1 149 (dk_at dksX12_holds_0 21 rfl rfl)
theorem dX12_holds_24 : decode cX12_holds 24 = .ok (.ireturn, 1) := dk_172 (dk_at dksX12_holds_1 0 rfl rfl)
theorem dX12_holds_25 : decode cX12_holds 25 = .ok (.iconst 0, 1) := dk_3 (dk_at dksX12_holds_1 1 rfl rfl)
theorem dX12_holds_26 : decode cX12_holds 26 = .ok (.istore 5, 2) := dk_54 5 (dk_at dksX12_holds_1 2 rfl rfl)
theorem dX12_holds_28 : decode cX12_holds 28 = .ok (.iconst 0, 1) := dk_3 (dk_at dksX12_holds_1 4 rfl rfl)
theorem dX12_holds_29 : decode cX12_holds 29 = .ok (.istore 6, 2) := dk_54 6 (dk_at dksX12_holds_1 5 rfl rfl)
theorem dX12_holds_31 : decode cX12_holds 31 = .ok (.iload 6, 2) := dk_21 6 (dk_at dksX12_holds_1 7 rfl rfl)
theorem dX12_holds_33 : decode cX12_holds 33 = .ok (.iload_n 2, 1) := dk_28 (dk_at dksX12_holds_1 9 rfl rfl)
theorem dX12_holds_34 : decode cX12_holds 34 = .ok (.iload_n 3, 1) := dk_29 (dk_at dksX12_holds_1 10 rfl rfl)
theorem dX12_holds_35 : decode cX12_holds 35 = .ok (.imul, 1) := dk_104 (dk_at dksX12_holds_1 11 rfl rfl)
theorem dX12_holds_36 : decode cX12_holds 36 = .ok (.if_icmp .ge 38, 3) := dk_162 0 38 (dk_at dksX12_holds_1 12 rfl rfl)
theorem dX12_holds_39 : decode cX12_holds 39 = .ok (.aload_n 0, 1) := dk_42 (dk_at dksX12_holds_1 15 rfl rfl)
theorem dX12_holds_40 : decode cX12_holds 40 = .ok (.iload_n 1, 1) := dk_27 (dk_at dksX12_holds_1 16 rfl rfl)
theorem dX12_holds_41 : decode cX12_holds 41 = .ok (.iload 6, 2) := dk_21 6 (dk_at dksX12_holds_1 17 rfl rfl)
theorem dX12_holds_43 : decode cX12_holds 43 = .ok (.iload_n 2, 1) := dk_28 (dk_at dksX12_holds_1 19 rfl rfl)
theorem dX12_holds_44 : decode cX12_holds 44 = .ok (.irem, 1) := dk_112 (dk_at dksX12_holds_1 20 rfl rfl)
theorem dX12_holds_45 : decode cX12_holds 45 = .ok (.aload_n 0, 1) := dk_42 (dk_at dksX12_holds_1 21 rfl rfl)
theorem dX12_holds_46 : decode cX12_holds 46 = .ok (.getfield 116, 3) := dk_180 0 116 (dk_at dksX12_holds_2 0 rfl rfl)
theorem dX12_holds_49 : decode cX12_holds 49 = .ok (.bipush 48, 2) := dk_16 48 (dk_at dksX12_holds_2 3 rfl rfl)
theorem dX12_holds_51 : decode cX12_holds 51 = .ok (.iload_n 1, 1) := dk_27 (dk_at dksX12_holds_2 5 rfl rfl)
theorem dX12_holds_52 : decode cX12_holds 52 = .ok (.iadd, 1) := dk_96 (dk_at dksX12_holds_2 6 rfl rfl)
theorem dX12_holds_53 : decode cX12_holds 53 = .ok (.iaload, 1) := dk_46 (dk_at dksX12_holds_2 7 rfl rfl)
theorem dX12_holds_54 : decode cX12_holds 54 = .ok (.iload 6, 2) := dk_21 6 (dk_at dksX12_holds_2 8 rfl rfl)
theorem dX12_holds_56 : decode cX12_holds 56 = .ok (.iload_n 2, 1) := dk_28 (dk_at dksX12_holds_2 10 rfl rfl)
theorem dX12_holds_57 : decode cX12_holds 57 = .ok (.idiv, 1) := dk_108 (dk_at dksX12_holds_2 11 rfl rfl)
theorem dX12_holds_58 : decode cX12_holds 58 = .ok (.iadd, 1) := dk_96 (dk_at dksX12_holds_2 12 rfl rfl)
theorem dX12_holds_59 : decode cX12_holds 59 = .ok (.invokevirtual 356, 3) := dk_182 1 100 (dk_at dksX12_holds_2 13 rfl rfl)
theorem dX12_holds_62 : decode cX12_holds 62 = .ok (.ifCond .ne 6, 3) := dk_154 0 6 (dk_at dksX12_holds_2 16 rfl rfl)
theorem dX12_holds_65 : decode cX12_holds 65 = .ok (.iinc 5 1, 3) := dk_132 5 1 (dk_at dksX12_holds_2 19 rfl rfl)
theorem dX12_holds_68 : decode cX12_holds 68 = .ok (.iinc 6 1, 3) := dk_132 6 1 (dk_at dksX12_holds_3 0 rfl rfl)
theorem dX12_holds_71 : decode cX12_holds 71 = .ok (.goto (-40), 3) := dk_167 255 216 (dk_at dksX12_holds_3 3 rfl rfl)
theorem dX12_holds_74 : decode cX12_holds 74 = .ok (.iload 5, 2) := dk_21 5 (dk_at dksX12_holds_3 6 rfl rfl)
theorem dX12_holds_76 : decode cX12_holds 76 = .ok (.ireturn, 1) := dk_172 (dk_at dksX12_holds_3 8 rfl rfl)
abbrev cX12_heldBy : ByteArray := prog_22_method_74_code
def yX12_heldBy : MethodName := ⟨RX12, "heldBy", "(III)I"⟩
def dkwX12_heldBy_2 : List UInt8 := [167, 255, 217, 21, 4, 172]
abbrev dktX12_heldBy_2 : List UInt8 := dkwX12_heldBy_2 ++ []
def dkwX12_heldBy_1 : List UInt8 := [180, 0, 116, 16, 48, 27, 96, 46, 21, 5, 28, 108, 96, 182, 1, 100, 96, 54, 4, 132, 5, 1]
abbrev dktX12_heldBy_1 : List UInt8 := dkwX12_heldBy_1 ++ dktX12_heldBy_2
def dkwX12_heldBy_0 : List UInt8 := [3, 54, 4, 3, 54, 5, 21, 5, 28, 29, 104, 162, 0, 37, 21, 4, 42, 27, 21, 5, 28, 112, 42]
abbrev dktX12_heldBy_0 : List UInt8 := dkwX12_heldBy_0 ++ dktX12_heldBy_1
theorem dksX12_heldBy_0 : cX12_heldBy.data.toList.drop 0 = dktX12_heldBy_0 := by decide +kernel
theorem dksX12_heldBy_1 : cX12_heldBy.data.toList.drop 23 = dktX12_heldBy_1 := dk_seg dksX12_heldBy_0 23 rfl rfl
theorem dksX12_heldBy_2 : cX12_heldBy.data.toList.drop 45 = dktX12_heldBy_2 := dk_seg dksX12_heldBy_1 22 rfl rfl
theorem dX12_heldBy_0 : decode cX12_heldBy 0 = .ok (.iconst 0, 1) := dk_3 (dk_at dksX12_heldBy_0 0 rfl rfl)
theorem dX12_heldBy_1 : decode cX12_heldBy 1 = .ok (.istore 4, 2) := dk_54 4 (dk_at dksX12_heldBy_0 1 rfl rfl)
theorem dX12_heldBy_3 : decode cX12_heldBy 3 = .ok (.iconst 0, 1) := dk_3 (dk_at dksX12_heldBy_0 3 rfl rfl)
theorem dX12_heldBy_4 : decode cX12_heldBy 4 = .ok (.istore 5, 2) := dk_54 5 (dk_at dksX12_heldBy_0 4 rfl rfl)
theorem dX12_heldBy_6 : decode cX12_heldBy 6 = .ok (.iload 5, 2) := dk_21 5 (dk_at dksX12_heldBy_0 6 rfl rfl)
theorem dX12_heldBy_8 : decode cX12_heldBy 8 = .ok (.iload_n 2, 1) := dk_28 (dk_at dksX12_heldBy_0 8 rfl rfl)
theorem dX12_heldBy_9 : decode cX12_heldBy 9 = .ok (.iload_n 3, 1) := dk_29 (dk_at dksX12_heldBy_0 9 rfl rfl)
theorem dX12_heldBy_10 : decode cX12_heldBy 10 = .ok (.imul, 1) := dk_104 (dk_at dksX12_heldBy_0 10 rfl rfl)
theorem dX12_heldBy_11 : decode cX12_heldBy 11 = .ok (.if_icmp .ge 37, 3) := dk_162 0 37 (dk_at dksX12_heldBy_0 11 rfl rfl)
theorem dX12_heldBy_14 : decode cX12_heldBy 14 = .ok (.iload 4, 2) := dk_21 4 (dk_at dksX12_heldBy_0 14 rfl rfl)
theorem dX12_heldBy_16 : decode cX12_heldBy 16 = .ok (.aload_n 0, 1) := dk_42 (dk_at dksX12_heldBy_0 16 rfl rfl)
theorem dX12_heldBy_17 : decode cX12_heldBy 17 = .ok (.iload_n 1, 1) := dk_27 (dk_at dksX12_heldBy_0 17 rfl rfl)
theorem dX12_heldBy_18 : decode cX12_heldBy 18 = .ok (.iload 5, 2) := dk_21 5 (dk_at dksX12_heldBy_0 18 rfl rfl)
theorem dX12_heldBy_20 : decode cX12_heldBy 20 = .ok (.iload_n 2, 1) := dk_28 (dk_at dksX12_heldBy_0 20 rfl rfl)
theorem dX12_heldBy_21 : decode cX12_heldBy 21 = .ok (.irem, 1) := dk_112 (dk_at dksX12_heldBy_0 21 rfl rfl)
theorem dX12_heldBy_22 : decode cX12_heldBy 22 = .ok (.aload_n 0, 1) := dk_42 (dk_at dksX12_heldBy_0 22 rfl rfl)
theorem dX12_heldBy_23 : decode cX12_heldBy 23 = .ok (.getfield 116, 3) := dk_180 0 116 (dk_at dksX12_heldBy_1 0 rfl rfl)
theorem dX12_heldBy_26 : decode cX12_heldBy 26 = .ok (.bipush 48, 2) := dk_16 48 (dk_at dksX12_heldBy_1 3 rfl rfl)
theorem dX12_heldBy_28 : decode cX12_heldBy 28 = .ok (.iload_n 1, 1) := dk_27 (dk_at dksX12_heldBy_1 5 rfl rfl)
theorem dX12_heldBy_29 : decode cX12_heldBy 29 = .ok (.iadd, 1) := dk_96 (dk_at dksX12_heldBy_1 6 rfl rfl)
theorem dX12_heldBy_30 : decode cX12_heldBy 30 = .ok (.iaload, 1) := dk_46 (dk_at dksX12_heldBy_1 7 rfl rfl)
theorem dX12_heldBy_31 : decode cX12_heldBy 31 = .ok (.iload 5, 2) := dk_21 5 (dk_at dksX12_heldBy_1 8 rfl rfl)
theorem dX12_heldBy_33 : decode cX12_heldBy 33 = .ok (.iload_n 2, 1) := dk_28 (dk_at dksX12_heldBy_1 10 rfl rfl)
theorem dX12_heldBy_34 : decode cX12_heldBy 34 = .ok (.idiv, 1) := dk_108 (dk_at dksX12_heldBy_1 11 rfl rfl)
theorem dX12_heldBy_35 : decode cX12_heldBy 35 = .ok (.iadd, 1) := dk_96 (dk_at dksX12_heldBy_1 12 rfl rfl)
theorem dX12_heldBy_36 : decode cX12_heldBy 36 = .ok (.invokevirtual 356, 3) := dk_182 1 100 (dk_at dksX12_heldBy_1 13 rfl rfl)
theorem dX12_heldBy_39 : decode cX12_heldBy 39 = .ok (.iadd, 1) := dk_96 (dk_at dksX12_heldBy_1 16 rfl rfl)
theorem dX12_heldBy_40 : decode cX12_heldBy 40 = .ok (.istore 4, 2) := dk_54 4 (dk_at dksX12_heldBy_1 17 rfl rfl)
theorem dX12_heldBy_42 : decode cX12_heldBy 42 = .ok (.iinc 5 1, 3) := dk_132 5 1 (dk_at dksX12_heldBy_1 19 rfl rfl)
theorem dX12_heldBy_45 : decode cX12_heldBy 45 = .ok (.goto (-39), 3) := dk_167 255 217 (dk_at dksX12_heldBy_2 0 rfl rfl)
theorem dX12_heldBy_48 : decode cX12_heldBy 48 = .ok (.iload 4, 2) := dk_21 4 (dk_at dksX12_heldBy_2 3 rfl rfl)
theorem dX12_heldBy_50 : decode cX12_heldBy 50 = .ok (.ireturn, 1) := dk_172 (dk_at dksX12_heldBy_2 5 rfl rfl)
abbrev cX12_comes : ByteArray := prog_22_method_76_code
def yX12_comes : MethodName := ⟨RX12, "comes", "(III)I"⟩
def dkwX12_comes_5 : List UInt8 := [16, 254, 172]
abbrev dktX12_comes_5 : List UInt8 := dkwX12_comes_5 ++ []
def dkwX12_comes_4 : List UInt8 := [128, 54, 5, 132, 6, 1, 167, 255, 216, 21, 5, 29, 160, 0, 6, 21, 4, 172, 132, 4, 1, 167, 255, 187]
abbrev dktX12_comes_4 : List UInt8 := dkwX12_comes_4 ++ dktX12_comes_5
def dkwX12_comes_3 : List UInt8 := [42, 180, 0, 116, 16, 48, 27, 96, 46, 21, 4, 96, 182, 1, 100, 158, 0, 12, 21, 5, 4, 21, 6, 120]
abbrev dktX12_comes_3 : List UInt8 := dkwX12_comes_3 ++ dktX12_comes_4
def dkwX12_comes_2 : List UInt8 := [21, 4, 17, 0, 200, 163, 0, 67, 3, 54, 5, 3, 54, 6, 21, 6, 28, 162, 0, 40, 42, 27, 21, 6]
abbrev dktX12_comes_2 : List UInt8 := dkwX12_comes_2 ++ dktX12_comes_3
def dkwX12_comes_1 : List UInt8 := [184, 1, 67, 153, 0, 16, 29, 3, 4, 28, 120, 4, 100, 184, 1, 67, 154, 0, 5, 2, 172, 3, 54, 4]
abbrev dktX12_comes_1 : List UInt8 := dkwX12_comes_1 ++ dktX12_comes_2
def dkwX12_comes_0 : List UInt8 := [42, 27, 182, 1, 137, 153, 0, 37, 28, 4, 42, 180, 0, 64, 7, 42, 180, 0, 239, 104, 27, 96, 46]
abbrev dktX12_comes_0 : List UInt8 := dkwX12_comes_0 ++ dktX12_comes_1
theorem dksX12_comes_0 : cX12_comes.data.toList.drop 0 = dktX12_comes_0 := by decide +kernel
theorem dksX12_comes_1 : cX12_comes.data.toList.drop 23 = dktX12_comes_1 := dk_seg dksX12_comes_0 23 rfl rfl
theorem dksX12_comes_2 : cX12_comes.data.toList.drop 47 = dktX12_comes_2 := dk_seg dksX12_comes_1 24 rfl rfl
theorem dksX12_comes_3 : cX12_comes.data.toList.drop 71 = dktX12_comes_3 := dk_seg dksX12_comes_2 24 rfl rfl
theorem dksX12_comes_4 : cX12_comes.data.toList.drop 95 = dktX12_comes_4 := dk_seg dksX12_comes_3 24 rfl rfl
theorem dksX12_comes_5 : cX12_comes.data.toList.drop 119 = dktX12_comes_5 := dk_seg dksX12_comes_4 24 rfl rfl
theorem dX12_comes_0 : decode cX12_comes 0 = .ok (.aload_n 0, 1) := dk_42 (dk_at dksX12_comes_0 0 rfl rfl)
theorem dX12_comes_1 : decode cX12_comes 1 = .ok (.iload_n 1, 1) := dk_27 (dk_at dksX12_comes_0 1 rfl rfl)
theorem dX12_comes_2 : decode cX12_comes 2 = .ok (.invokevirtual 393, 3) := dk_182 1 137 (dk_at dksX12_comes_0 2 rfl rfl)
theorem dX12_comes_5 : decode cX12_comes 5 = .ok (.ifCond .eq 37, 3) := dk_153 0 37 (dk_at dksX12_comes_0 5 rfl rfl)
theorem dX12_comes_8 : decode cX12_comes 8 = .ok (.iload_n 2, 1) := dk_28 (dk_at dksX12_comes_0 8 rfl rfl)
theorem dX12_comes_9 : decode cX12_comes 9 = .ok (.iconst 1, 1) := dk_4 (dk_at dksX12_comes_0 9 rfl rfl)
theorem dX12_comes_10 : decode cX12_comes 10 = .ok (.aload_n 0, 1) := dk_42 (dk_at dksX12_comes_0 10 rfl rfl)
theorem dX12_comes_11 : decode cX12_comes 11 = .ok (.getfield 64, 3) := dk_180 0 64 (dk_at dksX12_comes_0 11 rfl rfl)
theorem dX12_comes_14 : decode cX12_comes 14 = .ok (.iconst 4, 1) := dk_7 (dk_at dksX12_comes_0 14 rfl rfl)
theorem dX12_comes_15 : decode cX12_comes 15 = .ok (.aload_n 0, 1) := dk_42 (dk_at dksX12_comes_0 15 rfl rfl)
theorem dX12_comes_16 : decode cX12_comes 16 = .ok (.getfield 239, 3) := dk_180 0 239 (dk_at dksX12_comes_0 16 rfl rfl)
theorem dX12_comes_19 : decode cX12_comes 19 = .ok (.imul, 1) := dk_104 (dk_at dksX12_comes_0 19 rfl rfl)
theorem dX12_comes_20 : decode cX12_comes 20 = .ok (.iload_n 1, 1) := dk_27 (dk_at dksX12_comes_0 20 rfl rfl)
theorem dX12_comes_21 : decode cX12_comes 21 = .ok (.iadd, 1) := dk_96 (dk_at dksX12_comes_0 21 rfl rfl)
theorem dX12_comes_22 : decode cX12_comes 22 = .ok (.iaload, 1) := dk_46 (dk_at dksX12_comes_0 22 rfl rfl)
theorem dX12_comes_23 : decode cX12_comes 23 = .ok (.invokestatic 323, 3) := dk_184 1 67 (dk_at dksX12_comes_1 0 rfl rfl)
theorem dX12_comes_26 : decode cX12_comes 26 = .ok (.ifCond .eq 16, 3) := dk_153 0 16 (dk_at dksX12_comes_1 3 rfl rfl)
theorem dX12_comes_29 : decode cX12_comes 29 = .ok (.iload_n 3, 1) := dk_29 (dk_at dksX12_comes_1 6 rfl rfl)
theorem dX12_comes_30 : decode cX12_comes 30 = .ok (.iconst 0, 1) := dk_3 (dk_at dksX12_comes_1 7 rfl rfl)
theorem dX12_comes_31 : decode cX12_comes 31 = .ok (.iconst 1, 1) := dk_4 (dk_at dksX12_comes_1 8 rfl rfl)
theorem dX12_comes_32 : decode cX12_comes 32 = .ok (.iload_n 2, 1) := dk_28 (dk_at dksX12_comes_1 9 rfl rfl)
theorem dX12_comes_33 : decode cX12_comes 33 = .ok (.ishl, 1) := dk_120 (dk_at dksX12_comes_1 10 rfl rfl)
theorem dX12_comes_34 : decode cX12_comes 34 = .ok (.iconst 1, 1) := dk_4 (dk_at dksX12_comes_1 11 rfl rfl)
theorem dX12_comes_35 : decode cX12_comes 35 = .ok (.isub, 1) := dk_100 (dk_at dksX12_comes_1 12 rfl rfl)
theorem dX12_comes_36 : decode cX12_comes 36 = .ok (.invokestatic 323, 3) := dk_184 1 67 (dk_at dksX12_comes_1 13 rfl rfl)
theorem dX12_comes_39 : decode cX12_comes 39 = .ok (.ifCond .ne 5, 3) := dk_154 0 5 (dk_at dksX12_comes_1 16 rfl rfl)
theorem dX12_comes_42 : decode cX12_comes 42 = .ok (.iconst (-1), 1) := dk_2 (dk_at dksX12_comes_1 19 rfl rfl)
theorem dX12_comes_43 : decode cX12_comes 43 = .ok (.ireturn, 1) := dk_172 (dk_at dksX12_comes_1 20 rfl rfl)
theorem dX12_comes_44 : decode cX12_comes 44 = .ok (.iconst 0, 1) := dk_3 (dk_at dksX12_comes_1 21 rfl rfl)
theorem dX12_comes_45 : decode cX12_comes 45 = .ok (.istore 4, 2) := dk_54 4 (dk_at dksX12_comes_1 22 rfl rfl)
theorem dX12_comes_47 : decode cX12_comes 47 = .ok (.iload 4, 2) := dk_21 4 (dk_at dksX12_comes_2 0 rfl rfl)
theorem dX12_comes_49 : decode cX12_comes 49 = .ok (.sipush 200, 3) := dk_17 0 200 (dk_at dksX12_comes_2 2 rfl rfl)
theorem dX12_comes_52 : decode cX12_comes 52 = .ok (.if_icmp .gt 67, 3) := dk_163 0 67 (dk_at dksX12_comes_2 5 rfl rfl)
theorem dX12_comes_55 : decode cX12_comes 55 = .ok (.iconst 0, 1) := dk_3 (dk_at dksX12_comes_2 8 rfl rfl)
theorem dX12_comes_56 : decode cX12_comes 56 = .ok (.istore 5, 2) := dk_54 5 (dk_at dksX12_comes_2 9 rfl rfl)
theorem dX12_comes_58 : decode cX12_comes 58 = .ok (.iconst 0, 1) := dk_3 (dk_at dksX12_comes_2 11 rfl rfl)
theorem dX12_comes_59 : decode cX12_comes 59 = .ok (.istore 6, 2) := dk_54 6 (dk_at dksX12_comes_2 12 rfl rfl)
theorem dX12_comes_61 : decode cX12_comes 61 = .ok (.iload 6, 2) := dk_21 6 (dk_at dksX12_comes_2 14 rfl rfl)
theorem dX12_comes_63 : decode cX12_comes 63 = .ok (.iload_n 2, 1) := dk_28 (dk_at dksX12_comes_2 16 rfl rfl)
theorem dX12_comes_64 : decode cX12_comes 64 = .ok (.if_icmp .ge 40, 3) := dk_162 0 40 (dk_at dksX12_comes_2 17 rfl rfl)
theorem dX12_comes_67 : decode cX12_comes 67 = .ok (.aload_n 0, 1) := dk_42 (dk_at dksX12_comes_2 20 rfl rfl)
theorem dX12_comes_68 : decode cX12_comes 68 = .ok (.iload_n 1, 1) := dk_27 (dk_at dksX12_comes_2 21 rfl rfl)
theorem dX12_comes_69 : decode cX12_comes 69 = .ok (.iload 6, 2) := dk_21 6 (dk_at dksX12_comes_2 22 rfl rfl)
theorem dX12_comes_71 : decode cX12_comes 71 = .ok (.aload_n 0, 1) := dk_42 (dk_at dksX12_comes_3 0 rfl rfl)
theorem dX12_comes_72 : decode cX12_comes 72 = .ok (.getfield 116, 3) := dk_180 0 116 (dk_at dksX12_comes_3 1 rfl rfl)
theorem dX12_comes_75 : decode cX12_comes 75 = .ok (.bipush 48, 2) := dk_16 48 (dk_at dksX12_comes_3 4 rfl rfl)
theorem dX12_comes_77 : decode cX12_comes 77 = .ok (.iload_n 1, 1) := dk_27 (dk_at dksX12_comes_3 6 rfl rfl)
theorem dX12_comes_78 : decode cX12_comes 78 = .ok (.iadd, 1) := dk_96 (dk_at dksX12_comes_3 7 rfl rfl)
theorem dX12_comes_79 : decode cX12_comes 79 = .ok (.iaload, 1) := dk_46 (dk_at dksX12_comes_3 8 rfl rfl)
theorem dX12_comes_80 : decode cX12_comes 80 = .ok (.iload 4, 2) := dk_21 4 (dk_at dksX12_comes_3 9 rfl rfl)
theorem dX12_comes_82 : decode cX12_comes 82 = .ok (.iadd, 1) := dk_96 (dk_at dksX12_comes_3 11 rfl rfl)
theorem dX12_comes_83 : decode cX12_comes 83 = .ok (.invokevirtual 356, 3) := dk_182 1 100 (dk_at dksX12_comes_3 12 rfl rfl)
theorem dX12_comes_86 : decode cX12_comes 86 = .ok (.ifCond .le 12, 3) := dk_158 0 12 (dk_at dksX12_comes_3 15 rfl rfl)
theorem dX12_comes_89 : decode cX12_comes 89 = .ok (.iload 5, 2) := dk_21 5 (dk_at dksX12_comes_3 18 rfl rfl)
theorem dX12_comes_91 : decode cX12_comes 91 = .ok (.iconst 1, 1) := dk_4 (dk_at dksX12_comes_3 20 rfl rfl)
theorem dX12_comes_92 : decode cX12_comes 92 = .ok (.iload 6, 2) := dk_21 6 (dk_at dksX12_comes_3 21 rfl rfl)
theorem dX12_comes_94 : decode cX12_comes 94 = .ok (.ishl, 1) := dk_120 (dk_at dksX12_comes_3 23 rfl rfl)
theorem dX12_comes_95 : decode cX12_comes 95 = .ok (.ior, 1) := dk_128 (dk_at dksX12_comes_4 0 rfl rfl)
theorem dX12_comes_96 : decode cX12_comes 96 = .ok (.istore 5, 2) := dk_54 5 (dk_at dksX12_comes_4 1 rfl rfl)
theorem dX12_comes_98 : decode cX12_comes 98 = .ok (.iinc 6 1, 3) := dk_132 6 1 (dk_at dksX12_comes_4 3 rfl rfl)
theorem dX12_comes_101 : decode cX12_comes 101 = .ok (.goto (-40), 3) := dk_167 255 216 (dk_at dksX12_comes_4 6 rfl rfl)
theorem dX12_comes_104 : decode cX12_comes 104 = .ok (.iload 5, 2) := dk_21 5 (dk_at dksX12_comes_4 9 rfl rfl)
theorem dX12_comes_106 : decode cX12_comes 106 = .ok (.iload_n 3, 1) := dk_29 (dk_at dksX12_comes_4 11 rfl rfl)
theorem dX12_comes_107 : decode cX12_comes 107 = .ok (.if_icmp .ne 6, 3) := dk_160 0 6 (dk_at dksX12_comes_4 12 rfl rfl)
theorem dX12_comes_110 : decode cX12_comes 110 = .ok (.iload 4, 2) := dk_21 4 (dk_at dksX12_comes_4 15 rfl rfl)
theorem dX12_comes_112 : decode cX12_comes 112 = .ok (.ireturn, 1) := dk_172 (dk_at dksX12_comes_4 17 rfl rfl)
theorem dX12_comes_113 : decode cX12_comes 113 = .ok (.iinc 4 1, 3) := dk_132 4 1 (dk_at dksX12_comes_4 18 rfl rfl)
theorem dX12_comes_116 : decode cX12_comes 116 = .ok (.goto (-69), 3) := dk_167 255 187 (dk_at dksX12_comes_4 21 rfl rfl)
theorem dX12_comes_119 : decode cX12_comes 119 = .ok (.bipush (-2), 2) := dk_16 254 (dk_at dksX12_comes_5 0 rfl rfl)
theorem dX12_comes_121 : decode cX12_comes 121 = .ok (.ireturn, 1) := dk_172 (dk_at dksX12_comes_5 2 rfl rfl)
abbrev cX12_round : ByteArray := prog_22_method_78_code
def yX12_round : MethodName := ⟨RX12, "round", "(I)I"⟩
def dkwX12_round_1 : List UInt8 := [153, 0, 5, 28, 172, 132, 2, 1, 167, 255, 236, 16, 254, 172]
abbrev dktX12_round_1 : List UInt8 := dkwX12_round_1 ++ []
def dkwX12_round_0 : List UInt8 := [42, 27, 182, 1, 137, 154, 0, 5, 2, 172, 4, 61, 28, 16, 99, 163, 0, 20, 42, 27, 28, 182, 1, 152]
abbrev dktX12_round_0 : List UInt8 := dkwX12_round_0 ++ dktX12_round_1
theorem dksX12_round_0 : cX12_round.data.toList.drop 0 = dktX12_round_0 := by decide +kernel
theorem dksX12_round_1 : cX12_round.data.toList.drop 24 = dktX12_round_1 := dk_seg dksX12_round_0 24 rfl rfl
theorem dX12_round_0 : decode cX12_round 0 = .ok (.aload_n 0, 1) := dk_42 (dk_at dksX12_round_0 0 rfl rfl)
theorem dX12_round_1 : decode cX12_round 1 = .ok (.iload_n 1, 1) := dk_27 (dk_at dksX12_round_0 1 rfl rfl)
theorem dX12_round_2 : decode cX12_round 2 = .ok (.invokevirtual 393, 3) := dk_182 1 137 (dk_at dksX12_round_0 2 rfl rfl)
theorem dX12_round_5 : decode cX12_round 5 = .ok (.ifCond .ne 5, 3) := dk_154 0 5 (dk_at dksX12_round_0 5 rfl rfl)
theorem dX12_round_8 : decode cX12_round 8 = .ok (.iconst (-1), 1) := dk_2 (dk_at dksX12_round_0 8 rfl rfl)
theorem dX12_round_9 : decode cX12_round 9 = .ok (.ireturn, 1) := dk_172 (dk_at dksX12_round_0 9 rfl rfl)
theorem dX12_round_10 : decode cX12_round 10 = .ok (.iconst 1, 1) := dk_4 (dk_at dksX12_round_0 10 rfl rfl)
theorem dX12_round_11 : decode cX12_round 11 = .ok (.istore_n 2, 1) := dk_61 (dk_at dksX12_round_0 11 rfl rfl)
theorem dX12_round_12 : decode cX12_round 12 = .ok (.iload_n 2, 1) := dk_28 (dk_at dksX12_round_0 12 rfl rfl)
theorem dX12_round_13 : decode cX12_round 13 = .ok (.bipush 99, 2) := dk_16 99 (dk_at dksX12_round_0 13 rfl rfl)
theorem dX12_round_15 : decode cX12_round 15 = .ok (.if_icmp .gt 20, 3) := dk_163 0 20 (dk_at dksX12_round_0 15 rfl rfl)
theorem dX12_round_18 : decode cX12_round 18 = .ok (.aload_n 0, 1) := dk_42 (dk_at dksX12_round_0 18 rfl rfl)
theorem dX12_round_19 : decode cX12_round 19 = .ok (.iload_n 1, 1) := dk_27 (dk_at dksX12_round_0 19 rfl rfl)
theorem dX12_round_20 : decode cX12_round 20 = .ok (.iload_n 2, 1) := dk_28 (dk_at dksX12_round_0 20 rfl rfl)
theorem dX12_round_21 : decode cX12_round 21 = .ok (.invokevirtual 408, 3) := dk_182 1 152 (dk_at dksX12_round_0 21 rfl rfl)
theorem dX12_round_24 : decode cX12_round 24 = .ok (.ifCond .eq 5, 3) := dk_153 0 5 (dk_at dksX12_round_1 0 rfl rfl)
theorem dX12_round_27 : decode cX12_round 27 = .ok (.iload_n 2, 1) := dk_28 (dk_at dksX12_round_1 3 rfl rfl)
theorem dX12_round_28 : decode cX12_round 28 = .ok (.ireturn, 1) := dk_172 (dk_at dksX12_round_1 4 rfl rfl)
theorem dX12_round_29 : decode cX12_round 29 = .ok (.iinc 2 1, 3) := dk_132 2 1 (dk_at dksX12_round_1 5 rfl rfl)
theorem dX12_round_32 : decode cX12_round 32 = .ok (.goto (-20), 3) := dk_167 255 236 (dk_at dksX12_round_1 8 rfl rfl)
theorem dX12_round_35 : decode cX12_round 35 = .ok (.bipush (-2), 2) := dk_16 254 (dk_at dksX12_round_1 11 rfl rfl)
theorem dX12_round_37 : decode cX12_round 37 = .ok (.ireturn, 1) := dk_172 (dk_at dksX12_round_1 13 rfl rfl)
abbrev cX12_isRound : ByteArray := prog_22_method_77_code
def yX12_isRound : MethodName := ⟨RX12, "isRound", "(II)Z"⟩
def dkwX12_isRound_3 : List UInt8 := [132, 4, 1, 167, 255, 192, 132, 3, 1, 167, 255, 177, 4, 172]
abbrev dktX12_isRound_3 : List UInt8 := dkwX12_isRound_3 ++ []
def dkwX12_isRound_2 : List UInt8 := [27, 21, 4, 42, 180, 0, 116, 16, 48, 27, 96, 46, 29, 96, 28, 96, 182, 1, 100, 159, 0, 5, 3, 172]
abbrev dktX12_isRound_2 : List UInt8 := dkwX12_isRound_2 ++ dktX12_isRound_3
def dkwX12_isRound_1 : List UInt8 := [96, 46, 162, 0, 52, 42, 27, 21, 4, 42, 180, 0, 116, 16, 48, 27, 96, 46, 29, 96, 182, 1, 100, 42]
abbrev dktX12_isRound_1 : List UInt8 := dkwX12_isRound_1 ++ dktX12_isRound_2
def dkwX12_isRound_0 : List UInt8 := [3, 62, 29, 16, 48, 162, 0, 79, 3, 54, 4, 21, 4, 42, 180, 0, 64, 7, 42, 180, 0, 239, 104, 27]
abbrev dktX12_isRound_0 : List UInt8 := dkwX12_isRound_0 ++ dktX12_isRound_1
theorem dksX12_isRound_0 : cX12_isRound.data.toList.drop 0 = dktX12_isRound_0 := by decide +kernel
theorem dksX12_isRound_1 : cX12_isRound.data.toList.drop 24 = dktX12_isRound_1 := dk_seg dksX12_isRound_0 24 rfl rfl
theorem dksX12_isRound_2 : cX12_isRound.data.toList.drop 48 = dktX12_isRound_2 := dk_seg dksX12_isRound_1 24 rfl rfl
theorem dksX12_isRound_3 : cX12_isRound.data.toList.drop 72 = dktX12_isRound_3 := dk_seg dksX12_isRound_2 24 rfl rfl
theorem dX12_isRound_0 : decode cX12_isRound 0 = .ok (.iconst 0, 1) := dk_3 (dk_at dksX12_isRound_0 0 rfl rfl)
theorem dX12_isRound_1 : decode cX12_isRound 1 = .ok (.istore_n 3, 1) := dk_62 (dk_at dksX12_isRound_0 1 rfl rfl)
theorem dX12_isRound_2 : decode cX12_isRound 2 = .ok (.iload_n 3, 1) := dk_29 (dk_at dksX12_isRound_0 2 rfl rfl)
theorem dX12_isRound_3 : decode cX12_isRound 3 = .ok (.bipush 48, 2) := dk_16 48 (dk_at dksX12_isRound_0 3 rfl rfl)
theorem dX12_isRound_5 : decode cX12_isRound 5 = .ok (.if_icmp .ge 79, 3) := dk_162 0 79 (dk_at dksX12_isRound_0 5 rfl rfl)
theorem dX12_isRound_8 : decode cX12_isRound 8 = .ok (.iconst 0, 1) := dk_3 (dk_at dksX12_isRound_0 8 rfl rfl)
theorem dX12_isRound_9 : decode cX12_isRound 9 = .ok (.istore 4, 2) := dk_54 4 (dk_at dksX12_isRound_0 9 rfl rfl)
theorem dX12_isRound_11 : decode cX12_isRound 11 = .ok (.iload 4, 2) := dk_21 4 (dk_at dksX12_isRound_0 11 rfl rfl)
theorem dX12_isRound_13 : decode cX12_isRound 13 = .ok (.aload_n 0, 1) := dk_42 (dk_at dksX12_isRound_0 13 rfl rfl)
theorem dX12_isRound_14 : decode cX12_isRound 14 = .ok (.getfield 64, 3) := dk_180 0 64 (dk_at dksX12_isRound_0 14 rfl rfl)
theorem dX12_isRound_17 : decode cX12_isRound 17 = .ok (.iconst 4, 1) := dk_7 (dk_at dksX12_isRound_0 17 rfl rfl)
theorem dX12_isRound_18 : decode cX12_isRound 18 = .ok (.aload_n 0, 1) := dk_42 (dk_at dksX12_isRound_0 18 rfl rfl)
theorem dX12_isRound_19 : decode cX12_isRound 19 = .ok (.getfield 239, 3) := dk_180 0 239 (dk_at dksX12_isRound_0 19 rfl rfl)
theorem dX12_isRound_22 : decode cX12_isRound 22 = .ok (.imul, 1) := dk_104 (dk_at dksX12_isRound_0 22 rfl rfl)
theorem dX12_isRound_23 : decode cX12_isRound 23 = .ok (.iload_n 1, 1) := dk_27 (dk_at dksX12_isRound_0 23 rfl rfl)
theorem dX12_isRound_24 : decode cX12_isRound 24 = .ok (.iadd, 1) := dk_96 (dk_at dksX12_isRound_1 0 rfl rfl)
theorem dX12_isRound_25 : decode cX12_isRound 25 = .ok (.iaload, 1) := dk_46 (dk_at dksX12_isRound_1 1 rfl rfl)
theorem dX12_isRound_26 : decode cX12_isRound 26 = .ok (.if_icmp .ge 52, 3) := dk_162 0 52 (dk_at dksX12_isRound_1 2 rfl rfl)
theorem dX12_isRound_29 : decode cX12_isRound 29 = .ok (.aload_n 0, 1) := dk_42 (dk_at dksX12_isRound_1 5 rfl rfl)
theorem dX12_isRound_30 : decode cX12_isRound 30 = .ok (.iload_n 1, 1) := dk_27 (dk_at dksX12_isRound_1 6 rfl rfl)
theorem dX12_isRound_31 : decode cX12_isRound 31 = .ok (.iload 4, 2) := dk_21 4 (dk_at dksX12_isRound_1 7 rfl rfl)
theorem dX12_isRound_33 : decode cX12_isRound 33 = .ok (.aload_n 0, 1) := dk_42 (dk_at dksX12_isRound_1 9 rfl rfl)
theorem dX12_isRound_34 : decode cX12_isRound 34 = .ok (.getfield 116, 3) := dk_180 0 116 (dk_at dksX12_isRound_1 10 rfl rfl)
theorem dX12_isRound_37 : decode cX12_isRound 37 = .ok (.bipush 48, 2) := dk_16 48 (dk_at dksX12_isRound_1 13 rfl rfl)
theorem dX12_isRound_39 : decode cX12_isRound 39 = .ok (.iload_n 1, 1) := dk_27 (dk_at dksX12_isRound_1 15 rfl rfl)
theorem dX12_isRound_40 : decode cX12_isRound 40 = .ok (.iadd, 1) := dk_96 (dk_at dksX12_isRound_1 16 rfl rfl)
theorem dX12_isRound_41 : decode cX12_isRound 41 = .ok (.iaload, 1) := dk_46 (dk_at dksX12_isRound_1 17 rfl rfl)
theorem dX12_isRound_42 : decode cX12_isRound 42 = .ok (.iload_n 3, 1) := dk_29 (dk_at dksX12_isRound_1 18 rfl rfl)
theorem dX12_isRound_43 : decode cX12_isRound 43 = .ok (.iadd, 1) := dk_96 (dk_at dksX12_isRound_1 19 rfl rfl)
theorem dX12_isRound_44 : decode cX12_isRound 44 = .ok (.invokevirtual 356, 3) := dk_182 1 100 (dk_at dksX12_isRound_1 20 rfl rfl)
theorem dX12_isRound_47 : decode cX12_isRound 47 = .ok (.aload_n 0, 1) := dk_42 (dk_at dksX12_isRound_1 23 rfl rfl)
theorem dX12_isRound_48 : decode cX12_isRound 48 = .ok (.iload_n 1, 1) := dk_27 (dk_at dksX12_isRound_2 0 rfl rfl)
theorem dX12_isRound_49 : decode cX12_isRound 49 = .ok (.iload 4, 2) := dk_21 4 (dk_at dksX12_isRound_2 1 rfl rfl)
theorem dX12_isRound_51 : decode cX12_isRound 51 = .ok (.aload_n 0, 1) := dk_42 (dk_at dksX12_isRound_2 3 rfl rfl)
theorem dX12_isRound_52 : decode cX12_isRound 52 = .ok (.getfield 116, 3) := dk_180 0 116 (dk_at dksX12_isRound_2 4 rfl rfl)
theorem dX12_isRound_55 : decode cX12_isRound 55 = .ok (.bipush 48, 2) := dk_16 48 (dk_at dksX12_isRound_2 7 rfl rfl)
theorem dX12_isRound_57 : decode cX12_isRound 57 = .ok (.iload_n 1, 1) := dk_27 (dk_at dksX12_isRound_2 9 rfl rfl)
theorem dX12_isRound_58 : decode cX12_isRound 58 = .ok (.iadd, 1) := dk_96 (dk_at dksX12_isRound_2 10 rfl rfl)
theorem dX12_isRound_59 : decode cX12_isRound 59 = .ok (.iaload, 1) := dk_46 (dk_at dksX12_isRound_2 11 rfl rfl)
theorem dX12_isRound_60 : decode cX12_isRound 60 = .ok (.iload_n 3, 1) := dk_29 (dk_at dksX12_isRound_2 12 rfl rfl)
theorem dX12_isRound_61 : decode cX12_isRound 61 = .ok (.iadd, 1) := dk_96 (dk_at dksX12_isRound_2 13 rfl rfl)
theorem dX12_isRound_62 : decode cX12_isRound 62 = .ok (.iload_n 2, 1) := dk_28 (dk_at dksX12_isRound_2 14 rfl rfl)
theorem dX12_isRound_63 : decode cX12_isRound 63 = .ok (.iadd, 1) := dk_96 (dk_at dksX12_isRound_2 15 rfl rfl)
theorem dX12_isRound_64 : decode cX12_isRound 64 = .ok (.invokevirtual 356, 3) := dk_182 1 100 (dk_at dksX12_isRound_2 16 rfl rfl)
theorem dX12_isRound_67 : decode cX12_isRound 67 = .ok (.if_icmp .eq 5, 3) := dk_159 0 5 (dk_at dksX12_isRound_2 19 rfl rfl)
theorem dX12_isRound_70 : decode cX12_isRound 70 = .ok (.iconst 0, 1) := dk_3 (dk_at dksX12_isRound_2 22 rfl rfl)
theorem dX12_isRound_71 : decode cX12_isRound 71 = .ok (.ireturn, 1) := dk_172 (dk_at dksX12_isRound_2 23 rfl rfl)
theorem dX12_isRound_72 : decode cX12_isRound 72 = .ok (.iinc 4 1, 3) := dk_132 4 1 (dk_at dksX12_isRound_3 0 rfl rfl)
theorem dX12_isRound_75 : decode cX12_isRound 75 = .ok (.goto (-64), 3) := dk_167 255 192 (dk_at dksX12_isRound_3 3 rfl rfl)
theorem dX12_isRound_78 : decode cX12_isRound 78 = .ok (.iinc 3 1, 3) := dk_132 3 1 (dk_at dksX12_isRound_3 6 rfl rfl)
theorem dX12_isRound_81 : decode cX12_isRound 81 = .ok (.goto (-79), 3) := dk_167 255 177 (dk_at dksX12_isRound_3 9 rfl rfl)
theorem dX12_isRound_84 : decode cX12_isRound 84 = .ok (.iconst 1, 1) := dk_4 (dk_at dksX12_isRound_3 12 rfl rfl)
theorem dX12_isRound_85 : decode cX12_isRound 85 = .ok (.ireturn, 1) := dk_172 (dk_at dksX12_isRound_3 13 rfl rfl)
abbrev cX12_agree : ByteArray := prog_22_method_79_code
def yX12_agree : MethodName := ⟨RX12, "agree", "(II)I"⟩
def dkwX12_agree_5 : List UInt8 := [132, 5, 1, 167, 255, 175, 21, 4, 153, 0, 5, 29, 172, 132, 3, 1, 167, 255, 149, 16, 254, 172]
abbrev dktX12_agree_5 : List UInt8 := dkwX12_agree_5 ++ []
def dkwX12_agree_4 : List UInt8 := [21, 5, 42, 180, 0, 116, 16, 48, 28, 96, 46, 29, 96, 182, 1, 100, 159, 0, 6, 3, 54, 4]
abbrev dktX12_agree_4 : List UInt8 := dkwX12_agree_4 ++ dktX12_agree_5
def dkwX12_agree_3 : List UInt8 := [46, 162, 0, 51, 42, 27, 21, 5, 42, 180, 0, 116, 16, 48, 27, 96, 46, 29, 96, 182, 1, 100, 42, 28]
abbrev dktX12_agree_3 : List UInt8 := dkwX12_agree_3 ++ dktX12_agree_4
def dkwX12_agree_2 : List UInt8 := [180, 0, 239, 104, 27, 96, 46, 162, 0, 69, 21, 5, 42, 180, 0, 64, 7, 42, 180, 0, 239, 104, 28, 96]
abbrev dktX12_agree_2 : List UInt8 := dkwX12_agree_2 ++ dktX12_agree_3
def dkwX12_agree_1 : List UInt8 := [62, 29, 17, 0, 200, 163, 0, 106, 4, 54, 4, 3, 54, 5, 21, 5, 42, 180, 0, 64, 7, 42]
abbrev dktX12_agree_1 : List UInt8 := dkwX12_agree_1 ++ dktX12_agree_2
def dkwX12_agree_0 : List UInt8 := [42, 27, 182, 1, 137, 153, 0, 16, 42, 28, 182, 1, 137, 153, 0, 8, 27, 28, 160, 0, 5, 2, 172, 3]
abbrev dktX12_agree_0 : List UInt8 := dkwX12_agree_0 ++ dktX12_agree_1
theorem dksX12_agree_0 : cX12_agree.data.toList.drop 0 = dktX12_agree_0 := by decide +kernel
theorem dksX12_agree_1 : cX12_agree.data.toList.drop 24 = dktX12_agree_1 := dk_seg dksX12_agree_0 24 rfl rfl
theorem dksX12_agree_2 : cX12_agree.data.toList.drop 46 = dktX12_agree_2 := dk_seg dksX12_agree_1 22 rfl rfl
theorem dksX12_agree_3 : cX12_agree.data.toList.drop 70 = dktX12_agree_3 := dk_seg dksX12_agree_2 24 rfl rfl
theorem dksX12_agree_4 : cX12_agree.data.toList.drop 94 = dktX12_agree_4 := dk_seg dksX12_agree_3 24 rfl rfl
theorem dksX12_agree_5 : cX12_agree.data.toList.drop 116 = dktX12_agree_5 := dk_seg dksX12_agree_4 22 rfl rfl
theorem dX12_agree_0 : decode cX12_agree 0 = .ok (.aload_n 0, 1) := dk_42 (dk_at dksX12_agree_0 0 rfl rfl)
theorem dX12_agree_1 : decode cX12_agree 1 = .ok (.iload_n 1, 1) := dk_27 (dk_at dksX12_agree_0 1 rfl rfl)
theorem dX12_agree_2 : decode cX12_agree 2 = .ok (.invokevirtual 393, 3) := dk_182 1 137 (dk_at dksX12_agree_0 2 rfl rfl)
theorem dX12_agree_5 : decode cX12_agree 5 = .ok (.ifCond .eq 16, 3) := dk_153 0 16 (dk_at dksX12_agree_0 5 rfl rfl)
theorem dX12_agree_8 : decode cX12_agree 8 = .ok (.aload_n 0, 1) := dk_42 (dk_at dksX12_agree_0 8 rfl rfl)
theorem dX12_agree_9 : decode cX12_agree 9 = .ok (.iload_n 2, 1) := dk_28 (dk_at dksX12_agree_0 9 rfl rfl)
theorem dX12_agree_10 : decode cX12_agree 10 = .ok (.invokevirtual 393, 3) := dk_182 1 137 (dk_at dksX12_agree_0 10 rfl rfl)
theorem dX12_agree_13 : decode cX12_agree 13 = .ok (.ifCond .eq 8, 3) := dk_153 0 8 (dk_at dksX12_agree_0 13 rfl rfl)
theorem dX12_agree_16 : decode cX12_agree 16 = .ok (.iload_n 1, 1) := dk_27 (dk_at dksX12_agree_0 16 rfl rfl)
theorem dX12_agree_17 : decode cX12_agree 17 = .ok (.iload_n 2, 1) := dk_28 (dk_at dksX12_agree_0 17 rfl rfl)
theorem dX12_agree_18 : decode cX12_agree 18 = .ok (.if_icmp .ne 5, 3) := dk_160 0 5 (dk_at dksX12_agree_0 18 rfl rfl)
theorem dX12_agree_21 : decode cX12_agree 21 = .ok (.iconst (-1), 1) := dk_2 (dk_at dksX12_agree_0 21 rfl rfl)
theorem dX12_agree_22 : decode cX12_agree 22 = .ok (.ireturn, 1) := dk_172 (dk_at dksX12_agree_0 22 rfl rfl)
theorem dX12_agree_23 : decode cX12_agree 23 = .ok (.iconst 0, 1) := dk_3 (dk_at dksX12_agree_0 23 rfl rfl)
theorem dX12_agree_24 : decode cX12_agree 24 = .ok (.istore_n 3, 1) := dk_62 (dk_at dksX12_agree_1 0 rfl rfl)
theorem dX12_agree_25 : decode cX12_agree 25 = .ok (.iload_n 3, 1) := dk_29 (dk_at dksX12_agree_1 1 rfl rfl)
theorem dX12_agree_26 : decode cX12_agree 26 = .ok (.sipush 200, 3) := dk_17 0 200 (dk_at dksX12_agree_1 2 rfl rfl)
theorem dX12_agree_29 : decode cX12_agree 29 = .ok (.if_icmp .gt 106, 3) := dk_163 0 106 (dk_at dksX12_agree_1 5 rfl rfl)
theorem dX12_agree_32 : decode cX12_agree 32 = .ok (.iconst 1, 1) := dk_4 (dk_at dksX12_agree_1 8 rfl rfl)
theorem dX12_agree_33 : decode cX12_agree 33 = .ok (.istore 4, 2) := dk_54 4 (dk_at dksX12_agree_1 9 rfl rfl)
theorem dX12_agree_35 : decode cX12_agree 35 = .ok (.iconst 0, 1) := dk_3 (dk_at dksX12_agree_1 11 rfl rfl)
theorem dX12_agree_36 : decode cX12_agree 36 = .ok (.istore 5, 2) := dk_54 5 (dk_at dksX12_agree_1 12 rfl rfl)
theorem dX12_agree_38 : decode cX12_agree 38 = .ok (.iload 5, 2) := dk_21 5 (dk_at dksX12_agree_1 14 rfl rfl)
theorem dX12_agree_40 : decode cX12_agree 40 = .ok (.aload_n 0, 1) := dk_42 (dk_at dksX12_agree_1 16 rfl rfl)
theorem dX12_agree_41 : decode cX12_agree 41 = .ok (.getfield 64, 3) := dk_180 0 64 (dk_at dksX12_agree_1 17 rfl rfl)
theorem dX12_agree_44 : decode cX12_agree 44 = .ok (.iconst 4, 1) := dk_7 (dk_at dksX12_agree_1 20 rfl rfl)
theorem dX12_agree_45 : decode cX12_agree 45 = .ok (.aload_n 0, 1) := dk_42 (dk_at dksX12_agree_1 21 rfl rfl)
theorem dX12_agree_46 : decode cX12_agree 46 = .ok (.getfield 239, 3) := dk_180 0 239 (dk_at dksX12_agree_2 0 rfl rfl)
theorem dX12_agree_49 : decode cX12_agree 49 = .ok (.imul, 1) := dk_104 (dk_at dksX12_agree_2 3 rfl rfl)
theorem dX12_agree_50 : decode cX12_agree 50 = .ok (.iload_n 1, 1) := dk_27 (dk_at dksX12_agree_2 4 rfl rfl)
theorem dX12_agree_51 : decode cX12_agree 51 = .ok (.iadd, 1) := dk_96 (dk_at dksX12_agree_2 5 rfl rfl)
theorem dX12_agree_52 : decode cX12_agree 52 = .ok (.iaload, 1) := dk_46 (dk_at dksX12_agree_2 6 rfl rfl)
theorem dX12_agree_53 : decode cX12_agree 53 = .ok (.if_icmp .ge 69, 3) := dk_162 0 69 (dk_at dksX12_agree_2 7 rfl rfl)
theorem dX12_agree_56 : decode cX12_agree 56 = .ok (.iload 5, 2) := dk_21 5 (dk_at dksX12_agree_2 10 rfl rfl)
theorem dX12_agree_58 : decode cX12_agree 58 = .ok (.aload_n 0, 1) := dk_42 (dk_at dksX12_agree_2 12 rfl rfl)
theorem dX12_agree_59 : decode cX12_agree 59 = .ok (.getfield 64, 3) := dk_180 0 64 (dk_at dksX12_agree_2 13 rfl rfl)
theorem dX12_agree_62 : decode cX12_agree 62 = .ok (.iconst 4, 1) := dk_7 (dk_at dksX12_agree_2 16 rfl rfl)
theorem dX12_agree_63 : decode cX12_agree 63 = .ok (.aload_n 0, 1) := dk_42 (dk_at dksX12_agree_2 17 rfl rfl)
theorem dX12_agree_64 : decode cX12_agree 64 = .ok (.getfield 239, 3) := dk_180 0 239 (dk_at dksX12_agree_2 18 rfl rfl)
theorem dX12_agree_67 : decode cX12_agree 67 = .ok (.imul, 1) := dk_104 (dk_at dksX12_agree_2 21 rfl rfl)
theorem dX12_agree_68 : decode cX12_agree 68 = .ok (.iload_n 2, 1) := dk_28 (dk_at dksX12_agree_2 22 rfl rfl)
theorem dX12_agree_69 : decode cX12_agree 69 = .ok (.iadd, 1) := dk_96 (dk_at dksX12_agree_2 23 rfl rfl)
theorem dX12_agree_70 : decode cX12_agree 70 = .ok (.iaload, 1) := dk_46 (dk_at dksX12_agree_3 0 rfl rfl)
theorem dX12_agree_71 : decode cX12_agree 71 = .ok (.if_icmp .ge 51, 3) := dk_162 0 51 (dk_at dksX12_agree_3 1 rfl rfl)
theorem dX12_agree_74 : decode cX12_agree 74 = .ok (.aload_n 0, 1) := dk_42 (dk_at dksX12_agree_3 4 rfl rfl)
theorem dX12_agree_75 : decode cX12_agree 75 = .ok (.iload_n 1, 1) := dk_27 (dk_at dksX12_agree_3 5 rfl rfl)
theorem dX12_agree_76 : decode cX12_agree 76 = .ok (.iload 5, 2) := dk_21 5 (dk_at dksX12_agree_3 6 rfl rfl)
theorem dX12_agree_78 : decode cX12_agree 78 = .ok (.aload_n 0, 1) := dk_42 (dk_at dksX12_agree_3 8 rfl rfl)
theorem dX12_agree_79 : decode cX12_agree 79 = .ok (.getfield 116, 3) := dk_180 0 116 (dk_at dksX12_agree_3 9 rfl rfl)
theorem dX12_agree_82 : decode cX12_agree 82 = .ok (.bipush 48, 2) := dk_16 48 (dk_at dksX12_agree_3 12 rfl rfl)
theorem dX12_agree_84 : decode cX12_agree 84 = .ok (.iload_n 1, 1) := dk_27 (dk_at dksX12_agree_3 14 rfl rfl)
theorem dX12_agree_85 : decode cX12_agree 85 = .ok (.iadd, 1) := dk_96 (dk_at dksX12_agree_3 15 rfl rfl)
theorem dX12_agree_86 : decode cX12_agree 86 = .ok (.iaload, 1) := dk_46 (dk_at dksX12_agree_3 16 rfl rfl)
theorem dX12_agree_87 : decode cX12_agree 87 = .ok (.iload_n 3, 1) := dk_29 (dk_at dksX12_agree_3 17 rfl rfl)
theorem dX12_agree_88 : decode cX12_agree 88 = .ok (.iadd, 1) := dk_96 (dk_at dksX12_agree_3 18 rfl rfl)
theorem dX12_agree_89 : decode cX12_agree 89 = .ok (.invokevirtual 356, 3) := dk_182 1 100 (dk_at dksX12_agree_3 19 rfl rfl)
theorem dX12_agree_92 : decode cX12_agree 92 = .ok (.aload_n 0, 1) := dk_42 (dk_at dksX12_agree_3 22 rfl rfl)
theorem dX12_agree_93 : decode cX12_agree 93 = .ok (.iload_n 2, 1) := dk_28 (dk_at dksX12_agree_3 23 rfl rfl)
theorem dX12_agree_94 : decode cX12_agree 94 = .ok (.iload 5, 2) := dk_21 5 (dk_at dksX12_agree_4 0 rfl rfl)
theorem dX12_agree_96 : decode cX12_agree 96 = .ok (.aload_n 0, 1) := dk_42 (dk_at dksX12_agree_4 2 rfl rfl)
theorem dX12_agree_97 : decode cX12_agree 97 = .ok (.getfield 116, 3) := dk_180 0 116 (dk_at dksX12_agree_4 3 rfl rfl)
theorem dX12_agree_100 : decode cX12_agree 100 = .ok (.bipush 48, 2) := dk_16 48 (dk_at dksX12_agree_4 6 rfl rfl)
theorem dX12_agree_102 : decode cX12_agree 102 = .ok (.iload_n 2, 1) := dk_28 (dk_at dksX12_agree_4 8 rfl rfl)
theorem dX12_agree_103 : decode cX12_agree 103 = .ok (.iadd, 1) := dk_96 (dk_at dksX12_agree_4 9 rfl rfl)
theorem dX12_agree_104 : decode cX12_agree 104 = .ok (.iaload, 1) := dk_46 (dk_at dksX12_agree_4 10 rfl rfl)
theorem dX12_agree_105 : decode cX12_agree 105 = .ok (.iload_n 3, 1) := dk_29 (dk_at dksX12_agree_4 11 rfl rfl)
theorem dX12_agree_106 : decode cX12_agree 106 = .ok (.iadd, 1) := dk_96 (dk_at dksX12_agree_4 12 rfl rfl)
theorem dX12_agree_107 : decode cX12_agree 107 = .ok (.invokevirtual 356, 3) := dk_182 1 100 (dk_at dksX12_agree_4 13 rfl rfl)
theorem dX12_agree_110 : decode cX12_agree 110 = .ok (.if_icmp .eq 6, 3) := dk_159 0 6 (dk_at dksX12_agree_4 16 rfl rfl)
theorem dX12_agree_113 : decode cX12_agree 113 = .ok (.iconst 0, 1) := dk_3 (dk_at dksX12_agree_4 19 rfl rfl)
theorem dX12_agree_114 : decode cX12_agree 114 = .ok (.istore 4, 2) := dk_54 4 (dk_at dksX12_agree_4 20 rfl rfl)
theorem dX12_agree_116 : decode cX12_agree 116 = .ok (.iinc 5 1, 3) := dk_132 5 1 (dk_at dksX12_agree_5 0 rfl rfl)
theorem dX12_agree_119 : decode cX12_agree 119 = .ok (.goto (-81), 3) := dk_167 255 175 (dk_at dksX12_agree_5 3 rfl rfl)
theorem dX12_agree_122 : decode cX12_agree 122 = .ok (.iload 4, 2) := dk_21 4 (dk_at dksX12_agree_5 6 rfl rfl)
theorem dX12_agree_124 : decode cX12_agree 124 = .ok (.ifCond .eq 5, 3) := dk_153 0 5 (dk_at dksX12_agree_5 8 rfl rfl)
theorem dX12_agree_127 : decode cX12_agree 127 = .ok (.iload_n 3, 1) := dk_29 (dk_at dksX12_agree_5 11 rfl rfl)
theorem dX12_agree_128 : decode cX12_agree 128 = .ok (.ireturn, 1) := dk_172 (dk_at dksX12_agree_5 12 rfl rfl)
theorem dX12_agree_129 : decode cX12_agree 129 = .ok (.iinc 3 1, 3) := dk_132 3 1 (dk_at dksX12_agree_5 13 rfl rfl)
theorem dX12_agree_132 : decode cX12_agree 132 = .ok (.goto (-107), 3) := dk_167 255 149 (dk_at dksX12_agree_5 16 rfl rfl)
theorem dX12_agree_135 : decode cX12_agree 135 = .ok (.bipush (-2), 2) := dk_16 254 (dk_at dksX12_agree_5 19 rfl rfl)
theorem dX12_agree_137 : decode cX12_agree 137 = .ok (.ireturn, 1) := dk_172 (dk_at dksX12_agree_5 21 rfl rfl)
abbrev cX12_where : ByteArray := prog_22_method_82_code
def yX12_where : MethodName := ⟨RX12, "where", "(IIII)I"⟩
def dkwX12_where_3 : List UInt8 := [180, 1, 155, 16, 8, 108, 172]
abbrev dktX12_where_3 : List UInt8 := dkwX12_where_3 ++ []
def dkwX12_where_2 : List UInt8 := [180, 1, 161, 167, 0, 26, 21, 4, 4, 160, 0, 13, 42, 180, 1, 155, 16, 8, 112, 167, 0, 10, 42]
abbrev dktX12_where_2 : List UInt8 := dkwX12_where_2 ++ dktX12_where_3
def dkwX12_where_1 : List UInt8 := [42, 27, 28, 29, 182, 1, 164, 42, 180, 1, 155, 156, 0, 7, 17, 252, 24, 172, 21, 4, 154, 0, 10, 42]
abbrev dktX12_where_1 : List UInt8 := dkwX12_where_1 ++ dktX12_where_2
def dkwX12_where_0 : List UInt8 := [42, 27, 28, 29, 182, 1, 140, 153, 0, 13, 21, 4, 3, 5, 184, 1, 67, 154, 0, 7, 17, 252, 24, 172]
abbrev dktX12_where_0 : List UInt8 := dkwX12_where_0 ++ dktX12_where_1
theorem dksX12_where_0 : cX12_where.data.toList.drop 0 = dktX12_where_0 := by decide +kernel
theorem dksX12_where_1 : cX12_where.data.toList.drop 24 = dktX12_where_1 := dk_seg dksX12_where_0 24 rfl rfl
theorem dksX12_where_2 : cX12_where.data.toList.drop 48 = dktX12_where_2 := dk_seg dksX12_where_1 24 rfl rfl
theorem dksX12_where_3 : cX12_where.data.toList.drop 71 = dktX12_where_3 := dk_seg dksX12_where_2 23 rfl rfl
theorem dX12_where_0 : decode cX12_where 0 = .ok (.aload_n 0, 1) := dk_42 (dk_at dksX12_where_0 0 rfl rfl)
theorem dX12_where_1 : decode cX12_where 1 = .ok (.iload_n 1, 1) := dk_27 (dk_at dksX12_where_0 1 rfl rfl)
theorem dX12_where_2 : decode cX12_where 2 = .ok (.iload_n 2, 1) := dk_28 (dk_at dksX12_where_0 2 rfl rfl)
theorem dX12_where_3 : decode cX12_where 3 = .ok (.iload_n 3, 1) := dk_29 (dk_at dksX12_where_0 3 rfl rfl)
theorem dX12_where_4 : decode cX12_where 4 = .ok (.invokevirtual 396, 3) := dk_182 1 140 (dk_at dksX12_where_0 4 rfl rfl)
theorem dX12_where_7 : decode cX12_where 7 = .ok (.ifCond .eq 13, 3) := dk_153 0 13 (dk_at dksX12_where_0 7 rfl rfl)
theorem dX12_where_10 : decode cX12_where 10 = .ok (.iload 4, 2) := dk_21 4 (dk_at dksX12_where_0 10 rfl rfl)
theorem dX12_where_12 : decode cX12_where 12 = .ok (.iconst 0, 1) := dk_3 (dk_at dksX12_where_0 12 rfl rfl)
theorem dX12_where_13 : decode cX12_where 13 = .ok (.iconst 2, 1) := dk_5 (dk_at dksX12_where_0 13 rfl rfl)
theorem dX12_where_14 : decode cX12_where 14 = .ok (.invokestatic 323, 3) := dk_184 1 67 (dk_at dksX12_where_0 14 rfl rfl)
theorem dX12_where_17 : decode cX12_where 17 = .ok (.ifCond .ne 7, 3) := dk_154 0 7 (dk_at dksX12_where_0 17 rfl rfl)
theorem dX12_where_20 : decode cX12_where 20 = .ok (.sipush (-1000), 3) := dk_17 252 24 (dk_at dksX12_where_0 20 rfl rfl)
theorem dX12_where_23 : decode cX12_where 23 = .ok (.ireturn, 1) := dk_172 (dk_at dksX12_where_0 23 rfl rfl)
theorem dX12_where_24 : decode cX12_where 24 = .ok (.aload_n 0, 1) := dk_42 (dk_at dksX12_where_1 0 rfl rfl)
theorem dX12_where_25 : decode cX12_where 25 = .ok (.iload_n 1, 1) := dk_27 (dk_at dksX12_where_1 1 rfl rfl)
theorem dX12_where_26 : decode cX12_where 26 = .ok (.iload_n 2, 1) := dk_28 (dk_at dksX12_where_1 2 rfl rfl)
theorem dX12_where_27 : decode cX12_where 27 = .ok (.iload_n 3, 1) := dk_29 (dk_at dksX12_where_1 3 rfl rfl)
theorem dX12_where_28 : decode cX12_where 28 = .ok (.invokevirtual 420, 3) := dk_182 1 164 (dk_at dksX12_where_1 4 rfl rfl)
theorem dX12_where_31 : decode cX12_where 31 = .ok (.aload_n 0, 1) := dk_42 (dk_at dksX12_where_1 7 rfl rfl)
theorem dX12_where_32 : decode cX12_where 32 = .ok (.getfield 411, 3) := dk_180 1 155 (dk_at dksX12_where_1 8 rfl rfl)
theorem dX12_where_35 : decode cX12_where 35 = .ok (.ifCond .ge 7, 3) := dk_156 0 7 (dk_at dksX12_where_1 11 rfl rfl)
theorem dX12_where_38 : decode cX12_where 38 = .ok (.sipush (-1000), 3) := dk_17 252 24 (dk_at dksX12_where_1 14 rfl rfl)
theorem dX12_where_41 : decode cX12_where 41 = .ok (.ireturn, 1) := dk_172 (dk_at dksX12_where_1 17 rfl rfl)
theorem dX12_where_42 : decode cX12_where 42 = .ok (.iload 4, 2) := dk_21 4 (dk_at dksX12_where_1 18 rfl rfl)
theorem dX12_where_44 : decode cX12_where 44 = .ok (.ifCond .ne 10, 3) := dk_154 0 10 (dk_at dksX12_where_1 20 rfl rfl)
theorem dX12_where_47 : decode cX12_where 47 = .ok (.aload_n 0, 1) := dk_42 (dk_at dksX12_where_1 23 rfl rfl)
theorem dX12_where_48 : decode cX12_where 48 = .ok (.getfield 417, 3) := dk_180 1 161 (dk_at dksX12_where_2 0 rfl rfl)
theorem dX12_where_51 : decode cX12_where 51 = .ok (.goto 26, 3) := dk_167 0 26 (dk_at dksX12_where_2 3 rfl rfl)
theorem dX12_where_54 : decode cX12_where 54 = .ok (.iload 4, 2) := dk_21 4 (dk_at dksX12_where_2 6 rfl rfl)
theorem dX12_where_56 : decode cX12_where 56 = .ok (.iconst 1, 1) := dk_4 (dk_at dksX12_where_2 8 rfl rfl)
theorem dX12_where_57 : decode cX12_where 57 = .ok (.if_icmp .ne 13, 3) := dk_160 0 13 (dk_at dksX12_where_2 9 rfl rfl)
theorem dX12_where_60 : decode cX12_where 60 = .ok (.aload_n 0, 1) := dk_42 (dk_at dksX12_where_2 12 rfl rfl)
theorem dX12_where_61 : decode cX12_where 61 = .ok (.getfield 411, 3) := dk_180 1 155 (dk_at dksX12_where_2 13 rfl rfl)
theorem dX12_where_64 : decode cX12_where 64 = .ok (.bipush 8, 2) := dk_16 8 (dk_at dksX12_where_2 16 rfl rfl)
theorem dX12_where_66 : decode cX12_where 66 = .ok (.irem, 1) := dk_112 (dk_at dksX12_where_2 18 rfl rfl)
theorem dX12_where_67 : decode cX12_where 67 = .ok (.goto 10, 3) := dk_167 0 10 (dk_at dksX12_where_2 19 rfl rfl)
theorem dX12_where_70 : decode cX12_where 70 = .ok (.aload_n 0, 1) := dk_42 (dk_at dksX12_where_2 22 rfl rfl)
theorem dX12_where_71 : decode cX12_where 71 = .ok (.getfield 411, 3) := dk_180 1 155 (dk_at dksX12_where_3 0 rfl rfl)
theorem dX12_where_74 : decode cX12_where 74 = .ok (.bipush 8, 2) := dk_16 8 (dk_at dksX12_where_3 3 rfl rfl)
theorem dX12_where_76 : decode cX12_where 76 = .ok (.idiv, 1) := dk_108 (dk_at dksX12_where_3 5 rfl rfl)
theorem dX12_where_77 : decode cX12_where 77 = .ok (.ireturn, 1) := dk_172 (dk_at dksX12_where_3 6 rfl rfl)
abbrev cX12_fillsWhere : ByteArray := prog_22_method_81_code
def yX12_fillsWhere : MethodName := ⟨RX12, "fillsWhere", "(III)V"⟩
def dkwX12_fillsWhere_4 : List UInt8 := [132, 5, 1, 167, 255, 187, 132, 4, 1, 167, 255, 162, 177]
abbrev dktX12_fillsWhere_4 : List UInt8 := dkwX12_fillsWhere_4 ++ []
def dkwX12_fillsWhere_3 : List UInt8 := [163, 0, 6, 167, 0, 21, 42, 21, 6, 181, 1, 161, 42, 16, 8, 21, 4, 104, 21, 5, 96, 181, 1, 155]
abbrev dktX12_fillsWhere_3 : List UInt8 := dkwX12_fillsWhere_3 ++ dktX12_fillsWhere_4
def dkwX12_fillsWhere_2 : List UInt8 := [21, 5, 21, 4, 182, 1, 158, 54, 6, 42, 180, 1, 155, 155, 0, 15, 21, 6, 42, 180, 1, 161]
abbrev dktX12_fillsWhere_2 : List UInt8 := dkwX12_fillsWhere_2 ++ dktX12_fillsWhere_3
def dkwX12_fillsWhere_1 : List UInt8 := [3, 54, 5, 21, 5, 28, 96, 42, 180, 0, 46, 42, 180, 0, 239, 46, 163, 0, 59, 42, 27, 28, 29]
abbrev dktX12_fillsWhere_1 : List UInt8 := dkwX12_fillsWhere_1 ++ dktX12_fillsWhere_2
def dkwX12_fillsWhere_0 : List UInt8 := [42, 2, 181, 1, 155, 3, 54, 4, 21, 4, 29, 96, 42, 180, 0, 43, 42, 180, 0, 239, 46, 163, 0, 84]
abbrev dktX12_fillsWhere_0 : List UInt8 := dkwX12_fillsWhere_0 ++ dktX12_fillsWhere_1
theorem dksX12_fillsWhere_0 : cX12_fillsWhere.data.toList.drop 0 = dktX12_fillsWhere_0 := by decide +kernel
theorem dksX12_fillsWhere_1 : cX12_fillsWhere.data.toList.drop 24 = dktX12_fillsWhere_1 := dk_seg dksX12_fillsWhere_0 24 rfl rfl
theorem dksX12_fillsWhere_2 : cX12_fillsWhere.data.toList.drop 47 = dktX12_fillsWhere_2 := dk_seg dksX12_fillsWhere_1 23 rfl rfl
theorem dksX12_fillsWhere_3 : cX12_fillsWhere.data.toList.drop 69 = dktX12_fillsWhere_3 := dk_seg dksX12_fillsWhere_2 22 rfl rfl
theorem dksX12_fillsWhere_4 : cX12_fillsWhere.data.toList.drop 93 = dktX12_fillsWhere_4 := dk_seg dksX12_fillsWhere_3 24 rfl rfl
theorem dX12_fillsWhere_0 : decode cX12_fillsWhere 0 = .ok (.aload_n 0, 1) := dk_42 (dk_at dksX12_fillsWhere_0 0 rfl rfl)
theorem dX12_fillsWhere_1 : decode cX12_fillsWhere 1 = .ok (.iconst (-1), 1) := dk_2 (dk_at dksX12_fillsWhere_0 1 rfl rfl)
theorem dX12_fillsWhere_2 : decode cX12_fillsWhere 2 = .ok (.putfield 411, 3) := dk_181 1 155 (dk_at dksX12_fillsWhere_0 2 rfl rfl)
theorem dX12_fillsWhere_5 : decode cX12_fillsWhere 5 = .ok (.iconst 0, 1) := dk_3 (dk_at dksX12_fillsWhere_0 5 rfl rfl)
theorem dX12_fillsWhere_6 : decode cX12_fillsWhere 6 = .ok (.istore 4, 2) := dk_54 4 (dk_at dksX12_fillsWhere_0 6 rfl rfl)
theorem dX12_fillsWhere_8 : decode cX12_fillsWhere 8 = .ok (.iload 4, 2) := dk_21 4 (dk_at dksX12_fillsWhere_0 8 rfl rfl)
theorem dX12_fillsWhere_10 : decode cX12_fillsWhere 10 = .ok (.iload_n 3, 1) := dk_29 (dk_at dksX12_fillsWhere_0 10 rfl rfl)
theorem dX12_fillsWhere_11 : decode cX12_fillsWhere 11 = .ok (.iadd, 1) := dk_96 (dk_at dksX12_fillsWhere_0 11 rfl rfl)
theorem dX12_fillsWhere_12 : decode cX12_fillsWhere 12 = .ok (.aload_n 0, 1) := dk_42 (dk_at dksX12_fillsWhere_0 12 rfl rfl)
theorem dX12_fillsWhere_13 : decode cX12_fillsWhere 13 = .ok (.getfield 43, 3) := dk_180 0 43 (dk_at dksX12_fillsWhere_0 13 rfl rfl)
theorem dX12_fillsWhere_16 : decode cX12_fillsWhere 16 = .ok (.aload_n 0, 1) := dk_42 (dk_at dksX12_fillsWhere_0 16 rfl rfl)
theorem dX12_fillsWhere_17 : decode cX12_fillsWhere 17 = .ok (.getfield 239, 3) := dk_180 0 239 (dk_at dksX12_fillsWhere_0 17 rfl rfl)
theorem dX12_fillsWhere_20 : decode cX12_fillsWhere 20 = .ok (.iaload, 1) := dk_46 (dk_at dksX12_fillsWhere_0 20 rfl rfl)
theorem dX12_fillsWhere_21 : decode cX12_fillsWhere 21 = .ok (.if_icmp .gt 84, 3) := dk_163 0 84 (dk_at dksX12_fillsWhere_0 21 rfl rfl)
theorem dX12_fillsWhere_24 : decode cX12_fillsWhere 24 = .ok (.iconst 0, 1) := dk_3 (dk_at dksX12_fillsWhere_1 0 rfl rfl)
theorem dX12_fillsWhere_25 : decode cX12_fillsWhere 25 = .ok (.istore 5, 2) := dk_54 5 (dk_at dksX12_fillsWhere_1 1 rfl rfl)
theorem dX12_fillsWhere_27 : decode cX12_fillsWhere 27 = .ok (.iload 5, 2) := dk_21 5 (dk_at dksX12_fillsWhere_1 3 rfl rfl)
theorem dX12_fillsWhere_29 : decode cX12_fillsWhere 29 = .ok (.iload_n 2, 1) := dk_28 (dk_at dksX12_fillsWhere_1 5 rfl rfl)
theorem dX12_fillsWhere_30 : decode cX12_fillsWhere 30 = .ok (.iadd, 1) := dk_96 (dk_at dksX12_fillsWhere_1 6 rfl rfl)
theorem dX12_fillsWhere_31 : decode cX12_fillsWhere 31 = .ok (.aload_n 0, 1) := dk_42 (dk_at dksX12_fillsWhere_1 7 rfl rfl)
theorem dX12_fillsWhere_32 : decode cX12_fillsWhere 32 = .ok (.getfield 46, 3) := dk_180 0 46 (dk_at dksX12_fillsWhere_1 8 rfl rfl)
theorem dX12_fillsWhere_35 : decode cX12_fillsWhere 35 = .ok (.aload_n 0, 1) := dk_42 (dk_at dksX12_fillsWhere_1 11 rfl rfl)
theorem dX12_fillsWhere_36 : decode cX12_fillsWhere 36 = .ok (.getfield 239, 3) := dk_180 0 239 (dk_at dksX12_fillsWhere_1 12 rfl rfl)
theorem dX12_fillsWhere_39 : decode cX12_fillsWhere 39 = .ok (.iaload, 1) := dk_46 (dk_at dksX12_fillsWhere_1 15 rfl rfl)
theorem dX12_fillsWhere_40 : decode cX12_fillsWhere 40 = .ok (.if_icmp .gt 59, 3) := dk_163 0 59 (dk_at dksX12_fillsWhere_1 16 rfl rfl)
theorem dX12_fillsWhere_43 : decode cX12_fillsWhere 43 = .ok (.aload_n 0, 1) := dk_42 (dk_at dksX12_fillsWhere_1 19 rfl rfl)
theorem dX12_fillsWhere_44 : decode cX12_fillsWhere 44 = .ok (.iload_n 1, 1) := dk_27 (dk_at dksX12_fillsWhere_1 20 rfl rfl)
theorem dX12_fillsWhere_45 : decode cX12_fillsWhere 45 = .ok (.iload_n 2, 1) := dk_28 (dk_at dksX12_fillsWhere_1 21 rfl rfl)
theorem dX12_fillsWhere_46 : decode cX12_fillsWhere 46 = .ok (.iload_n 3, 1) := dk_29 (dk_at dksX12_fillsWhere_1 22 rfl rfl)
theorem dX12_fillsWhere_47 : decode cX12_fillsWhere 47 = .ok (.iload 5, 2) := dk_21 5 (dk_at dksX12_fillsWhere_2 0 rfl rfl)
theorem dX12_fillsWhere_49 : decode cX12_fillsWhere 49 = .ok (.iload 4, 2) := dk_21 4 (dk_at dksX12_fillsWhere_2 2 rfl rfl)
theorem dX12_fillsWhere_51 : decode cX12_fillsWhere 51 = .ok (.invokevirtual 414, 3) := dk_182 1 158 (dk_at dksX12_fillsWhere_2 4 rfl rfl)
theorem dX12_fillsWhere_54 : decode cX12_fillsWhere 54 = .ok (.istore 6, 2) := dk_54 6 (dk_at dksX12_fillsWhere_2 7 rfl rfl)
theorem dX12_fillsWhere_56 : decode cX12_fillsWhere 56 = .ok (.aload_n 0, 1) := dk_42 (dk_at dksX12_fillsWhere_2 9 rfl rfl)
theorem dX12_fillsWhere_57 : decode cX12_fillsWhere 57 = .ok (.getfield 411, 3) := dk_180 1 155 (dk_at dksX12_fillsWhere_2 10 rfl rfl)
theorem dX12_fillsWhere_60 : decode cX12_fillsWhere 60 = .ok (.ifCond .lt 15, 3) := dk_155 0 15 (dk_at dksX12_fillsWhere_2 13 rfl rfl)
theorem dX12_fillsWhere_63 : decode cX12_fillsWhere 63 = .ok (.iload 6, 2) := dk_21 6 (dk_at dksX12_fillsWhere_2 16 rfl rfl)
theorem dX12_fillsWhere_65 : decode cX12_fillsWhere 65 = .ok (.aload_n 0, 1) := dk_42 (dk_at dksX12_fillsWhere_2 18 rfl rfl)
theorem dX12_fillsWhere_66 : decode cX12_fillsWhere 66 = .ok (.getfield 417, 3) := dk_180 1 161 (dk_at dksX12_fillsWhere_2 19 rfl rfl)
theorem dX12_fillsWhere_69 : decode cX12_fillsWhere 69 = .ok (.if_icmp .gt 6, 3) := dk_163 0 6 (dk_at dksX12_fillsWhere_3 0 rfl rfl)
theorem dX12_fillsWhere_72 : decode cX12_fillsWhere 72 = .ok (.goto 21, 3) := dk_167 0 21 (dk_at dksX12_fillsWhere_3 3 rfl rfl)
theorem dX12_fillsWhere_75 : decode cX12_fillsWhere 75 = .ok (.aload_n 0, 1) := dk_42 (dk_at dksX12_fillsWhere_3 6 rfl rfl)
theorem dX12_fillsWhere_76 : decode cX12_fillsWhere 76 = .ok (.iload 6, 2) := dk_21 6 (dk_at dksX12_fillsWhere_3 7 rfl rfl)
theorem dX12_fillsWhere_78 : decode cX12_fillsWhere 78 = .ok (.putfield 417, 3) := dk_181 1 161 (dk_at dksX12_fillsWhere_3 9 rfl rfl)
theorem dX12_fillsWhere_81 : decode cX12_fillsWhere 81 = .ok (.aload_n 0, 1) := dk_42 (dk_at dksX12_fillsWhere_3 12 rfl rfl)
theorem dX12_fillsWhere_82 : decode cX12_fillsWhere 82 = .ok (.bipush 8, 2) := dk_16 8 (dk_at dksX12_fillsWhere_3 13 rfl rfl)
theorem dX12_fillsWhere_84 : decode cX12_fillsWhere 84 = .ok (.iload 4, 2) := dk_21 4 (dk_at dksX12_fillsWhere_3 15 rfl rfl)
theorem dX12_fillsWhere_86 : decode cX12_fillsWhere 86 = .ok (.imul, 1) := dk_104 (dk_at dksX12_fillsWhere_3 17 rfl rfl)
theorem dX12_fillsWhere_87 : decode cX12_fillsWhere 87 = .ok (.iload 5, 2) := dk_21 5 (dk_at dksX12_fillsWhere_3 18 rfl rfl)
theorem dX12_fillsWhere_89 : decode cX12_fillsWhere 89 = .ok (.iadd, 1) := dk_96 (dk_at dksX12_fillsWhere_3 20 rfl rfl)
theorem dX12_fillsWhere_90 : decode cX12_fillsWhere 90 = .ok (.putfield 411, 3) := dk_181 1 155 (dk_at dksX12_fillsWhere_3 21 rfl rfl)
theorem dX12_fillsWhere_93 : decode cX12_fillsWhere 93 = .ok (.iinc 5 1, 3) := dk_132 5 1 (dk_at dksX12_fillsWhere_4 0 rfl rfl)
theorem dX12_fillsWhere_96 : decode cX12_fillsWhere 96 = .ok (.goto (-69), 3) := dk_167 255 187 (dk_at dksX12_fillsWhere_4 3 rfl rfl)
theorem dX12_fillsWhere_99 : decode cX12_fillsWhere 99 = .ok (.iinc 4 1, 3) := dk_132 4 1 (dk_at dksX12_fillsWhere_4 6 rfl rfl)
theorem dX12_fillsWhere_102 : decode cX12_fillsWhere 102 = .ok (.goto (-94), 3) := dk_167 255 162 (dk_at dksX12_fillsWhere_4 9 rfl rfl)
theorem dX12_fillsWhere_105 : decode cX12_fillsWhere 105 = .ok (.return_, 1) := dk_177 (dk_at dksX12_fillsWhere_4 12 rfl rfl)
abbrev cX12_moreBy : ByteArray := prog_22_method_80_code
def yX12_moreBy : MethodName := ⟨RX12, "moreBy", "(IIIII)I"⟩
def dkwX12_moreBy_5 : List UInt8 := [132, 6, 255, 132, 7, 1, 167, 255, 155, 21, 6, 172]
abbrev dktX12_moreBy_5 : List UInt8 := dkwX12_moreBy_5 ++ []
def dkwX12_moreBy_4 : List UInt8 := [21, 7, 182, 1, 97, 163, 0, 22, 42, 180, 0, 119, 21, 7, 46, 42, 21, 7, 182, 1, 97, 164, 0, 6]
abbrev dktX12_moreBy_4 : List UInt8 := dkwX12_moreBy_4 ++ dktX12_moreBy_5
def dkwX12_moreBy_3 : List UInt8 := [21, 7, 46, 42, 21, 7, 182, 1, 94, 161, 0, 6, 132, 6, 1, 42, 180, 0, 116, 21, 7, 46, 42]
abbrev dktX12_moreBy_3 : List UInt8 := dkwX12_moreBy_3 ++ dktX12_moreBy_4
def dkwX12_moreBy_2 : List UInt8 := [167, 0, 73, 42, 180, 0, 116, 21, 7, 46, 42, 21, 7, 182, 1, 94, 162, 0, 22, 42, 180, 0, 119]
abbrev dktX12_moreBy_2 : List UInt8 := dkwX12_moreBy_2 ++ dktX12_moreBy_3
def dkwX12_moreBy_1 : List UInt8 := [16, 48, 162, 0, 100, 42, 21, 7, 182, 1, 110, 153, 0, 85, 42, 21, 7, 182, 1, 91, 156, 0, 6]
abbrev dktX12_moreBy_1 : List UInt8 := dkwX12_moreBy_1 ++ dktX12_moreBy_2
def dkwX12_moreBy_0 : List UInt8 := [42, 182, 1, 125, 42, 27, 28, 29, 21, 4, 21, 5, 182, 1, 106, 87, 3, 54, 6, 3, 54, 7, 21, 7]
abbrev dktX12_moreBy_0 : List UInt8 := dkwX12_moreBy_0 ++ dktX12_moreBy_1
theorem dksX12_moreBy_0 : cX12_moreBy.data.toList.drop 0 = dktX12_moreBy_0 := by decide +kernel
theorem dksX12_moreBy_1 : cX12_moreBy.data.toList.drop 24 = dktX12_moreBy_1 := dk_seg dksX12_moreBy_0 24 rfl rfl
theorem dksX12_moreBy_2 : cX12_moreBy.data.toList.drop 47 = dktX12_moreBy_2 := dk_seg dksX12_moreBy_1 23 rfl rfl
theorem dksX12_moreBy_3 : cX12_moreBy.data.toList.drop 70 = dktX12_moreBy_3 := dk_seg dksX12_moreBy_2 23 rfl rfl
theorem dksX12_moreBy_4 : cX12_moreBy.data.toList.drop 93 = dktX12_moreBy_4 := dk_seg dksX12_moreBy_3 23 rfl rfl
theorem dksX12_moreBy_5 : cX12_moreBy.data.toList.drop 117 = dktX12_moreBy_5 := dk_seg dksX12_moreBy_4 24 rfl rfl
theorem dX12_moreBy_0 : decode cX12_moreBy 0 = .ok (.aload_n 0, 1) := dk_42 (dk_at dksX12_moreBy_0 0 rfl rfl)
theorem dX12_moreBy_1 : decode cX12_moreBy 1 = .ok (.invokevirtual 381, 3) := dk_182 1 125 (dk_at dksX12_moreBy_0 1 rfl rfl)
theorem dX12_moreBy_4 : decode cX12_moreBy 4 = .ok (.aload_n 0, 1) := dk_42 (dk_at dksX12_moreBy_0 4 rfl rfl)
theorem dX12_moreBy_5 : decode cX12_moreBy 5 = .ok (.iload_n 1, 1) := dk_27 (dk_at dksX12_moreBy_0 5 rfl rfl)
theorem dX12_moreBy_6 : decode cX12_moreBy 6 = .ok (.iload_n 2, 1) := dk_28 (dk_at dksX12_moreBy_0 6 rfl rfl)
theorem dX12_moreBy_7 : decode cX12_moreBy 7 = .ok (.iload_n 3, 1) := dk_29 (dk_at dksX12_moreBy_0 7 rfl rfl)
theorem dX12_moreBy_8 : decode cX12_moreBy 8 = .ok (.iload 4, 2) := dk_21 4 (dk_at dksX12_moreBy_0 8 rfl rfl)
theorem dX12_moreBy_10 : decode cX12_moreBy 10 = .ok (.iload 5, 2) := dk_21 5 (dk_at dksX12_moreBy_0 10 rfl rfl)
theorem dX12_moreBy_12 : decode cX12_moreBy 12 = .ok (.invokevirtual 362, 3) := dk_182 1 106 (dk_at dksX12_moreBy_0 12 rfl rfl)
theorem dX12_moreBy_15 : decode cX12_moreBy 15 = .ok (.pop, 1) := dk_87 (dk_at dksX12_moreBy_0 15 rfl rfl)
theorem dX12_moreBy_16 : decode cX12_moreBy 16 = .ok (.iconst 0, 1) := dk_3 (dk_at dksX12_moreBy_0 16 rfl rfl)
theorem dX12_moreBy_17 : decode cX12_moreBy 17 = .ok (.istore 6, 2) := dk_54 6 (dk_at dksX12_moreBy_0 17 rfl rfl)
theorem dX12_moreBy_19 : decode cX12_moreBy 19 = .ok (.iconst 0, 1) := dk_3 (dk_at dksX12_moreBy_0 19 rfl rfl)
theorem dX12_moreBy_20 : decode cX12_moreBy 20 = .ok (.istore 7, 2) := dk_54 7 (dk_at dksX12_moreBy_0 20 rfl rfl)
theorem dX12_moreBy_22 : decode cX12_moreBy 22 = .ok (.iload 7, 2) := dk_21 7 (dk_at dksX12_moreBy_0 22 rfl rfl)
theorem dX12_moreBy_24 : decode cX12_moreBy 24 = .ok (.bipush 48, 2) := dk_16 48 (dk_at dksX12_moreBy_1 0 rfl rfl)
theorem dX12_moreBy_26 : decode cX12_moreBy 26 = .ok (.if_icmp .ge 100, 3) := dk_162 0 100 (dk_at dksX12_moreBy_1 2 rfl rfl)
theorem dX12_moreBy_29 : decode cX12_moreBy 29 = .ok (.aload_n 0, 1) := dk_42 (dk_at dksX12_moreBy_1 5 rfl rfl)
theorem dX12_moreBy_30 : decode cX12_moreBy 30 = .ok (.iload 7, 2) := dk_21 7 (dk_at dksX12_moreBy_1 6 rfl rfl)
theorem dX12_moreBy_32 : decode cX12_moreBy 32 = .ok (.invokevirtual 366, 3) := dk_182 1 110 (dk_at dksX12_moreBy_1 8 rfl rfl)
theorem dX12_moreBy_35 : decode cX12_moreBy 35 = .ok (.ifCond .eq 85, 3) := dk_153 0 85 (dk_at dksX12_moreBy_1 11 rfl rfl)
theorem dX12_moreBy_38 : decode cX12_moreBy 38 = .ok (.aload_n 0, 1) := dk_42 (dk_at dksX12_moreBy_1 14 rfl rfl)
theorem dX12_moreBy_39 : decode cX12_moreBy 39 = .ok (.iload 7, 2) := dk_21 7 (dk_at dksX12_moreBy_1 15 rfl rfl)
theorem dX12_moreBy_41 : decode cX12_moreBy 41 = .ok (.invokevirtual 347, 3) := dk_182 1 91 (dk_at dksX12_moreBy_1 17 rfl rfl)
theorem dX12_moreBy_44 : decode cX12_moreBy 44 = .ok (.ifCond .ge 6, 3) := dk_156 0 6 (dk_at dksX12_moreBy_1 20 rfl rfl)
theorem dX12_moreBy_47 : decode cX12_moreBy 47 = .ok (.goto 73, 3) := dk_167 0 73 (dk_at dksX12_moreBy_2 0 rfl rfl)
theorem dX12_moreBy_50 : decode cX12_moreBy 50 = .ok (.aload_n 0, 1) := dk_42 (dk_at dksX12_moreBy_2 3 rfl rfl)
theorem dX12_moreBy_51 : decode cX12_moreBy 51 = .ok (.getfield 116, 3) := dk_180 0 116 (dk_at dksX12_moreBy_2 4 rfl rfl)
theorem dX12_moreBy_54 : decode cX12_moreBy 54 = .ok (.iload 7, 2) := dk_21 7 (dk_at dksX12_moreBy_2 7 rfl rfl)
theorem dX12_moreBy_56 : decode cX12_moreBy 56 = .ok (.iaload, 1) := dk_46 (dk_at dksX12_moreBy_2 9 rfl rfl)
theorem dX12_moreBy_57 : decode cX12_moreBy 57 = .ok (.aload_n 0, 1) := dk_42 (dk_at dksX12_moreBy_2 10 rfl rfl)
theorem dX12_moreBy_58 : decode cX12_moreBy 58 = .ok (.iload 7, 2) := dk_21 7 (dk_at dksX12_moreBy_2 11 rfl rfl)
theorem dX12_moreBy_60 : decode cX12_moreBy 60 = .ok (.invokevirtual 350, 3) := dk_182 1 94 (dk_at dksX12_moreBy_2 13 rfl rfl)
theorem dX12_moreBy_63 : decode cX12_moreBy 63 = .ok (.if_icmp .ge 22, 3) := dk_162 0 22 (dk_at dksX12_moreBy_2 16 rfl rfl)
theorem dX12_moreBy_66 : decode cX12_moreBy 66 = .ok (.aload_n 0, 1) := dk_42 (dk_at dksX12_moreBy_2 19 rfl rfl)
theorem dX12_moreBy_67 : decode cX12_moreBy 67 = .ok (.getfield 119, 3) := dk_180 0 119 (dk_at dksX12_moreBy_2 20 rfl rfl)
theorem dX12_moreBy_70 : decode cX12_moreBy 70 = .ok (.iload 7, 2) := dk_21 7 (dk_at dksX12_moreBy_3 0 rfl rfl)
theorem dX12_moreBy_72 : decode cX12_moreBy 72 = .ok (.iaload, 1) := dk_46 (dk_at dksX12_moreBy_3 2 rfl rfl)
theorem dX12_moreBy_73 : decode cX12_moreBy 73 = .ok (.aload_n 0, 1) := dk_42 (dk_at dksX12_moreBy_3 3 rfl rfl)
theorem dX12_moreBy_74 : decode cX12_moreBy 74 = .ok (.iload 7, 2) := dk_21 7 (dk_at dksX12_moreBy_3 4 rfl rfl)
theorem dX12_moreBy_76 : decode cX12_moreBy 76 = .ok (.invokevirtual 350, 3) := dk_182 1 94 (dk_at dksX12_moreBy_3 6 rfl rfl)
theorem dX12_moreBy_79 : decode cX12_moreBy 79 = .ok (.if_icmp .lt 6, 3) := dk_161 0 6 (dk_at dksX12_moreBy_3 9 rfl rfl)
theorem dX12_moreBy_82 : decode cX12_moreBy 82 = .ok (.iinc 6 1, 3) := dk_132 6 1 (dk_at dksX12_moreBy_3 12 rfl rfl)
theorem dX12_moreBy_85 : decode cX12_moreBy 85 = .ok (.aload_n 0, 1) := dk_42 (dk_at dksX12_moreBy_3 15 rfl rfl)
theorem dX12_moreBy_86 : decode cX12_moreBy 86 = .ok (.getfield 116, 3) := dk_180 0 116 (dk_at dksX12_moreBy_3 16 rfl rfl)
theorem dX12_moreBy_89 : decode cX12_moreBy 89 = .ok (.iload 7, 2) := dk_21 7 (dk_at dksX12_moreBy_3 19 rfl rfl)
theorem dX12_moreBy_91 : decode cX12_moreBy 91 = .ok (.iaload, 1) := dk_46 (dk_at dksX12_moreBy_3 21 rfl rfl)
theorem dX12_moreBy_92 : decode cX12_moreBy 92 = .ok (.aload_n 0, 1) := dk_42 (dk_at dksX12_moreBy_3 22 rfl rfl)
theorem dX12_moreBy_93 : decode cX12_moreBy 93 = .ok (.iload 7, 2) := dk_21 7 (dk_at dksX12_moreBy_4 0 rfl rfl)
theorem dX12_moreBy_95 : decode cX12_moreBy 95 = .ok (.invokevirtual 353, 3) := dk_182 1 97 (dk_at dksX12_moreBy_4 2 rfl rfl)
theorem dX12_moreBy_98 : decode cX12_moreBy 98 = .ok (.if_icmp .gt 22, 3) := dk_163 0 22 (dk_at dksX12_moreBy_4 5 rfl rfl)
theorem dX12_moreBy_101 : decode cX12_moreBy 101 = .ok (.aload_n 0, 1) := dk_42 (dk_at dksX12_moreBy_4 8 rfl rfl)
theorem dX12_moreBy_102 : decode cX12_moreBy 102 = .ok (.getfield 119, 3) := dk_180 0 119 (dk_at dksX12_moreBy_4 9 rfl rfl)
theorem dX12_moreBy_105 : decode cX12_moreBy 105 = .ok (.iload 7, 2) := dk_21 7 (dk_at dksX12_moreBy_4 12 rfl rfl)
theorem dX12_moreBy_107 : decode cX12_moreBy 107 = .ok (.iaload, 1) := dk_46 (dk_at dksX12_moreBy_4 14 rfl rfl)
theorem dX12_moreBy_108 : decode cX12_moreBy 108 = .ok (.aload_n 0, 1) := dk_42 (dk_at dksX12_moreBy_4 15 rfl rfl)
theorem dX12_moreBy_109 : decode cX12_moreBy 109 = .ok (.iload 7, 2) := dk_21 7 (dk_at dksX12_moreBy_4 16 rfl rfl)
theorem dX12_moreBy_111 : decode cX12_moreBy 111 = .ok (.invokevirtual 353, 3) := dk_182 1 97 (dk_at dksX12_moreBy_4 18 rfl rfl)
theorem dX12_moreBy_114 : decode cX12_moreBy 114 = .ok (.if_icmp .le 6, 3) := dk_164 0 6 (dk_at dksX12_moreBy_4 21 rfl rfl)
theorem dX12_moreBy_117 : decode cX12_moreBy 117 = .ok (.iinc 6 (-1), 3) := dk_132 6 255 (dk_at dksX12_moreBy_5 0 rfl rfl)
theorem dX12_moreBy_120 : decode cX12_moreBy 120 = .ok (.iinc 7 1, 3) := dk_132 7 1 (dk_at dksX12_moreBy_5 3 rfl rfl)
theorem dX12_moreBy_123 : decode cX12_moreBy 123 = .ok (.goto (-101), 3) := dk_167 255 155 (dk_at dksX12_moreBy_5 6 rfl rfl)
theorem dX12_moreBy_126 : decode cX12_moreBy 126 = .ok (.iload 6, 2) := dk_21 6 (dk_at dksX12_moreBy_5 9 rfl rfl)
theorem dX12_moreBy_128 : decode cX12_moreBy 128 = .ok (.ireturn, 1) := dk_172 (dk_at dksX12_moreBy_5 11 rfl rfl)
abbrev cX12_cut : ByteArray := prog_22_method_88_code
def yX12_cut : MethodName := ⟨RX12, "cut", "(IIII)I"⟩
def dkwX12_cut_8 : List UInt8 := [96, 16, 8, 108, 54, 6, 42, 21, 6, 182, 1, 183, 154, 0, 9, 132, 6, 1, 167, 255, 244, 21, 6, 172]
abbrev dktX12_cut_8 : List UInt8 := dkwX12_cut_8 ++ []
def dkwX12_cut_7 : List UInt8 := [164, 0, 7, 21, 7, 54, 6, 21, 5, 16, 7, 96, 16, 8, 108, 21, 6, 164, 0, 13, 21, 5, 16, 7]
abbrev dktX12_cut_7 : List UInt8 := dkwX12_cut_7 ++ dktX12_cut_8
def dkwX12_cut_6 : List UInt8 := [21, 6, 164, 0, 12, 42, 180, 0, 128, 21, 8, 46, 54, 6, 132, 8, 1, 167, 255, 180, 21, 7, 21, 6]
abbrev dktX12_cut_6 : List UInt8 := dkwX12_cut_6 ++ dktX12_cut_7
def dkwX12_cut_5 : List UInt8 := [7, 164, 0, 15, 21, 7, 42, 180, 0, 128, 21, 8, 46, 96, 54, 7, 42, 180, 0, 128, 21, 8, 46]
abbrev dktX12_cut_5 : List UInt8 := dkwX12_cut_5 ++ dktX12_cut_6
def dkwX12_cut_4 : List UInt8 := [180, 0, 125, 21, 8, 46, 42, 180, 0, 128, 21, 8, 46, 104, 96, 54, 5, 42, 180, 0, 125, 21, 8, 46]
abbrev dktX12_cut_4 : List UInt8 := dkwX12_cut_4 ++ dktX12_cut_5
def dkwX12_cut_3 : List UInt8 := [3, 54, 5, 3, 54, 6, 3, 54, 7, 3, 54, 8, 21, 8, 42, 180, 1, 171, 162, 0, 73, 21, 5, 42]
abbrev dktX12_cut_3 : List UInt8 := dkwX12_cut_3 ++ dktX12_cut_4
def dkwX12_cut_2 : List UInt8 := [154, 0, 8, 21, 4, 154, 0, 17, 21, 4, 153, 0, 14, 42, 21, 4, 182, 1, 180, 154, 0, 5, 2, 172]
abbrev dktX12_cut_2 : List UInt8 := dkwX12_cut_2 ++ dktX12_cut_3
def dkwX12_cut_1 : List UInt8 := [153, 0, 46, 28, 154, 0, 7, 29, 154, 0, 38, 29, 153, 0, 11, 42, 29, 182, 1, 180, 153, 0, 26, 29]
abbrev dktX12_cut_1 : List UInt8 := dkwX12_cut_1 ++ dktX12_cut_2
def dkwX12_cut_0 : List UInt8 := [42, 3, 181, 1, 171, 42, 27, 182, 1, 180, 154, 0, 5, 2, 172, 28, 153, 0, 11, 42, 28, 182, 1, 180]
abbrev dktX12_cut_0 : List UInt8 := dkwX12_cut_0 ++ dktX12_cut_1
theorem dksX12_cut_0 : cX12_cut.data.toList.drop 0 = dktX12_cut_0 := by decide +kernel
theorem dksX12_cut_1 : cX12_cut.data.toList.drop 24 = dktX12_cut_1 := dk_seg dksX12_cut_0 24 rfl rfl
theorem dksX12_cut_2 : cX12_cut.data.toList.drop 48 = dktX12_cut_2 := dk_seg dksX12_cut_1 24 rfl rfl
theorem dksX12_cut_3 : cX12_cut.data.toList.drop 72 = dktX12_cut_3 := dk_seg dksX12_cut_2 24 rfl rfl
theorem dksX12_cut_4 : cX12_cut.data.toList.drop 96 = dktX12_cut_4 := dk_seg dksX12_cut_3 24 rfl rfl
theorem dksX12_cut_5 : cX12_cut.data.toList.drop 120 = dktX12_cut_5 := dk_seg dksX12_cut_4 24 rfl rfl
theorem dksX12_cut_6 : cX12_cut.data.toList.drop 143 = dktX12_cut_6 := dk_seg dksX12_cut_5 23 rfl rfl
theorem dksX12_cut_7 : cX12_cut.data.toList.drop 167 = dktX12_cut_7 := dk_seg dksX12_cut_6 24 rfl rfl
theorem dksX12_cut_8 : cX12_cut.data.toList.drop 191 = dktX12_cut_8 := dk_seg dksX12_cut_7 24 rfl rfl
theorem dX12_cut_0 : decode cX12_cut 0 = .ok (.aload_n 0, 1) := dk_42 (dk_at dksX12_cut_0 0 rfl rfl)
theorem dX12_cut_1 : decode cX12_cut 1 = .ok (.iconst 0, 1) := dk_3 (dk_at dksX12_cut_0 1 rfl rfl)
theorem dX12_cut_2 : decode cX12_cut 2 = .ok (.putfield 427, 3) := dk_181 1 171 (dk_at dksX12_cut_0 2 rfl rfl)
theorem dX12_cut_5 : decode cX12_cut 5 = .ok (.aload_n 0, 1) := dk_42 (dk_at dksX12_cut_0 5 rfl rfl)
theorem dX12_cut_6 : decode cX12_cut 6 = .ok (.iload_n 1, 1) := dk_27 (dk_at dksX12_cut_0 6 rfl rfl)
theorem dX12_cut_7 : decode cX12_cut 7 = .ok (.invokevirtual 436, 3) := dk_182 1 180 (dk_at dksX12_cut_0 7 rfl rfl)
theorem dX12_cut_10 : decode cX12_cut 10 = .ok (.ifCond .ne 5, 3) := dk_154 0 5 (dk_at dksX12_cut_0 10 rfl rfl)
theorem dX12_cut_13 : decode cX12_cut 13 = .ok (.iconst (-1), 1) := dk_2 (dk_at dksX12_cut_0 13 rfl rfl)
theorem dX12_cut_14 : decode cX12_cut 14 = .ok (.ireturn, 1) := dk_172 (dk_at dksX12_cut_0 14 rfl rfl)
theorem dX12_cut_15 : decode cX12_cut 15 = .ok (.iload_n 2, 1) := dk_28 (dk_at dksX12_cut_0 15 rfl rfl)
theorem dX12_cut_16 : decode cX12_cut 16 = .ok (.ifCond .eq 11, 3) := dk_153 0 11 (dk_at dksX12_cut_0 16 rfl rfl)
theorem dX12_cut_19 : decode cX12_cut 19 = .ok (.aload_n 0, 1) := dk_42 (dk_at dksX12_cut_0 19 rfl rfl)
theorem dX12_cut_20 : decode cX12_cut 20 = .ok (.iload_n 2, 1) := dk_28 (dk_at dksX12_cut_0 20 rfl rfl)
theorem dX12_cut_21 : decode cX12_cut 21 = .ok (.invokevirtual 436, 3) := dk_182 1 180 (dk_at dksX12_cut_0 21 rfl rfl)
theorem dX12_cut_24 : decode cX12_cut 24 = .ok (.ifCond .eq 46, 3) := dk_153 0 46 (dk_at dksX12_cut_1 0 rfl rfl)
theorem dX12_cut_27 : decode cX12_cut 27 = .ok (.iload_n 2, 1) := dk_28 (dk_at dksX12_cut_1 3 rfl rfl)
theorem dX12_cut_28 : decode cX12_cut 28 = .ok (.ifCond .ne 7, 3) := dk_154 0 7 (dk_at dksX12_cut_1 4 rfl rfl)
theorem dX12_cut_31 : decode cX12_cut 31 = .ok (.iload_n 3, 1) := dk_29 (dk_at dksX12_cut_1 7 rfl rfl)
theorem dX12_cut_32 : decode cX12_cut 32 = .ok (.ifCond .ne 38, 3) := dk_154 0 38 (dk_at dksX12_cut_1 8 rfl rfl)
theorem dX12_cut_35 : decode cX12_cut 35 = .ok (.iload_n 3, 1) := dk_29 (dk_at dksX12_cut_1 11 rfl rfl)
theorem dX12_cut_36 : decode cX12_cut 36 = .ok (.ifCond .eq 11, 3) := dk_153 0 11 (dk_at dksX12_cut_1 12 rfl rfl)
theorem dX12_cut_39 : decode cX12_cut 39 = .ok (.aload_n 0, 1) := dk_42 (dk_at dksX12_cut_1 15 rfl rfl)
theorem dX12_cut_40 : decode cX12_cut 40 = .ok (.iload_n 3, 1) := dk_29 (dk_at dksX12_cut_1 16 rfl rfl)
theorem dX12_cut_41 : decode cX12_cut 41 = .ok (.invokevirtual 436, 3) := dk_182 1 180 (dk_at dksX12_cut_1 17 rfl rfl)
theorem dX12_cut_44 : decode cX12_cut 44 = .ok (.ifCond .eq 26, 3) := dk_153 0 26 (dk_at dksX12_cut_1 20 rfl rfl)
theorem dX12_cut_47 : decode cX12_cut 47 = .ok (.iload_n 3, 1) := dk_29 (dk_at dksX12_cut_1 23 rfl rfl)
theorem dX12_cut_48 : decode cX12_cut 48 = .ok (.ifCond .ne 8, 3) := dk_154 0 8 (dk_at dksX12_cut_2 0 rfl rfl)
theorem dX12_cut_51 : decode cX12_cut 51 = .ok (.iload 4, 2) := dk_21 4 (dk_at dksX12_cut_2 3 rfl rfl)
theorem dX12_cut_53 : decode cX12_cut 53 = .ok (.ifCond .ne 17, 3) := dk_154 0 17 (dk_at dksX12_cut_2 5 rfl rfl)
theorem dX12_cut_56 : decode cX12_cut 56 = .ok (.iload 4, 2) := dk_21 4 (dk_at dksX12_cut_2 8 rfl rfl)
theorem dX12_cut_58 : decode cX12_cut 58 = .ok (.ifCond .eq 14, 3) := dk_153 0 14 (dk_at dksX12_cut_2 10 rfl rfl)
theorem dX12_cut_61 : decode cX12_cut 61 = .ok (.aload_n 0, 1) := dk_42 (dk_at dksX12_cut_2 13 rfl rfl)
theorem dX12_cut_62 : decode cX12_cut 62 = .ok (.iload 4, 2) := dk_21 4 (dk_at dksX12_cut_2 14 rfl rfl)
theorem dX12_cut_64 : decode cX12_cut 64 = .ok (.invokevirtual 436, 3) := dk_182 1 180 (dk_at dksX12_cut_2 16 rfl rfl)
theorem dX12_cut_67 : decode cX12_cut 67 = .ok (.ifCond .ne 5, 3) := dk_154 0 5 (dk_at dksX12_cut_2 19 rfl rfl)
theorem dX12_cut_70 : decode cX12_cut 70 = .ok (.iconst (-1), 1) := dk_2 (dk_at dksX12_cut_2 22 rfl rfl)
theorem dX12_cut_71 : decode cX12_cut 71 = .ok (.ireturn, 1) := dk_172 (dk_at dksX12_cut_2 23 rfl rfl)
theorem dX12_cut_72 : decode cX12_cut 72 = .ok (.iconst 0, 1) := dk_3 (dk_at dksX12_cut_3 0 rfl rfl)
theorem dX12_cut_73 : decode cX12_cut 73 = .ok (.istore 5, 2) := dk_54 5 (dk_at dksX12_cut_3 1 rfl rfl)
theorem dX12_cut_75 : decode cX12_cut 75 = .ok (.iconst 0, 1) := dk_3 (dk_at dksX12_cut_3 3 rfl rfl)
theorem dX12_cut_76 : decode cX12_cut 76 = .ok (.istore 6, 2) := dk_54 6 (dk_at dksX12_cut_3 4 rfl rfl)
theorem dX12_cut_78 : decode cX12_cut 78 = .ok (.iconst 0, 1) := dk_3 (dk_at dksX12_cut_3 6 rfl rfl)
theorem dX12_cut_79 : decode cX12_cut 79 = .ok (.istore 7, 2) := dk_54 7 (dk_at dksX12_cut_3 7 rfl rfl)
theorem dX12_cut_81 : decode cX12_cut 81 = .ok (.iconst 0, 1) := dk_3 (dk_at dksX12_cut_3 9 rfl rfl)
theorem dX12_cut_82 : decode cX12_cut 82 = .ok (.istore 8, 2) := dk_54 8 (dk_at dksX12_cut_3 10 rfl rfl)
theorem dX12_cut_84 : decode cX12_cut 84 = .ok (.iload 8, 2) := dk_21 8 (dk_at dksX12_cut_3 12 rfl rfl)
theorem dX12_cut_86 : decode cX12_cut 86 = .ok (.aload_n 0, 1) := dk_42 (dk_at dksX12_cut_3 14 rfl rfl)
theorem dX12_cut_87 : decode cX12_cut 87 = .ok (.getfield 427, 3) := dk_180 1 171 (dk_at dksX12_cut_3 15 rfl rfl)
theorem dX12_cut_90 : decode cX12_cut 90 = .ok (.if_icmp .ge 73, 3) := dk_162 0 73 (dk_at dksX12_cut_3 18 rfl rfl)
theorem dX12_cut_93 : decode cX12_cut 93 = .ok (.iload 5, 2) := dk_21 5 (dk_at dksX12_cut_3 21 rfl rfl)
theorem dX12_cut_95 : decode cX12_cut 95 = .ok (.aload_n 0, 1) := dk_42 (dk_at dksX12_cut_3 23 rfl rfl)
theorem dX12_cut_96 : decode cX12_cut 96 = .ok (.getfield 125, 3) := dk_180 0 125 (dk_at dksX12_cut_4 0 rfl rfl)
theorem dX12_cut_99 : decode cX12_cut 99 = .ok (.iload 8, 2) := dk_21 8 (dk_at dksX12_cut_4 3 rfl rfl)
theorem dX12_cut_101 : decode cX12_cut 101 = .ok (.iaload, 1) := dk_46 (dk_at dksX12_cut_4 5 rfl rfl)
theorem dX12_cut_102 : decode cX12_cut 102 = .ok (.aload_n 0, 1) := dk_42 (dk_at dksX12_cut_4 6 rfl rfl)
theorem dX12_cut_103 : decode cX12_cut 103 = .ok (.getfield 128, 3) := dk_180 0 128 (dk_at dksX12_cut_4 7 rfl rfl)
theorem dX12_cut_106 : decode cX12_cut 106 = .ok (.iload 8, 2) := dk_21 8 (dk_at dksX12_cut_4 10 rfl rfl)
theorem dX12_cut_108 : decode cX12_cut 108 = .ok (.iaload, 1) := dk_46 (dk_at dksX12_cut_4 12 rfl rfl)
theorem dX12_cut_109 : decode cX12_cut 109 = .ok (.imul, 1) := dk_104 (dk_at dksX12_cut_4 13 rfl rfl)
theorem dX12_cut_110 : decode cX12_cut 110 = .ok (.iadd, 1) := dk_96 (dk_at dksX12_cut_4 14 rfl rfl)
theorem dX12_cut_111 : decode cX12_cut 111 = .ok (.istore 5, 2) := dk_54 5 (dk_at dksX12_cut_4 15 rfl rfl)
theorem dX12_cut_113 : decode cX12_cut 113 = .ok (.aload_n 0, 1) := dk_42 (dk_at dksX12_cut_4 17 rfl rfl)
theorem dX12_cut_114 : decode cX12_cut 114 = .ok (.getfield 125, 3) := dk_180 0 125 (dk_at dksX12_cut_4 18 rfl rfl)
theorem dX12_cut_117 : decode cX12_cut 117 = .ok (.iload 8, 2) := dk_21 8 (dk_at dksX12_cut_4 21 rfl rfl)
theorem dX12_cut_119 : decode cX12_cut 119 = .ok (.iaload, 1) := dk_46 (dk_at dksX12_cut_4 23 rfl rfl)
theorem dX12_cut_120 : decode cX12_cut 120 = .ok (.iconst 4, 1) := dk_7 (dk_at dksX12_cut_5 0 rfl rfl)
theorem dX12_cut_121 : decode cX12_cut 121 = .ok (.if_icmp .le 15, 3) := dk_164 0 15 (dk_at dksX12_cut_5 1 rfl rfl)
theorem dX12_cut_124 : decode cX12_cut 124 = .ok (.iload 7, 2) := dk_21 7 (dk_at dksX12_cut_5 4 rfl rfl)
theorem dX12_cut_126 : decode cX12_cut 126 = .ok (.aload_n 0, 1) := dk_42 (dk_at dksX12_cut_5 6 rfl rfl)
theorem dX12_cut_127 : decode cX12_cut 127 = .ok (.getfield 128, 3) := dk_180 0 128 (dk_at dksX12_cut_5 7 rfl rfl)
theorem dX12_cut_130 : decode cX12_cut 130 = .ok (.iload 8, 2) := dk_21 8 (dk_at dksX12_cut_5 10 rfl rfl)
theorem dX12_cut_132 : decode cX12_cut 132 = .ok (.iaload, 1) := dk_46 (dk_at dksX12_cut_5 12 rfl rfl)
theorem dX12_cut_133 : decode cX12_cut 133 = .ok (.iadd, 1) := dk_96 (dk_at dksX12_cut_5 13 rfl rfl)
theorem dX12_cut_134 : decode cX12_cut 134 = .ok (.istore 7, 2) := dk_54 7 (dk_at dksX12_cut_5 14 rfl rfl)
theorem dX12_cut_136 : decode cX12_cut 136 = .ok (.aload_n 0, 1) := dk_42 (dk_at dksX12_cut_5 16 rfl rfl)
theorem dX12_cut_137 : decode cX12_cut 137 = .ok (.getfield 128, 3) := dk_180 0 128 (dk_at dksX12_cut_5 17 rfl rfl)
theorem dX12_cut_140 : decode cX12_cut 140 = .ok (.iload 8, 2) := dk_21 8 (dk_at dksX12_cut_5 20 rfl rfl)
theorem dX12_cut_142 : decode cX12_cut 142 = .ok (.iaload, 1) := dk_46 (dk_at dksX12_cut_5 22 rfl rfl)
theorem dX12_cut_143 : decode cX12_cut 143 = .ok (.iload 6, 2) := dk_21 6 (dk_at dksX12_cut_6 0 rfl rfl)
theorem dX12_cut_145 : decode cX12_cut 145 = .ok (.if_icmp .le 12, 3) := dk_164 0 12 (dk_at dksX12_cut_6 2 rfl rfl)
theorem dX12_cut_148 : decode cX12_cut 148 = .ok (.aload_n 0, 1) := dk_42 (dk_at dksX12_cut_6 5 rfl rfl)
theorem dX12_cut_149 : decode cX12_cut 149 = .ok (.getfield 128, 3) := dk_180 0 128 (dk_at dksX12_cut_6 6 rfl rfl)
theorem dX12_cut_152 : decode cX12_cut 152 = .ok (.iload 8, 2) := dk_21 8 (dk_at dksX12_cut_6 9 rfl rfl)
theorem dX12_cut_154 : decode cX12_cut 154 = .ok (.iaload, 1) := dk_46 (dk_at dksX12_cut_6 11 rfl rfl)
theorem dX12_cut_155 : decode cX12_cut 155 = .ok (.istore 6, 2) := dk_54 6 (dk_at dksX12_cut_6 12 rfl rfl)
theorem dX12_cut_157 : decode cX12_cut 157 = .ok (.iinc 8 1, 3) := dk_132 8 1 (dk_at dksX12_cut_6 14 rfl rfl)
theorem dX12_cut_160 : decode cX12_cut 160 = .ok (.goto (-76), 3) := dk_167 255 180 (dk_at dksX12_cut_6 17 rfl rfl)
theorem dX12_cut_163 : decode cX12_cut 163 = .ok (.iload 7, 2) := dk_21 7 (dk_at dksX12_cut_6 20 rfl rfl)
theorem dX12_cut_165 : decode cX12_cut 165 = .ok (.iload 6, 2) := dk_21 6 (dk_at dksX12_cut_6 22 rfl rfl)
theorem dX12_cut_167 : decode cX12_cut 167 = .ok (.if_icmp .le 7, 3) := dk_164 0 7 (dk_at dksX12_cut_7 0 rfl rfl)
theorem dX12_cut_170 : decode cX12_cut 170 = .ok (.iload 7, 2) := dk_21 7 (dk_at dksX12_cut_7 3 rfl rfl)
theorem dX12_cut_172 : decode cX12_cut 172 = .ok (.istore 6, 2) := dk_54 6 (dk_at dksX12_cut_7 5 rfl rfl)
theorem dX12_cut_174 : decode cX12_cut 174 = .ok (.iload 5, 2) := dk_21 5 (dk_at dksX12_cut_7 7 rfl rfl)
theorem dX12_cut_176 : decode cX12_cut 176 = .ok (.bipush 7, 2) := dk_16 7 (dk_at dksX12_cut_7 9 rfl rfl)
theorem dX12_cut_178 : decode cX12_cut 178 = .ok (.iadd, 1) := dk_96 (dk_at dksX12_cut_7 11 rfl rfl)
theorem dX12_cut_179 : decode cX12_cut 179 = .ok (.bipush 8, 2) := dk_16 8 (dk_at dksX12_cut_7 12 rfl rfl)
theorem dX12_cut_181 : decode cX12_cut 181 = .ok (.idiv, 1) := dk_108 (dk_at dksX12_cut_7 14 rfl rfl)
theorem dX12_cut_182 : decode cX12_cut 182 = .ok (.iload 6, 2) := dk_21 6 (dk_at dksX12_cut_7 15 rfl rfl)
theorem dX12_cut_184 : decode cX12_cut 184 = .ok (.if_icmp .le 13, 3) := dk_164 0 13 (dk_at dksX12_cut_7 17 rfl rfl)
theorem dX12_cut_187 : decode cX12_cut 187 = .ok (.iload 5, 2) := dk_21 5 (dk_at dksX12_cut_7 20 rfl rfl)
theorem dX12_cut_189 : decode cX12_cut 189 = .ok (.bipush 7, 2) := dk_16 7 (dk_at dksX12_cut_7 22 rfl rfl)
theorem dX12_cut_191 : decode cX12_cut 191 = .ok (.iadd, 1) := dk_96 (dk_at dksX12_cut_8 0 rfl rfl)
theorem dX12_cut_192 : decode cX12_cut 192 = .ok (.bipush 8, 2) := dk_16 8 (dk_at dksX12_cut_8 1 rfl rfl)
theorem dX12_cut_194 : decode cX12_cut 194 = .ok (.idiv, 1) := dk_108 (dk_at dksX12_cut_8 3 rfl rfl)
theorem dX12_cut_195 : decode cX12_cut 195 = .ok (.istore 6, 2) := dk_54 6 (dk_at dksX12_cut_8 4 rfl rfl)
theorem dX12_cut_197 : decode cX12_cut 197 = .ok (.aload_n 0, 1) := dk_42 (dk_at dksX12_cut_8 6 rfl rfl)
theorem dX12_cut_198 : decode cX12_cut 198 = .ok (.iload 6, 2) := dk_21 6 (dk_at dksX12_cut_8 7 rfl rfl)
theorem dX12_cut_200 : decode cX12_cut 200 = .ok (.invokevirtual 439, 3) := dk_182 1 183 (dk_at dksX12_cut_8 9 rfl rfl)
theorem dX12_cut_203 : decode cX12_cut 203 = .ok (.ifCond .ne 9, 3) := dk_154 0 9 (dk_at dksX12_cut_8 12 rfl rfl)
theorem dX12_cut_206 : decode cX12_cut 206 = .ok (.iinc 6 1, 3) := dk_132 6 1 (dk_at dksX12_cut_8 15 rfl rfl)
theorem dX12_cut_209 : decode cX12_cut 209 = .ok (.goto (-12), 3) := dk_167 255 244 (dk_at dksX12_cut_8 18 rfl rfl)
theorem dX12_cut_212 : decode cX12_cut 212 = .ok (.iload 6, 2) := dk_21 6 (dk_at dksX12_cut_8 21 rfl rfl)
theorem dX12_cut_214 : decode cX12_cut 214 = .ok (.ireturn, 1) := dk_172 (dk_at dksX12_cut_8 23 rfl rfl)
abbrev cX12_adds : ByteArray := prog_22_method_87_code
def yX12_adds : MethodName := ⟨RX12, "adds", "(I)Z"⟩
def dkwX12_adds_2 : List UInt8 := [180, 1, 171, 29, 79, 42, 89, 180, 1, 171, 4, 96, 181, 1, 171, 4, 172]
abbrev dktX12_adds_2 : List UInt8 := dkwX12_adds_2 ++ []
def dkwX12_adds_1 : List UInt8 := [184, 1, 67, 154, 0, 5, 3, 172, 42, 180, 0, 125, 42, 180, 1, 171, 28, 79, 42, 180, 0, 128, 42]
abbrev dktX12_adds_1 : List UInt8 := dkwX12_adds_1 ++ dktX12_adds_2
def dkwX12_adds_0 : List UInt8 := [27, 16, 10, 108, 61, 27, 16, 10, 112, 62, 28, 4, 16, 8, 184, 1, 67, 153, 0, 13, 29, 4, 16, 6]
abbrev dktX12_adds_0 : List UInt8 := dkwX12_adds_0 ++ dktX12_adds_1
theorem dksX12_adds_0 : cX12_adds.data.toList.drop 0 = dktX12_adds_0 := by decide +kernel
theorem dksX12_adds_1 : cX12_adds.data.toList.drop 24 = dktX12_adds_1 := dk_seg dksX12_adds_0 24 rfl rfl
theorem dksX12_adds_2 : cX12_adds.data.toList.drop 47 = dktX12_adds_2 := dk_seg dksX12_adds_1 23 rfl rfl
theorem dX12_adds_0 : decode cX12_adds 0 = .ok (.iload_n 1, 1) := dk_27 (dk_at dksX12_adds_0 0 rfl rfl)
theorem dX12_adds_1 : decode cX12_adds 1 = .ok (.bipush 10, 2) := dk_16 10 (dk_at dksX12_adds_0 1 rfl rfl)
theorem dX12_adds_3 : decode cX12_adds 3 = .ok (.idiv, 1) := dk_108 (dk_at dksX12_adds_0 3 rfl rfl)
theorem dX12_adds_4 : decode cX12_adds 4 = .ok (.istore_n 2, 1) := dk_61 (dk_at dksX12_adds_0 4 rfl rfl)
theorem dX12_adds_5 : decode cX12_adds 5 = .ok (.iload_n 1, 1) := dk_27 (dk_at dksX12_adds_0 5 rfl rfl)
theorem dX12_adds_6 : decode cX12_adds 6 = .ok (.bipush 10, 2) := dk_16 10 (dk_at dksX12_adds_0 6 rfl rfl)
theorem dX12_adds_8 : decode cX12_adds 8 = .ok (.irem, 1) := dk_112 (dk_at dksX12_adds_0 8 rfl rfl)
theorem dX12_adds_9 : decode cX12_adds 9 = .ok (.istore_n 3, 1) := dk_62 (dk_at dksX12_adds_0 9 rfl rfl)
theorem dX12_adds_10 : decode cX12_adds 10 = .ok (.iload_n 2, 1) := dk_28 (dk_at dksX12_adds_0 10 rfl rfl)
theorem dX12_adds_11 : decode cX12_adds 11 = .ok (.iconst 1, 1) := dk_4 (dk_at dksX12_adds_0 11 rfl rfl)
theorem dX12_adds_12 : decode cX12_adds 12 = .ok (.bipush 8, 2) := dk_16 8 (dk_at dksX12_adds_0 12 rfl rfl)
theorem dX12_adds_14 : decode cX12_adds 14 = .ok (.invokestatic 323, 3) := dk_184 1 67 (dk_at dksX12_adds_0 14 rfl rfl)
theorem dX12_adds_17 : decode cX12_adds 17 = .ok (.ifCond .eq 13, 3) := dk_153 0 13 (dk_at dksX12_adds_0 17 rfl rfl)
theorem dX12_adds_20 : decode cX12_adds 20 = .ok (.iload_n 3, 1) := dk_29 (dk_at dksX12_adds_0 20 rfl rfl)
theorem dX12_adds_21 : decode cX12_adds 21 = .ok (.iconst 1, 1) := dk_4 (dk_at dksX12_adds_0 21 rfl rfl)
theorem dX12_adds_22 : decode cX12_adds 22 = .ok (.bipush 6, 2) := dk_16 6 (dk_at dksX12_adds_0 22 rfl rfl)
theorem dX12_adds_24 : decode cX12_adds 24 = .ok (.invokestatic 323, 3) := dk_184 1 67 (dk_at dksX12_adds_1 0 rfl rfl)
theorem dX12_adds_27 : decode cX12_adds 27 = .ok (.ifCond .ne 5, 3) := dk_154 0 5 (dk_at dksX12_adds_1 3 rfl rfl)
theorem dX12_adds_30 : decode cX12_adds 30 = .ok (.iconst 0, 1) := dk_3 (dk_at dksX12_adds_1 6 rfl rfl)
theorem dX12_adds_31 : decode cX12_adds 31 = .ok (.ireturn, 1) := dk_172 (dk_at dksX12_adds_1 7 rfl rfl)
theorem dX12_adds_32 : decode cX12_adds 32 = .ok (.aload_n 0, 1) := dk_42 (dk_at dksX12_adds_1 8 rfl rfl)
theorem dX12_adds_33 : decode cX12_adds 33 = .ok (.getfield 125, 3) := dk_180 0 125 (dk_at dksX12_adds_1 9 rfl rfl)
theorem dX12_adds_36 : decode cX12_adds 36 = .ok (.aload_n 0, 1) := dk_42 (dk_at dksX12_adds_1 12 rfl rfl)
theorem dX12_adds_37 : decode cX12_adds 37 = .ok (.getfield 427, 3) := dk_180 1 171 (dk_at dksX12_adds_1 13 rfl rfl)
theorem dX12_adds_40 : decode cX12_adds 40 = .ok (.iload_n 2, 1) := dk_28 (dk_at dksX12_adds_1 16 rfl rfl)
theorem dX12_adds_41 : decode cX12_adds 41 = .ok (.iastore, 1) := dk_79 (dk_at dksX12_adds_1 17 rfl rfl)
theorem dX12_adds_42 : decode cX12_adds 42 = .ok (.aload_n 0, 1) := dk_42 (dk_at dksX12_adds_1 18 rfl rfl)
theorem dX12_adds_43 : decode cX12_adds 43 = .ok (.getfield 128, 3) := dk_180 0 128 (dk_at dksX12_adds_1 19 rfl rfl)
theorem dX12_adds_46 : decode cX12_adds 46 = .ok (.aload_n 0, 1) := dk_42 (dk_at dksX12_adds_1 22 rfl rfl)
theorem dX12_adds_47 : decode cX12_adds 47 = .ok (.getfield 427, 3) := dk_180 1 171 (dk_at dksX12_adds_2 0 rfl rfl)
theorem dX12_adds_50 : decode cX12_adds 50 = .ok (.iload_n 3, 1) := dk_29 (dk_at dksX12_adds_2 3 rfl rfl)
theorem dX12_adds_51 : decode cX12_adds 51 = .ok (.iastore, 1) := dk_79 (dk_at dksX12_adds_2 4 rfl rfl)
theorem dX12_adds_52 : decode cX12_adds 52 = .ok (.aload_n 0, 1) := dk_42 (dk_at dksX12_adds_2 5 rfl rfl)
theorem dX12_adds_53 : decode cX12_adds 53 = .ok (.dup, 1) := dk_89 (dk_at dksX12_adds_2 6 rfl rfl)
theorem dX12_adds_54 : decode cX12_adds 54 = .ok (.getfield 427, 3) := dk_180 1 171 (dk_at dksX12_adds_2 7 rfl rfl)
theorem dX12_adds_57 : decode cX12_adds 57 = .ok (.iconst 1, 1) := dk_4 (dk_at dksX12_adds_2 10 rfl rfl)
theorem dX12_adds_58 : decode cX12_adds 58 = .ok (.iadd, 1) := dk_96 (dk_at dksX12_adds_2 11 rfl rfl)
theorem dX12_adds_59 : decode cX12_adds 59 = .ok (.putfield 427, 3) := dk_181 1 171 (dk_at dksX12_adds_2 12 rfl rfl)
theorem dX12_adds_62 : decode cX12_adds 62 = .ok (.iconst 1, 1) := dk_4 (dk_at dksX12_adds_2 15 rfl rfl)
theorem dX12_adds_63 : decode cX12_adds 63 = .ok (.ireturn, 1) := dk_172 (dk_at dksX12_adds_2 16 rfl rfl)
abbrev cX12_goesIn : ByteArray := prog_22_method_86_code
def yX12_goesIn : MethodName := ⟨RX12, "goesIn", "(I)Z"⟩
def dkwX12_goesIn_4 : List UInt8 := [180, 0, 131, 28, 46, 4, 96, 62, 167, 255, 178, 4, 172]
abbrev dktX12_goesIn_4 : List UInt8 := dkwX12_goesIn_4 ++ []
def dkwX12_goesIn_3 : List UInt8 := [167, 255, 210, 132, 2, 255, 28, 156, 0, 5, 3, 172, 42, 28, 42, 180, 0, 131, 28, 46, 182, 1, 177, 42]
abbrev dktX12_goesIn_3 : List UInt8 := dkwX12_goesIn_3 ++ dktX12_goesIn_4
def dkwX12_goesIn_2 : List UInt8 := [155, 0, 26, 42, 180, 0, 131, 28, 21, 4, 79, 42, 28, 21, 4, 182, 1, 177, 132, 2, 1, 3, 62]
abbrev dktX12_goesIn_2 : List UInt8 := dkwX12_goesIn_2 ++ dktX12_goesIn_3
def dkwX12_goesIn_1 : List UInt8 := [62, 28, 155, 0, 80, 28, 42, 180, 1, 171, 162, 0, 72, 42, 28, 29, 27, 182, 1, 174, 54, 4, 21, 4]
abbrev dktX12_goesIn_1 : List UInt8 := dkwX12_goesIn_1 ++ dktX12_goesIn_2
def dkwX12_goesIn_0 : List UInt8 := [3, 61, 28, 16, 24, 162, 0, 16, 42, 180, 0, 134, 28, 3, 79, 132, 2, 1, 167, 255, 240, 3, 61, 3]
abbrev dktX12_goesIn_0 : List UInt8 := dkwX12_goesIn_0 ++ dktX12_goesIn_1
theorem dksX12_goesIn_0 : cX12_goesIn.data.toList.drop 0 = dktX12_goesIn_0 := by decide +kernel
theorem dksX12_goesIn_1 : cX12_goesIn.data.toList.drop 24 = dktX12_goesIn_1 := dk_seg dksX12_goesIn_0 24 rfl rfl
theorem dksX12_goesIn_2 : cX12_goesIn.data.toList.drop 48 = dktX12_goesIn_2 := dk_seg dksX12_goesIn_1 24 rfl rfl
theorem dksX12_goesIn_3 : cX12_goesIn.data.toList.drop 71 = dktX12_goesIn_3 := dk_seg dksX12_goesIn_2 23 rfl rfl
theorem dksX12_goesIn_4 : cX12_goesIn.data.toList.drop 95 = dktX12_goesIn_4 := dk_seg dksX12_goesIn_3 24 rfl rfl
theorem dX12_goesIn_0 : decode cX12_goesIn 0 = .ok (.iconst 0, 1) := dk_3 (dk_at dksX12_goesIn_0 0 rfl rfl)
theorem dX12_goesIn_1 : decode cX12_goesIn 1 = .ok (.istore_n 2, 1) := dk_61 (dk_at dksX12_goesIn_0 1 rfl rfl)
theorem dX12_goesIn_2 : decode cX12_goesIn 2 = .ok (.iload_n 2, 1) := dk_28 (dk_at dksX12_goesIn_0 2 rfl rfl)
theorem dX12_goesIn_3 : decode cX12_goesIn 3 = .ok (.bipush 24, 2) := dk_16 24 (dk_at dksX12_goesIn_0 3 rfl rfl)
theorem dX12_goesIn_5 : decode cX12_goesIn 5 = .ok (.if_icmp .ge 16, 3) := dk_162 0 16 (dk_at dksX12_goesIn_0 5 rfl rfl)
theorem dX12_goesIn_8 : decode cX12_goesIn 8 = .ok (.aload_n 0, 1) := dk_42 (dk_at dksX12_goesIn_0 8 rfl rfl)
theorem dX12_goesIn_9 : decode cX12_goesIn 9 = .ok (.getfield 134, 3) := dk_180 0 134 (dk_at dksX12_goesIn_0 9 rfl rfl)
theorem dX12_goesIn_12 : decode cX12_goesIn 12 = .ok (.iload_n 2, 1) := dk_28 (dk_at dksX12_goesIn_0 12 rfl rfl)
theorem dX12_goesIn_13 : decode cX12_goesIn 13 = .ok (.iconst 0, 1) := dk_3 (dk_at dksX12_goesIn_0 13 rfl rfl)
theorem dX12_goesIn_14 : decode cX12_goesIn 14 = .ok (.iastore, 1) := dk_79 (dk_at dksX12_goesIn_0 14 rfl rfl)
theorem dX12_goesIn_15 : decode cX12_goesIn 15 = .ok (.iinc 2 1, 3) := dk_132 2 1 (dk_at dksX12_goesIn_0 15 rfl rfl)
theorem dX12_goesIn_18 : decode cX12_goesIn 18 = .ok (.goto (-16), 3) := dk_167 255 240 (dk_at dksX12_goesIn_0 18 rfl rfl)
theorem dX12_goesIn_21 : decode cX12_goesIn 21 = .ok (.iconst 0, 1) := dk_3 (dk_at dksX12_goesIn_0 21 rfl rfl)
theorem dX12_goesIn_22 : decode cX12_goesIn 22 = .ok (.istore_n 2, 1) := dk_61 (dk_at dksX12_goesIn_0 22 rfl rfl)
theorem dX12_goesIn_23 : decode cX12_goesIn 23 = .ok (.iconst 0, 1) := dk_3 (dk_at dksX12_goesIn_0 23 rfl rfl)
theorem dX12_goesIn_24 : decode cX12_goesIn 24 = .ok (.istore_n 3, 1) := dk_62 (dk_at dksX12_goesIn_1 0 rfl rfl)
theorem dX12_goesIn_25 : decode cX12_goesIn 25 = .ok (.iload_n 2, 1) := dk_28 (dk_at dksX12_goesIn_1 1 rfl rfl)
theorem dX12_goesIn_26 : decode cX12_goesIn 26 = .ok (.ifCond .lt 80, 3) := dk_155 0 80 (dk_at dksX12_goesIn_1 2 rfl rfl)
theorem dX12_goesIn_29 : decode cX12_goesIn 29 = .ok (.iload_n 2, 1) := dk_28 (dk_at dksX12_goesIn_1 5 rfl rfl)
theorem dX12_goesIn_30 : decode cX12_goesIn 30 = .ok (.aload_n 0, 1) := dk_42 (dk_at dksX12_goesIn_1 6 rfl rfl)
theorem dX12_goesIn_31 : decode cX12_goesIn 31 = .ok (.getfield 427, 3) := dk_180 1 171 (dk_at dksX12_goesIn_1 7 rfl rfl)
theorem dX12_goesIn_34 : decode cX12_goesIn 34 = .ok (.if_icmp .ge 72, 3) := dk_162 0 72 (dk_at dksX12_goesIn_1 10 rfl rfl)
theorem dX12_goesIn_37 : decode cX12_goesIn 37 = .ok (.aload_n 0, 1) := dk_42 (dk_at dksX12_goesIn_1 13 rfl rfl)
theorem dX12_goesIn_38 : decode cX12_goesIn 38 = .ok (.iload_n 2, 1) := dk_28 (dk_at dksX12_goesIn_1 14 rfl rfl)
theorem dX12_goesIn_39 : decode cX12_goesIn 39 = .ok (.iload_n 3, 1) := dk_29 (dk_at dksX12_goesIn_1 15 rfl rfl)
theorem dX12_goesIn_40 : decode cX12_goesIn 40 = .ok (.iload_n 1, 1) := dk_27 (dk_at dksX12_goesIn_1 16 rfl rfl)
theorem dX12_goesIn_41 : decode cX12_goesIn 41 = .ok (.invokevirtual 430, 3) := dk_182 1 174 (dk_at dksX12_goesIn_1 17 rfl rfl)
theorem dX12_goesIn_44 : decode cX12_goesIn 44 = .ok (.istore 4, 2) := dk_54 4 (dk_at dksX12_goesIn_1 20 rfl rfl)
theorem dX12_goesIn_46 : decode cX12_goesIn 46 = .ok (.iload 4, 2) := dk_21 4 (dk_at dksX12_goesIn_1 22 rfl rfl)
theorem dX12_goesIn_48 : decode cX12_goesIn 48 = .ok (.ifCond .lt 26, 3) := dk_155 0 26 (dk_at dksX12_goesIn_2 0 rfl rfl)
theorem dX12_goesIn_51 : decode cX12_goesIn 51 = .ok (.aload_n 0, 1) := dk_42 (dk_at dksX12_goesIn_2 3 rfl rfl)
theorem dX12_goesIn_52 : decode cX12_goesIn 52 = .ok (.getfield 131, 3) := dk_180 0 131 (dk_at dksX12_goesIn_2 4 rfl rfl)
theorem dX12_goesIn_55 : decode cX12_goesIn 55 = .ok (.iload_n 2, 1) := dk_28 (dk_at dksX12_goesIn_2 7 rfl rfl)
theorem dX12_goesIn_56 : decode cX12_goesIn 56 = .ok (.iload 4, 2) := dk_21 4 (dk_at dksX12_goesIn_2 8 rfl rfl)
theorem dX12_goesIn_58 : decode cX12_goesIn 58 = .ok (.iastore, 1) := dk_79 (dk_at dksX12_goesIn_2 10 rfl rfl)
theorem dX12_goesIn_59 : decode cX12_goesIn 59 = .ok (.aload_n 0, 1) := dk_42 (dk_at dksX12_goesIn_2 11 rfl rfl)
theorem dX12_goesIn_60 : decode cX12_goesIn 60 = .ok (.iload_n 2, 1) := dk_28 (dk_at dksX12_goesIn_2 12 rfl rfl)
theorem dX12_goesIn_61 : decode cX12_goesIn 61 = .ok (.iload 4, 2) := dk_21 4 (dk_at dksX12_goesIn_2 13 rfl rfl)
theorem dX12_goesIn_63 : decode cX12_goesIn 63 = .ok (.invokevirtual 433, 3) := dk_182 1 177 (dk_at dksX12_goesIn_2 15 rfl rfl)
theorem dX12_goesIn_66 : decode cX12_goesIn 66 = .ok (.iinc 2 1, 3) := dk_132 2 1 (dk_at dksX12_goesIn_2 18 rfl rfl)
theorem dX12_goesIn_69 : decode cX12_goesIn 69 = .ok (.iconst 0, 1) := dk_3 (dk_at dksX12_goesIn_2 21 rfl rfl)
theorem dX12_goesIn_70 : decode cX12_goesIn 70 = .ok (.istore_n 3, 1) := dk_62 (dk_at dksX12_goesIn_2 22 rfl rfl)
theorem dX12_goesIn_71 : decode cX12_goesIn 71 = .ok (.goto (-46), 3) := dk_167 255 210 (dk_at dksX12_goesIn_3 0 rfl rfl)
theorem dX12_goesIn_74 : decode cX12_goesIn 74 = .ok (.iinc 2 (-1), 3) := dk_132 2 255 (dk_at dksX12_goesIn_3 3 rfl rfl)
theorem dX12_goesIn_77 : decode cX12_goesIn 77 = .ok (.iload_n 2, 1) := dk_28 (dk_at dksX12_goesIn_3 6 rfl rfl)
theorem dX12_goesIn_78 : decode cX12_goesIn 78 = .ok (.ifCond .ge 5, 3) := dk_156 0 5 (dk_at dksX12_goesIn_3 7 rfl rfl)
theorem dX12_goesIn_81 : decode cX12_goesIn 81 = .ok (.iconst 0, 1) := dk_3 (dk_at dksX12_goesIn_3 10 rfl rfl)
theorem dX12_goesIn_82 : decode cX12_goesIn 82 = .ok (.ireturn, 1) := dk_172 (dk_at dksX12_goesIn_3 11 rfl rfl)
theorem dX12_goesIn_83 : decode cX12_goesIn 83 = .ok (.aload_n 0, 1) := dk_42 (dk_at dksX12_goesIn_3 12 rfl rfl)
theorem dX12_goesIn_84 : decode cX12_goesIn 84 = .ok (.iload_n 2, 1) := dk_28 (dk_at dksX12_goesIn_3 13 rfl rfl)
theorem dX12_goesIn_85 : decode cX12_goesIn 85 = .ok (.aload_n 0, 1) := dk_42 (dk_at dksX12_goesIn_3 14 rfl rfl)
theorem dX12_goesIn_86 : decode cX12_goesIn 86 = .ok (.getfield 131, 3) := dk_180 0 131 (dk_at dksX12_goesIn_3 15 rfl rfl)
theorem dX12_goesIn_89 : decode cX12_goesIn 89 = .ok (.iload_n 2, 1) := dk_28 (dk_at dksX12_goesIn_3 18 rfl rfl)
theorem dX12_goesIn_90 : decode cX12_goesIn 90 = .ok (.iaload, 1) := dk_46 (dk_at dksX12_goesIn_3 19 rfl rfl)
theorem dX12_goesIn_91 : decode cX12_goesIn 91 = .ok (.invokevirtual 433, 3) := dk_182 1 177 (dk_at dksX12_goesIn_3 20 rfl rfl)
theorem dX12_goesIn_94 : decode cX12_goesIn 94 = .ok (.aload_n 0, 1) := dk_42 (dk_at dksX12_goesIn_3 23 rfl rfl)
theorem dX12_goesIn_95 : decode cX12_goesIn 95 = .ok (.getfield 131, 3) := dk_180 0 131 (dk_at dksX12_goesIn_4 0 rfl rfl)
theorem dX12_goesIn_98 : decode cX12_goesIn 98 = .ok (.iload_n 2, 1) := dk_28 (dk_at dksX12_goesIn_4 3 rfl rfl)
theorem dX12_goesIn_99 : decode cX12_goesIn 99 = .ok (.iaload, 1) := dk_46 (dk_at dksX12_goesIn_4 4 rfl rfl)
theorem dX12_goesIn_100 : decode cX12_goesIn 100 = .ok (.iconst 1, 1) := dk_4 (dk_at dksX12_goesIn_4 5 rfl rfl)
theorem dX12_goesIn_101 : decode cX12_goesIn 101 = .ok (.iadd, 1) := dk_96 (dk_at dksX12_goesIn_4 6 rfl rfl)
theorem dX12_goesIn_102 : decode cX12_goesIn 102 = .ok (.istore_n 3, 1) := dk_62 (dk_at dksX12_goesIn_4 7 rfl rfl)
theorem dX12_goesIn_103 : decode cX12_goesIn 103 = .ok (.goto (-78), 3) := dk_167 255 178 (dk_at dksX12_goesIn_4 8 rfl rfl)
theorem dX12_goesIn_106 : decode cX12_goesIn 106 = .ok (.iconst 1, 1) := dk_4 (dk_at dksX12_goesIn_4 11 rfl rfl)
theorem dX12_goesIn_107 : decode cX12_goesIn 107 = .ok (.ireturn, 1) := dk_172 (dk_at dksX12_goesIn_4 12 rfl rfl)
abbrev cX12_nextPlace : ByteArray := prog_22_method_85_code
def yX12_nextPlace : MethodName := ⟨RX12, "nextPlace", "(III)I"⟩
def dkwX12_nextPlace_2 : List UInt8 := [153, 0, 6, 21, 4, 172, 132, 4, 1, 167, 255, 205, 2, 172]
abbrev dktX12_nextPlace_2 : List UInt8 := dkwX12_nextPlace_2 ++ []
def dkwX12_nextPlace_1 : List UInt8 := [16, 8, 112, 42, 180, 0, 125, 27, 46, 96, 16, 8, 163, 0, 16, 42, 27, 21, 4, 182, 1, 168]
abbrev dktX12_nextPlace_1 : List UInt8 := dkwX12_nextPlace_1 ++ dktX12_nextPlace_2
def dkwX12_nextPlace_0 : List UInt8 := [28, 54, 4, 21, 4, 16, 8, 29, 42, 180, 0, 128, 27, 46, 100, 4, 96, 104, 162, 0, 39, 21, 4]
abbrev dktX12_nextPlace_0 : List UInt8 := dkwX12_nextPlace_0 ++ dktX12_nextPlace_1
theorem dksX12_nextPlace_0 : cX12_nextPlace.data.toList.drop 0 = dktX12_nextPlace_0 := by decide +kernel
theorem dksX12_nextPlace_1 : cX12_nextPlace.data.toList.drop 23 = dktX12_nextPlace_1 := dk_seg dksX12_nextPlace_0 23 rfl rfl
theorem dksX12_nextPlace_2 : cX12_nextPlace.data.toList.drop 45 = dktX12_nextPlace_2 := dk_seg dksX12_nextPlace_1 22 rfl rfl
theorem dX12_nextPlace_0 : decode cX12_nextPlace 0 = .ok (.iload_n 2, 1) := dk_28 (dk_at dksX12_nextPlace_0 0 rfl rfl)
theorem dX12_nextPlace_1 : decode cX12_nextPlace 1 = .ok (.istore 4, 2) := dk_54 4 (dk_at dksX12_nextPlace_0 1 rfl rfl)
theorem dX12_nextPlace_3 : decode cX12_nextPlace 3 = .ok (.iload 4, 2) := dk_21 4 (dk_at dksX12_nextPlace_0 3 rfl rfl)
theorem dX12_nextPlace_5 : decode cX12_nextPlace 5 = .ok (.bipush 8, 2) := dk_16 8 (dk_at dksX12_nextPlace_0 5 rfl rfl)
theorem dX12_nextPlace_7 : decode cX12_nextPlace 7 = .ok (.iload_n 3, 1) := dk_29 (dk_at dksX12_nextPlace_0 7 rfl rfl)
theorem dX12_nextPlace_8 : decode cX12_nextPlace 8 = .ok (.aload_n 0, 1) := dk_42 (dk_at dksX12_nextPlace_0 8 rfl rfl)
theorem dX12_nextPlace_9 : decode cX12_nextPlace 9 = .ok (.getfield 128, 3) := dk_180 0 128 (dk_at dksX12_nextPlace_0 9 rfl rfl)
theorem dX12_nextPlace_12 : decode cX12_nextPlace 12 = .ok (.iload_n 1, 1) := dk_27 (dk_at dksX12_nextPlace_0 12 rfl rfl)
theorem dX12_nextPlace_13 : decode cX12_nextPlace 13 = .ok (.iaload, 1) := dk_46 (dk_at dksX12_nextPlace_0 13 rfl rfl)
theorem dX12_nextPlace_14 : decode cX12_nextPlace 14 = .ok (.isub, 1) := dk_100 (dk_at dksX12_nextPlace_0 14 rfl rfl)
theorem dX12_nextPlace_15 : decode cX12_nextPlace 15 = .ok (.iconst 1, 1) := dk_4 (dk_at dksX12_nextPlace_0 15 rfl rfl)
theorem dX12_nextPlace_16 : decode cX12_nextPlace 16 = .ok (.iadd, 1) := dk_96 (dk_at dksX12_nextPlace_0 16 rfl rfl)
theorem dX12_nextPlace_17 : decode cX12_nextPlace 17 = .ok (.imul, 1) := dk_104 (dk_at dksX12_nextPlace_0 17 rfl rfl)
theorem dX12_nextPlace_18 : decode cX12_nextPlace 18 = .ok (.if_icmp .ge 39, 3) := dk_162 0 39 (dk_at dksX12_nextPlace_0 18 rfl rfl)
theorem dX12_nextPlace_21 : decode cX12_nextPlace 21 = .ok (.iload 4, 2) := dk_21 4 (dk_at dksX12_nextPlace_0 21 rfl rfl)
theorem dX12_nextPlace_23 : decode cX12_nextPlace 23 = .ok (.bipush 8, 2) := dk_16 8 (dk_at dksX12_nextPlace_1 0 rfl rfl)
theorem dX12_nextPlace_25 : decode cX12_nextPlace 25 = .ok (.irem, 1) := dk_112 (dk_at dksX12_nextPlace_1 2 rfl rfl)
theorem dX12_nextPlace_26 : decode cX12_nextPlace 26 = .ok (.aload_n 0, 1) := dk_42 (dk_at dksX12_nextPlace_1 3 rfl rfl)
theorem dX12_nextPlace_27 : decode cX12_nextPlace 27 = .ok (.getfield 125, 3) := dk_180 0 125 (dk_at dksX12_nextPlace_1 4 rfl rfl)
theorem dX12_nextPlace_30 : decode cX12_nextPlace 30 = .ok (.iload_n 1, 1) := dk_27 (dk_at dksX12_nextPlace_1 7 rfl rfl)
theorem dX12_nextPlace_31 : decode cX12_nextPlace 31 = .ok (.iaload, 1) := dk_46 (dk_at dksX12_nextPlace_1 8 rfl rfl)
theorem dX12_nextPlace_32 : decode cX12_nextPlace 32 = .ok (.iadd, 1) := dk_96 (dk_at dksX12_nextPlace_1 9 rfl rfl)
theorem dX12_nextPlace_33 : decode cX12_nextPlace 33 = .ok (.bipush 8, 2) := dk_16 8 (dk_at dksX12_nextPlace_1 10 rfl rfl)
theorem dX12_nextPlace_35 : decode cX12_nextPlace 35 = .ok (.if_icmp .gt 16, 3) := dk_163 0 16 (dk_at dksX12_nextPlace_1 12 rfl rfl)
theorem dX12_nextPlace_38 : decode cX12_nextPlace 38 = .ok (.aload_n 0, 1) := dk_42 (dk_at dksX12_nextPlace_1 15 rfl rfl)
theorem dX12_nextPlace_39 : decode cX12_nextPlace 39 = .ok (.iload_n 1, 1) := dk_27 (dk_at dksX12_nextPlace_1 16 rfl rfl)
theorem dX12_nextPlace_40 : decode cX12_nextPlace 40 = .ok (.iload 4, 2) := dk_21 4 (dk_at dksX12_nextPlace_1 17 rfl rfl)
theorem dX12_nextPlace_42 : decode cX12_nextPlace 42 = .ok (.invokevirtual 424, 3) := dk_182 1 168 (dk_at dksX12_nextPlace_1 19 rfl rfl)
theorem dX12_nextPlace_45 : decode cX12_nextPlace 45 = .ok (.ifCond .eq 6, 3) := dk_153 0 6 (dk_at dksX12_nextPlace_2 0 rfl rfl)
theorem dX12_nextPlace_48 : decode cX12_nextPlace 48 = .ok (.iload 4, 2) := dk_21 4 (dk_at dksX12_nextPlace_2 3 rfl rfl)
theorem dX12_nextPlace_50 : decode cX12_nextPlace 50 = .ok (.ireturn, 1) := dk_172 (dk_at dksX12_nextPlace_2 5 rfl rfl)
theorem dX12_nextPlace_51 : decode cX12_nextPlace 51 = .ok (.iinc 4 1, 3) := dk_132 4 1 (dk_at dksX12_nextPlace_2 6 rfl rfl)
theorem dX12_nextPlace_54 : decode cX12_nextPlace 54 = .ok (.goto (-51), 3) := dk_167 255 205 (dk_at dksX12_nextPlace_2 9 rfl rfl)
theorem dX12_nextPlace_57 : decode cX12_nextPlace 57 = .ok (.iconst (-1), 1) := dk_2 (dk_at dksX12_nextPlace_2 12 rfl rfl)
theorem dX12_nextPlace_58 : decode cX12_nextPlace 58 = .ok (.ireturn, 1) := dk_172 (dk_at dksX12_nextPlace_2 13 rfl rfl)
abbrev cX12_isFree : ByteArray := prog_22_method_83_code
def yX12_isFree : MethodName := ⟨RX12, "isFree", "(II)Z"⟩
def dkwX12_isFree_2 : List UInt8 := [153, 0, 5, 3, 172, 132, 4, 1, 167, 255, 223, 4, 172]
abbrev dktX12_isFree_2 : List UInt8 := dkwX12_isFree_2 ++ []
def dkwX12_isFree_1 : List UInt8 := [28, 16, 8, 108, 42, 180, 0, 128, 27, 46, 96, 162, 0, 23, 42, 180, 0, 134, 21, 4, 46, 29, 126]
abbrev dktX12_isFree_1 : List UInt8 := dkwX12_isFree_1 ++ dktX12_isFree_2
def dkwX12_isFree_0 : List UInt8 := [4, 42, 180, 0, 125, 27, 46, 120, 4, 100, 28, 16, 8, 112, 120, 62, 28, 16, 8, 108, 54, 4, 21, 4]
abbrev dktX12_isFree_0 : List UInt8 := dkwX12_isFree_0 ++ dktX12_isFree_1
theorem dksX12_isFree_0 : cX12_isFree.data.toList.drop 0 = dktX12_isFree_0 := by decide +kernel
theorem dksX12_isFree_1 : cX12_isFree.data.toList.drop 24 = dktX12_isFree_1 := dk_seg dksX12_isFree_0 24 rfl rfl
theorem dksX12_isFree_2 : cX12_isFree.data.toList.drop 47 = dktX12_isFree_2 := dk_seg dksX12_isFree_1 23 rfl rfl
theorem dX12_isFree_0 : decode cX12_isFree 0 = .ok (.iconst 1, 1) := dk_4 (dk_at dksX12_isFree_0 0 rfl rfl)
theorem dX12_isFree_1 : decode cX12_isFree 1 = .ok (.aload_n 0, 1) := dk_42 (dk_at dksX12_isFree_0 1 rfl rfl)
theorem dX12_isFree_2 : decode cX12_isFree 2 = .ok (.getfield 125, 3) := dk_180 0 125 (dk_at dksX12_isFree_0 2 rfl rfl)
theorem dX12_isFree_5 : decode cX12_isFree 5 = .ok (.iload_n 1, 1) := dk_27 (dk_at dksX12_isFree_0 5 rfl rfl)
theorem dX12_isFree_6 : decode cX12_isFree 6 = .ok (.iaload, 1) := dk_46 (dk_at dksX12_isFree_0 6 rfl rfl)
theorem dX12_isFree_7 : decode cX12_isFree 7 = .ok (.ishl, 1) := dk_120 (dk_at dksX12_isFree_0 7 rfl rfl)
theorem dX12_isFree_8 : decode cX12_isFree 8 = .ok (.iconst 1, 1) := dk_4 (dk_at dksX12_isFree_0 8 rfl rfl)
theorem dX12_isFree_9 : decode cX12_isFree 9 = .ok (.isub, 1) := dk_100 (dk_at dksX12_isFree_0 9 rfl rfl)
theorem dX12_isFree_10 : decode cX12_isFree 10 = .ok (.iload_n 2, 1) := dk_28 (dk_at dksX12_isFree_0 10 rfl rfl)
theorem dX12_isFree_11 : decode cX12_isFree 11 = .ok (.bipush 8, 2) := dk_16 8 (dk_at dksX12_isFree_0 11 rfl rfl)
theorem dX12_isFree_13 : decode cX12_isFree 13 = .ok (.irem, 1) := dk_112 (dk_at dksX12_isFree_0 13 rfl rfl)
theorem dX12_isFree_14 : decode cX12_isFree 14 = .ok (.ishl, 1) := dk_120 (dk_at dksX12_isFree_0 14 rfl rfl)
theorem dX12_isFree_15 : decode cX12_isFree 15 = .ok (.istore_n 3, 1) := dk_62 (dk_at dksX12_isFree_0 15 rfl rfl)
theorem dX12_isFree_16 : decode cX12_isFree 16 = .ok (.iload_n 2, 1) := dk_28 (dk_at dksX12_isFree_0 16 rfl rfl)
theorem dX12_isFree_17 : decode cX12_isFree 17 = .ok (.bipush 8, 2) := dk_16 8 (dk_at dksX12_isFree_0 17 rfl rfl)
theorem dX12_isFree_19 : decode cX12_isFree 19 = .ok (.idiv, 1) := dk_108 (dk_at dksX12_isFree_0 19 rfl rfl)
theorem dX12_isFree_20 : decode cX12_isFree 20 = .ok (.istore 4, 2) := dk_54 4 (dk_at dksX12_isFree_0 20 rfl rfl)
theorem dX12_isFree_22 : decode cX12_isFree 22 = .ok (.iload 4, 2) := dk_21 4 (dk_at dksX12_isFree_0 22 rfl rfl)
theorem dX12_isFree_24 : decode cX12_isFree 24 = .ok (.iload_n 2, 1) := dk_28 (dk_at dksX12_isFree_1 0 rfl rfl)
theorem dX12_isFree_25 : decode cX12_isFree 25 = .ok (.bipush 8, 2) := dk_16 8 (dk_at dksX12_isFree_1 1 rfl rfl)
theorem dX12_isFree_27 : decode cX12_isFree 27 = .ok (.idiv, 1) := dk_108 (dk_at dksX12_isFree_1 3 rfl rfl)
theorem dX12_isFree_28 : decode cX12_isFree 28 = .ok (.aload_n 0, 1) := dk_42 (dk_at dksX12_isFree_1 4 rfl rfl)
theorem dX12_isFree_29 : decode cX12_isFree 29 = .ok (.getfield 128, 3) := dk_180 0 128 (dk_at dksX12_isFree_1 5 rfl rfl)
theorem dX12_isFree_32 : decode cX12_isFree 32 = .ok (.iload_n 1, 1) := dk_27 (dk_at dksX12_isFree_1 8 rfl rfl)
theorem dX12_isFree_33 : decode cX12_isFree 33 = .ok (.iaload, 1) := dk_46 (dk_at dksX12_isFree_1 9 rfl rfl)
theorem dX12_isFree_34 : decode cX12_isFree 34 = .ok (.iadd, 1) := dk_96 (dk_at dksX12_isFree_1 10 rfl rfl)
theorem dX12_isFree_35 : decode cX12_isFree 35 = .ok (.if_icmp .ge 23, 3) := dk_162 0 23 (dk_at dksX12_isFree_1 11 rfl rfl)
theorem dX12_isFree_38 : decode cX12_isFree 38 = .ok (.aload_n 0, 1) := dk_42 (dk_at dksX12_isFree_1 14 rfl rfl)
theorem dX12_isFree_39 : decode cX12_isFree 39 = .ok (.getfield 134, 3) := dk_180 0 134 (dk_at dksX12_isFree_1 15 rfl rfl)
theorem dX12_isFree_42 : decode cX12_isFree 42 = .ok (.iload 4, 2) := dk_21 4 (dk_at dksX12_isFree_1 18 rfl rfl)
theorem dX12_isFree_44 : decode cX12_isFree 44 = .ok (.iaload, 1) := dk_46 (dk_at dksX12_isFree_1 20 rfl rfl)
theorem dX12_isFree_45 : decode cX12_isFree 45 = .ok (.iload_n 3, 1) := dk_29 (dk_at dksX12_isFree_1 21 rfl rfl)
theorem dX12_isFree_46 : decode cX12_isFree 46 = .ok (.iand, 1) := dk_126 (dk_at dksX12_isFree_1 22 rfl rfl)
theorem dX12_isFree_47 : decode cX12_isFree 47 = .ok (.ifCond .eq 5, 3) := dk_153 0 5 (dk_at dksX12_isFree_2 0 rfl rfl)
theorem dX12_isFree_50 : decode cX12_isFree 50 = .ok (.iconst 0, 1) := dk_3 (dk_at dksX12_isFree_2 3 rfl rfl)
theorem dX12_isFree_51 : decode cX12_isFree 51 = .ok (.ireturn, 1) := dk_172 (dk_at dksX12_isFree_2 4 rfl rfl)
theorem dX12_isFree_52 : decode cX12_isFree 52 = .ok (.iinc 4 1, 3) := dk_132 4 1 (dk_at dksX12_isFree_2 5 rfl rfl)
theorem dX12_isFree_55 : decode cX12_isFree 55 = .ok (.goto (-33), 3) := dk_167 255 223 (dk_at dksX12_isFree_2 8 rfl rfl)
theorem dX12_isFree_58 : decode cX12_isFree 58 = .ok (.iconst 1, 1) := dk_4 (dk_at dksX12_isFree_2 11 rfl rfl)
theorem dX12_isFree_59 : decode cX12_isFree 59 = .ok (.ireturn, 1) := dk_172 (dk_at dksX12_isFree_2 12 rfl rfl)
abbrev cX12_flips : ByteArray := prog_22_method_84_code
def yX12_flips : MethodName := ⟨RX12, "flips", "(II)V"⟩
def dkwX12_flips_2 : List UInt8 := [79, 132, 4, 1, 167, 255, 226, 177]
abbrev dktX12_flips_2 : List UInt8 := dkwX12_flips_2 ++ []
def dkwX12_flips_1 : List UInt8 := [28, 16, 8, 108, 42, 180, 0, 128, 27, 46, 96, 162, 0, 20, 42, 180, 0, 134, 21, 4, 92, 46, 29, 130]
abbrev dktX12_flips_1 : List UInt8 := dkwX12_flips_1 ++ dktX12_flips_2
def dkwX12_flips_0 : List UInt8 := [4, 42, 180, 0, 125, 27, 46, 120, 4, 100, 28, 16, 8, 112, 120, 62, 28, 16, 8, 108, 54, 4, 21, 4]
abbrev dktX12_flips_0 : List UInt8 := dkwX12_flips_0 ++ dktX12_flips_1
theorem dksX12_flips_0 : cX12_flips.data.toList.drop 0 = dktX12_flips_0 := by decide +kernel
theorem dksX12_flips_1 : cX12_flips.data.toList.drop 24 = dktX12_flips_1 := dk_seg dksX12_flips_0 24 rfl rfl
theorem dksX12_flips_2 : cX12_flips.data.toList.drop 48 = dktX12_flips_2 := dk_seg dksX12_flips_1 24 rfl rfl
theorem dX12_flips_0 : decode cX12_flips 0 = .ok (.iconst 1, 1) := dk_4 (dk_at dksX12_flips_0 0 rfl rfl)
theorem dX12_flips_1 : decode cX12_flips 1 = .ok (.aload_n 0, 1) := dk_42 (dk_at dksX12_flips_0 1 rfl rfl)
theorem dX12_flips_2 : decode cX12_flips 2 = .ok (.getfield 125, 3) := dk_180 0 125 (dk_at dksX12_flips_0 2 rfl rfl)
theorem dX12_flips_5 : decode cX12_flips 5 = .ok (.iload_n 1, 1) := dk_27 (dk_at dksX12_flips_0 5 rfl rfl)
theorem dX12_flips_6 : decode cX12_flips 6 = .ok (.iaload, 1) := dk_46 (dk_at dksX12_flips_0 6 rfl rfl)
theorem dX12_flips_7 : decode cX12_flips 7 = .ok (.ishl, 1) := dk_120 (dk_at dksX12_flips_0 7 rfl rfl)
theorem dX12_flips_8 : decode cX12_flips 8 = .ok (.iconst 1, 1) := dk_4 (dk_at dksX12_flips_0 8 rfl rfl)
theorem dX12_flips_9 : decode cX12_flips 9 = .ok (.isub, 1) := dk_100 (dk_at dksX12_flips_0 9 rfl rfl)
theorem dX12_flips_10 : decode cX12_flips 10 = .ok (.iload_n 2, 1) := dk_28 (dk_at dksX12_flips_0 10 rfl rfl)
theorem dX12_flips_11 : decode cX12_flips 11 = .ok (.bipush 8, 2) := dk_16 8 (dk_at dksX12_flips_0 11 rfl rfl)
theorem dX12_flips_13 : decode cX12_flips 13 = .ok (.irem, 1) := dk_112 (dk_at dksX12_flips_0 13 rfl rfl)
theorem dX12_flips_14 : decode cX12_flips 14 = .ok (.ishl, 1) := dk_120 (dk_at dksX12_flips_0 14 rfl rfl)
theorem dX12_flips_15 : decode cX12_flips 15 = .ok (.istore_n 3, 1) := dk_62 (dk_at dksX12_flips_0 15 rfl rfl)
theorem dX12_flips_16 : decode cX12_flips 16 = .ok (.iload_n 2, 1) := dk_28 (dk_at dksX12_flips_0 16 rfl rfl)
theorem dX12_flips_17 : decode cX12_flips 17 = .ok (.bipush 8, 2) := dk_16 8 (dk_at dksX12_flips_0 17 rfl rfl)
theorem dX12_flips_19 : decode cX12_flips 19 = .ok (.idiv, 1) := dk_108 (dk_at dksX12_flips_0 19 rfl rfl)
theorem dX12_flips_20 : decode cX12_flips 20 = .ok (.istore 4, 2) := dk_54 4 (dk_at dksX12_flips_0 20 rfl rfl)
theorem dX12_flips_22 : decode cX12_flips 22 = .ok (.iload 4, 2) := dk_21 4 (dk_at dksX12_flips_0 22 rfl rfl)
theorem dX12_flips_24 : decode cX12_flips 24 = .ok (.iload_n 2, 1) := dk_28 (dk_at dksX12_flips_1 0 rfl rfl)
theorem dX12_flips_25 : decode cX12_flips 25 = .ok (.bipush 8, 2) := dk_16 8 (dk_at dksX12_flips_1 1 rfl rfl)
theorem dX12_flips_27 : decode cX12_flips 27 = .ok (.idiv, 1) := dk_108 (dk_at dksX12_flips_1 3 rfl rfl)
theorem dX12_flips_28 : decode cX12_flips 28 = .ok (.aload_n 0, 1) := dk_42 (dk_at dksX12_flips_1 4 rfl rfl)
theorem dX12_flips_29 : decode cX12_flips 29 = .ok (.getfield 128, 3) := dk_180 0 128 (dk_at dksX12_flips_1 5 rfl rfl)
theorem dX12_flips_32 : decode cX12_flips 32 = .ok (.iload_n 1, 1) := dk_27 (dk_at dksX12_flips_1 8 rfl rfl)
theorem dX12_flips_33 : decode cX12_flips 33 = .ok (.iaload, 1) := dk_46 (dk_at dksX12_flips_1 9 rfl rfl)
theorem dX12_flips_34 : decode cX12_flips 34 = .ok (.iadd, 1) := dk_96 (dk_at dksX12_flips_1 10 rfl rfl)
theorem dX12_flips_35 : decode cX12_flips 35 = .ok (.if_icmp .ge 20, 3) := dk_162 0 20 (dk_at dksX12_flips_1 11 rfl rfl)
theorem dX12_flips_38 : decode cX12_flips 38 = .ok (.aload_n 0, 1) := dk_42 (dk_at dksX12_flips_1 14 rfl rfl)
theorem dX12_flips_39 : decode cX12_flips 39 = .ok (.getfield 134, 3) := dk_180 0 134 (dk_at dksX12_flips_1 15 rfl rfl)
theorem dX12_flips_42 : decode cX12_flips 42 = .ok (.iload 4, 2) := dk_21 4 (dk_at dksX12_flips_1 18 rfl rfl)
theorem dX12_flips_44 : decode cX12_flips 44 = .ok (.dup2, 1) := dk_92 (dk_at dksX12_flips_1 20 rfl rfl)
theorem dX12_flips_45 : decode cX12_flips 45 = .ok (.iaload, 1) := dk_46 (dk_at dksX12_flips_1 21 rfl rfl)
theorem dX12_flips_46 : decode cX12_flips 46 = .ok (.iload_n 3, 1) := dk_29 (dk_at dksX12_flips_1 22 rfl rfl)
theorem dX12_flips_47 : decode cX12_flips 47 = .ok (.ixor, 1) := dk_130 (dk_at dksX12_flips_1 23 rfl rfl)
theorem dX12_flips_48 : decode cX12_flips 48 = .ok (.iastore, 1) := dk_79 (dk_at dksX12_flips_2 0 rfl rfl)
theorem dX12_flips_49 : decode cX12_flips 49 = .ok (.iinc 4 1, 3) := dk_132 4 1 (dk_at dksX12_flips_2 1 rfl rfl)
theorem dX12_flips_52 : decode cX12_flips 52 = .ok (.goto (-30), 3) := dk_167 255 226 (dk_at dksX12_flips_2 4 rfl rfl)
theorem dX12_flips_55 : decode cX12_flips 55 = .ok (.return_, 1) := dk_177 (dk_at dksX12_flips_2 7 rfl rfl)
abbrev cX12_then : ByteArray := prog_22_method_90_code
def yX12_then : MethodName := ⟨RX12, "then", "(III)I"⟩
def dkwX12_then_1 : List UInt8 := [182, 1, 146, 42, 180, 0, 119, 16, 8, 28, 104, 27, 96, 46, 172]
abbrev dktX12_then_1 : List UInt8 := dkwX12_then_1 ++ []
def dkwX12_then_0 : List UInt8 := [42, 27, 28, 182, 1, 87, 153, 0, 10, 29, 184, 1, 186, 154, 0, 5, 2, 172, 42, 182, 1, 125, 42, 29]
abbrev dktX12_then_0 : List UInt8 := dkwX12_then_0 ++ dktX12_then_1
theorem dksX12_then_0 : cX12_then.data.toList.drop 0 = dktX12_then_0 := by decide +kernel
theorem dksX12_then_1 : cX12_then.data.toList.drop 24 = dktX12_then_1 := dk_seg dksX12_then_0 24 rfl rfl
theorem dX12_then_0 : decode cX12_then 0 = .ok (.aload_n 0, 1) := dk_42 (dk_at dksX12_then_0 0 rfl rfl)
theorem dX12_then_1 : decode cX12_then 1 = .ok (.iload_n 1, 1) := dk_27 (dk_at dksX12_then_0 1 rfl rfl)
theorem dX12_then_2 : decode cX12_then 2 = .ok (.iload_n 2, 1) := dk_28 (dk_at dksX12_then_0 2 rfl rfl)
theorem dX12_then_3 : decode cX12_then 3 = .ok (.invokevirtual 343, 3) := dk_182 1 87 (dk_at dksX12_then_0 3 rfl rfl)
theorem dX12_then_6 : decode cX12_then 6 = .ok (.ifCond .eq 10, 3) := dk_153 0 10 (dk_at dksX12_then_0 6 rfl rfl)
theorem dX12_then_9 : decode cX12_then 9 = .ok (.iload_n 3, 1) := dk_29 (dk_at dksX12_then_0 9 rfl rfl)
theorem dX12_then_10 : decode cX12_then 10 = .ok (.invokestatic 442, 3) := dk_184 1 186 (dk_at dksX12_then_0 10 rfl rfl)
theorem dX12_then_13 : decode cX12_then 13 = .ok (.ifCond .ne 5, 3) := dk_154 0 5 (dk_at dksX12_then_0 13 rfl rfl)
theorem dX12_then_16 : decode cX12_then 16 = .ok (.iconst (-1), 1) := dk_2 (dk_at dksX12_then_0 16 rfl rfl)
theorem dX12_then_17 : decode cX12_then 17 = .ok (.ireturn, 1) := dk_172 (dk_at dksX12_then_0 17 rfl rfl)
theorem dX12_then_18 : decode cX12_then 18 = .ok (.aload_n 0, 1) := dk_42 (dk_at dksX12_then_0 18 rfl rfl)
theorem dX12_then_19 : decode cX12_then 19 = .ok (.invokevirtual 381, 3) := dk_182 1 125 (dk_at dksX12_then_0 19 rfl rfl)
theorem dX12_then_22 : decode cX12_then 22 = .ok (.aload_n 0, 1) := dk_42 (dk_at dksX12_then_0 22 rfl rfl)
theorem dX12_then_23 : decode cX12_then 23 = .ok (.iload_n 3, 1) := dk_29 (dk_at dksX12_then_0 23 rfl rfl)
theorem dX12_then_24 : decode cX12_then 24 = .ok (.invokevirtual 402, 3) := dk_182 1 146 (dk_at dksX12_then_1 0 rfl rfl)
theorem dX12_then_27 : decode cX12_then 27 = .ok (.aload_n 0, 1) := dk_42 (dk_at dksX12_then_1 3 rfl rfl)
theorem dX12_then_28 : decode cX12_then 28 = .ok (.getfield 119, 3) := dk_180 0 119 (dk_at dksX12_then_1 4 rfl rfl)
theorem dX12_then_31 : decode cX12_then 31 = .ok (.bipush 8, 2) := dk_16 8 (dk_at dksX12_then_1 7 rfl rfl)
theorem dX12_then_33 : decode cX12_then 33 = .ok (.iload_n 2, 1) := dk_28 (dk_at dksX12_then_1 9 rfl rfl)
theorem dX12_then_34 : decode cX12_then 34 = .ok (.imul, 1) := dk_104 (dk_at dksX12_then_1 10 rfl rfl)
theorem dX12_then_35 : decode cX12_then 35 = .ok (.iload_n 1, 1) := dk_27 (dk_at dksX12_then_1 11 rfl rfl)
theorem dX12_then_36 : decode cX12_then 36 = .ok (.iadd, 1) := dk_96 (dk_at dksX12_then_1 12 rfl rfl)
theorem dX12_then_37 : decode cX12_then 37 = .ok (.iaload, 1) := dk_46 (dk_at dksX12_then_1 13 rfl rfl)
theorem dX12_then_38 : decode cX12_then 38 = .ok (.ireturn, 1) := dk_172 (dk_at dksX12_then_1 14 rfl rfl)
abbrev cX12_isLong : ByteArray := prog_22_method_89_code
def yX12_isLong : MethodName := ⟨RX12, "isLong", "(I)Z"⟩
def dkwX12_isLong_0 : List UInt8 := [26, 3, 16, 60, 184, 1, 67, 172]
abbrev dktX12_isLong_0 : List UInt8 := dkwX12_isLong_0 ++ []
theorem dksX12_isLong_0 : cX12_isLong.data.toList.drop 0 = dktX12_isLong_0 := by decide +kernel
theorem dX12_isLong_0 : decode cX12_isLong 0 = .ok (.iload_n 0, 1) := dk_26 (dk_at dksX12_isLong_0 0 rfl rfl)
theorem dX12_isLong_1 : decode cX12_isLong 1 = .ok (.iconst 0, 1) := dk_3 (dk_at dksX12_isLong_0 1 rfl rfl)
theorem dX12_isLong_2 : decode cX12_isLong 2 = .ok (.bipush 60, 2) := dk_16 60 (dk_at dksX12_isLong_0 2 rfl rfl)
theorem dX12_isLong_4 : decode cX12_isLong 4 = .ok (.invokestatic 323, 3) := dk_184 1 67 (dk_at dksX12_isLong_0 4 rfl rfl)
theorem dX12_isLong_7 : decode cX12_isLong 7 = .ok (.ireturn, 1) := dk_172 (dk_at dksX12_isLong_0 7 rfl rfl)
abbrev cX12_all : ByteArray := prog_22_method_92_code
def yX12_all : MethodName := ⟨RX12, "all", "(II)I"⟩
def dkwX12_all_2 : List UInt8 := [104, 96, 182, 1, 189, 172]
abbrev dktX12_all_2 : List UInt8 := dkwX12_all_2 ++ []
def dkwX12_all_1 : List UInt8 := [182, 1, 146, 28, 5, 160, 0, 13, 42, 180, 0, 119, 16, 88, 46, 167, 0, 14, 42, 16, 76, 16, 6, 28]
abbrev dktX12_all_1 : List UInt8 := dkwX12_all_1 ++ dktX12_all_2
def dkwX12_all_0 : List UInt8 := [27, 184, 1, 186, 153, 0, 12, 28, 3, 5, 184, 1, 67, 154, 0, 5, 2, 172, 42, 182, 1, 125, 42, 27]
abbrev dktX12_all_0 : List UInt8 := dkwX12_all_0 ++ dktX12_all_1
theorem dksX12_all_0 : cX12_all.data.toList.drop 0 = dktX12_all_0 := by decide +kernel
theorem dksX12_all_1 : cX12_all.data.toList.drop 24 = dktX12_all_1 := dk_seg dksX12_all_0 24 rfl rfl
theorem dksX12_all_2 : cX12_all.data.toList.drop 48 = dktX12_all_2 := dk_seg dksX12_all_1 24 rfl rfl
theorem dX12_all_0 : decode cX12_all 0 = .ok (.iload_n 1, 1) := dk_27 (dk_at dksX12_all_0 0 rfl rfl)
theorem dX12_all_1 : decode cX12_all 1 = .ok (.invokestatic 442, 3) := dk_184 1 186 (dk_at dksX12_all_0 1 rfl rfl)
theorem dX12_all_4 : decode cX12_all 4 = .ok (.ifCond .eq 12, 3) := dk_153 0 12 (dk_at dksX12_all_0 4 rfl rfl)
theorem dX12_all_7 : decode cX12_all 7 = .ok (.iload_n 2, 1) := dk_28 (dk_at dksX12_all_0 7 rfl rfl)
theorem dX12_all_8 : decode cX12_all 8 = .ok (.iconst 0, 1) := dk_3 (dk_at dksX12_all_0 8 rfl rfl)
theorem dX12_all_9 : decode cX12_all 9 = .ok (.iconst 2, 1) := dk_5 (dk_at dksX12_all_0 9 rfl rfl)
theorem dX12_all_10 : decode cX12_all 10 = .ok (.invokestatic 323, 3) := dk_184 1 67 (dk_at dksX12_all_0 10 rfl rfl)
theorem dX12_all_13 : decode cX12_all 13 = .ok (.ifCond .ne 5, 3) := dk_154 0 5 (dk_at dksX12_all_0 13 rfl rfl)
theorem dX12_all_16 : decode cX12_all 16 = .ok (.iconst (-1), 1) := dk_2 (dk_at dksX12_all_0 16 rfl rfl)
theorem dX12_all_17 : decode cX12_all 17 = .ok (.ireturn, 1) := dk_172 (dk_at dksX12_all_0 17 rfl rfl)
theorem dX12_all_18 : decode cX12_all 18 = .ok (.aload_n 0, 1) := dk_42 (dk_at dksX12_all_0 18 rfl rfl)
theorem dX12_all_19 : decode cX12_all 19 = .ok (.invokevirtual 381, 3) := dk_182 1 125 (dk_at dksX12_all_0 19 rfl rfl)
theorem dX12_all_22 : decode cX12_all 22 = .ok (.aload_n 0, 1) := dk_42 (dk_at dksX12_all_0 22 rfl rfl)
theorem dX12_all_23 : decode cX12_all 23 = .ok (.iload_n 1, 1) := dk_27 (dk_at dksX12_all_0 23 rfl rfl)
theorem dX12_all_24 : decode cX12_all 24 = .ok (.invokevirtual 402, 3) := dk_182 1 146 (dk_at dksX12_all_1 0 rfl rfl)
theorem dX12_all_27 : decode cX12_all 27 = .ok (.iload_n 2, 1) := dk_28 (dk_at dksX12_all_1 3 rfl rfl)
theorem dX12_all_28 : decode cX12_all 28 = .ok (.iconst 2, 1) := dk_5 (dk_at dksX12_all_1 4 rfl rfl)
theorem dX12_all_29 : decode cX12_all 29 = .ok (.if_icmp .ne 13, 3) := dk_160 0 13 (dk_at dksX12_all_1 5 rfl rfl)
theorem dX12_all_32 : decode cX12_all 32 = .ok (.aload_n 0, 1) := dk_42 (dk_at dksX12_all_1 8 rfl rfl)
theorem dX12_all_33 : decode cX12_all 33 = .ok (.getfield 119, 3) := dk_180 0 119 (dk_at dksX12_all_1 9 rfl rfl)
theorem dX12_all_36 : decode cX12_all 36 = .ok (.bipush 88, 2) := dk_16 88 (dk_at dksX12_all_1 12 rfl rfl)
theorem dX12_all_38 : decode cX12_all 38 = .ok (.iaload, 1) := dk_46 (dk_at dksX12_all_1 14 rfl rfl)
theorem dX12_all_39 : decode cX12_all 39 = .ok (.goto 14, 3) := dk_167 0 14 (dk_at dksX12_all_1 15 rfl rfl)
theorem dX12_all_42 : decode cX12_all 42 = .ok (.aload_n 0, 1) := dk_42 (dk_at dksX12_all_1 18 rfl rfl)
theorem dX12_all_43 : decode cX12_all 43 = .ok (.bipush 76, 2) := dk_16 76 (dk_at dksX12_all_1 19 rfl rfl)
theorem dX12_all_45 : decode cX12_all 45 = .ok (.bipush 6, 2) := dk_16 6 (dk_at dksX12_all_1 21 rfl rfl)
theorem dX12_all_47 : decode cX12_all 47 = .ok (.iload_n 2, 1) := dk_28 (dk_at dksX12_all_1 23 rfl rfl)
theorem dX12_all_48 : decode cX12_all 48 = .ok (.imul, 1) := dk_104 (dk_at dksX12_all_2 0 rfl rfl)
theorem dX12_all_49 : decode cX12_all 49 = .ok (.iadd, 1) := dk_96 (dk_at dksX12_all_2 1 rfl rfl)
theorem dX12_all_50 : decode cX12_all 50 = .ok (.invokevirtual 445, 3) := dk_182 1 189 (dk_at dksX12_all_2 2 rfl rfl)
theorem dX12_all_53 : decode cX12_all 53 = .ok (.ireturn, 1) := dk_172 (dk_at dksX12_all_2 5 rfl rfl)
abbrev cX12_moreIn : ByteArray := prog_22_method_91_code
def yX12_moreIn : MethodName := ⟨RX12, "moreIn", "(I)I"⟩
def dkwX12_moreIn_1 : List UInt8 := [46, 100, 96, 61, 132, 3, 1, 167, 255, 229, 28, 172]
abbrev dktX12_moreIn_1 : List UInt8 := dkwX12_moreIn_1 ++ []
def dkwX12_moreIn_0 : List UInt8 := [3, 61, 27, 62, 29, 27, 16, 6, 96, 162, 0, 25, 28, 42, 180, 0, 119, 29, 46, 42, 180, 0, 116, 29]
abbrev dktX12_moreIn_0 : List UInt8 := dkwX12_moreIn_0 ++ dktX12_moreIn_1
theorem dksX12_moreIn_0 : cX12_moreIn.data.toList.drop 0 = dktX12_moreIn_0 := by decide +kernel
theorem dksX12_moreIn_1 : cX12_moreIn.data.toList.drop 24 = dktX12_moreIn_1 := dk_seg dksX12_moreIn_0 24 rfl rfl
theorem dX12_moreIn_0 : decode cX12_moreIn 0 = .ok (.iconst 0, 1) := dk_3 (dk_at dksX12_moreIn_0 0 rfl rfl)
theorem dX12_moreIn_1 : decode cX12_moreIn 1 = .ok (.istore_n 2, 1) := dk_61 (dk_at dksX12_moreIn_0 1 rfl rfl)
theorem dX12_moreIn_2 : decode cX12_moreIn 2 = .ok (.iload_n 1, 1) := dk_27 (dk_at dksX12_moreIn_0 2 rfl rfl)
theorem dX12_moreIn_3 : decode cX12_moreIn 3 = .ok (.istore_n 3, 1) := dk_62 (dk_at dksX12_moreIn_0 3 rfl rfl)
theorem dX12_moreIn_4 : decode cX12_moreIn 4 = .ok (.iload_n 3, 1) := dk_29 (dk_at dksX12_moreIn_0 4 rfl rfl)
theorem dX12_moreIn_5 : decode cX12_moreIn 5 = .ok (.iload_n 1, 1) := dk_27 (dk_at dksX12_moreIn_0 5 rfl rfl)
theorem dX12_moreIn_6 : decode cX12_moreIn 6 = .ok (.bipush 6, 2) := dk_16 6 (dk_at dksX12_moreIn_0 6 rfl rfl)
theorem dX12_moreIn_8 : decode cX12_moreIn 8 = .ok (.iadd, 1) := dk_96 (dk_at dksX12_moreIn_0 8 rfl rfl)
theorem dX12_moreIn_9 : decode cX12_moreIn 9 = .ok (.if_icmp .ge 25, 3) := dk_162 0 25 (dk_at dksX12_moreIn_0 9 rfl rfl)
theorem dX12_moreIn_12 : decode cX12_moreIn 12 = .ok (.iload_n 2, 1) := dk_28 (dk_at dksX12_moreIn_0 12 rfl rfl)
theorem dX12_moreIn_13 : decode cX12_moreIn 13 = .ok (.aload_n 0, 1) := dk_42 (dk_at dksX12_moreIn_0 13 rfl rfl)
theorem dX12_moreIn_14 : decode cX12_moreIn 14 = .ok (.getfield 119, 3) := dk_180 0 119 (dk_at dksX12_moreIn_0 14 rfl rfl)
theorem dX12_moreIn_17 : decode cX12_moreIn 17 = .ok (.iload_n 3, 1) := dk_29 (dk_at dksX12_moreIn_0 17 rfl rfl)
theorem dX12_moreIn_18 : decode cX12_moreIn 18 = .ok (.iaload, 1) := dk_46 (dk_at dksX12_moreIn_0 18 rfl rfl)
theorem dX12_moreIn_19 : decode cX12_moreIn 19 = .ok (.aload_n 0, 1) := dk_42 (dk_at dksX12_moreIn_0 19 rfl rfl)
theorem dX12_moreIn_20 : decode cX12_moreIn 20 = .ok (.getfield 116, 3) := dk_180 0 116 (dk_at dksX12_moreIn_0 20 rfl rfl)
theorem dX12_moreIn_23 : decode cX12_moreIn 23 = .ok (.iload_n 3, 1) := dk_29 (dk_at dksX12_moreIn_0 23 rfl rfl)
theorem dX12_moreIn_24 : decode cX12_moreIn 24 = .ok (.iaload, 1) := dk_46 (dk_at dksX12_moreIn_1 0 rfl rfl)
theorem dX12_moreIn_25 : decode cX12_moreIn 25 = .ok (.isub, 1) := dk_100 (dk_at dksX12_moreIn_1 1 rfl rfl)
theorem dX12_moreIn_26 : decode cX12_moreIn 26 = .ok (.iadd, 1) := dk_96 (dk_at dksX12_moreIn_1 2 rfl rfl)
theorem dX12_moreIn_27 : decode cX12_moreIn 27 = .ok (.istore_n 2, 1) := dk_61 (dk_at dksX12_moreIn_1 3 rfl rfl)
theorem dX12_moreIn_28 : decode cX12_moreIn 28 = .ok (.iinc 3 1, 3) := dk_132 3 1 (dk_at dksX12_moreIn_1 4 rfl rfl)
theorem dX12_moreIn_31 : decode cX12_moreIn 31 = .ok (.goto (-27), 3) := dk_167 255 229 (dk_at dksX12_moreIn_1 7 rfl rfl)
theorem dX12_moreIn_34 : decode cX12_moreIn 34 = .ok (.iload_n 2, 1) := dk_28 (dk_at dksX12_moreIn_1 10 rfl rfl)
theorem dX12_moreIn_35 : decode cX12_moreIn 35 = .ok (.ireturn, 1) := dk_172 (dk_at dksX12_moreIn_1 11 rfl rfl)
abbrev cX12_wettest : ByteArray := prog_22_method_93_code
def yX12_wettest : MethodName := ⟨RX12, "wettest", "(II)I"⟩
def dkwX12_wettest_4 : List UInt8 := [167, 0, 19, 28, 4, 160, 0, 10, 29, 16, 8, 112, 167, 0, 7, 29, 16, 8, 108, 172]
abbrev dktX12_wettest_4 : List UInt8 := dkwX12_wettest_4 ++ []
def dkwX12_wettest_3 : List UInt8 := [132, 4, 1, 167, 255, 214, 29, 156, 0, 6, 16, 254, 172, 28, 154, 0, 12, 42, 180, 0, 119, 29, 46]
abbrev dktX12_wettest_3 : List UInt8 := dkwX12_wettest_3 ++ dktX12_wettest_4
def dkwX12_wettest_2 : List UInt8 := [29, 155, 0, 19, 42, 180, 0, 119, 21, 4, 46, 42, 180, 0, 119, 29, 46, 164, 0, 6, 21, 4, 62]
abbrev dktX12_wettest_2 : List UInt8 := dkwX12_wettest_2 ++ dktX12_wettest_3
def dkwX12_wettest_1 : List UInt8 := [182, 1, 146, 2, 62, 3, 54, 4, 21, 4, 16, 48, 162, 0, 41, 42, 21, 4, 182, 1, 110, 153, 0, 26]
abbrev dktX12_wettest_1 : List UInt8 := dkwX12_wettest_1 ++ dktX12_wettest_2
def dkwX12_wettest_0 : List UInt8 := [27, 184, 1, 186, 153, 0, 12, 28, 3, 5, 184, 1, 67, 154, 0, 5, 2, 172, 42, 182, 1, 125, 42, 27]
abbrev dktX12_wettest_0 : List UInt8 := dkwX12_wettest_0 ++ dktX12_wettest_1
theorem dksX12_wettest_0 : cX12_wettest.data.toList.drop 0 = dktX12_wettest_0 := by decide +kernel
theorem dksX12_wettest_1 : cX12_wettest.data.toList.drop 24 = dktX12_wettest_1 := dk_seg dksX12_wettest_0 24 rfl rfl
theorem dksX12_wettest_2 : cX12_wettest.data.toList.drop 48 = dktX12_wettest_2 := dk_seg dksX12_wettest_1 24 rfl rfl
theorem dksX12_wettest_3 : cX12_wettest.data.toList.drop 71 = dktX12_wettest_3 := dk_seg dksX12_wettest_2 23 rfl rfl
theorem dksX12_wettest_4 : cX12_wettest.data.toList.drop 94 = dktX12_wettest_4 := dk_seg dksX12_wettest_3 23 rfl rfl
theorem dX12_wettest_0 : decode cX12_wettest 0 = .ok (.iload_n 1, 1) := dk_27 (dk_at dksX12_wettest_0 0 rfl rfl)
theorem dX12_wettest_1 : decode cX12_wettest 1 = .ok (.invokestatic 442, 3) := dk_184 1 186 (dk_at dksX12_wettest_0 1 rfl rfl)
theorem dX12_wettest_4 : decode cX12_wettest 4 = .ok (.ifCond .eq 12, 3) := dk_153 0 12 (dk_at dksX12_wettest_0 4 rfl rfl)
theorem dX12_wettest_7 : decode cX12_wettest 7 = .ok (.iload_n 2, 1) := dk_28 (dk_at dksX12_wettest_0 7 rfl rfl)
theorem dX12_wettest_8 : decode cX12_wettest 8 = .ok (.iconst 0, 1) := dk_3 (dk_at dksX12_wettest_0 8 rfl rfl)
theorem dX12_wettest_9 : decode cX12_wettest 9 = .ok (.iconst 2, 1) := dk_5 (dk_at dksX12_wettest_0 9 rfl rfl)
theorem dX12_wettest_10 : decode cX12_wettest 10 = .ok (.invokestatic 323, 3) := dk_184 1 67 (dk_at dksX12_wettest_0 10 rfl rfl)
theorem dX12_wettest_13 : decode cX12_wettest 13 = .ok (.ifCond .ne 5, 3) := dk_154 0 5 (dk_at dksX12_wettest_0 13 rfl rfl)
theorem dX12_wettest_16 : decode cX12_wettest 16 = .ok (.iconst (-1), 1) := dk_2 (dk_at dksX12_wettest_0 16 rfl rfl)
theorem dX12_wettest_17 : decode cX12_wettest 17 = .ok (.ireturn, 1) := dk_172 (dk_at dksX12_wettest_0 17 rfl rfl)
theorem dX12_wettest_18 : decode cX12_wettest 18 = .ok (.aload_n 0, 1) := dk_42 (dk_at dksX12_wettest_0 18 rfl rfl)
theorem dX12_wettest_19 : decode cX12_wettest 19 = .ok (.invokevirtual 381, 3) := dk_182 1 125 (dk_at dksX12_wettest_0 19 rfl rfl)
theorem dX12_wettest_22 : decode cX12_wettest 22 = .ok (.aload_n 0, 1) := dk_42 (dk_at dksX12_wettest_0 22 rfl rfl)
theorem dX12_wettest_23 : decode cX12_wettest 23 = .ok (.iload_n 1, 1) := dk_27 (dk_at dksX12_wettest_0 23 rfl rfl)
theorem dX12_wettest_24 : decode cX12_wettest 24 = .ok (.invokevirtual 402, 3) := dk_182 1 146 (dk_at dksX12_wettest_1 0 rfl rfl)
theorem dX12_wettest_27 : decode cX12_wettest 27 = .ok (.iconst (-1), 1) := dk_2 (dk_at dksX12_wettest_1 3 rfl rfl)
theorem dX12_wettest_28 : decode cX12_wettest 28 = .ok (.istore_n 3, 1) := dk_62 (dk_at dksX12_wettest_1 4 rfl rfl)
theorem dX12_wettest_29 : decode cX12_wettest 29 = .ok (.iconst 0, 1) := dk_3 (dk_at dksX12_wettest_1 5 rfl rfl)
theorem dX12_wettest_30 : decode cX12_wettest 30 = .ok (.istore 4, 2) := dk_54 4 (dk_at dksX12_wettest_1 6 rfl rfl)
theorem dX12_wettest_32 : decode cX12_wettest 32 = .ok (.iload 4, 2) := dk_21 4 (dk_at dksX12_wettest_1 8 rfl rfl)
theorem dX12_wettest_34 : decode cX12_wettest 34 = .ok (.bipush 48, 2) := dk_16 48 (dk_at dksX12_wettest_1 10 rfl rfl)
theorem dX12_wettest_36 : decode cX12_wettest 36 = .ok (.if_icmp .ge 41, 3) := dk_162 0 41 (dk_at dksX12_wettest_1 12 rfl rfl)
theorem dX12_wettest_39 : decode cX12_wettest 39 = .ok (.aload_n 0, 1) := dk_42 (dk_at dksX12_wettest_1 15 rfl rfl)
theorem dX12_wettest_40 : decode cX12_wettest 40 = .ok (.iload 4, 2) := dk_21 4 (dk_at dksX12_wettest_1 16 rfl rfl)
theorem dX12_wettest_42 : decode cX12_wettest 42 = .ok (.invokevirtual 366, 3) := dk_182 1 110 (dk_at dksX12_wettest_1 18 rfl rfl)
theorem dX12_wettest_45 : decode cX12_wettest 45 = .ok (.ifCond .eq 26, 3) := dk_153 0 26 (dk_at dksX12_wettest_1 21 rfl rfl)
theorem dX12_wettest_48 : decode cX12_wettest 48 = .ok (.iload_n 3, 1) := dk_29 (dk_at dksX12_wettest_2 0 rfl rfl)
theorem dX12_wettest_49 : decode cX12_wettest 49 = .ok (.ifCond .lt 19, 3) := dk_155 0 19 (dk_at dksX12_wettest_2 1 rfl rfl)
theorem dX12_wettest_52 : decode cX12_wettest 52 = .ok (.aload_n 0, 1) := dk_42 (dk_at dksX12_wettest_2 4 rfl rfl)
theorem dX12_wettest_53 : decode cX12_wettest 53 = .ok (.getfield 119, 3) := dk_180 0 119 (dk_at dksX12_wettest_2 5 rfl rfl)
theorem dX12_wettest_56 : decode cX12_wettest 56 = .ok (.iload 4, 2) := dk_21 4 (dk_at dksX12_wettest_2 8 rfl rfl)
theorem dX12_wettest_58 : decode cX12_wettest 58 = .ok (.iaload, 1) := dk_46 (dk_at dksX12_wettest_2 10 rfl rfl)
theorem dX12_wettest_59 : decode cX12_wettest 59 = .ok (.aload_n 0, 1) := dk_42 (dk_at dksX12_wettest_2 11 rfl rfl)
theorem dX12_wettest_60 : decode cX12_wettest 60 = .ok (.getfield 119, 3) := dk_180 0 119 (dk_at dksX12_wettest_2 12 rfl rfl)
theorem dX12_wettest_63 : decode cX12_wettest 63 = .ok (.iload_n 3, 1) := dk_29 (dk_at dksX12_wettest_2 15 rfl rfl)
theorem dX12_wettest_64 : decode cX12_wettest 64 = .ok (.iaload, 1) := dk_46 (dk_at dksX12_wettest_2 16 rfl rfl)
theorem dX12_wettest_65 : decode cX12_wettest 65 = .ok (.if_icmp .le 6, 3) := dk_164 0 6 (dk_at dksX12_wettest_2 17 rfl rfl)
theorem dX12_wettest_68 : decode cX12_wettest 68 = .ok (.iload 4, 2) := dk_21 4 (dk_at dksX12_wettest_2 20 rfl rfl)
theorem dX12_wettest_70 : decode cX12_wettest 70 = .ok (.istore_n 3, 1) := dk_62 (dk_at dksX12_wettest_2 22 rfl rfl)
theorem dX12_wettest_71 : decode cX12_wettest 71 = .ok (.iinc 4 1, 3) := dk_132 4 1 (dk_at dksX12_wettest_3 0 rfl rfl)
theorem dX12_wettest_74 : decode cX12_wettest 74 = .ok (.goto (-42), 3) := dk_167 255 214 (dk_at dksX12_wettest_3 3 rfl rfl)
theorem dX12_wettest_77 : decode cX12_wettest 77 = .ok (.iload_n 3, 1) := dk_29 (dk_at dksX12_wettest_3 6 rfl rfl)
theorem dX12_wettest_78 : decode cX12_wettest 78 = .ok (.ifCond .ge 6, 3) := dk_156 0 6 (dk_at dksX12_wettest_3 7 rfl rfl)
theorem dX12_wettest_81 : decode cX12_wettest 81 = .ok (.bipush (-2), 2) := dk_16 254 (dk_at dksX12_wettest_3 10 rfl rfl)
theorem dX12_wettest_83 : decode cX12_wettest 83 = .ok (.ireturn, 1) := dk_172 (dk_at dksX12_wettest_3 12 rfl rfl)
theorem dX12_wettest_84 : decode cX12_wettest 84 = .ok (.iload_n 2, 1) := dk_28 (dk_at dksX12_wettest_3 13 rfl rfl)
theorem dX12_wettest_85 : decode cX12_wettest 85 = .ok (.ifCond .ne 12, 3) := dk_154 0 12 (dk_at dksX12_wettest_3 14 rfl rfl)
theorem dX12_wettest_88 : decode cX12_wettest 88 = .ok (.aload_n 0, 1) := dk_42 (dk_at dksX12_wettest_3 17 rfl rfl)
theorem dX12_wettest_89 : decode cX12_wettest 89 = .ok (.getfield 119, 3) := dk_180 0 119 (dk_at dksX12_wettest_3 18 rfl rfl)
theorem dX12_wettest_92 : decode cX12_wettest 92 = .ok (.iload_n 3, 1) := dk_29 (dk_at dksX12_wettest_3 21 rfl rfl)
theorem dX12_wettest_93 : decode cX12_wettest 93 = .ok (.iaload, 1) := dk_46 (dk_at dksX12_wettest_3 22 rfl rfl)
theorem dX12_wettest_94 : decode cX12_wettest 94 = .ok (.goto 19, 3) := dk_167 0 19 (dk_at dksX12_wettest_4 0 rfl rfl)
theorem dX12_wettest_97 : decode cX12_wettest 97 = .ok (.iload_n 2, 1) := dk_28 (dk_at dksX12_wettest_4 3 rfl rfl)
theorem dX12_wettest_98 : decode cX12_wettest 98 = .ok (.iconst 1, 1) := dk_4 (dk_at dksX12_wettest_4 4 rfl rfl)
theorem dX12_wettest_99 : decode cX12_wettest 99 = .ok (.if_icmp .ne 10, 3) := dk_160 0 10 (dk_at dksX12_wettest_4 5 rfl rfl)
theorem dX12_wettest_102 : decode cX12_wettest 102 = .ok (.iload_n 3, 1) := dk_29 (dk_at dksX12_wettest_4 8 rfl rfl)
theorem dX12_wettest_103 : decode cX12_wettest 103 = .ok (.bipush 8, 2) := dk_16 8 (dk_at dksX12_wettest_4 9 rfl rfl)
theorem dX12_wettest_105 : decode cX12_wettest 105 = .ok (.irem, 1) := dk_112 (dk_at dksX12_wettest_4 11 rfl rfl)
theorem dX12_wettest_106 : decode cX12_wettest 106 = .ok (.goto 7, 3) := dk_167 0 7 (dk_at dksX12_wettest_4 12 rfl rfl)
theorem dX12_wettest_109 : decode cX12_wettest 109 = .ok (.iload_n 3, 1) := dk_29 (dk_at dksX12_wettest_4 15 rfl rfl)
theorem dX12_wettest_110 : decode cX12_wettest 110 = .ok (.bipush 8, 2) := dk_16 8 (dk_at dksX12_wettest_4 16 rfl rfl)
theorem dX12_wettest_112 : decode cX12_wettest 112 = .ok (.idiv, 1) := dk_108 (dk_at dksX12_wettest_4 18 rfl rfl)
theorem dX12_wettest_113 : decode cX12_wettest 113 = .ok (.ireturn, 1) := dk_172 (dk_at dksX12_wettest_4 19 rfl rfl)
abbrev cX12_dry : ByteArray := prog_22_method_94_code
def yX12_dry : MethodName := ⟨RX12, "dry", "(I)I"⟩
def dkwX12_dry_2 : List UInt8 := [132, 2, 1, 132, 3, 1, 167, 255, 227, 28, 172]
abbrev dktX12_dry_2 : List UInt8 := dkwX12_dry_2 ++ []
def dkwX12_dry_1 : List UInt8 := [16, 48, 162, 0, 29, 42, 29, 182, 1, 110, 153, 0, 15, 42, 180, 0, 119, 29, 46, 154, 0, 6]
abbrev dktX12_dry_1 : List UInt8 := dkwX12_dry_1 ++ dktX12_dry_2
def dkwX12_dry_0 : List UInt8 := [27, 184, 1, 186, 154, 0, 5, 2, 172, 42, 182, 1, 125, 42, 27, 182, 1, 146, 3, 61, 3, 62, 29]
abbrev dktX12_dry_0 : List UInt8 := dkwX12_dry_0 ++ dktX12_dry_1
theorem dksX12_dry_0 : cX12_dry.data.toList.drop 0 = dktX12_dry_0 := by decide +kernel
theorem dksX12_dry_1 : cX12_dry.data.toList.drop 23 = dktX12_dry_1 := dk_seg dksX12_dry_0 23 rfl rfl
theorem dksX12_dry_2 : cX12_dry.data.toList.drop 45 = dktX12_dry_2 := dk_seg dksX12_dry_1 22 rfl rfl
theorem dX12_dry_0 : decode cX12_dry 0 = .ok (.iload_n 1, 1) := dk_27 (dk_at dksX12_dry_0 0 rfl rfl)
theorem dX12_dry_1 : decode cX12_dry 1 = .ok (.invokestatic 442, 3) := dk_184 1 186 (dk_at dksX12_dry_0 1 rfl rfl)
theorem dX12_dry_4 : decode cX12_dry 4 = .ok (.ifCond .ne 5, 3) := dk_154 0 5 (dk_at dksX12_dry_0 4 rfl rfl)
theorem dX12_dry_7 : decode cX12_dry 7 = .ok (.iconst (-1), 1) := dk_2 (dk_at dksX12_dry_0 7 rfl rfl)
theorem dX12_dry_8 : decode cX12_dry 8 = .ok (.ireturn, 1) := dk_172 (dk_at dksX12_dry_0 8 rfl rfl)
theorem dX12_dry_9 : decode cX12_dry 9 = .ok (.aload_n 0, 1) := dk_42 (dk_at dksX12_dry_0 9 rfl rfl)
theorem dX12_dry_10 : decode cX12_dry 10 = .ok (.invokevirtual 381, 3) := dk_182 1 125 (dk_at dksX12_dry_0 10 rfl rfl)
theorem dX12_dry_13 : decode cX12_dry 13 = .ok (.aload_n 0, 1) := dk_42 (dk_at dksX12_dry_0 13 rfl rfl)
theorem dX12_dry_14 : decode cX12_dry 14 = .ok (.iload_n 1, 1) := dk_27 (dk_at dksX12_dry_0 14 rfl rfl)
theorem dX12_dry_15 : decode cX12_dry 15 = .ok (.invokevirtual 402, 3) := dk_182 1 146 (dk_at dksX12_dry_0 15 rfl rfl)
theorem dX12_dry_18 : decode cX12_dry 18 = .ok (.iconst 0, 1) := dk_3 (dk_at dksX12_dry_0 18 rfl rfl)
theorem dX12_dry_19 : decode cX12_dry 19 = .ok (.istore_n 2, 1) := dk_61 (dk_at dksX12_dry_0 19 rfl rfl)
theorem dX12_dry_20 : decode cX12_dry 20 = .ok (.iconst 0, 1) := dk_3 (dk_at dksX12_dry_0 20 rfl rfl)
theorem dX12_dry_21 : decode cX12_dry 21 = .ok (.istore_n 3, 1) := dk_62 (dk_at dksX12_dry_0 21 rfl rfl)
theorem dX12_dry_22 : decode cX12_dry 22 = .ok (.iload_n 3, 1) := dk_29 (dk_at dksX12_dry_0 22 rfl rfl)
theorem dX12_dry_23 : decode cX12_dry 23 = .ok (.bipush 48, 2) := dk_16 48 (dk_at dksX12_dry_1 0 rfl rfl)
theorem dX12_dry_25 : decode cX12_dry 25 = .ok (.if_icmp .ge 29, 3) := dk_162 0 29 (dk_at dksX12_dry_1 2 rfl rfl)
theorem dX12_dry_28 : decode cX12_dry 28 = .ok (.aload_n 0, 1) := dk_42 (dk_at dksX12_dry_1 5 rfl rfl)
theorem dX12_dry_29 : decode cX12_dry 29 = .ok (.iload_n 3, 1) := dk_29 (dk_at dksX12_dry_1 6 rfl rfl)
theorem dX12_dry_30 : decode cX12_dry 30 = .ok (.invokevirtual 366, 3) := dk_182 1 110 (dk_at dksX12_dry_1 7 rfl rfl)
theorem dX12_dry_33 : decode cX12_dry 33 = .ok (.ifCond .eq 15, 3) := dk_153 0 15 (dk_at dksX12_dry_1 10 rfl rfl)
theorem dX12_dry_36 : decode cX12_dry 36 = .ok (.aload_n 0, 1) := dk_42 (dk_at dksX12_dry_1 13 rfl rfl)
theorem dX12_dry_37 : decode cX12_dry 37 = .ok (.getfield 119, 3) := dk_180 0 119 (dk_at dksX12_dry_1 14 rfl rfl)
theorem dX12_dry_40 : decode cX12_dry 40 = .ok (.iload_n 3, 1) := dk_29 (dk_at dksX12_dry_1 17 rfl rfl)
theorem dX12_dry_41 : decode cX12_dry 41 = .ok (.iaload, 1) := dk_46 (dk_at dksX12_dry_1 18 rfl rfl)
theorem dX12_dry_42 : decode cX12_dry 42 = .ok (.ifCond .ne 6, 3) := dk_154 0 6 (dk_at dksX12_dry_1 19 rfl rfl)
theorem dX12_dry_45 : decode cX12_dry 45 = .ok (.iinc 2 1, 3) := dk_132 2 1 (dk_at dksX12_dry_2 0 rfl rfl)
theorem dX12_dry_48 : decode cX12_dry 48 = .ok (.iinc 3 1, 3) := dk_132 3 1 (dk_at dksX12_dry_2 3 rfl rfl)
theorem dX12_dry_51 : decode cX12_dry 51 = .ok (.goto (-29), 3) := dk_167 255 227 (dk_at dksX12_dry_2 6 rfl rfl)
theorem dX12_dry_54 : decode cX12_dry 54 = .ok (.iload_n 2, 1) := dk_28 (dk_at dksX12_dry_2 9 rfl rfl)
theorem dX12_dry_55 : decode cX12_dry 55 = .ok (.ireturn, 1) := dk_172 (dk_at dksX12_dry_2 10 rfl rfl)
abbrev cX12_emptyBy : ByteArray := prog_22_method_95_code
def yX12_emptyBy : MethodName := ⟨RX12, "emptyBy", "()I"⟩
def dkwX12_emptyBy_1 : List UInt8 := [172, 42, 182, 1, 122, 132, 1, 1, 167, 255, 230, 16, 254, 172]
abbrev dktX12_emptyBy_1 : List UInt8 := dkwX12_emptyBy_1 ++ []
def dkwX12_emptyBy_0 : List UInt8 := [42, 182, 1, 125, 3, 60, 27, 17, 0, 200, 163, 0, 25, 42, 180, 0, 119, 16, 88, 46, 154, 0, 5, 27]
abbrev dktX12_emptyBy_0 : List UInt8 := dkwX12_emptyBy_0 ++ dktX12_emptyBy_1
theorem dksX12_emptyBy_0 : cX12_emptyBy.data.toList.drop 0 = dktX12_emptyBy_0 := by decide +kernel
theorem dksX12_emptyBy_1 : cX12_emptyBy.data.toList.drop 24 = dktX12_emptyBy_1 := dk_seg dksX12_emptyBy_0 24 rfl rfl
theorem dX12_emptyBy_0 : decode cX12_emptyBy 0 = .ok (.aload_n 0, 1) := dk_42 (dk_at dksX12_emptyBy_0 0 rfl rfl)
theorem dX12_emptyBy_1 : decode cX12_emptyBy 1 = .ok (.invokevirtual 381, 3) := dk_182 1 125 (dk_at dksX12_emptyBy_0 1 rfl rfl)
theorem dX12_emptyBy_4 : decode cX12_emptyBy 4 = .ok (.iconst 0, 1) := dk_3 (dk_at dksX12_emptyBy_0 4 rfl rfl)
theorem dX12_emptyBy_5 : decode cX12_emptyBy 5 = .ok (.istore_n 1, 1) := dk_60 (dk_at dksX12_emptyBy_0 5 rfl rfl)
theorem dX12_emptyBy_6 : decode cX12_emptyBy 6 = .ok (.iload_n 1, 1) := dk_27 (dk_at dksX12_emptyBy_0 6 rfl rfl)
theorem dX12_emptyBy_7 : decode cX12_emptyBy 7 = .ok (.sipush 200, 3) := dk_17 0 200 (dk_at dksX12_emptyBy_0 7 rfl rfl)
theorem dX12_emptyBy_10 : decode cX12_emptyBy 10 = .ok (.if_icmp .gt 25, 3) := dk_163 0 25 (dk_at dksX12_emptyBy_0 10 rfl rfl)
theorem dX12_emptyBy_13 : decode cX12_emptyBy 13 = .ok (.aload_n 0, 1) := dk_42 (dk_at dksX12_emptyBy_0 13 rfl rfl)
theorem dX12_emptyBy_14 : decode cX12_emptyBy 14 = .ok (.getfield 119, 3) := dk_180 0 119 (dk_at dksX12_emptyBy_0 14 rfl rfl)
theorem dX12_emptyBy_17 : decode cX12_emptyBy 17 = .ok (.bipush 88, 2) := dk_16 88 (dk_at dksX12_emptyBy_0 17 rfl rfl)
theorem dX12_emptyBy_19 : decode cX12_emptyBy 19 = .ok (.iaload, 1) := dk_46 (dk_at dksX12_emptyBy_0 19 rfl rfl)
theorem dX12_emptyBy_20 : decode cX12_emptyBy 20 = .ok (.ifCond .ne 5, 3) := dk_154 0 5 (dk_at dksX12_emptyBy_0 20 rfl rfl)
theorem dX12_emptyBy_23 : decode cX12_emptyBy 23 = .ok (.iload_n 1, 1) := dk_27 (dk_at dksX12_emptyBy_0 23 rfl rfl)
theorem dX12_emptyBy_24 : decode cX12_emptyBy 24 = .ok (.ireturn, 1) := dk_172 (dk_at dksX12_emptyBy_1 0 rfl rfl)
theorem dX12_emptyBy_25 : decode cX12_emptyBy 25 = .ok (.aload_n 0, 1) := dk_42 (dk_at dksX12_emptyBy_1 1 rfl rfl)
theorem dX12_emptyBy_26 : decode cX12_emptyBy 26 = .ok (.invokevirtual 378, 3) := dk_182 1 122 (dk_at dksX12_emptyBy_1 2 rfl rfl)
theorem dX12_emptyBy_29 : decode cX12_emptyBy 29 = .ok (.iinc 1 1, 3) := dk_132 1 1 (dk_at dksX12_emptyBy_1 5 rfl rfl)
theorem dX12_emptyBy_32 : decode cX12_emptyBy 32 = .ok (.goto (-26), 3) := dk_167 255 230 (dk_at dksX12_emptyBy_1 8 rfl rfl)
theorem dX12_emptyBy_35 : decode cX12_emptyBy 35 = .ok (.bipush (-2), 2) := dk_16 254 (dk_at dksX12_emptyBy_1 11 rfl rfl)
theorem dX12_emptyBy_37 : decode cX12_emptyBy 37 = .ok (.ireturn, 1) := dk_172 (dk_at dksX12_emptyBy_1 13 rfl rfl)
abbrev cX12_serve : ByteArray := prog_22_method_100_code
def yX12_serve : MethodName := ⟨RX12, "serve", "(III)I"⟩
def dkwX12_serve_6 : List UInt8 := [100, 29, 100, 184, 1, 192, 108, 16, 6, 112, 172]
abbrev dktX12_serve_6 : List UInt8 := dkwX12_serve_6 ++ []
def dkwX12_serve_5 : List UInt8 := [160, 0, 10, 42, 180, 1, 205, 167, 0, 27, 42, 180, 1, 199, 42, 180, 0, 61, 42, 180, 0, 239, 46, 4]
abbrev dktX12_serve_5 : List UInt8 := dkwX12_serve_5 ++ dktX12_serve_6
def dkwX12_serve_4 : List UInt8 := [180, 0, 52, 42, 180, 0, 239, 46, 164, 0, 6, 16, 254, 172, 42, 27, 28, 182, 1, 208, 29, 2]
abbrev dktX12_serve_4 : List UInt8 := dkwX12_serve_4 ++ dktX12_serve_5
def dkwX12_serve_3 : List UInt8 := [46, 27, 162, 0, 5, 2, 172, 132, 4, 1, 167, 255, 219, 42, 180, 0, 61, 42, 180, 0, 239, 46, 42]
abbrev dktX12_serve_3 : List UInt8 := dkwX12_serve_3 ++ dktX12_serve_4
def dkwX12_serve_2 : List UInt8 := [180, 0, 61, 42, 180, 0, 239, 46, 162, 0, 29, 42, 180, 0, 64, 7, 42, 180, 0, 239, 104, 21, 4, 96]
abbrev dktX12_serve_2 : List UInt8 := dkwX12_serve_2 ++ dktX12_serve_3
def dkwX12_serve_1 : List UInt8 := [180, 0, 61, 42, 180, 0, 239, 46, 4, 100, 184, 1, 67, 154, 0, 5, 2, 172, 3, 54, 4, 21, 4, 42]
abbrev dktX12_serve_1 : List UInt8 := dkwX12_serve_1 ++ dktX12_serve_2
def dkwX12_serve_0 : List UInt8 := [27, 4, 16, 8, 184, 1, 67, 153, 0, 32, 28, 4, 16, 6, 184, 1, 67, 153, 0, 22, 29, 2, 42]
abbrev dktX12_serve_0 : List UInt8 := dkwX12_serve_0 ++ dktX12_serve_1
theorem dksX12_serve_0 : cX12_serve.data.toList.drop 0 = dktX12_serve_0 := by decide +kernel
theorem dksX12_serve_1 : cX12_serve.data.toList.drop 23 = dktX12_serve_1 := dk_seg dksX12_serve_0 23 rfl rfl
theorem dksX12_serve_2 : cX12_serve.data.toList.drop 47 = dktX12_serve_2 := dk_seg dksX12_serve_1 24 rfl rfl
theorem dksX12_serve_3 : cX12_serve.data.toList.drop 71 = dktX12_serve_3 := dk_seg dksX12_serve_2 24 rfl rfl
theorem dksX12_serve_4 : cX12_serve.data.toList.drop 94 = dktX12_serve_4 := dk_seg dksX12_serve_3 23 rfl rfl
theorem dksX12_serve_5 : cX12_serve.data.toList.drop 116 = dktX12_serve_5 := dk_seg dksX12_serve_4 22 rfl rfl
theorem dksX12_serve_6 : cX12_serve.data.toList.drop 140 = dktX12_serve_6 := dk_seg dksX12_serve_5 24 rfl rfl
theorem dX12_serve_0 : decode cX12_serve 0 = .ok (.iload_n 1, 1) := dk_27 (dk_at dksX12_serve_0 0 rfl rfl)
theorem dX12_serve_1 : decode cX12_serve 1 = .ok (.iconst 1, 1) := dk_4 (dk_at dksX12_serve_0 1 rfl rfl)
theorem dX12_serve_2 : decode cX12_serve 2 = .ok (.bipush 8, 2) := dk_16 8 (dk_at dksX12_serve_0 2 rfl rfl)
theorem dX12_serve_4 : decode cX12_serve 4 = .ok (.invokestatic 323, 3) := dk_184 1 67 (dk_at dksX12_serve_0 4 rfl rfl)
theorem dX12_serve_7 : decode cX12_serve 7 = .ok (.ifCond .eq 32, 3) := dk_153 0 32 (dk_at dksX12_serve_0 7 rfl rfl)
theorem dX12_serve_10 : decode cX12_serve 10 = .ok (.iload_n 2, 1) := dk_28 (dk_at dksX12_serve_0 10 rfl rfl)
theorem dX12_serve_11 : decode cX12_serve 11 = .ok (.iconst 1, 1) := dk_4 (dk_at dksX12_serve_0 11 rfl rfl)
theorem dX12_serve_12 : decode cX12_serve 12 = .ok (.bipush 6, 2) := dk_16 6 (dk_at dksX12_serve_0 12 rfl rfl)
theorem dX12_serve_14 : decode cX12_serve 14 = .ok (.invokestatic 323, 3) := dk_184 1 67 (dk_at dksX12_serve_0 14 rfl rfl)
theorem dX12_serve_17 : decode cX12_serve 17 = .ok (.ifCond .eq 22, 3) := dk_153 0 22 (dk_at dksX12_serve_0 17 rfl rfl)
theorem dX12_serve_20 : decode cX12_serve 20 = .ok (.iload_n 3, 1) := dk_29 (dk_at dksX12_serve_0 20 rfl rfl)
theorem dX12_serve_21 : decode cX12_serve 21 = .ok (.iconst (-1), 1) := dk_2 (dk_at dksX12_serve_0 21 rfl rfl)
theorem dX12_serve_22 : decode cX12_serve 22 = .ok (.aload_n 0, 1) := dk_42 (dk_at dksX12_serve_0 22 rfl rfl)
theorem dX12_serve_23 : decode cX12_serve 23 = .ok (.getfield 61, 3) := dk_180 0 61 (dk_at dksX12_serve_1 0 rfl rfl)
theorem dX12_serve_26 : decode cX12_serve 26 = .ok (.aload_n 0, 1) := dk_42 (dk_at dksX12_serve_1 3 rfl rfl)
theorem dX12_serve_27 : decode cX12_serve 27 = .ok (.getfield 239, 3) := dk_180 0 239 (dk_at dksX12_serve_1 4 rfl rfl)
theorem dX12_serve_30 : decode cX12_serve 30 = .ok (.iaload, 1) := dk_46 (dk_at dksX12_serve_1 7 rfl rfl)
theorem dX12_serve_31 : decode cX12_serve 31 = .ok (.iconst 1, 1) := dk_4 (dk_at dksX12_serve_1 8 rfl rfl)
theorem dX12_serve_32 : decode cX12_serve 32 = .ok (.isub, 1) := dk_100 (dk_at dksX12_serve_1 9 rfl rfl)
theorem dX12_serve_33 : decode cX12_serve 33 = .ok (.invokestatic 323, 3) := dk_184 1 67 (dk_at dksX12_serve_1 10 rfl rfl)
theorem dX12_serve_36 : decode cX12_serve 36 = .ok (.ifCond .ne 5, 3) := dk_154 0 5 (dk_at dksX12_serve_1 13 rfl rfl)
theorem dX12_serve_39 : decode cX12_serve 39 = .ok (.iconst (-1), 1) := dk_2 (dk_at dksX12_serve_1 16 rfl rfl)
theorem dX12_serve_40 : decode cX12_serve 40 = .ok (.ireturn, 1) := dk_172 (dk_at dksX12_serve_1 17 rfl rfl)
theorem dX12_serve_41 : decode cX12_serve 41 = .ok (.iconst 0, 1) := dk_3 (dk_at dksX12_serve_1 18 rfl rfl)
theorem dX12_serve_42 : decode cX12_serve 42 = .ok (.istore 4, 2) := dk_54 4 (dk_at dksX12_serve_1 19 rfl rfl)
theorem dX12_serve_44 : decode cX12_serve 44 = .ok (.iload 4, 2) := dk_21 4 (dk_at dksX12_serve_1 21 rfl rfl)
theorem dX12_serve_46 : decode cX12_serve 46 = .ok (.aload_n 0, 1) := dk_42 (dk_at dksX12_serve_1 23 rfl rfl)
theorem dX12_serve_47 : decode cX12_serve 47 = .ok (.getfield 61, 3) := dk_180 0 61 (dk_at dksX12_serve_2 0 rfl rfl)
theorem dX12_serve_50 : decode cX12_serve 50 = .ok (.aload_n 0, 1) := dk_42 (dk_at dksX12_serve_2 3 rfl rfl)
theorem dX12_serve_51 : decode cX12_serve 51 = .ok (.getfield 239, 3) := dk_180 0 239 (dk_at dksX12_serve_2 4 rfl rfl)
theorem dX12_serve_54 : decode cX12_serve 54 = .ok (.iaload, 1) := dk_46 (dk_at dksX12_serve_2 7 rfl rfl)
theorem dX12_serve_55 : decode cX12_serve 55 = .ok (.if_icmp .ge 29, 3) := dk_162 0 29 (dk_at dksX12_serve_2 8 rfl rfl)
theorem dX12_serve_58 : decode cX12_serve 58 = .ok (.aload_n 0, 1) := dk_42 (dk_at dksX12_serve_2 11 rfl rfl)
theorem dX12_serve_59 : decode cX12_serve 59 = .ok (.getfield 64, 3) := dk_180 0 64 (dk_at dksX12_serve_2 12 rfl rfl)
theorem dX12_serve_62 : decode cX12_serve 62 = .ok (.iconst 4, 1) := dk_7 (dk_at dksX12_serve_2 15 rfl rfl)
theorem dX12_serve_63 : decode cX12_serve 63 = .ok (.aload_n 0, 1) := dk_42 (dk_at dksX12_serve_2 16 rfl rfl)
theorem dX12_serve_64 : decode cX12_serve 64 = .ok (.getfield 239, 3) := dk_180 0 239 (dk_at dksX12_serve_2 17 rfl rfl)
theorem dX12_serve_67 : decode cX12_serve 67 = .ok (.imul, 1) := dk_104 (dk_at dksX12_serve_2 20 rfl rfl)
theorem dX12_serve_68 : decode cX12_serve 68 = .ok (.iload 4, 2) := dk_21 4 (dk_at dksX12_serve_2 21 rfl rfl)
theorem dX12_serve_70 : decode cX12_serve 70 = .ok (.iadd, 1) := dk_96 (dk_at dksX12_serve_2 23 rfl rfl)
theorem dX12_serve_71 : decode cX12_serve 71 = .ok (.iaload, 1) := dk_46 (dk_at dksX12_serve_3 0 rfl rfl)
theorem dX12_serve_72 : decode cX12_serve 72 = .ok (.iload_n 1, 1) := dk_27 (dk_at dksX12_serve_3 1 rfl rfl)
theorem dX12_serve_73 : decode cX12_serve 73 = .ok (.if_icmp .ge 5, 3) := dk_162 0 5 (dk_at dksX12_serve_3 2 rfl rfl)
theorem dX12_serve_76 : decode cX12_serve 76 = .ok (.iconst (-1), 1) := dk_2 (dk_at dksX12_serve_3 5 rfl rfl)
theorem dX12_serve_77 : decode cX12_serve 77 = .ok (.ireturn, 1) := dk_172 (dk_at dksX12_serve_3 6 rfl rfl)
theorem dX12_serve_78 : decode cX12_serve 78 = .ok (.iinc 4 1, 3) := dk_132 4 1 (dk_at dksX12_serve_3 7 rfl rfl)
theorem dX12_serve_81 : decode cX12_serve 81 = .ok (.goto (-37), 3) := dk_167 255 219 (dk_at dksX12_serve_3 10 rfl rfl)
theorem dX12_serve_84 : decode cX12_serve 84 = .ok (.aload_n 0, 1) := dk_42 (dk_at dksX12_serve_3 13 rfl rfl)
theorem dX12_serve_85 : decode cX12_serve 85 = .ok (.getfield 61, 3) := dk_180 0 61 (dk_at dksX12_serve_3 14 rfl rfl)
theorem dX12_serve_88 : decode cX12_serve 88 = .ok (.aload_n 0, 1) := dk_42 (dk_at dksX12_serve_3 17 rfl rfl)
theorem dX12_serve_89 : decode cX12_serve 89 = .ok (.getfield 239, 3) := dk_180 0 239 (dk_at dksX12_serve_3 18 rfl rfl)
theorem dX12_serve_92 : decode cX12_serve 92 = .ok (.iaload, 1) := dk_46 (dk_at dksX12_serve_3 21 rfl rfl)
theorem dX12_serve_93 : decode cX12_serve 93 = .ok (.aload_n 0, 1) := dk_42 (dk_at dksX12_serve_3 22 rfl rfl)
theorem dX12_serve_94 : decode cX12_serve 94 = .ok (.getfield 52, 3) := dk_180 0 52 (dk_at dksX12_serve_4 0 rfl rfl)
theorem dX12_serve_97 : decode cX12_serve 97 = .ok (.aload_n 0, 1) := dk_42 (dk_at dksX12_serve_4 3 rfl rfl)
theorem dX12_serve_98 : decode cX12_serve 98 = .ok (.getfield 239, 3) := dk_180 0 239 (dk_at dksX12_serve_4 4 rfl rfl)
theorem dX12_serve_101 : decode cX12_serve 101 = .ok (.iaload, 1) := dk_46 (dk_at dksX12_serve_4 7 rfl rfl)
theorem dX12_serve_102 : decode cX12_serve 102 = .ok (.if_icmp .le 6, 3) := dk_164 0 6 (dk_at dksX12_serve_4 8 rfl rfl)
theorem dX12_serve_105 : decode cX12_serve 105 = .ok (.bipush (-2), 2) := dk_16 254 (dk_at dksX12_serve_4 11 rfl rfl)
theorem dX12_serve_107 : decode cX12_serve 107 = .ok (.ireturn, 1) := dk_172 (dk_at dksX12_serve_4 13 rfl rfl)
theorem dX12_serve_108 : decode cX12_serve 108 = .ok (.aload_n 0, 1) := dk_42 (dk_at dksX12_serve_4 14 rfl rfl)
theorem dX12_serve_109 : decode cX12_serve 109 = .ok (.iload_n 1, 1) := dk_27 (dk_at dksX12_serve_4 15 rfl rfl)
theorem dX12_serve_110 : decode cX12_serve 110 = .ok (.iload_n 2, 1) := dk_28 (dk_at dksX12_serve_4 16 rfl rfl)
theorem dX12_serve_111 : decode cX12_serve 111 = .ok (.invokevirtual 464, 3) := dk_182 1 208 (dk_at dksX12_serve_4 17 rfl rfl)
theorem dX12_serve_114 : decode cX12_serve 114 = .ok (.iload_n 3, 1) := dk_29 (dk_at dksX12_serve_4 20 rfl rfl)
theorem dX12_serve_115 : decode cX12_serve 115 = .ok (.iconst (-1), 1) := dk_2 (dk_at dksX12_serve_4 21 rfl rfl)
theorem dX12_serve_116 : decode cX12_serve 116 = .ok (.if_icmp .ne 10, 3) := dk_160 0 10 (dk_at dksX12_serve_5 0 rfl rfl)
theorem dX12_serve_119 : decode cX12_serve 119 = .ok (.aload_n 0, 1) := dk_42 (dk_at dksX12_serve_5 3 rfl rfl)
theorem dX12_serve_120 : decode cX12_serve 120 = .ok (.getfield 461, 3) := dk_180 1 205 (dk_at dksX12_serve_5 4 rfl rfl)
theorem dX12_serve_123 : decode cX12_serve 123 = .ok (.goto 27, 3) := dk_167 0 27 (dk_at dksX12_serve_5 7 rfl rfl)
theorem dX12_serve_126 : decode cX12_serve 126 = .ok (.aload_n 0, 1) := dk_42 (dk_at dksX12_serve_5 10 rfl rfl)
theorem dX12_serve_127 : decode cX12_serve 127 = .ok (.getfield 455, 3) := dk_180 1 199 (dk_at dksX12_serve_5 11 rfl rfl)
theorem dX12_serve_130 : decode cX12_serve 130 = .ok (.aload_n 0, 1) := dk_42 (dk_at dksX12_serve_5 14 rfl rfl)
theorem dX12_serve_131 : decode cX12_serve 131 = .ok (.getfield 61, 3) := dk_180 0 61 (dk_at dksX12_serve_5 15 rfl rfl)
theorem dX12_serve_134 : decode cX12_serve 134 = .ok (.aload_n 0, 1) := dk_42 (dk_at dksX12_serve_5 18 rfl rfl)
theorem dX12_serve_135 : decode cX12_serve 135 = .ok (.getfield 239, 3) := dk_180 0 239 (dk_at dksX12_serve_5 19 rfl rfl)
theorem dX12_serve_138 : decode cX12_serve 138 = .ok (.iaload, 1) := dk_46 (dk_at dksX12_serve_5 22 rfl rfl)
theorem dX12_serve_139 : decode cX12_serve 139 = .ok (.iconst 1, 1) := dk_4 (dk_at dksX12_serve_5 23 rfl rfl)
theorem dX12_serve_140 : decode cX12_serve 140 = .ok (.isub, 1) := dk_100 (dk_at dksX12_serve_6 0 rfl rfl)
theorem dX12_serve_141 : decode cX12_serve 141 = .ok (.iload_n 3, 1) := dk_29 (dk_at dksX12_serve_6 1 rfl rfl)
theorem dX12_serve_142 : decode cX12_serve 142 = .ok (.isub, 1) := dk_100 (dk_at dksX12_serve_6 2 rfl rfl)
theorem dX12_serve_143 : decode cX12_serve 143 = .ok (.invokestatic 448, 3) := dk_184 1 192 (dk_at dksX12_serve_6 3 rfl rfl)
theorem dX12_serve_146 : decode cX12_serve 146 = .ok (.idiv, 1) := dk_108 (dk_at dksX12_serve_6 6 rfl rfl)
theorem dX12_serve_147 : decode cX12_serve 147 = .ok (.bipush 6, 2) := dk_16 6 (dk_at dksX12_serve_6 7 rfl rfl)
theorem dX12_serve_149 : decode cX12_serve 149 = .ok (.irem, 1) := dk_112 (dk_at dksX12_serve_6 9 rfl rfl)
theorem dX12_serve_150 : decode cX12_serve 150 = .ok (.ireturn, 1) := dk_172 (dk_at dksX12_serve_6 10 rfl rfl)
abbrev cX12_fillsServe : ByteArray := prog_22_method_99_code
def yX12_fillsServe : MethodName := ⟨RX12, "fillsServe", "(II)V"⟩
def dkwX12_fillsServe_5 : List UInt8 := [42, 21, 4, 181, 1, 205, 42, 29, 181, 1, 199, 132, 3, 1, 167, 255, 195, 177]
abbrev dktX12_fillsServe_5 : List UInt8 := dkwX12_fillsServe_5 ++ []
def dkwX12_fillsServe_4 : List UInt8 := [21, 4, 155, 0, 33, 42, 180, 1, 199, 155, 0, 15, 21, 4, 42, 180, 1, 205, 161, 0, 6, 167, 0, 14]
abbrev dktX12_fillsServe_4 : List UInt8 := dkwX12_fillsServe_4 ++ dktX12_fillsServe_5
def dkwX12_fillsServe_3 : List UInt8 := [29, 42, 180, 0, 61, 42, 180, 0, 239, 46, 184, 1, 192, 162, 0, 51, 42, 29, 182, 1, 202, 54, 4]
abbrev dktX12_fillsServe_3 : List UInt8 := dkwX12_fillsServe_3 ++ dktX12_fillsServe_4
def dkwX12_fillsServe_2 : List UInt8 := [28, 182, 1, 195, 79, 132, 4, 1, 167, 255, 218, 132, 3, 1, 167, 255, 196, 42, 2, 181, 1, 199, 3, 62]
abbrev dktX12_fillsServe_2 : List UInt8 := dkwX12_fillsServe_2 ++ dktX12_fillsServe_3
def dkwX12_fillsServe_1 : List UInt8 := [42, 180, 0, 239, 46, 162, 0, 30, 42, 180, 0, 137, 16, 6, 29, 104, 21, 4, 96, 42, 29, 21, 4, 27]
abbrev dktX12_fillsServe_1 : List UInt8 := dkwX12_fillsServe_1 ++ dktX12_fillsServe_2
def dkwX12_fillsServe_0 : List UInt8 := [3, 62, 29, 42, 180, 0, 61, 42, 180, 0, 239, 46, 162, 0, 53, 3, 54, 4, 21, 4, 42, 180, 0, 52]
abbrev dktX12_fillsServe_0 : List UInt8 := dkwX12_fillsServe_0 ++ dktX12_fillsServe_1
theorem dksX12_fillsServe_0 : cX12_fillsServe.data.toList.drop 0 = dktX12_fillsServe_0 := by decide +kernel
theorem dksX12_fillsServe_1 : cX12_fillsServe.data.toList.drop 24 = dktX12_fillsServe_1 := dk_seg dksX12_fillsServe_0 24 rfl rfl
theorem dksX12_fillsServe_2 : cX12_fillsServe.data.toList.drop 48 = dktX12_fillsServe_2 := dk_seg dksX12_fillsServe_1 24 rfl rfl
theorem dksX12_fillsServe_3 : cX12_fillsServe.data.toList.drop 72 = dktX12_fillsServe_3 := dk_seg dksX12_fillsServe_2 24 rfl rfl
theorem dksX12_fillsServe_4 : cX12_fillsServe.data.toList.drop 95 = dktX12_fillsServe_4 := dk_seg dksX12_fillsServe_3 23 rfl rfl
theorem dksX12_fillsServe_5 : cX12_fillsServe.data.toList.drop 119 = dktX12_fillsServe_5 := dk_seg dksX12_fillsServe_4 24 rfl rfl
theorem dX12_fillsServe_0 : decode cX12_fillsServe 0 = .ok (.iconst 0, 1) := dk_3 (dk_at dksX12_fillsServe_0 0 rfl rfl)
theorem dX12_fillsServe_1 : decode cX12_fillsServe 1 = .ok (.istore_n 3, 1) := dk_62 (dk_at dksX12_fillsServe_0 1 rfl rfl)
theorem dX12_fillsServe_2 : decode cX12_fillsServe 2 = .ok (.iload_n 3, 1) := dk_29 (dk_at dksX12_fillsServe_0 2 rfl rfl)
theorem dX12_fillsServe_3 : decode cX12_fillsServe 3 = .ok (.aload_n 0, 1) := dk_42 (dk_at dksX12_fillsServe_0 3 rfl rfl)
theorem dX12_fillsServe_4 : decode cX12_fillsServe 4 = .ok (.getfield 61, 3) := dk_180 0 61 (dk_at dksX12_fillsServe_0 4 rfl rfl)
theorem dX12_fillsServe_7 : decode cX12_fillsServe 7 = .ok (.aload_n 0, 1) := dk_42 (dk_at dksX12_fillsServe_0 7 rfl rfl)
theorem dX12_fillsServe_8 : decode cX12_fillsServe 8 = .ok (.getfield 239, 3) := dk_180 0 239 (dk_at dksX12_fillsServe_0 8 rfl rfl)
theorem dX12_fillsServe_11 : decode cX12_fillsServe 11 = .ok (.iaload, 1) := dk_46 (dk_at dksX12_fillsServe_0 11 rfl rfl)
theorem dX12_fillsServe_12 : decode cX12_fillsServe 12 = .ok (.if_icmp .ge 53, 3) := dk_162 0 53 (dk_at dksX12_fillsServe_0 12 rfl rfl)
theorem dX12_fillsServe_15 : decode cX12_fillsServe 15 = .ok (.iconst 0, 1) := dk_3 (dk_at dksX12_fillsServe_0 15 rfl rfl)
theorem dX12_fillsServe_16 : decode cX12_fillsServe 16 = .ok (.istore 4, 2) := dk_54 4 (dk_at dksX12_fillsServe_0 16 rfl rfl)
theorem dX12_fillsServe_18 : decode cX12_fillsServe 18 = .ok (.iload 4, 2) := dk_21 4 (dk_at dksX12_fillsServe_0 18 rfl rfl)
theorem dX12_fillsServe_20 : decode cX12_fillsServe 20 = .ok (.aload_n 0, 1) := dk_42 (dk_at dksX12_fillsServe_0 20 rfl rfl)
theorem dX12_fillsServe_21 : decode cX12_fillsServe 21 = .ok (.getfield 52, 3) := dk_180 0 52 (dk_at dksX12_fillsServe_0 21 rfl rfl)
theorem dX12_fillsServe_24 : decode cX12_fillsServe 24 = .ok (.aload_n 0, 1) := dk_42 (dk_at dksX12_fillsServe_1 0 rfl rfl)
theorem dX12_fillsServe_25 : decode cX12_fillsServe 25 = .ok (.getfield 239, 3) := dk_180 0 239 (dk_at dksX12_fillsServe_1 1 rfl rfl)
theorem dX12_fillsServe_28 : decode cX12_fillsServe 28 = .ok (.iaload, 1) := dk_46 (dk_at dksX12_fillsServe_1 4 rfl rfl)
theorem dX12_fillsServe_29 : decode cX12_fillsServe 29 = .ok (.if_icmp .ge 30, 3) := dk_162 0 30 (dk_at dksX12_fillsServe_1 5 rfl rfl)
theorem dX12_fillsServe_32 : decode cX12_fillsServe 32 = .ok (.aload_n 0, 1) := dk_42 (dk_at dksX12_fillsServe_1 8 rfl rfl)
theorem dX12_fillsServe_33 : decode cX12_fillsServe 33 = .ok (.getfield 137, 3) := dk_180 0 137 (dk_at dksX12_fillsServe_1 9 rfl rfl)
theorem dX12_fillsServe_36 : decode cX12_fillsServe 36 = .ok (.bipush 6, 2) := dk_16 6 (dk_at dksX12_fillsServe_1 12 rfl rfl)
theorem dX12_fillsServe_38 : decode cX12_fillsServe 38 = .ok (.iload_n 3, 1) := dk_29 (dk_at dksX12_fillsServe_1 14 rfl rfl)
theorem dX12_fillsServe_39 : decode cX12_fillsServe 39 = .ok (.imul, 1) := dk_104 (dk_at dksX12_fillsServe_1 15 rfl rfl)
theorem dX12_fillsServe_40 : decode cX12_fillsServe 40 = .ok (.iload 4, 2) := dk_21 4 (dk_at dksX12_fillsServe_1 16 rfl rfl)
theorem dX12_fillsServe_42 : decode cX12_fillsServe 42 = .ok (.iadd, 1) := dk_96 (dk_at dksX12_fillsServe_1 18 rfl rfl)
theorem dX12_fillsServe_43 : decode cX12_fillsServe 43 = .ok (.aload_n 0, 1) := dk_42 (dk_at dksX12_fillsServe_1 19 rfl rfl)
theorem dX12_fillsServe_44 : decode cX12_fillsServe 44 = .ok (.iload_n 3, 1) := dk_29 (dk_at dksX12_fillsServe_1 20 rfl rfl)
theorem dX12_fillsServe_45 : decode cX12_fillsServe 45 = .ok (.iload 4, 2) := dk_21 4 (dk_at dksX12_fillsServe_1 21 rfl rfl)
theorem dX12_fillsServe_47 : decode cX12_fillsServe 47 = .ok (.iload_n 1, 1) := dk_27 (dk_at dksX12_fillsServe_1 23 rfl rfl)
theorem dX12_fillsServe_48 : decode cX12_fillsServe 48 = .ok (.iload_n 2, 1) := dk_28 (dk_at dksX12_fillsServe_2 0 rfl rfl)
theorem dX12_fillsServe_49 : decode cX12_fillsServe 49 = .ok (.invokevirtual 451, 3) := dk_182 1 195 (dk_at dksX12_fillsServe_2 1 rfl rfl)
theorem dX12_fillsServe_52 : decode cX12_fillsServe 52 = .ok (.iastore, 1) := dk_79 (dk_at dksX12_fillsServe_2 4 rfl rfl)
theorem dX12_fillsServe_53 : decode cX12_fillsServe 53 = .ok (.iinc 4 1, 3) := dk_132 4 1 (dk_at dksX12_fillsServe_2 5 rfl rfl)
theorem dX12_fillsServe_56 : decode cX12_fillsServe 56 = .ok (.goto (-38), 3) := dk_167 255 218 (dk_at dksX12_fillsServe_2 8 rfl rfl)
theorem dX12_fillsServe_59 : decode cX12_fillsServe 59 = .ok (.iinc 3 1, 3) := dk_132 3 1 (dk_at dksX12_fillsServe_2 11 rfl rfl)
theorem dX12_fillsServe_62 : decode cX12_fillsServe 62 = .ok (.goto (-60), 3) := dk_167 255 196 (dk_at dksX12_fillsServe_2 14 rfl rfl)
theorem dX12_fillsServe_65 : decode cX12_fillsServe 65 = .ok (.aload_n 0, 1) := dk_42 (dk_at dksX12_fillsServe_2 17 rfl rfl)
theorem dX12_fillsServe_66 : decode cX12_fillsServe 66 = .ok (.iconst (-1), 1) := dk_2 (dk_at dksX12_fillsServe_2 18 rfl rfl)
theorem dX12_fillsServe_67 : decode cX12_fillsServe 67 = .ok (.putfield 455, 3) := dk_181 1 199 (dk_at dksX12_fillsServe_2 19 rfl rfl)
theorem dX12_fillsServe_70 : decode cX12_fillsServe 70 = .ok (.iconst 0, 1) := dk_3 (dk_at dksX12_fillsServe_2 22 rfl rfl)
theorem dX12_fillsServe_71 : decode cX12_fillsServe 71 = .ok (.istore_n 3, 1) := dk_62 (dk_at dksX12_fillsServe_2 23 rfl rfl)
theorem dX12_fillsServe_72 : decode cX12_fillsServe 72 = .ok (.iload_n 3, 1) := dk_29 (dk_at dksX12_fillsServe_3 0 rfl rfl)
theorem dX12_fillsServe_73 : decode cX12_fillsServe 73 = .ok (.aload_n 0, 1) := dk_42 (dk_at dksX12_fillsServe_3 1 rfl rfl)
theorem dX12_fillsServe_74 : decode cX12_fillsServe 74 = .ok (.getfield 61, 3) := dk_180 0 61 (dk_at dksX12_fillsServe_3 2 rfl rfl)
theorem dX12_fillsServe_77 : decode cX12_fillsServe 77 = .ok (.aload_n 0, 1) := dk_42 (dk_at dksX12_fillsServe_3 5 rfl rfl)
theorem dX12_fillsServe_78 : decode cX12_fillsServe 78 = .ok (.getfield 239, 3) := dk_180 0 239 (dk_at dksX12_fillsServe_3 6 rfl rfl)
theorem dX12_fillsServe_81 : decode cX12_fillsServe 81 = .ok (.iaload, 1) := dk_46 (dk_at dksX12_fillsServe_3 9 rfl rfl)
theorem dX12_fillsServe_82 : decode cX12_fillsServe 82 = .ok (.invokestatic 448, 3) := dk_184 1 192 (dk_at dksX12_fillsServe_3 10 rfl rfl)
theorem dX12_fillsServe_85 : decode cX12_fillsServe 85 = .ok (.if_icmp .ge 51, 3) := dk_162 0 51 (dk_at dksX12_fillsServe_3 13 rfl rfl)
theorem dX12_fillsServe_88 : decode cX12_fillsServe 88 = .ok (.aload_n 0, 1) := dk_42 (dk_at dksX12_fillsServe_3 16 rfl rfl)
theorem dX12_fillsServe_89 : decode cX12_fillsServe 89 = .ok (.iload_n 3, 1) := dk_29 (dk_at dksX12_fillsServe_3 17 rfl rfl)
theorem dX12_fillsServe_90 : decode cX12_fillsServe 90 = .ok (.invokevirtual 458, 3) := dk_182 1 202 (dk_at dksX12_fillsServe_3 18 rfl rfl)
theorem dX12_fillsServe_93 : decode cX12_fillsServe 93 = .ok (.istore 4, 2) := dk_54 4 (dk_at dksX12_fillsServe_3 21 rfl rfl)
theorem dX12_fillsServe_95 : decode cX12_fillsServe 95 = .ok (.iload 4, 2) := dk_21 4 (dk_at dksX12_fillsServe_4 0 rfl rfl)
theorem dX12_fillsServe_97 : decode cX12_fillsServe 97 = .ok (.ifCond .lt 33, 3) := dk_155 0 33 (dk_at dksX12_fillsServe_4 2 rfl rfl)
theorem dX12_fillsServe_100 : decode cX12_fillsServe 100 = .ok (.aload_n 0, 1) := dk_42 (dk_at dksX12_fillsServe_4 5 rfl rfl)
theorem dX12_fillsServe_101 : decode cX12_fillsServe 101 = .ok (.getfield 455, 3) := dk_180 1 199 (dk_at dksX12_fillsServe_4 6 rfl rfl)
theorem dX12_fillsServe_104 : decode cX12_fillsServe 104 = .ok (.ifCond .lt 15, 3) := dk_155 0 15 (dk_at dksX12_fillsServe_4 9 rfl rfl)
theorem dX12_fillsServe_107 : decode cX12_fillsServe 107 = .ok (.iload 4, 2) := dk_21 4 (dk_at dksX12_fillsServe_4 12 rfl rfl)
theorem dX12_fillsServe_109 : decode cX12_fillsServe 109 = .ok (.aload_n 0, 1) := dk_42 (dk_at dksX12_fillsServe_4 14 rfl rfl)
theorem dX12_fillsServe_110 : decode cX12_fillsServe 110 = .ok (.getfield 461, 3) := dk_180 1 205 (dk_at dksX12_fillsServe_4 15 rfl rfl)
theorem dX12_fillsServe_113 : decode cX12_fillsServe 113 = .ok (.if_icmp .lt 6, 3) := dk_161 0 6 (dk_at dksX12_fillsServe_4 18 rfl rfl)
theorem dX12_fillsServe_116 : decode cX12_fillsServe 116 = .ok (.goto 14, 3) := dk_167 0 14 (dk_at dksX12_fillsServe_4 21 rfl rfl)
theorem dX12_fillsServe_119 : decode cX12_fillsServe 119 = .ok (.aload_n 0, 1) := dk_42 (dk_at dksX12_fillsServe_5 0 rfl rfl)
theorem dX12_fillsServe_120 : decode cX12_fillsServe 120 = .ok (.iload 4, 2) := dk_21 4 (dk_at dksX12_fillsServe_5 1 rfl rfl)
theorem dX12_fillsServe_122 : decode cX12_fillsServe 122 = .ok (.putfield 461, 3) := dk_181 1 205 (dk_at dksX12_fillsServe_5 3 rfl rfl)
theorem dX12_fillsServe_125 : decode cX12_fillsServe 125 = .ok (.aload_n 0, 1) := dk_42 (dk_at dksX12_fillsServe_5 6 rfl rfl)
theorem dX12_fillsServe_126 : decode cX12_fillsServe 126 = .ok (.iload_n 3, 1) := dk_29 (dk_at dksX12_fillsServe_5 7 rfl rfl)
theorem dX12_fillsServe_127 : decode cX12_fillsServe 127 = .ok (.putfield 455, 3) := dk_181 1 199 (dk_at dksX12_fillsServe_5 8 rfl rfl)
theorem dX12_fillsServe_130 : decode cX12_fillsServe 130 = .ok (.iinc 3 1, 3) := dk_132 3 1 (dk_at dksX12_fillsServe_5 11 rfl rfl)
theorem dX12_fillsServe_133 : decode cX12_fillsServe 133 = .ok (.goto (-61), 3) := dk_167 255 195 (dk_at dksX12_fillsServe_5 14 rfl rfl)
theorem dX12_fillsServe_136 : decode cX12_fillsServe 136 = .ok (.return_, 1) := dk_177 (dk_at dksX12_fillsServe_5 17 rfl rfl)
abbrev cX12_offBy : ByteArray := prog_22_method_97_code
def yX12_offBy : MethodName := ⟨RX12, "offBy", "(IIII)I"⟩
def dkwX12_offBy_1 : List UInt8 := [167, 0, 5, 21, 5, 172]
abbrev dktX12_offBy_1 : List UInt8 := dkwX12_offBy_1 ++ []
def dkwX12_offBy_0 : List UInt8 := [42, 27, 29, 21, 4, 182, 1, 149, 42, 28, 182, 1, 134, 100, 54, 5, 21, 5, 156, 0, 9, 21, 5, 116]
abbrev dktX12_offBy_0 : List UInt8 := dkwX12_offBy_0 ++ dktX12_offBy_1
theorem dksX12_offBy_0 : cX12_offBy.data.toList.drop 0 = dktX12_offBy_0 := by decide +kernel
theorem dksX12_offBy_1 : cX12_offBy.data.toList.drop 24 = dktX12_offBy_1 := dk_seg dksX12_offBy_0 24 rfl rfl
theorem dX12_offBy_0 : decode cX12_offBy 0 = .ok (.aload_n 0, 1) := dk_42 (dk_at dksX12_offBy_0 0 rfl rfl)
theorem dX12_offBy_1 : decode cX12_offBy 1 = .ok (.iload_n 1, 1) := dk_27 (dk_at dksX12_offBy_0 1 rfl rfl)
theorem dX12_offBy_2 : decode cX12_offBy 2 = .ok (.iload_n 3, 1) := dk_29 (dk_at dksX12_offBy_0 2 rfl rfl)
theorem dX12_offBy_3 : decode cX12_offBy 3 = .ok (.iload 4, 2) := dk_21 4 (dk_at dksX12_offBy_0 3 rfl rfl)
theorem dX12_offBy_5 : decode cX12_offBy 5 = .ok (.invokevirtual 405, 3) := dk_182 1 149 (dk_at dksX12_offBy_0 5 rfl rfl)
theorem dX12_offBy_8 : decode cX12_offBy 8 = .ok (.aload_n 0, 1) := dk_42 (dk_at dksX12_offBy_0 8 rfl rfl)
theorem dX12_offBy_9 : decode cX12_offBy 9 = .ok (.iload_n 2, 1) := dk_28 (dk_at dksX12_offBy_0 9 rfl rfl)
theorem dX12_offBy_10 : decode cX12_offBy 10 = .ok (.invokevirtual 390, 3) := dk_182 1 134 (dk_at dksX12_offBy_0 10 rfl rfl)
theorem dX12_offBy_13 : decode cX12_offBy 13 = .ok (.isub, 1) := dk_100 (dk_at dksX12_offBy_0 13 rfl rfl)
theorem dX12_offBy_14 : decode cX12_offBy 14 = .ok (.istore 5, 2) := dk_54 5 (dk_at dksX12_offBy_0 14 rfl rfl)
theorem dX12_offBy_16 : decode cX12_offBy 16 = .ok (.iload 5, 2) := dk_21 5 (dk_at dksX12_offBy_0 16 rfl rfl)
theorem dX12_offBy_18 : decode cX12_offBy 18 = .ok (.ifCond .ge 9, 3) := dk_156 0 9 (dk_at dksX12_offBy_0 18 rfl rfl)
theorem dX12_offBy_21 : decode cX12_offBy 21 = .ok (.iload 5, 2) := dk_21 5 (dk_at dksX12_offBy_0 21 rfl rfl)
theorem dX12_offBy_23 : decode cX12_offBy 23 = .ok (.ineg, 1) := dk_116 (dk_at dksX12_offBy_0 23 rfl rfl)
theorem dX12_offBy_24 : decode cX12_offBy 24 = .ok (.goto 5, 3) := dk_167 0 5 (dk_at dksX12_offBy_1 0 rfl rfl)
theorem dX12_offBy_27 : decode cX12_offBy 27 = .ok (.iload 5, 2) := dk_21 5 (dk_at dksX12_offBy_1 3 rfl rfl)
theorem dX12_offBy_29 : decode cX12_offBy 29 = .ok (.ireturn, 1) := dk_172 (dk_at dksX12_offBy_1 5 rfl rfl)
abbrev cX12_sixes : ByteArray := prog_22_method_96_code
def yX12_sixes : MethodName := ⟨RX12, "sixes", "(I)I"⟩
def dkwX12_sixes_0 : List UInt8 := [4, 60, 3, 61, 28, 26, 162, 0, 14, 27, 16, 6, 104, 60, 132, 2, 1, 167, 255, 243, 27, 172]
abbrev dktX12_sixes_0 : List UInt8 := dkwX12_sixes_0 ++ []
theorem dksX12_sixes_0 : cX12_sixes.data.toList.drop 0 = dktX12_sixes_0 := by decide +kernel
theorem dX12_sixes_0 : decode cX12_sixes 0 = .ok (.iconst 1, 1) := dk_4 (dk_at dksX12_sixes_0 0 rfl rfl)
theorem dX12_sixes_1 : decode cX12_sixes 1 = .ok (.istore_n 1, 1) := dk_60 (dk_at dksX12_sixes_0 1 rfl rfl)
theorem dX12_sixes_2 : decode cX12_sixes 2 = .ok (.iconst 0, 1) := dk_3 (dk_at dksX12_sixes_0 2 rfl rfl)
theorem dX12_sixes_3 : decode cX12_sixes 3 = .ok (.istore_n 2, 1) := dk_61 (dk_at dksX12_sixes_0 3 rfl rfl)
theorem dX12_sixes_4 : decode cX12_sixes 4 = .ok (.iload_n 2, 1) := dk_28 (dk_at dksX12_sixes_0 4 rfl rfl)
theorem dX12_sixes_5 : decode cX12_sixes 5 = .ok (.iload_n 0, 1) := dk_26 (dk_at dksX12_sixes_0 5 rfl rfl)
theorem dX12_sixes_6 : decode cX12_sixes 6 = .ok (.if_icmp .ge 14, 3) := dk_162 0 14 (dk_at dksX12_sixes_0 6 rfl rfl)
theorem dX12_sixes_9 : decode cX12_sixes 9 = .ok (.iload_n 1, 1) := dk_27 (dk_at dksX12_sixes_0 9 rfl rfl)
theorem dX12_sixes_10 : decode cX12_sixes 10 = .ok (.bipush 6, 2) := dk_16 6 (dk_at dksX12_sixes_0 10 rfl rfl)
theorem dX12_sixes_12 : decode cX12_sixes 12 = .ok (.imul, 1) := dk_104 (dk_at dksX12_sixes_0 12 rfl rfl)
theorem dX12_sixes_13 : decode cX12_sixes 13 = .ok (.istore_n 1, 1) := dk_60 (dk_at dksX12_sixes_0 13 rfl rfl)
theorem dX12_sixes_14 : decode cX12_sixes 14 = .ok (.iinc 2 1, 3) := dk_132 2 1 (dk_at dksX12_sixes_0 14 rfl rfl)
theorem dX12_sixes_17 : decode cX12_sixes 17 = .ok (.goto (-13), 3) := dk_167 255 243 (dk_at dksX12_sixes_0 17 rfl rfl)
theorem dX12_sixes_20 : decode cX12_sixes 20 = .ok (.iload_n 1, 1) := dk_27 (dk_at dksX12_sixes_0 20 rfl rfl)
theorem dX12_sixes_21 : decode cX12_sixes 21 = .ok (.ireturn, 1) := dk_172 (dk_at dksX12_sixes_0 21 rfl rfl)
abbrev cX12_offAll : ByteArray := prog_22_method_98_code
def yX12_offAll : MethodName := ⟨RX12, "offAll", "(I)I"⟩
def dkwX12_offAll_4 : List UInt8 := [132, 5, 1, 167, 255, 179, 29, 172]
abbrev dktX12_offAll_4 : List UInt8 := dkwX12_offAll_4 ++ []
def dkwX12_offAll_3 : List UInt8 := [28, 4, 21, 6, 120, 128, 61, 29, 42, 180, 0, 137, 16, 6, 21, 5, 104, 21, 6, 96, 46, 96, 62]
abbrev dktX12_offAll_3 : List UInt8 := dkwX12_offAll_3 ++ dktX12_offAll_4
def dkwX12_offAll_2 : List UInt8 := [112, 54, 6, 42, 21, 6, 182, 1, 131, 153, 0, 13, 28, 21, 6, 122, 4, 126, 4, 160, 0, 5, 2, 172]
abbrev dktX12_offAll_2 : List UInt8 := dkwX12_offAll_2 ++ dktX12_offAll_3
def dkwX12_offAll_1 : List UInt8 := [180, 0, 61, 42, 180, 0, 239, 46, 162, 0, 69, 21, 4, 16, 6, 108, 54, 4, 27, 21, 4, 108, 16, 6]
abbrev dktX12_offAll_1 : List UInt8 := dkwX12_offAll_1 ++ dktX12_offAll_2
def dkwX12_offAll_0 : List UInt8 := [3, 61, 3, 62, 42, 180, 0, 61, 42, 180, 0, 239, 46, 184, 1, 192, 54, 4, 3, 54, 5, 21, 5, 42]
abbrev dktX12_offAll_0 : List UInt8 := dkwX12_offAll_0 ++ dktX12_offAll_1
theorem dksX12_offAll_0 : cX12_offAll.data.toList.drop 0 = dktX12_offAll_0 := by decide +kernel
theorem dksX12_offAll_1 : cX12_offAll.data.toList.drop 24 = dktX12_offAll_1 := dk_seg dksX12_offAll_0 24 rfl rfl
theorem dksX12_offAll_2 : cX12_offAll.data.toList.drop 48 = dktX12_offAll_2 := dk_seg dksX12_offAll_1 24 rfl rfl
theorem dksX12_offAll_3 : cX12_offAll.data.toList.drop 72 = dktX12_offAll_3 := dk_seg dksX12_offAll_2 24 rfl rfl
theorem dksX12_offAll_4 : cX12_offAll.data.toList.drop 95 = dktX12_offAll_4 := dk_seg dksX12_offAll_3 23 rfl rfl
theorem dX12_offAll_0 : decode cX12_offAll 0 = .ok (.iconst 0, 1) := dk_3 (dk_at dksX12_offAll_0 0 rfl rfl)
theorem dX12_offAll_1 : decode cX12_offAll 1 = .ok (.istore_n 2, 1) := dk_61 (dk_at dksX12_offAll_0 1 rfl rfl)
theorem dX12_offAll_2 : decode cX12_offAll 2 = .ok (.iconst 0, 1) := dk_3 (dk_at dksX12_offAll_0 2 rfl rfl)
theorem dX12_offAll_3 : decode cX12_offAll 3 = .ok (.istore_n 3, 1) := dk_62 (dk_at dksX12_offAll_0 3 rfl rfl)
theorem dX12_offAll_4 : decode cX12_offAll 4 = .ok (.aload_n 0, 1) := dk_42 (dk_at dksX12_offAll_0 4 rfl rfl)
theorem dX12_offAll_5 : decode cX12_offAll 5 = .ok (.getfield 61, 3) := dk_180 0 61 (dk_at dksX12_offAll_0 5 rfl rfl)
theorem dX12_offAll_8 : decode cX12_offAll 8 = .ok (.aload_n 0, 1) := dk_42 (dk_at dksX12_offAll_0 8 rfl rfl)
theorem dX12_offAll_9 : decode cX12_offAll 9 = .ok (.getfield 239, 3) := dk_180 0 239 (dk_at dksX12_offAll_0 9 rfl rfl)
theorem dX12_offAll_12 : decode cX12_offAll 12 = .ok (.iaload, 1) := dk_46 (dk_at dksX12_offAll_0 12 rfl rfl)
theorem dX12_offAll_13 : decode cX12_offAll 13 = .ok (.invokestatic 448, 3) := dk_184 1 192 (dk_at dksX12_offAll_0 13 rfl rfl)
theorem dX12_offAll_16 : decode cX12_offAll 16 = .ok (.istore 4, 2) := dk_54 4 (dk_at dksX12_offAll_0 16 rfl rfl)
theorem dX12_offAll_18 : decode cX12_offAll 18 = .ok (.iconst 0, 1) := dk_3 (dk_at dksX12_offAll_0 18 rfl rfl)
theorem dX12_offAll_19 : decode cX12_offAll 19 = .ok (.istore 5, 2) := dk_54 5 (dk_at dksX12_offAll_0 19 rfl rfl)
theorem dX12_offAll_21 : decode cX12_offAll 21 = .ok (.iload 5, 2) := dk_21 5 (dk_at dksX12_offAll_0 21 rfl rfl)
theorem dX12_offAll_23 : decode cX12_offAll 23 = .ok (.aload_n 0, 1) := dk_42 (dk_at dksX12_offAll_0 23 rfl rfl)
theorem dX12_offAll_24 : decode cX12_offAll 24 = .ok (.getfield 61, 3) := dk_180 0 61 (dk_at dksX12_offAll_1 0 rfl rfl)
theorem dX12_offAll_27 : decode cX12_offAll 27 = .ok (.aload_n 0, 1) := dk_42 (dk_at dksX12_offAll_1 3 rfl rfl)
theorem dX12_offAll_28 : decode cX12_offAll 28 = .ok (.getfield 239, 3) := dk_180 0 239 (dk_at dksX12_offAll_1 4 rfl rfl)
theorem dX12_offAll_31 : decode cX12_offAll 31 = .ok (.iaload, 1) := dk_46 (dk_at dksX12_offAll_1 7 rfl rfl)
theorem dX12_offAll_32 : decode cX12_offAll 32 = .ok (.if_icmp .ge 69, 3) := dk_162 0 69 (dk_at dksX12_offAll_1 8 rfl rfl)
theorem dX12_offAll_35 : decode cX12_offAll 35 = .ok (.iload 4, 2) := dk_21 4 (dk_at dksX12_offAll_1 11 rfl rfl)
theorem dX12_offAll_37 : decode cX12_offAll 37 = .ok (.bipush 6, 2) := dk_16 6 (dk_at dksX12_offAll_1 13 rfl rfl)
theorem dX12_offAll_39 : decode cX12_offAll 39 = .ok (.idiv, 1) := dk_108 (dk_at dksX12_offAll_1 15 rfl rfl)
theorem dX12_offAll_40 : decode cX12_offAll 40 = .ok (.istore 4, 2) := dk_54 4 (dk_at dksX12_offAll_1 16 rfl rfl)
theorem dX12_offAll_42 : decode cX12_offAll 42 = .ok (.iload_n 1, 1) := dk_27 (dk_at dksX12_offAll_1 18 rfl rfl)
theorem dX12_offAll_43 : decode cX12_offAll 43 = .ok (.iload 4, 2) := dk_21 4 (dk_at dksX12_offAll_1 19 rfl rfl)
theorem dX12_offAll_45 : decode cX12_offAll 45 = .ok (.idiv, 1) := dk_108 (dk_at dksX12_offAll_1 21 rfl rfl)
theorem dX12_offAll_46 : decode cX12_offAll 46 = .ok (.bipush 6, 2) := dk_16 6 (dk_at dksX12_offAll_1 22 rfl rfl)
theorem dX12_offAll_48 : decode cX12_offAll 48 = .ok (.irem, 1) := dk_112 (dk_at dksX12_offAll_2 0 rfl rfl)
theorem dX12_offAll_49 : decode cX12_offAll 49 = .ok (.istore 6, 2) := dk_54 6 (dk_at dksX12_offAll_2 1 rfl rfl)
theorem dX12_offAll_51 : decode cX12_offAll 51 = .ok (.aload_n 0, 1) := dk_42 (dk_at dksX12_offAll_2 3 rfl rfl)
theorem dX12_offAll_52 : decode cX12_offAll 52 = .ok (.iload 6, 2) := dk_21 6 (dk_at dksX12_offAll_2 4 rfl rfl)
theorem dX12_offAll_54 : decode cX12_offAll 54 = .ok (.invokevirtual 387, 3) := dk_182 1 131 (dk_at dksX12_offAll_2 6 rfl rfl)
theorem dX12_offAll_57 : decode cX12_offAll 57 = .ok (.ifCond .eq 13, 3) := dk_153 0 13 (dk_at dksX12_offAll_2 9 rfl rfl)
theorem dX12_offAll_60 : decode cX12_offAll 60 = .ok (.iload_n 2, 1) := dk_28 (dk_at dksX12_offAll_2 12 rfl rfl)
theorem dX12_offAll_61 : decode cX12_offAll 61 = .ok (.iload 6, 2) := dk_21 6 (dk_at dksX12_offAll_2 13 rfl rfl)
theorem dX12_offAll_63 : decode cX12_offAll 63 = .ok (.ishr, 1) := dk_122 (dk_at dksX12_offAll_2 15 rfl rfl)
theorem dX12_offAll_64 : decode cX12_offAll 64 = .ok (.iconst 1, 1) := dk_4 (dk_at dksX12_offAll_2 16 rfl rfl)
theorem dX12_offAll_65 : decode cX12_offAll 65 = .ok (.iand, 1) := dk_126 (dk_at dksX12_offAll_2 17 rfl rfl)
theorem dX12_offAll_66 : decode cX12_offAll 66 = .ok (.iconst 1, 1) := dk_4 (dk_at dksX12_offAll_2 18 rfl rfl)
theorem dX12_offAll_67 : decode cX12_offAll 67 = .ok (.if_icmp .ne 5, 3) := dk_160 0 5 (dk_at dksX12_offAll_2 19 rfl rfl)
theorem dX12_offAll_70 : decode cX12_offAll 70 = .ok (.iconst (-1), 1) := dk_2 (dk_at dksX12_offAll_2 22 rfl rfl)
theorem dX12_offAll_71 : decode cX12_offAll 71 = .ok (.ireturn, 1) := dk_172 (dk_at dksX12_offAll_2 23 rfl rfl)
theorem dX12_offAll_72 : decode cX12_offAll 72 = .ok (.iload_n 2, 1) := dk_28 (dk_at dksX12_offAll_3 0 rfl rfl)
theorem dX12_offAll_73 : decode cX12_offAll 73 = .ok (.iconst 1, 1) := dk_4 (dk_at dksX12_offAll_3 1 rfl rfl)
theorem dX12_offAll_74 : decode cX12_offAll 74 = .ok (.iload 6, 2) := dk_21 6 (dk_at dksX12_offAll_3 2 rfl rfl)
theorem dX12_offAll_76 : decode cX12_offAll 76 = .ok (.ishl, 1) := dk_120 (dk_at dksX12_offAll_3 4 rfl rfl)
theorem dX12_offAll_77 : decode cX12_offAll 77 = .ok (.ior, 1) := dk_128 (dk_at dksX12_offAll_3 5 rfl rfl)
theorem dX12_offAll_78 : decode cX12_offAll 78 = .ok (.istore_n 2, 1) := dk_61 (dk_at dksX12_offAll_3 6 rfl rfl)
theorem dX12_offAll_79 : decode cX12_offAll 79 = .ok (.iload_n 3, 1) := dk_29 (dk_at dksX12_offAll_3 7 rfl rfl)
theorem dX12_offAll_80 : decode cX12_offAll 80 = .ok (.aload_n 0, 1) := dk_42 (dk_at dksX12_offAll_3 8 rfl rfl)
theorem dX12_offAll_81 : decode cX12_offAll 81 = .ok (.getfield 137, 3) := dk_180 0 137 (dk_at dksX12_offAll_3 9 rfl rfl)
theorem dX12_offAll_84 : decode cX12_offAll 84 = .ok (.bipush 6, 2) := dk_16 6 (dk_at dksX12_offAll_3 12 rfl rfl)
theorem dX12_offAll_86 : decode cX12_offAll 86 = .ok (.iload 5, 2) := dk_21 5 (dk_at dksX12_offAll_3 14 rfl rfl)
theorem dX12_offAll_88 : decode cX12_offAll 88 = .ok (.imul, 1) := dk_104 (dk_at dksX12_offAll_3 16 rfl rfl)
theorem dX12_offAll_89 : decode cX12_offAll 89 = .ok (.iload 6, 2) := dk_21 6 (dk_at dksX12_offAll_3 17 rfl rfl)
theorem dX12_offAll_91 : decode cX12_offAll 91 = .ok (.iadd, 1) := dk_96 (dk_at dksX12_offAll_3 19 rfl rfl)
theorem dX12_offAll_92 : decode cX12_offAll 92 = .ok (.iaload, 1) := dk_46 (dk_at dksX12_offAll_3 20 rfl rfl)
theorem dX12_offAll_93 : decode cX12_offAll 93 = .ok (.iadd, 1) := dk_96 (dk_at dksX12_offAll_3 21 rfl rfl)
theorem dX12_offAll_94 : decode cX12_offAll 94 = .ok (.istore_n 3, 1) := dk_62 (dk_at dksX12_offAll_3 22 rfl rfl)
theorem dX12_offAll_95 : decode cX12_offAll 95 = .ok (.iinc 5 1, 3) := dk_132 5 1 (dk_at dksX12_offAll_4 0 rfl rfl)
theorem dX12_offAll_98 : decode cX12_offAll 98 = .ok (.goto (-77), 3) := dk_167 255 179 (dk_at dksX12_offAll_4 3 rfl rfl)
theorem dX12_offAll_101 : decode cX12_offAll 101 = .ok (.iload_n 3, 1) := dk_29 (dk_at dksX12_offAll_4 6 rfl rfl)
theorem dX12_offAll_102 : decode cX12_offAll 102 = .ok (.ireturn, 1) := dk_172 (dk_at dksX12_offAll_4 7 rfl rfl)
abbrev cX12_suits : ByteArray := prog_22_method_101_code
def yX12_suits : MethodName := ⟨RX12, "suits", "(III)I"⟩
def dkwX12_suits_4 : List UInt8 := [182, 1, 195, 162, 0, 7, 21, 5, 54, 4, 132, 5, 1, 167, 255, 191, 21, 4, 172]
abbrev dktX12_suits_4 : List UInt8 := dkwX12_suits_4 ++ []
def dkwX12_suits_3 : List UInt8 := [161, 0, 33, 21, 4, 155, 0, 24, 42, 21, 5, 27, 28, 29, 182, 1, 195, 42, 21, 4, 27, 28, 29]
abbrev dktX12_suits_3 : List UInt8 := dkwX12_suits_3 ++ dktX12_suits_4
def dkwX12_suits_2 : List UInt8 := [180, 0, 239, 46, 162, 0, 57, 42, 180, 0, 64, 7, 42, 180, 0, 239, 104, 21, 5, 96, 46, 28]
abbrev dktX12_suits_2 : List UInt8 := dkwX12_suits_2 ++ dktX12_suits_3
def dkwX12_suits_1 : List UInt8 := [184, 1, 67, 154, 0, 5, 2, 172, 16, 254, 54, 4, 3, 54, 5, 21, 5, 42, 180, 0, 61, 42]
abbrev dktX12_suits_1 : List UInt8 := dkwX12_suits_1 ++ dktX12_suits_2
def dkwX12_suits_0 : List UInt8 := [42, 27, 182, 1, 131, 153, 0, 23, 28, 4, 16, 8, 184, 1, 67, 153, 0, 13, 29, 4, 16, 6]
abbrev dktX12_suits_0 : List UInt8 := dkwX12_suits_0 ++ dktX12_suits_1
theorem dksX12_suits_0 : cX12_suits.data.toList.drop 0 = dktX12_suits_0 := by decide +kernel
theorem dksX12_suits_1 : cX12_suits.data.toList.drop 22 = dktX12_suits_1 := dk_seg dksX12_suits_0 22 rfl rfl
theorem dksX12_suits_2 : cX12_suits.data.toList.drop 44 = dktX12_suits_2 := dk_seg dksX12_suits_1 22 rfl rfl
theorem dksX12_suits_3 : cX12_suits.data.toList.drop 66 = dktX12_suits_3 := dk_seg dksX12_suits_2 22 rfl rfl
theorem dksX12_suits_4 : cX12_suits.data.toList.drop 89 = dktX12_suits_4 := dk_seg dksX12_suits_3 23 rfl rfl
theorem dX12_suits_0 : decode cX12_suits 0 = .ok (.aload_n 0, 1) := dk_42 (dk_at dksX12_suits_0 0 rfl rfl)
theorem dX12_suits_1 : decode cX12_suits 1 = .ok (.iload_n 1, 1) := dk_27 (dk_at dksX12_suits_0 1 rfl rfl)
theorem dX12_suits_2 : decode cX12_suits 2 = .ok (.invokevirtual 387, 3) := dk_182 1 131 (dk_at dksX12_suits_0 2 rfl rfl)
theorem dX12_suits_5 : decode cX12_suits 5 = .ok (.ifCond .eq 23, 3) := dk_153 0 23 (dk_at dksX12_suits_0 5 rfl rfl)
theorem dX12_suits_8 : decode cX12_suits 8 = .ok (.iload_n 2, 1) := dk_28 (dk_at dksX12_suits_0 8 rfl rfl)
theorem dX12_suits_9 : decode cX12_suits 9 = .ok (.iconst 1, 1) := dk_4 (dk_at dksX12_suits_0 9 rfl rfl)
theorem dX12_suits_10 : decode cX12_suits 10 = .ok (.bipush 8, 2) := dk_16 8 (dk_at dksX12_suits_0 10 rfl rfl)
theorem dX12_suits_12 : decode cX12_suits 12 = .ok (.invokestatic 323, 3) := dk_184 1 67 (dk_at dksX12_suits_0 12 rfl rfl)
theorem dX12_suits_15 : decode cX12_suits 15 = .ok (.ifCond .eq 13, 3) := dk_153 0 13 (dk_at dksX12_suits_0 15 rfl rfl)
theorem dX12_suits_18 : decode cX12_suits 18 = .ok (.iload_n 3, 1) := dk_29 (dk_at dksX12_suits_0 18 rfl rfl)
theorem dX12_suits_19 : decode cX12_suits 19 = .ok (.iconst 1, 1) := dk_4 (dk_at dksX12_suits_0 19 rfl rfl)
theorem dX12_suits_20 : decode cX12_suits 20 = .ok (.bipush 6, 2) := dk_16 6 (dk_at dksX12_suits_0 20 rfl rfl)
theorem dX12_suits_22 : decode cX12_suits 22 = .ok (.invokestatic 323, 3) := dk_184 1 67 (dk_at dksX12_suits_1 0 rfl rfl)
theorem dX12_suits_25 : decode cX12_suits 25 = .ok (.ifCond .ne 5, 3) := dk_154 0 5 (dk_at dksX12_suits_1 3 rfl rfl)
theorem dX12_suits_28 : decode cX12_suits 28 = .ok (.iconst (-1), 1) := dk_2 (dk_at dksX12_suits_1 6 rfl rfl)
theorem dX12_suits_29 : decode cX12_suits 29 = .ok (.ireturn, 1) := dk_172 (dk_at dksX12_suits_1 7 rfl rfl)
theorem dX12_suits_30 : decode cX12_suits 30 = .ok (.bipush (-2), 2) := dk_16 254 (dk_at dksX12_suits_1 8 rfl rfl)
theorem dX12_suits_32 : decode cX12_suits 32 = .ok (.istore 4, 2) := dk_54 4 (dk_at dksX12_suits_1 10 rfl rfl)
theorem dX12_suits_34 : decode cX12_suits 34 = .ok (.iconst 0, 1) := dk_3 (dk_at dksX12_suits_1 12 rfl rfl)
theorem dX12_suits_35 : decode cX12_suits 35 = .ok (.istore 5, 2) := dk_54 5 (dk_at dksX12_suits_1 13 rfl rfl)
theorem dX12_suits_37 : decode cX12_suits 37 = .ok (.iload 5, 2) := dk_21 5 (dk_at dksX12_suits_1 15 rfl rfl)
theorem dX12_suits_39 : decode cX12_suits 39 = .ok (.aload_n 0, 1) := dk_42 (dk_at dksX12_suits_1 17 rfl rfl)
theorem dX12_suits_40 : decode cX12_suits 40 = .ok (.getfield 61, 3) := dk_180 0 61 (dk_at dksX12_suits_1 18 rfl rfl)
theorem dX12_suits_43 : decode cX12_suits 43 = .ok (.aload_n 0, 1) := dk_42 (dk_at dksX12_suits_1 21 rfl rfl)
theorem dX12_suits_44 : decode cX12_suits 44 = .ok (.getfield 239, 3) := dk_180 0 239 (dk_at dksX12_suits_2 0 rfl rfl)
theorem dX12_suits_47 : decode cX12_suits 47 = .ok (.iaload, 1) := dk_46 (dk_at dksX12_suits_2 3 rfl rfl)
theorem dX12_suits_48 : decode cX12_suits 48 = .ok (.if_icmp .ge 57, 3) := dk_162 0 57 (dk_at dksX12_suits_2 4 rfl rfl)
theorem dX12_suits_51 : decode cX12_suits 51 = .ok (.aload_n 0, 1) := dk_42 (dk_at dksX12_suits_2 7 rfl rfl)
theorem dX12_suits_52 : decode cX12_suits 52 = .ok (.getfield 64, 3) := dk_180 0 64 (dk_at dksX12_suits_2 8 rfl rfl)
theorem dX12_suits_55 : decode cX12_suits 55 = .ok (.iconst 4, 1) := dk_7 (dk_at dksX12_suits_2 11 rfl rfl)
theorem dX12_suits_56 : decode cX12_suits 56 = .ok (.aload_n 0, 1) := dk_42 (dk_at dksX12_suits_2 12 rfl rfl)
theorem dX12_suits_57 : decode cX12_suits 57 = .ok (.getfield 239, 3) := dk_180 0 239 (dk_at dksX12_suits_2 13 rfl rfl)
theorem dX12_suits_60 : decode cX12_suits 60 = .ok (.imul, 1) := dk_104 (dk_at dksX12_suits_2 16 rfl rfl)
theorem dX12_suits_61 : decode cX12_suits 61 = .ok (.iload 5, 2) := dk_21 5 (dk_at dksX12_suits_2 17 rfl rfl)
theorem dX12_suits_63 : decode cX12_suits 63 = .ok (.iadd, 1) := dk_96 (dk_at dksX12_suits_2 19 rfl rfl)
theorem dX12_suits_64 : decode cX12_suits 64 = .ok (.iaload, 1) := dk_46 (dk_at dksX12_suits_2 20 rfl rfl)
theorem dX12_suits_65 : decode cX12_suits 65 = .ok (.iload_n 2, 1) := dk_28 (dk_at dksX12_suits_2 21 rfl rfl)
theorem dX12_suits_66 : decode cX12_suits 66 = .ok (.if_icmp .lt 33, 3) := dk_161 0 33 (dk_at dksX12_suits_3 0 rfl rfl)
theorem dX12_suits_69 : decode cX12_suits 69 = .ok (.iload 4, 2) := dk_21 4 (dk_at dksX12_suits_3 3 rfl rfl)
theorem dX12_suits_71 : decode cX12_suits 71 = .ok (.ifCond .lt 24, 3) := dk_155 0 24 (dk_at dksX12_suits_3 5 rfl rfl)
theorem dX12_suits_74 : decode cX12_suits 74 = .ok (.aload_n 0, 1) := dk_42 (dk_at dksX12_suits_3 8 rfl rfl)
theorem dX12_suits_75 : decode cX12_suits 75 = .ok (.iload 5, 2) := dk_21 5 (dk_at dksX12_suits_3 9 rfl rfl)
theorem dX12_suits_77 : decode cX12_suits 77 = .ok (.iload_n 1, 1) := dk_27 (dk_at dksX12_suits_3 11 rfl rfl)
theorem dX12_suits_78 : decode cX12_suits 78 = .ok (.iload_n 2, 1) := dk_28 (dk_at dksX12_suits_3 12 rfl rfl)
theorem dX12_suits_79 : decode cX12_suits 79 = .ok (.iload_n 3, 1) := dk_29 (dk_at dksX12_suits_3 13 rfl rfl)
theorem dX12_suits_80 : decode cX12_suits 80 = .ok (.invokevirtual 451, 3) := dk_182 1 195 (dk_at dksX12_suits_3 14 rfl rfl)
theorem dX12_suits_83 : decode cX12_suits 83 = .ok (.aload_n 0, 1) := dk_42 (dk_at dksX12_suits_3 17 rfl rfl)
theorem dX12_suits_84 : decode cX12_suits 84 = .ok (.iload 4, 2) := dk_21 4 (dk_at dksX12_suits_3 18 rfl rfl)
theorem dX12_suits_86 : decode cX12_suits 86 = .ok (.iload_n 1, 1) := dk_27 (dk_at dksX12_suits_3 20 rfl rfl)
theorem dX12_suits_87 : decode cX12_suits 87 = .ok (.iload_n 2, 1) := dk_28 (dk_at dksX12_suits_3 21 rfl rfl)
theorem dX12_suits_88 : decode cX12_suits 88 = .ok (.iload_n 3, 1) := dk_29 (dk_at dksX12_suits_3 22 rfl rfl)
theorem dX12_suits_89 : decode cX12_suits 89 = .ok (.invokevirtual 451, 3) := dk_182 1 195 (dk_at dksX12_suits_4 0 rfl rfl)
theorem dX12_suits_92 : decode cX12_suits 92 = .ok (.if_icmp .ge 7, 3) := dk_162 0 7 (dk_at dksX12_suits_4 3 rfl rfl)
theorem dX12_suits_95 : decode cX12_suits 95 = .ok (.iload 5, 2) := dk_21 5 (dk_at dksX12_suits_4 6 rfl rfl)
theorem dX12_suits_97 : decode cX12_suits 97 = .ok (.istore 4, 2) := dk_54 4 (dk_at dksX12_suits_4 8 rfl rfl)
theorem dX12_suits_99 : decode cX12_suits 99 = .ok (.iinc 5 1, 3) := dk_132 5 1 (dk_at dksX12_suits_4 10 rfl rfl)
theorem dX12_suits_102 : decode cX12_suits 102 = .ok (.goto (-65), 3) := dk_167 255 191 (dk_at dksX12_suits_4 13 rfl rfl)
theorem dX12_suits_105 : decode cX12_suits 105 = .ok (.iload 4, 2) := dk_21 4 (dk_at dksX12_suits_4 16 rfl rfl)
theorem dX12_suits_107 : decode cX12_suits 107 = .ok (.ireturn, 1) := dk_172 (dk_at dksX12_suits_4 18 rfl rfl)
abbrev cX12_now : ByteArray := prog_22_method_102_code
def yX12_now : MethodName := ⟨RX12, "now", "(IZ)I"⟩
def dkwX12_now_3 : List UInt8 := [132, 3, 1, 132, 4, 1, 167, 255, 199, 29, 172]
abbrev dktX12_now_3 : List UInt8 := dkwX12_now_3 ++ []
def dkwX12_now_2 : List UInt8 := [153, 0, 15, 42, 21, 4, 182, 1, 116, 153, 0, 18, 167, 0, 12, 42, 21, 4, 182, 1, 113, 153, 0, 6]
abbrev dktX12_now_2 : List UInt8 := dkwX12_now_2 ++ dktX12_now_3
def dkwX12_now_1 : List UInt8 := [162, 0, 56, 42, 21, 4, 182, 1, 110, 153, 0, 41, 42, 21, 4, 182, 1, 91, 27, 160, 0, 31, 28]
abbrev dktX12_now_1 : List UInt8 := dkwX12_now_1 ++ dktX12_now_2
def dkwX12_now_0 : List UInt8 := [42, 27, 182, 1, 131, 154, 0, 5, 2, 172, 42, 182, 1, 125, 3, 62, 3, 54, 4, 21, 4, 16, 48]
abbrev dktX12_now_0 : List UInt8 := dkwX12_now_0 ++ dktX12_now_1
theorem dksX12_now_0 : cX12_now.data.toList.drop 0 = dktX12_now_0 := by decide +kernel
theorem dksX12_now_1 : cX12_now.data.toList.drop 23 = dktX12_now_1 := dk_seg dksX12_now_0 23 rfl rfl
theorem dksX12_now_2 : cX12_now.data.toList.drop 46 = dktX12_now_2 := dk_seg dksX12_now_1 23 rfl rfl
theorem dksX12_now_3 : cX12_now.data.toList.drop 70 = dktX12_now_3 := dk_seg dksX12_now_2 24 rfl rfl
theorem dX12_now_0 : decode cX12_now 0 = .ok (.aload_n 0, 1) := dk_42 (dk_at dksX12_now_0 0 rfl rfl)
theorem dX12_now_1 : decode cX12_now 1 = .ok (.iload_n 1, 1) := dk_27 (dk_at dksX12_now_0 1 rfl rfl)
theorem dX12_now_2 : decode cX12_now 2 = .ok (.invokevirtual 387, 3) := dk_182 1 131 (dk_at dksX12_now_0 2 rfl rfl)
theorem dX12_now_5 : decode cX12_now 5 = .ok (.ifCond .ne 5, 3) := dk_154 0 5 (dk_at dksX12_now_0 5 rfl rfl)
theorem dX12_now_8 : decode cX12_now 8 = .ok (.iconst (-1), 1) := dk_2 (dk_at dksX12_now_0 8 rfl rfl)
theorem dX12_now_9 : decode cX12_now 9 = .ok (.ireturn, 1) := dk_172 (dk_at dksX12_now_0 9 rfl rfl)
theorem dX12_now_10 : decode cX12_now 10 = .ok (.aload_n 0, 1) := dk_42 (dk_at dksX12_now_0 10 rfl rfl)
theorem dX12_now_11 : decode cX12_now 11 = .ok (.invokevirtual 381, 3) := dk_182 1 125 (dk_at dksX12_now_0 11 rfl rfl)
theorem dX12_now_14 : decode cX12_now 14 = .ok (.iconst 0, 1) := dk_3 (dk_at dksX12_now_0 14 rfl rfl)
theorem dX12_now_15 : decode cX12_now 15 = .ok (.istore_n 3, 1) := dk_62 (dk_at dksX12_now_0 15 rfl rfl)
theorem dX12_now_16 : decode cX12_now 16 = .ok (.iconst 0, 1) := dk_3 (dk_at dksX12_now_0 16 rfl rfl)
theorem dX12_now_17 : decode cX12_now 17 = .ok (.istore 4, 2) := dk_54 4 (dk_at dksX12_now_0 17 rfl rfl)
theorem dX12_now_19 : decode cX12_now 19 = .ok (.iload 4, 2) := dk_21 4 (dk_at dksX12_now_0 19 rfl rfl)
theorem dX12_now_21 : decode cX12_now 21 = .ok (.bipush 48, 2) := dk_16 48 (dk_at dksX12_now_0 21 rfl rfl)
theorem dX12_now_23 : decode cX12_now 23 = .ok (.if_icmp .ge 56, 3) := dk_162 0 56 (dk_at dksX12_now_1 0 rfl rfl)
theorem dX12_now_26 : decode cX12_now 26 = .ok (.aload_n 0, 1) := dk_42 (dk_at dksX12_now_1 3 rfl rfl)
theorem dX12_now_27 : decode cX12_now 27 = .ok (.iload 4, 2) := dk_21 4 (dk_at dksX12_now_1 4 rfl rfl)
theorem dX12_now_29 : decode cX12_now 29 = .ok (.invokevirtual 366, 3) := dk_182 1 110 (dk_at dksX12_now_1 6 rfl rfl)
theorem dX12_now_32 : decode cX12_now 32 = .ok (.ifCond .eq 41, 3) := dk_153 0 41 (dk_at dksX12_now_1 9 rfl rfl)
theorem dX12_now_35 : decode cX12_now 35 = .ok (.aload_n 0, 1) := dk_42 (dk_at dksX12_now_1 12 rfl rfl)
theorem dX12_now_36 : decode cX12_now 36 = .ok (.iload 4, 2) := dk_21 4 (dk_at dksX12_now_1 13 rfl rfl)
theorem dX12_now_38 : decode cX12_now 38 = .ok (.invokevirtual 347, 3) := dk_182 1 91 (dk_at dksX12_now_1 15 rfl rfl)
theorem dX12_now_41 : decode cX12_now 41 = .ok (.iload_n 1, 1) := dk_27 (dk_at dksX12_now_1 18 rfl rfl)
theorem dX12_now_42 : decode cX12_now 42 = .ok (.if_icmp .ne 31, 3) := dk_160 0 31 (dk_at dksX12_now_1 19 rfl rfl)
theorem dX12_now_45 : decode cX12_now 45 = .ok (.iload_n 2, 1) := dk_28 (dk_at dksX12_now_1 22 rfl rfl)
theorem dX12_now_46 : decode cX12_now 46 = .ok (.ifCond .eq 15, 3) := dk_153 0 15 (dk_at dksX12_now_2 0 rfl rfl)
theorem dX12_now_49 : decode cX12_now 49 = .ok (.aload_n 0, 1) := dk_42 (dk_at dksX12_now_2 3 rfl rfl)
theorem dX12_now_50 : decode cX12_now 50 = .ok (.iload 4, 2) := dk_21 4 (dk_at dksX12_now_2 4 rfl rfl)
theorem dX12_now_52 : decode cX12_now 52 = .ok (.invokevirtual 372, 3) := dk_182 1 116 (dk_at dksX12_now_2 6 rfl rfl)
theorem dX12_now_55 : decode cX12_now 55 = .ok (.ifCond .eq 18, 3) := dk_153 0 18 (dk_at dksX12_now_2 9 rfl rfl)
theorem dX12_now_58 : decode cX12_now 58 = .ok (.goto 12, 3) := dk_167 0 12 (dk_at dksX12_now_2 12 rfl rfl)
theorem dX12_now_61 : decode cX12_now 61 = .ok (.aload_n 0, 1) := dk_42 (dk_at dksX12_now_2 15 rfl rfl)
theorem dX12_now_62 : decode cX12_now 62 = .ok (.iload 4, 2) := dk_21 4 (dk_at dksX12_now_2 16 rfl rfl)
theorem dX12_now_64 : decode cX12_now 64 = .ok (.invokevirtual 369, 3) := dk_182 1 113 (dk_at dksX12_now_2 18 rfl rfl)
theorem dX12_now_67 : decode cX12_now 67 = .ok (.ifCond .eq 6, 3) := dk_153 0 6 (dk_at dksX12_now_2 21 rfl rfl)
theorem dX12_now_70 : decode cX12_now 70 = .ok (.iinc 3 1, 3) := dk_132 3 1 (dk_at dksX12_now_3 0 rfl rfl)
theorem dX12_now_73 : decode cX12_now 73 = .ok (.iinc 4 1, 3) := dk_132 4 1 (dk_at dksX12_now_3 3 rfl rfl)
theorem dX12_now_76 : decode cX12_now 76 = .ok (.goto (-57), 3) := dk_167 255 199 (dk_at dksX12_now_3 6 rfl rfl)
theorem dX12_now_79 : decode cX12_now 79 = .ok (.iload_n 3, 1) := dk_29 (dk_at dksX12_now_3 9 rfl rfl)
theorem dX12_now_80 : decode cX12_now 80 = .ok (.ireturn, 1) := dk_172 (dk_at dksX12_now_3 10 rfl rfl)
abbrev cX12_year : ByteArray := prog_22_method_103_code
def yX12_year : MethodName := ⟨RX12, "year", "(II)I"⟩
def dkwX12_year_2 : List UInt8 := [182, 1, 146, 29, 42, 16, 76, 182, 1, 189, 96, 62, 132, 4, 1, 167, 255, 218, 29, 172]
abbrev dktX12_year_2 : List UInt8 := dkwX12_year_2 ++ []
def dkwX12_year_1 : List UInt8 := [21, 4, 28, 162, 0, 38, 42, 182, 1, 125, 42, 89, 180, 1, 71, 21, 4, 96, 181, 1, 71, 42, 27]
abbrev dktX12_year_1 : List UInt8 := dkwX12_year_1 ++ dktX12_year_2
def dkwX12_year_0 : List UInt8 := [27, 184, 1, 186, 153, 0, 13, 28, 4, 16, 20, 184, 1, 67, 154, 0, 5, 2, 172, 3, 62, 3, 54, 4]
abbrev dktX12_year_0 : List UInt8 := dkwX12_year_0 ++ dktX12_year_1
theorem dksX12_year_0 : cX12_year.data.toList.drop 0 = dktX12_year_0 := by decide +kernel
theorem dksX12_year_1 : cX12_year.data.toList.drop 24 = dktX12_year_1 := dk_seg dksX12_year_0 24 rfl rfl
theorem dksX12_year_2 : cX12_year.data.toList.drop 47 = dktX12_year_2 := dk_seg dksX12_year_1 23 rfl rfl
theorem dX12_year_0 : decode cX12_year 0 = .ok (.iload_n 1, 1) := dk_27 (dk_at dksX12_year_0 0 rfl rfl)
theorem dX12_year_1 : decode cX12_year 1 = .ok (.invokestatic 442, 3) := dk_184 1 186 (dk_at dksX12_year_0 1 rfl rfl)
theorem dX12_year_4 : decode cX12_year 4 = .ok (.ifCond .eq 13, 3) := dk_153 0 13 (dk_at dksX12_year_0 4 rfl rfl)
theorem dX12_year_7 : decode cX12_year 7 = .ok (.iload_n 2, 1) := dk_28 (dk_at dksX12_year_0 7 rfl rfl)
theorem dX12_year_8 : decode cX12_year 8 = .ok (.iconst 1, 1) := dk_4 (dk_at dksX12_year_0 8 rfl rfl)
theorem dX12_year_9 : decode cX12_year 9 = .ok (.bipush 20, 2) := dk_16 20 (dk_at dksX12_year_0 9 rfl rfl)
theorem dX12_year_11 : decode cX12_year 11 = .ok (.invokestatic 323, 3) := dk_184 1 67 (dk_at dksX12_year_0 11 rfl rfl)
theorem dX12_year_14 : decode cX12_year 14 = .ok (.ifCond .ne 5, 3) := dk_154 0 5 (dk_at dksX12_year_0 14 rfl rfl)
theorem dX12_year_17 : decode cX12_year 17 = .ok (.iconst (-1), 1) := dk_2 (dk_at dksX12_year_0 17 rfl rfl)
theorem dX12_year_18 : decode cX12_year 18 = .ok (.ireturn, 1) := dk_172 (dk_at dksX12_year_0 18 rfl rfl)
theorem dX12_year_19 : decode cX12_year 19 = .ok (.iconst 0, 1) := dk_3 (dk_at dksX12_year_0 19 rfl rfl)
theorem dX12_year_20 : decode cX12_year 20 = .ok (.istore_n 3, 1) := dk_62 (dk_at dksX12_year_0 20 rfl rfl)
theorem dX12_year_21 : decode cX12_year 21 = .ok (.iconst 0, 1) := dk_3 (dk_at dksX12_year_0 21 rfl rfl)
theorem dX12_year_22 : decode cX12_year 22 = .ok (.istore 4, 2) := dk_54 4 (dk_at dksX12_year_0 22 rfl rfl)
theorem dX12_year_24 : decode cX12_year 24 = .ok (.iload 4, 2) := dk_21 4 (dk_at dksX12_year_1 0 rfl rfl)
theorem dX12_year_26 : decode cX12_year 26 = .ok (.iload_n 2, 1) := dk_28 (dk_at dksX12_year_1 2 rfl rfl)
theorem dX12_year_27 : decode cX12_year 27 = .ok (.if_icmp .ge 38, 3) := dk_162 0 38 (dk_at dksX12_year_1 3 rfl rfl)
theorem dX12_year_30 : decode cX12_year 30 = .ok (.aload_n 0, 1) := dk_42 (dk_at dksX12_year_1 6 rfl rfl)
theorem dX12_year_31 : decode cX12_year 31 = .ok (.invokevirtual 381, 3) := dk_182 1 125 (dk_at dksX12_year_1 7 rfl rfl)
theorem dX12_year_34 : decode cX12_year 34 = .ok (.aload_n 0, 1) := dk_42 (dk_at dksX12_year_1 10 rfl rfl)
theorem dX12_year_35 : decode cX12_year 35 = .ok (.dup, 1) := dk_89 (dk_at dksX12_year_1 11 rfl rfl)
theorem dX12_year_36 : decode cX12_year 36 = .ok (.getfield 327, 3) := dk_180 1 71 (dk_at dksX12_year_1 12 rfl rfl)
theorem dX12_year_39 : decode cX12_year 39 = .ok (.iload 4, 2) := dk_21 4 (dk_at dksX12_year_1 15 rfl rfl)
theorem dX12_year_41 : decode cX12_year 41 = .ok (.iadd, 1) := dk_96 (dk_at dksX12_year_1 17 rfl rfl)
theorem dX12_year_42 : decode cX12_year 42 = .ok (.putfield 327, 3) := dk_181 1 71 (dk_at dksX12_year_1 18 rfl rfl)
theorem dX12_year_45 : decode cX12_year 45 = .ok (.aload_n 0, 1) := dk_42 (dk_at dksX12_year_1 21 rfl rfl)
theorem dX12_year_46 : decode cX12_year 46 = .ok (.iload_n 1, 1) := dk_27 (dk_at dksX12_year_1 22 rfl rfl)
theorem dX12_year_47 : decode cX12_year 47 = .ok (.invokevirtual 402, 3) := dk_182 1 146 (dk_at dksX12_year_2 0 rfl rfl)
theorem dX12_year_50 : decode cX12_year 50 = .ok (.iload_n 3, 1) := dk_29 (dk_at dksX12_year_2 3 rfl rfl)
theorem dX12_year_51 : decode cX12_year 51 = .ok (.aload_n 0, 1) := dk_42 (dk_at dksX12_year_2 4 rfl rfl)
theorem dX12_year_52 : decode cX12_year 52 = .ok (.bipush 76, 2) := dk_16 76 (dk_at dksX12_year_2 5 rfl rfl)
theorem dX12_year_54 : decode cX12_year 54 = .ok (.invokevirtual 445, 3) := dk_182 1 189 (dk_at dksX12_year_2 7 rfl rfl)
theorem dX12_year_57 : decode cX12_year 57 = .ok (.iadd, 1) := dk_96 (dk_at dksX12_year_2 10 rfl rfl)
theorem dX12_year_58 : decode cX12_year 58 = .ok (.istore_n 3, 1) := dk_62 (dk_at dksX12_year_2 11 rfl rfl)
theorem dX12_year_59 : decode cX12_year 59 = .ok (.iinc 4 1, 3) := dk_132 4 1 (dk_at dksX12_year_2 12 rfl rfl)
theorem dX12_year_62 : decode cX12_year 62 = .ok (.goto (-38), 3) := dk_167 255 218 (dk_at dksX12_year_2 15 rfl rfl)
theorem dX12_year_65 : decode cX12_year 65 = .ok (.iload_n 3, 1) := dk_29 (dk_at dksX12_year_2 18 rfl rfl)
theorem dX12_year_66 : decode cX12_year 66 = .ok (.ireturn, 1) := dk_172 (dk_at dksX12_year_2 19 rfl rfl)
abbrev cX12_tell : ByteArray := prog_22_method_104_code
def yX12_tell : MethodName := ⟨RX12, "tell", "(III)I"⟩
def dkwX12_tell_3 : List UInt8 := [100, 172]
abbrev dktX12_tell_3 : List UInt8 := dkwX12_tell_3 ++ []
def dkwX12_tell_2 : List UInt8 := [180, 0, 143, 42, 180, 1, 12, 29, 79, 42, 89, 180, 1, 12, 4, 96, 181, 1, 12, 42, 180, 1, 12, 4]
abbrev dktX12_tell_2 : List UInt8 := dkwX12_tell_2 ++ dktX12_tell_3
def dkwX12_tell_1 : List UInt8 := [184, 1, 67, 154, 0, 5, 2, 172, 42, 180, 0, 140, 42, 180, 1, 12, 16, 8, 28, 104, 27, 96, 79, 42]
abbrev dktX12_tell_1 : List UInt8 := dkwX12_tell_1 ++ dktX12_tell_2
def dkwX12_tell_0 : List UInt8 := [42, 180, 1, 12, 16, 20, 159, 0, 23, 42, 27, 28, 182, 1, 87, 153, 0, 14, 29, 3, 17, 3, 231]
abbrev dktX12_tell_0 : List UInt8 := dkwX12_tell_0 ++ dktX12_tell_1
theorem dksX12_tell_0 : cX12_tell.data.toList.drop 0 = dktX12_tell_0 := by decide +kernel
theorem dksX12_tell_1 : cX12_tell.data.toList.drop 23 = dktX12_tell_1 := dk_seg dksX12_tell_0 23 rfl rfl
theorem dksX12_tell_2 : cX12_tell.data.toList.drop 47 = dktX12_tell_2 := dk_seg dksX12_tell_1 24 rfl rfl
theorem dksX12_tell_3 : cX12_tell.data.toList.drop 71 = dktX12_tell_3 := dk_seg dksX12_tell_2 24 rfl rfl
theorem dX12_tell_0 : decode cX12_tell 0 = .ok (.aload_n 0, 1) := dk_42 (dk_at dksX12_tell_0 0 rfl rfl)
theorem dX12_tell_1 : decode cX12_tell 1 = .ok (.getfield 268, 3) := dk_180 1 12 (dk_at dksX12_tell_0 1 rfl rfl)
theorem dX12_tell_4 : decode cX12_tell 4 = .ok (.bipush 20, 2) := dk_16 20 (dk_at dksX12_tell_0 4 rfl rfl)
theorem dX12_tell_6 : decode cX12_tell 6 = .ok (.if_icmp .eq 23, 3) := dk_159 0 23 (dk_at dksX12_tell_0 6 rfl rfl)
theorem dX12_tell_9 : decode cX12_tell 9 = .ok (.aload_n 0, 1) := dk_42 (dk_at dksX12_tell_0 9 rfl rfl)
theorem dX12_tell_10 : decode cX12_tell 10 = .ok (.iload_n 1, 1) := dk_27 (dk_at dksX12_tell_0 10 rfl rfl)
theorem dX12_tell_11 : decode cX12_tell 11 = .ok (.iload_n 2, 1) := dk_28 (dk_at dksX12_tell_0 11 rfl rfl)
theorem dX12_tell_12 : decode cX12_tell 12 = .ok (.invokevirtual 343, 3) := dk_182 1 87 (dk_at dksX12_tell_0 12 rfl rfl)
theorem dX12_tell_15 : decode cX12_tell 15 = .ok (.ifCond .eq 14, 3) := dk_153 0 14 (dk_at dksX12_tell_0 15 rfl rfl)
theorem dX12_tell_18 : decode cX12_tell 18 = .ok (.iload_n 3, 1) := dk_29 (dk_at dksX12_tell_0 18 rfl rfl)
theorem dX12_tell_19 : decode cX12_tell 19 = .ok (.iconst 0, 1) := dk_3 (dk_at dksX12_tell_0 19 rfl rfl)
theorem dX12_tell_20 : decode cX12_tell 20 = .ok (.sipush 999, 3) := dk_17 3 231 (dk_at dksX12_tell_0 20 rfl rfl)
theorem dX12_tell_23 : decode cX12_tell 23 = .ok (.invokestatic 323, 3) := dk_184 1 67 (dk_at dksX12_tell_1 0 rfl rfl)
theorem dX12_tell_26 : decode cX12_tell 26 = .ok (.ifCond .ne 5, 3) := dk_154 0 5 (dk_at dksX12_tell_1 3 rfl rfl)
theorem dX12_tell_29 : decode cX12_tell 29 = .ok (.iconst (-1), 1) := dk_2 (dk_at dksX12_tell_1 6 rfl rfl)
theorem dX12_tell_30 : decode cX12_tell 30 = .ok (.ireturn, 1) := dk_172 (dk_at dksX12_tell_1 7 rfl rfl)
theorem dX12_tell_31 : decode cX12_tell 31 = .ok (.aload_n 0, 1) := dk_42 (dk_at dksX12_tell_1 8 rfl rfl)
theorem dX12_tell_32 : decode cX12_tell 32 = .ok (.getfield 140, 3) := dk_180 0 140 (dk_at dksX12_tell_1 9 rfl rfl)
theorem dX12_tell_35 : decode cX12_tell 35 = .ok (.aload_n 0, 1) := dk_42 (dk_at dksX12_tell_1 12 rfl rfl)
theorem dX12_tell_36 : decode cX12_tell 36 = .ok (.getfield 268, 3) := dk_180 1 12 (dk_at dksX12_tell_1 13 rfl rfl)
theorem dX12_tell_39 : decode cX12_tell 39 = .ok (.bipush 8, 2) := dk_16 8 (dk_at dksX12_tell_1 16 rfl rfl)
theorem dX12_tell_41 : decode cX12_tell 41 = .ok (.iload_n 2, 1) := dk_28 (dk_at dksX12_tell_1 18 rfl rfl)
theorem dX12_tell_42 : decode cX12_tell 42 = .ok (.imul, 1) := dk_104 (dk_at dksX12_tell_1 19 rfl rfl)
theorem dX12_tell_43 : decode cX12_tell 43 = .ok (.iload_n 1, 1) := dk_27 (dk_at dksX12_tell_1 20 rfl rfl)
theorem dX12_tell_44 : decode cX12_tell 44 = .ok (.iadd, 1) := dk_96 (dk_at dksX12_tell_1 21 rfl rfl)
theorem dX12_tell_45 : decode cX12_tell 45 = .ok (.iastore, 1) := dk_79 (dk_at dksX12_tell_1 22 rfl rfl)
theorem dX12_tell_46 : decode cX12_tell 46 = .ok (.aload_n 0, 1) := dk_42 (dk_at dksX12_tell_1 23 rfl rfl)
theorem dX12_tell_47 : decode cX12_tell 47 = .ok (.getfield 143, 3) := dk_180 0 143 (dk_at dksX12_tell_2 0 rfl rfl)
theorem dX12_tell_50 : decode cX12_tell 50 = .ok (.aload_n 0, 1) := dk_42 (dk_at dksX12_tell_2 3 rfl rfl)
theorem dX12_tell_51 : decode cX12_tell 51 = .ok (.getfield 268, 3) := dk_180 1 12 (dk_at dksX12_tell_2 4 rfl rfl)
theorem dX12_tell_54 : decode cX12_tell 54 = .ok (.iload_n 3, 1) := dk_29 (dk_at dksX12_tell_2 7 rfl rfl)
theorem dX12_tell_55 : decode cX12_tell 55 = .ok (.iastore, 1) := dk_79 (dk_at dksX12_tell_2 8 rfl rfl)
theorem dX12_tell_56 : decode cX12_tell 56 = .ok (.aload_n 0, 1) := dk_42 (dk_at dksX12_tell_2 9 rfl rfl)
theorem dX12_tell_57 : decode cX12_tell 57 = .ok (.dup, 1) := dk_89 (dk_at dksX12_tell_2 10 rfl rfl)
theorem dX12_tell_58 : decode cX12_tell 58 = .ok (.getfield 268, 3) := dk_180 1 12 (dk_at dksX12_tell_2 11 rfl rfl)
theorem dX12_tell_61 : decode cX12_tell 61 = .ok (.iconst 1, 1) := dk_4 (dk_at dksX12_tell_2 14 rfl rfl)
theorem dX12_tell_62 : decode cX12_tell 62 = .ok (.iadd, 1) := dk_96 (dk_at dksX12_tell_2 15 rfl rfl)
theorem dX12_tell_63 : decode cX12_tell 63 = .ok (.putfield 268, 3) := dk_181 1 12 (dk_at dksX12_tell_2 16 rfl rfl)
theorem dX12_tell_66 : decode cX12_tell 66 = .ok (.aload_n 0, 1) := dk_42 (dk_at dksX12_tell_2 19 rfl rfl)
theorem dX12_tell_67 : decode cX12_tell 67 = .ok (.getfield 268, 3) := dk_180 1 12 (dk_at dksX12_tell_2 20 rfl rfl)
theorem dX12_tell_70 : decode cX12_tell 70 = .ok (.iconst 1, 1) := dk_4 (dk_at dksX12_tell_2 23 rfl rfl)
theorem dX12_tell_71 : decode cX12_tell 71 = .ok (.isub, 1) := dk_100 (dk_at dksX12_tell_3 0 rfl rfl)
theorem dX12_tell_72 : decode cX12_tell 72 = .ok (.ireturn, 1) := dk_172 (dk_at dksX12_tell_3 1 rfl rfl)
abbrev cX12_forget : ByteArray := prog_22_method_105_code
def yX12_forget : MethodName := ⟨RX12, "forget", "()I"⟩
def dkwX12_forget_0 : List UInt8 := [42, 180, 1, 12, 60, 42, 3, 181, 1, 12, 27, 172]
abbrev dktX12_forget_0 : List UInt8 := dkwX12_forget_0 ++ []
theorem dksX12_forget_0 : cX12_forget.data.toList.drop 0 = dktX12_forget_0 := by decide +kernel
theorem dX12_forget_0 : decode cX12_forget 0 = .ok (.aload_n 0, 1) := dk_42 (dk_at dksX12_forget_0 0 rfl rfl)
theorem dX12_forget_1 : decode cX12_forget 1 = .ok (.getfield 268, 3) := dk_180 1 12 (dk_at dksX12_forget_0 1 rfl rfl)
theorem dX12_forget_4 : decode cX12_forget 4 = .ok (.istore_n 1, 1) := dk_60 (dk_at dksX12_forget_0 4 rfl rfl)
theorem dX12_forget_5 : decode cX12_forget 5 = .ok (.aload_n 0, 1) := dk_42 (dk_at dksX12_forget_0 5 rfl rfl)
theorem dX12_forget_6 : decode cX12_forget 6 = .ok (.iconst 0, 1) := dk_3 (dk_at dksX12_forget_0 6 rfl rfl)
theorem dX12_forget_7 : decode cX12_forget 7 = .ok (.putfield 268, 3) := dk_181 1 12 (dk_at dksX12_forget_0 7 rfl rfl)
theorem dX12_forget_10 : decode cX12_forget 10 = .ok (.iload_n 1, 1) := dk_27 (dk_at dksX12_forget_0 10 rfl rfl)
theorem dX12_forget_11 : decode cX12_forget 11 = .ok (.ireturn, 1) := dk_172 (dk_at dksX12_forget_0 11 rfl rfl)
abbrev cX12_fell : ByteArray := prog_22_method_109_code
def yX12_fell : MethodName := ⟨RX12, "fell", "(IIII)I"⟩
def dkwX12_fell_4 : List UInt8 := [160, 0, 8, 21, 5, 167, 0, 4, 2, 172]
abbrev dktX12_fell_4 : List UInt8 := dkwX12_fell_4 ++ []
def dkwX12_fell_3 : List UInt8 := [112, 104, 96, 21, 6, 16, 8, 112, 96, 172, 132, 5, 1, 132, 6, 1, 167, 255, 193, 21, 4, 2]
abbrev dktX12_fell_3 : List UInt8 := dkwX12_fell_3 ++ dktX12_fell_4
def dkwX12_fell_2 : List UInt8 := [21, 5, 21, 4, 160, 0, 30, 16, 100, 21, 6, 16, 64, 108, 104, 16, 10, 21, 6, 16, 8, 108, 16, 8]
abbrev dktX12_fell_2 : List UInt8 := dkwX12_fell_2 ++ dktX12_fell_3
def dkwX12_fell_1 : List UInt8 := [21, 6, 17, 1, 0, 162, 0, 61, 42, 21, 6, 28, 29, 27, 182, 1, 217, 154, 0, 6, 167, 0, 40]
abbrev dktX12_fell_1 : List UInt8 := dkwX12_fell_1 ++ dktX12_fell_2
def dkwX12_fell_0 : List UInt8 := [42, 27, 28, 29, 182, 1, 214, 153, 0, 9, 21, 4, 2, 162, 0, 5, 2, 172, 3, 54, 5, 3, 54, 6]
abbrev dktX12_fell_0 : List UInt8 := dkwX12_fell_0 ++ dktX12_fell_1
theorem dksX12_fell_0 : cX12_fell.data.toList.drop 0 = dktX12_fell_0 := by decide +kernel
theorem dksX12_fell_1 : cX12_fell.data.toList.drop 24 = dktX12_fell_1 := dk_seg dksX12_fell_0 24 rfl rfl
theorem dksX12_fell_2 : cX12_fell.data.toList.drop 47 = dktX12_fell_2 := dk_seg dksX12_fell_1 23 rfl rfl
theorem dksX12_fell_3 : cX12_fell.data.toList.drop 71 = dktX12_fell_3 := dk_seg dksX12_fell_2 24 rfl rfl
theorem dksX12_fell_4 : cX12_fell.data.toList.drop 93 = dktX12_fell_4 := dk_seg dksX12_fell_3 22 rfl rfl
theorem dX12_fell_0 : decode cX12_fell 0 = .ok (.aload_n 0, 1) := dk_42 (dk_at dksX12_fell_0 0 rfl rfl)
theorem dX12_fell_1 : decode cX12_fell 1 = .ok (.iload_n 1, 1) := dk_27 (dk_at dksX12_fell_0 1 rfl rfl)
theorem dX12_fell_2 : decode cX12_fell 2 = .ok (.iload_n 2, 1) := dk_28 (dk_at dksX12_fell_0 2 rfl rfl)
theorem dX12_fell_3 : decode cX12_fell 3 = .ok (.iload_n 3, 1) := dk_29 (dk_at dksX12_fell_0 3 rfl rfl)
theorem dX12_fell_4 : decode cX12_fell 4 = .ok (.invokevirtual 470, 3) := dk_182 1 214 (dk_at dksX12_fell_0 4 rfl rfl)
theorem dX12_fell_7 : decode cX12_fell 7 = .ok (.ifCond .eq 9, 3) := dk_153 0 9 (dk_at dksX12_fell_0 7 rfl rfl)
theorem dX12_fell_10 : decode cX12_fell 10 = .ok (.iload 4, 2) := dk_21 4 (dk_at dksX12_fell_0 10 rfl rfl)
theorem dX12_fell_12 : decode cX12_fell 12 = .ok (.iconst (-1), 1) := dk_2 (dk_at dksX12_fell_0 12 rfl rfl)
theorem dX12_fell_13 : decode cX12_fell 13 = .ok (.if_icmp .ge 5, 3) := dk_162 0 5 (dk_at dksX12_fell_0 13 rfl rfl)
theorem dX12_fell_16 : decode cX12_fell 16 = .ok (.iconst (-1), 1) := dk_2 (dk_at dksX12_fell_0 16 rfl rfl)
theorem dX12_fell_17 : decode cX12_fell 17 = .ok (.ireturn, 1) := dk_172 (dk_at dksX12_fell_0 17 rfl rfl)
theorem dX12_fell_18 : decode cX12_fell 18 = .ok (.iconst 0, 1) := dk_3 (dk_at dksX12_fell_0 18 rfl rfl)
theorem dX12_fell_19 : decode cX12_fell 19 = .ok (.istore 5, 2) := dk_54 5 (dk_at dksX12_fell_0 19 rfl rfl)
theorem dX12_fell_21 : decode cX12_fell 21 = .ok (.iconst 0, 1) := dk_3 (dk_at dksX12_fell_0 21 rfl rfl)
theorem dX12_fell_22 : decode cX12_fell 22 = .ok (.istore 6, 2) := dk_54 6 (dk_at dksX12_fell_0 22 rfl rfl)
theorem dX12_fell_24 : decode cX12_fell 24 = .ok (.iload 6, 2) := dk_21 6 (dk_at dksX12_fell_1 0 rfl rfl)
theorem dX12_fell_26 : decode cX12_fell 26 = .ok (.sipush 256, 3) := dk_17 1 0 (dk_at dksX12_fell_1 2 rfl rfl)
theorem dX12_fell_29 : decode cX12_fell 29 = .ok (.if_icmp .ge 61, 3) := dk_162 0 61 (dk_at dksX12_fell_1 5 rfl rfl)
theorem dX12_fell_32 : decode cX12_fell 32 = .ok (.aload_n 0, 1) := dk_42 (dk_at dksX12_fell_1 8 rfl rfl)
theorem dX12_fell_33 : decode cX12_fell 33 = .ok (.iload 6, 2) := dk_21 6 (dk_at dksX12_fell_1 9 rfl rfl)
theorem dX12_fell_35 : decode cX12_fell 35 = .ok (.iload_n 2, 1) := dk_28 (dk_at dksX12_fell_1 11 rfl rfl)
theorem dX12_fell_36 : decode cX12_fell 36 = .ok (.iload_n 3, 1) := dk_29 (dk_at dksX12_fell_1 12 rfl rfl)
theorem dX12_fell_37 : decode cX12_fell 37 = .ok (.iload_n 1, 1) := dk_27 (dk_at dksX12_fell_1 13 rfl rfl)
theorem dX12_fell_38 : decode cX12_fell 38 = .ok (.invokevirtual 473, 3) := dk_182 1 217 (dk_at dksX12_fell_1 14 rfl rfl)
theorem dX12_fell_41 : decode cX12_fell 41 = .ok (.ifCond .ne 6, 3) := dk_154 0 6 (dk_at dksX12_fell_1 17 rfl rfl)
theorem dX12_fell_44 : decode cX12_fell 44 = .ok (.goto 40, 3) := dk_167 0 40 (dk_at dksX12_fell_1 20 rfl rfl)
theorem dX12_fell_47 : decode cX12_fell 47 = .ok (.iload 5, 2) := dk_21 5 (dk_at dksX12_fell_2 0 rfl rfl)
theorem dX12_fell_49 : decode cX12_fell 49 = .ok (.iload 4, 2) := dk_21 4 (dk_at dksX12_fell_2 2 rfl rfl)
theorem dX12_fell_51 : decode cX12_fell 51 = .ok (.if_icmp .ne 30, 3) := dk_160 0 30 (dk_at dksX12_fell_2 4 rfl rfl)
theorem dX12_fell_54 : decode cX12_fell 54 = .ok (.bipush 100, 2) := dk_16 100 (dk_at dksX12_fell_2 7 rfl rfl)
theorem dX12_fell_56 : decode cX12_fell 56 = .ok (.iload 6, 2) := dk_21 6 (dk_at dksX12_fell_2 9 rfl rfl)
theorem dX12_fell_58 : decode cX12_fell 58 = .ok (.bipush 64, 2) := dk_16 64 (dk_at dksX12_fell_2 11 rfl rfl)
theorem dX12_fell_60 : decode cX12_fell 60 = .ok (.idiv, 1) := dk_108 (dk_at dksX12_fell_2 13 rfl rfl)
theorem dX12_fell_61 : decode cX12_fell 61 = .ok (.imul, 1) := dk_104 (dk_at dksX12_fell_2 14 rfl rfl)
theorem dX12_fell_62 : decode cX12_fell 62 = .ok (.bipush 10, 2) := dk_16 10 (dk_at dksX12_fell_2 15 rfl rfl)
theorem dX12_fell_64 : decode cX12_fell 64 = .ok (.iload 6, 2) := dk_21 6 (dk_at dksX12_fell_2 17 rfl rfl)
theorem dX12_fell_66 : decode cX12_fell 66 = .ok (.bipush 8, 2) := dk_16 8 (dk_at dksX12_fell_2 19 rfl rfl)
theorem dX12_fell_68 : decode cX12_fell 68 = .ok (.idiv, 1) := dk_108 (dk_at dksX12_fell_2 21 rfl rfl)
theorem dX12_fell_69 : decode cX12_fell 69 = .ok (.bipush 8, 2) := dk_16 8 (dk_at dksX12_fell_2 22 rfl rfl)
theorem dX12_fell_71 : decode cX12_fell 71 = .ok (.irem, 1) := dk_112 (dk_at dksX12_fell_3 0 rfl rfl)
theorem dX12_fell_72 : decode cX12_fell 72 = .ok (.imul, 1) := dk_104 (dk_at dksX12_fell_3 1 rfl rfl)
theorem dX12_fell_73 : decode cX12_fell 73 = .ok (.iadd, 1) := dk_96 (dk_at dksX12_fell_3 2 rfl rfl)
theorem dX12_fell_74 : decode cX12_fell 74 = .ok (.iload 6, 2) := dk_21 6 (dk_at dksX12_fell_3 3 rfl rfl)
theorem dX12_fell_76 : decode cX12_fell 76 = .ok (.bipush 8, 2) := dk_16 8 (dk_at dksX12_fell_3 5 rfl rfl)
theorem dX12_fell_78 : decode cX12_fell 78 = .ok (.irem, 1) := dk_112 (dk_at dksX12_fell_3 7 rfl rfl)
theorem dX12_fell_79 : decode cX12_fell 79 = .ok (.iadd, 1) := dk_96 (dk_at dksX12_fell_3 8 rfl rfl)
theorem dX12_fell_80 : decode cX12_fell 80 = .ok (.ireturn, 1) := dk_172 (dk_at dksX12_fell_3 9 rfl rfl)
theorem dX12_fell_81 : decode cX12_fell 81 = .ok (.iinc 5 1, 3) := dk_132 5 1 (dk_at dksX12_fell_3 10 rfl rfl)
theorem dX12_fell_84 : decode cX12_fell 84 = .ok (.iinc 6 1, 3) := dk_132 6 1 (dk_at dksX12_fell_3 13 rfl rfl)
theorem dX12_fell_87 : decode cX12_fell 87 = .ok (.goto (-63), 3) := dk_167 255 193 (dk_at dksX12_fell_3 16 rfl rfl)
theorem dX12_fell_90 : decode cX12_fell 90 = .ok (.iload 4, 2) := dk_21 4 (dk_at dksX12_fell_3 19 rfl rfl)
theorem dX12_fell_92 : decode cX12_fell 92 = .ok (.iconst (-1), 1) := dk_2 (dk_at dksX12_fell_3 21 rfl rfl)
theorem dX12_fell_93 : decode cX12_fell 93 = .ok (.if_icmp .ne 8, 3) := dk_160 0 8 (dk_at dksX12_fell_4 0 rfl rfl)
theorem dX12_fell_96 : decode cX12_fell 96 = .ok (.iload 5, 2) := dk_21 5 (dk_at dksX12_fell_4 3 rfl rfl)
theorem dX12_fell_98 : decode cX12_fell 98 = .ok (.goto 4, 3) := dk_167 0 4 (dk_at dksX12_fell_4 5 rfl rfl)
theorem dX12_fell_101 : decode cX12_fell 101 = .ok (.iconst (-1), 1) := dk_2 (dk_at dksX12_fell_4 8 rfl rfl)
theorem dX12_fell_102 : decode cX12_fell 102 = .ok (.ireturn, 1) := dk_172 (dk_at dksX12_fell_4 9 rfl rfl)
abbrev cX12_isAsked : ByteArray := prog_22_method_108_code
def yX12_isAsked : MethodName := ⟨RX12, "isAsked", "(III)Z"⟩
def dkwX12_isAsked_1 : List UInt8 := [16, 6, 184, 1, 67, 153, 0, 7, 4, 167, 0, 4, 3, 172]
abbrev dktX12_isAsked_1 : List UInt8 := dkwX12_isAsked_1 ++ []
def dkwX12_isAsked_0 : List UInt8 := [27, 3, 42, 180, 1, 12, 184, 1, 67, 153, 0, 27, 28, 4, 16, 8, 184, 1, 67, 153, 0, 17, 29, 4]
abbrev dktX12_isAsked_0 : List UInt8 := dkwX12_isAsked_0 ++ dktX12_isAsked_1
theorem dksX12_isAsked_0 : cX12_isAsked.data.toList.drop 0 = dktX12_isAsked_0 := by decide +kernel
theorem dksX12_isAsked_1 : cX12_isAsked.data.toList.drop 24 = dktX12_isAsked_1 := dk_seg dksX12_isAsked_0 24 rfl rfl
theorem dX12_isAsked_0 : decode cX12_isAsked 0 = .ok (.iload_n 1, 1) := dk_27 (dk_at dksX12_isAsked_0 0 rfl rfl)
theorem dX12_isAsked_1 : decode cX12_isAsked 1 = .ok (.iconst 0, 1) := dk_3 (dk_at dksX12_isAsked_0 1 rfl rfl)
theorem dX12_isAsked_2 : decode cX12_isAsked 2 = .ok (.aload_n 0, 1) := dk_42 (dk_at dksX12_isAsked_0 2 rfl rfl)
theorem dX12_isAsked_3 : decode cX12_isAsked 3 = .ok (.getfield 268, 3) := dk_180 1 12 (dk_at dksX12_isAsked_0 3 rfl rfl)
theorem dX12_isAsked_6 : decode cX12_isAsked 6 = .ok (.invokestatic 323, 3) := dk_184 1 67 (dk_at dksX12_isAsked_0 6 rfl rfl)
theorem dX12_isAsked_9 : decode cX12_isAsked 9 = .ok (.ifCond .eq 27, 3) := dk_153 0 27 (dk_at dksX12_isAsked_0 9 rfl rfl)
theorem dX12_isAsked_12 : decode cX12_isAsked 12 = .ok (.iload_n 2, 1) := dk_28 (dk_at dksX12_isAsked_0 12 rfl rfl)
theorem dX12_isAsked_13 : decode cX12_isAsked 13 = .ok (.iconst 1, 1) := dk_4 (dk_at dksX12_isAsked_0 13 rfl rfl)
theorem dX12_isAsked_14 : decode cX12_isAsked 14 = .ok (.bipush 8, 2) := dk_16 8 (dk_at dksX12_isAsked_0 14 rfl rfl)
theorem dX12_isAsked_16 : decode cX12_isAsked 16 = .ok (.invokestatic 323, 3) := dk_184 1 67 (dk_at dksX12_isAsked_0 16 rfl rfl)
theorem dX12_isAsked_19 : decode cX12_isAsked 19 = .ok (.ifCond .eq 17, 3) := dk_153 0 17 (dk_at dksX12_isAsked_0 19 rfl rfl)
theorem dX12_isAsked_22 : decode cX12_isAsked 22 = .ok (.iload_n 3, 1) := dk_29 (dk_at dksX12_isAsked_0 22 rfl rfl)
theorem dX12_isAsked_23 : decode cX12_isAsked 23 = .ok (.iconst 1, 1) := dk_4 (dk_at dksX12_isAsked_0 23 rfl rfl)
theorem dX12_isAsked_24 : decode cX12_isAsked 24 = .ok (.bipush 6, 2) := dk_16 6 (dk_at dksX12_isAsked_1 0 rfl rfl)
theorem dX12_isAsked_26 : decode cX12_isAsked 26 = .ok (.invokestatic 323, 3) := dk_184 1 67 (dk_at dksX12_isAsked_1 2 rfl rfl)
theorem dX12_isAsked_29 : decode cX12_isAsked 29 = .ok (.ifCond .eq 7, 3) := dk_153 0 7 (dk_at dksX12_isAsked_1 5 rfl rfl)
theorem dX12_isAsked_32 : decode cX12_isAsked 32 = .ok (.iconst 1, 1) := dk_4 (dk_at dksX12_isAsked_1 8 rfl rfl)
theorem dX12_isAsked_33 : decode cX12_isAsked 33 = .ok (.goto 4, 3) := dk_167 0 4 (dk_at dksX12_isAsked_1 9 rfl rfl)
theorem dX12_isAsked_36 : decode cX12_isAsked 36 = .ok (.iconst 0, 1) := dk_3 (dk_at dksX12_isAsked_1 12 rfl rfl)
theorem dX12_isAsked_37 : decode cX12_isAsked 37 = .ok (.ireturn, 1) := dk_172 (dk_at dksX12_isAsked_1 13 rfl rfl)
abbrev cX12_isWay : ByteArray := prog_22_method_107_code
def yX12_isWay : MethodName := ⟨RX12, "isWay", "(IIII)Z"⟩
def dkwX12_isWay_4 : List UInt8 := [182, 1, 211, 42, 180, 0, 143, 21, 5, 46, 159, 0, 5, 3, 172, 132, 5, 1, 167, 255, 220, 4, 172]
abbrev dktX12_isWay_4 : List UInt8 := dkwX12_isWay_4 ++ []
def dkwX12_isWay_3 : List UInt8 := [3, 172, 3, 54, 5, 21, 5, 21, 4, 162, 0, 35, 42, 27, 28, 29, 42, 180, 0, 140, 21, 5, 46]
abbrev dktX12_isWay_3 : List UInt8 := dkwX12_isWay_3 ++ dktX12_isWay_4
def dkwX12_isWay_2 : List UInt8 := [163, 0, 24, 27, 16, 8, 108, 16, 8, 112, 29, 96, 42, 180, 0, 43, 42, 180, 0, 239, 46, 164, 0, 5]
abbrev dktX12_isWay_2 : List UInt8 := dkwX12_isWay_2 ++ dktX12_isWay_3
def dkwX12_isWay_1 : List UInt8 := [108, 96, 46, 28, 161, 0, 42, 27, 16, 8, 112, 28, 96, 42, 180, 0, 46, 42, 180, 0, 239, 46]
abbrev dktX12_isWay_1 : List UInt8 := dkwX12_isWay_1 ++ dktX12_isWay_2
def dkwX12_isWay_0 : List UInt8 := [42, 27, 16, 64, 108, 182, 1, 137, 153, 0, 62, 42, 180, 0, 64, 7, 42, 180, 0, 239, 104, 27, 16, 64]
abbrev dktX12_isWay_0 : List UInt8 := dkwX12_isWay_0 ++ dktX12_isWay_1
theorem dksX12_isWay_0 : cX12_isWay.data.toList.drop 0 = dktX12_isWay_0 := by decide +kernel
theorem dksX12_isWay_1 : cX12_isWay.data.toList.drop 24 = dktX12_isWay_1 := dk_seg dksX12_isWay_0 24 rfl rfl
theorem dksX12_isWay_2 : cX12_isWay.data.toList.drop 46 = dktX12_isWay_2 := dk_seg dksX12_isWay_1 22 rfl rfl
theorem dksX12_isWay_3 : cX12_isWay.data.toList.drop 70 = dktX12_isWay_3 := dk_seg dksX12_isWay_2 24 rfl rfl
theorem dksX12_isWay_4 : cX12_isWay.data.toList.drop 93 = dktX12_isWay_4 := dk_seg dksX12_isWay_3 23 rfl rfl
theorem dX12_isWay_0 : decode cX12_isWay 0 = .ok (.aload_n 0, 1) := dk_42 (dk_at dksX12_isWay_0 0 rfl rfl)
theorem dX12_isWay_1 : decode cX12_isWay 1 = .ok (.iload_n 1, 1) := dk_27 (dk_at dksX12_isWay_0 1 rfl rfl)
theorem dX12_isWay_2 : decode cX12_isWay 2 = .ok (.bipush 64, 2) := dk_16 64 (dk_at dksX12_isWay_0 2 rfl rfl)
theorem dX12_isWay_4 : decode cX12_isWay 4 = .ok (.idiv, 1) := dk_108 (dk_at dksX12_isWay_0 4 rfl rfl)
theorem dX12_isWay_5 : decode cX12_isWay 5 = .ok (.invokevirtual 393, 3) := dk_182 1 137 (dk_at dksX12_isWay_0 5 rfl rfl)
theorem dX12_isWay_8 : decode cX12_isWay 8 = .ok (.ifCond .eq 62, 3) := dk_153 0 62 (dk_at dksX12_isWay_0 8 rfl rfl)
theorem dX12_isWay_11 : decode cX12_isWay 11 = .ok (.aload_n 0, 1) := dk_42 (dk_at dksX12_isWay_0 11 rfl rfl)
theorem dX12_isWay_12 : decode cX12_isWay 12 = .ok (.getfield 64, 3) := dk_180 0 64 (dk_at dksX12_isWay_0 12 rfl rfl)
theorem dX12_isWay_15 : decode cX12_isWay 15 = .ok (.iconst 4, 1) := dk_7 (dk_at dksX12_isWay_0 15 rfl rfl)
theorem dX12_isWay_16 : decode cX12_isWay 16 = .ok (.aload_n 0, 1) := dk_42 (dk_at dksX12_isWay_0 16 rfl rfl)
theorem dX12_isWay_17 : decode cX12_isWay 17 = .ok (.getfield 239, 3) := dk_180 0 239 (dk_at dksX12_isWay_0 17 rfl rfl)
theorem dX12_isWay_20 : decode cX12_isWay 20 = .ok (.imul, 1) := dk_104 (dk_at dksX12_isWay_0 20 rfl rfl)
theorem dX12_isWay_21 : decode cX12_isWay 21 = .ok (.iload_n 1, 1) := dk_27 (dk_at dksX12_isWay_0 21 rfl rfl)
theorem dX12_isWay_22 : decode cX12_isWay 22 = .ok (.bipush 64, 2) := dk_16 64 (dk_at dksX12_isWay_0 22 rfl rfl)
theorem dX12_isWay_24 : decode cX12_isWay 24 = .ok (.idiv, 1) := dk_108 (dk_at dksX12_isWay_1 0 rfl rfl)
theorem dX12_isWay_25 : decode cX12_isWay 25 = .ok (.iadd, 1) := dk_96 (dk_at dksX12_isWay_1 1 rfl rfl)
theorem dX12_isWay_26 : decode cX12_isWay 26 = .ok (.iaload, 1) := dk_46 (dk_at dksX12_isWay_1 2 rfl rfl)
theorem dX12_isWay_27 : decode cX12_isWay 27 = .ok (.iload_n 2, 1) := dk_28 (dk_at dksX12_isWay_1 3 rfl rfl)
theorem dX12_isWay_28 : decode cX12_isWay 28 = .ok (.if_icmp .lt 42, 3) := dk_161 0 42 (dk_at dksX12_isWay_1 4 rfl rfl)
theorem dX12_isWay_31 : decode cX12_isWay 31 = .ok (.iload_n 1, 1) := dk_27 (dk_at dksX12_isWay_1 7 rfl rfl)
theorem dX12_isWay_32 : decode cX12_isWay 32 = .ok (.bipush 8, 2) := dk_16 8 (dk_at dksX12_isWay_1 8 rfl rfl)
theorem dX12_isWay_34 : decode cX12_isWay 34 = .ok (.irem, 1) := dk_112 (dk_at dksX12_isWay_1 10 rfl rfl)
theorem dX12_isWay_35 : decode cX12_isWay 35 = .ok (.iload_n 2, 1) := dk_28 (dk_at dksX12_isWay_1 11 rfl rfl)
theorem dX12_isWay_36 : decode cX12_isWay 36 = .ok (.iadd, 1) := dk_96 (dk_at dksX12_isWay_1 12 rfl rfl)
theorem dX12_isWay_37 : decode cX12_isWay 37 = .ok (.aload_n 0, 1) := dk_42 (dk_at dksX12_isWay_1 13 rfl rfl)
theorem dX12_isWay_38 : decode cX12_isWay 38 = .ok (.getfield 46, 3) := dk_180 0 46 (dk_at dksX12_isWay_1 14 rfl rfl)
theorem dX12_isWay_41 : decode cX12_isWay 41 = .ok (.aload_n 0, 1) := dk_42 (dk_at dksX12_isWay_1 17 rfl rfl)
theorem dX12_isWay_42 : decode cX12_isWay 42 = .ok (.getfield 239, 3) := dk_180 0 239 (dk_at dksX12_isWay_1 18 rfl rfl)
theorem dX12_isWay_45 : decode cX12_isWay 45 = .ok (.iaload, 1) := dk_46 (dk_at dksX12_isWay_1 21 rfl rfl)
theorem dX12_isWay_46 : decode cX12_isWay 46 = .ok (.if_icmp .gt 24, 3) := dk_163 0 24 (dk_at dksX12_isWay_2 0 rfl rfl)
theorem dX12_isWay_49 : decode cX12_isWay 49 = .ok (.iload_n 1, 1) := dk_27 (dk_at dksX12_isWay_2 3 rfl rfl)
theorem dX12_isWay_50 : decode cX12_isWay 50 = .ok (.bipush 8, 2) := dk_16 8 (dk_at dksX12_isWay_2 4 rfl rfl)
theorem dX12_isWay_52 : decode cX12_isWay 52 = .ok (.idiv, 1) := dk_108 (dk_at dksX12_isWay_2 6 rfl rfl)
theorem dX12_isWay_53 : decode cX12_isWay 53 = .ok (.bipush 8, 2) := dk_16 8 (dk_at dksX12_isWay_2 7 rfl rfl)
theorem dX12_isWay_55 : decode cX12_isWay 55 = .ok (.irem, 1) := dk_112 (dk_at dksX12_isWay_2 9 rfl rfl)
theorem dX12_isWay_56 : decode cX12_isWay 56 = .ok (.iload_n 3, 1) := dk_29 (dk_at dksX12_isWay_2 10 rfl rfl)
theorem dX12_isWay_57 : decode cX12_isWay 57 = .ok (.iadd, 1) := dk_96 (dk_at dksX12_isWay_2 11 rfl rfl)
theorem dX12_isWay_58 : decode cX12_isWay 58 = .ok (.aload_n 0, 1) := dk_42 (dk_at dksX12_isWay_2 12 rfl rfl)
theorem dX12_isWay_59 : decode cX12_isWay 59 = .ok (.getfield 43, 3) := dk_180 0 43 (dk_at dksX12_isWay_2 13 rfl rfl)
theorem dX12_isWay_62 : decode cX12_isWay 62 = .ok (.aload_n 0, 1) := dk_42 (dk_at dksX12_isWay_2 16 rfl rfl)
theorem dX12_isWay_63 : decode cX12_isWay 63 = .ok (.getfield 239, 3) := dk_180 0 239 (dk_at dksX12_isWay_2 17 rfl rfl)
theorem dX12_isWay_66 : decode cX12_isWay 66 = .ok (.iaload, 1) := dk_46 (dk_at dksX12_isWay_2 20 rfl rfl)
theorem dX12_isWay_67 : decode cX12_isWay 67 = .ok (.if_icmp .le 5, 3) := dk_164 0 5 (dk_at dksX12_isWay_2 21 rfl rfl)
theorem dX12_isWay_70 : decode cX12_isWay 70 = .ok (.iconst 0, 1) := dk_3 (dk_at dksX12_isWay_3 0 rfl rfl)
theorem dX12_isWay_71 : decode cX12_isWay 71 = .ok (.ireturn, 1) := dk_172 (dk_at dksX12_isWay_3 1 rfl rfl)
theorem dX12_isWay_72 : decode cX12_isWay 72 = .ok (.iconst 0, 1) := dk_3 (dk_at dksX12_isWay_3 2 rfl rfl)
theorem dX12_isWay_73 : decode cX12_isWay 73 = .ok (.istore 5, 2) := dk_54 5 (dk_at dksX12_isWay_3 3 rfl rfl)
theorem dX12_isWay_75 : decode cX12_isWay 75 = .ok (.iload 5, 2) := dk_21 5 (dk_at dksX12_isWay_3 5 rfl rfl)
theorem dX12_isWay_77 : decode cX12_isWay 77 = .ok (.iload 4, 2) := dk_21 4 (dk_at dksX12_isWay_3 7 rfl rfl)
theorem dX12_isWay_79 : decode cX12_isWay 79 = .ok (.if_icmp .ge 35, 3) := dk_162 0 35 (dk_at dksX12_isWay_3 9 rfl rfl)
theorem dX12_isWay_82 : decode cX12_isWay 82 = .ok (.aload_n 0, 1) := dk_42 (dk_at dksX12_isWay_3 12 rfl rfl)
theorem dX12_isWay_83 : decode cX12_isWay 83 = .ok (.iload_n 1, 1) := dk_27 (dk_at dksX12_isWay_3 13 rfl rfl)
theorem dX12_isWay_84 : decode cX12_isWay 84 = .ok (.iload_n 2, 1) := dk_28 (dk_at dksX12_isWay_3 14 rfl rfl)
theorem dX12_isWay_85 : decode cX12_isWay 85 = .ok (.iload_n 3, 1) := dk_29 (dk_at dksX12_isWay_3 15 rfl rfl)
theorem dX12_isWay_86 : decode cX12_isWay 86 = .ok (.aload_n 0, 1) := dk_42 (dk_at dksX12_isWay_3 16 rfl rfl)
theorem dX12_isWay_87 : decode cX12_isWay 87 = .ok (.getfield 140, 3) := dk_180 0 140 (dk_at dksX12_isWay_3 17 rfl rfl)
theorem dX12_isWay_90 : decode cX12_isWay 90 = .ok (.iload 5, 2) := dk_21 5 (dk_at dksX12_isWay_3 20 rfl rfl)
theorem dX12_isWay_92 : decode cX12_isWay 92 = .ok (.iaload, 1) := dk_46 (dk_at dksX12_isWay_3 22 rfl rfl)
theorem dX12_isWay_93 : decode cX12_isWay 93 = .ok (.invokevirtual 467, 3) := dk_182 1 211 (dk_at dksX12_isWay_4 0 rfl rfl)
theorem dX12_isWay_96 : decode cX12_isWay 96 = .ok (.aload_n 0, 1) := dk_42 (dk_at dksX12_isWay_4 3 rfl rfl)
theorem dX12_isWay_97 : decode cX12_isWay 97 = .ok (.getfield 143, 3) := dk_180 0 143 (dk_at dksX12_isWay_4 4 rfl rfl)
theorem dX12_isWay_100 : decode cX12_isWay 100 = .ok (.iload 5, 2) := dk_21 5 (dk_at dksX12_isWay_4 7 rfl rfl)
theorem dX12_isWay_102 : decode cX12_isWay 102 = .ok (.iaload, 1) := dk_46 (dk_at dksX12_isWay_4 9 rfl rfl)
theorem dX12_isWay_103 : decode cX12_isWay 103 = .ok (.if_icmp .eq 5, 3) := dk_159 0 5 (dk_at dksX12_isWay_4 10 rfl rfl)
theorem dX12_isWay_106 : decode cX12_isWay 106 = .ok (.iconst 0, 1) := dk_3 (dk_at dksX12_isWay_4 13 rfl rfl)
theorem dX12_isWay_107 : decode cX12_isWay 107 = .ok (.ireturn, 1) := dk_172 (dk_at dksX12_isWay_4 14 rfl rfl)
theorem dX12_isWay_108 : decode cX12_isWay 108 = .ok (.iinc 5 1, 3) := dk_132 5 1 (dk_at dksX12_isWay_4 15 rfl rfl)
theorem dX12_isWay_111 : decode cX12_isWay 111 = .ok (.goto (-36), 3) := dk_167 255 220 (dk_at dksX12_isWay_4 18 rfl rfl)
theorem dX12_isWay_114 : decode cX12_isWay 114 = .ok (.iconst 1, 1) := dk_4 (dk_at dksX12_isWay_4 21 rfl rfl)
theorem dX12_isWay_115 : decode cX12_isWay 115 = .ok (.ireturn, 1) := dk_172 (dk_at dksX12_isWay_4 22 rfl rfl)
abbrev cX12_wetBy : ByteArray := prog_22_method_106_code
def yX12_wetBy : MethodName := ⟨RX12, "wetBy", "(IIII)I"⟩
def dkwX12_wetBy_3 : List UInt8 := [96, 182, 1, 100, 167, 0, 4, 3, 172]
abbrev dktX12_wetBy_3 : List UInt8 := dkwX12_wetBy_3 ++ []
def dkwX12_wetBy_2 : List UInt8 := [153, 0, 31, 42, 27, 16, 64, 108, 21, 5, 42, 180, 0, 116, 16, 48, 27, 16, 64, 108, 96, 46, 21, 6]
abbrev dktX12_wetBy_2 : List UInt8 := dkwX12_wetBy_2 ++ dktX12_wetBy_3
def dkwX12_wetBy_1 : List UInt8 := [100, 54, 6, 21, 5, 3, 28, 4, 100, 184, 1, 67, 153, 0, 43, 21, 6, 3, 29, 4, 100, 184, 1, 67]
abbrev dktX12_wetBy_1 : List UInt8 := dkwX12_wetBy_1 ++ dktX12_wetBy_2
def dkwX12_wetBy_0 : List UInt8 := [21, 4, 16, 8, 112, 27, 16, 8, 112, 100, 54, 5, 21, 4, 16, 8, 108, 27, 16, 8, 108, 16, 8, 112]
abbrev dktX12_wetBy_0 : List UInt8 := dkwX12_wetBy_0 ++ dktX12_wetBy_1
theorem dksX12_wetBy_0 : cX12_wetBy.data.toList.drop 0 = dktX12_wetBy_0 := by decide +kernel
theorem dksX12_wetBy_1 : cX12_wetBy.data.toList.drop 24 = dktX12_wetBy_1 := dk_seg dksX12_wetBy_0 24 rfl rfl
theorem dksX12_wetBy_2 : cX12_wetBy.data.toList.drop 48 = dktX12_wetBy_2 := dk_seg dksX12_wetBy_1 24 rfl rfl
theorem dksX12_wetBy_3 : cX12_wetBy.data.toList.drop 72 = dktX12_wetBy_3 := dk_seg dksX12_wetBy_2 24 rfl rfl
theorem dX12_wetBy_0 : decode cX12_wetBy 0 = .ok (.iload 4, 2) := dk_21 4 (dk_at dksX12_wetBy_0 0 rfl rfl)
theorem dX12_wetBy_2 : decode cX12_wetBy 2 = .ok (.bipush 8, 2) := dk_16 8 (dk_at dksX12_wetBy_0 2 rfl rfl)
theorem dX12_wetBy_4 : decode cX12_wetBy 4 = .ok (.irem, 1) := dk_112 (dk_at dksX12_wetBy_0 4 rfl rfl)
theorem dX12_wetBy_5 : decode cX12_wetBy 5 = .ok (.iload_n 1, 1) := dk_27 (dk_at dksX12_wetBy_0 5 rfl rfl)
theorem dX12_wetBy_6 : decode cX12_wetBy 6 = .ok (.bipush 8, 2) := dk_16 8 (dk_at dksX12_wetBy_0 6 rfl rfl)
theorem dX12_wetBy_8 : decode cX12_wetBy 8 = .ok (.irem, 1) := dk_112 (dk_at dksX12_wetBy_0 8 rfl rfl)
theorem dX12_wetBy_9 : decode cX12_wetBy 9 = .ok (.isub, 1) := dk_100 (dk_at dksX12_wetBy_0 9 rfl rfl)
theorem dX12_wetBy_10 : decode cX12_wetBy 10 = .ok (.istore 5, 2) := dk_54 5 (dk_at dksX12_wetBy_0 10 rfl rfl)
theorem dX12_wetBy_12 : decode cX12_wetBy 12 = .ok (.iload 4, 2) := dk_21 4 (dk_at dksX12_wetBy_0 12 rfl rfl)
theorem dX12_wetBy_14 : decode cX12_wetBy 14 = .ok (.bipush 8, 2) := dk_16 8 (dk_at dksX12_wetBy_0 14 rfl rfl)
theorem dX12_wetBy_16 : decode cX12_wetBy 16 = .ok (.idiv, 1) := dk_108 (dk_at dksX12_wetBy_0 16 rfl rfl)
theorem dX12_wetBy_17 : decode cX12_wetBy 17 = .ok (.iload_n 1, 1) := dk_27 (dk_at dksX12_wetBy_0 17 rfl rfl)
theorem dX12_wetBy_18 : decode cX12_wetBy 18 = .ok (.bipush 8, 2) := dk_16 8 (dk_at dksX12_wetBy_0 18 rfl rfl)
theorem dX12_wetBy_20 : decode cX12_wetBy 20 = .ok (.idiv, 1) := dk_108 (dk_at dksX12_wetBy_0 20 rfl rfl)
theorem dX12_wetBy_21 : decode cX12_wetBy 21 = .ok (.bipush 8, 2) := dk_16 8 (dk_at dksX12_wetBy_0 21 rfl rfl)
theorem dX12_wetBy_23 : decode cX12_wetBy 23 = .ok (.irem, 1) := dk_112 (dk_at dksX12_wetBy_0 23 rfl rfl)
theorem dX12_wetBy_24 : decode cX12_wetBy 24 = .ok (.isub, 1) := dk_100 (dk_at dksX12_wetBy_1 0 rfl rfl)
theorem dX12_wetBy_25 : decode cX12_wetBy 25 = .ok (.istore 6, 2) := dk_54 6 (dk_at dksX12_wetBy_1 1 rfl rfl)
theorem dX12_wetBy_27 : decode cX12_wetBy 27 = .ok (.iload 5, 2) := dk_21 5 (dk_at dksX12_wetBy_1 3 rfl rfl)
theorem dX12_wetBy_29 : decode cX12_wetBy 29 = .ok (.iconst 0, 1) := dk_3 (dk_at dksX12_wetBy_1 5 rfl rfl)
theorem dX12_wetBy_30 : decode cX12_wetBy 30 = .ok (.iload_n 2, 1) := dk_28 (dk_at dksX12_wetBy_1 6 rfl rfl)
theorem dX12_wetBy_31 : decode cX12_wetBy 31 = .ok (.iconst 1, 1) := dk_4 (dk_at dksX12_wetBy_1 7 rfl rfl)
theorem dX12_wetBy_32 : decode cX12_wetBy 32 = .ok (.isub, 1) := dk_100 (dk_at dksX12_wetBy_1 8 rfl rfl)
theorem dX12_wetBy_33 : decode cX12_wetBy 33 = .ok (.invokestatic 323, 3) := dk_184 1 67 (dk_at dksX12_wetBy_1 9 rfl rfl)
theorem dX12_wetBy_36 : decode cX12_wetBy 36 = .ok (.ifCond .eq 43, 3) := dk_153 0 43 (dk_at dksX12_wetBy_1 12 rfl rfl)
theorem dX12_wetBy_39 : decode cX12_wetBy 39 = .ok (.iload 6, 2) := dk_21 6 (dk_at dksX12_wetBy_1 15 rfl rfl)
theorem dX12_wetBy_41 : decode cX12_wetBy 41 = .ok (.iconst 0, 1) := dk_3 (dk_at dksX12_wetBy_1 17 rfl rfl)
theorem dX12_wetBy_42 : decode cX12_wetBy 42 = .ok (.iload_n 3, 1) := dk_29 (dk_at dksX12_wetBy_1 18 rfl rfl)
theorem dX12_wetBy_43 : decode cX12_wetBy 43 = .ok (.iconst 1, 1) := dk_4 (dk_at dksX12_wetBy_1 19 rfl rfl)
theorem dX12_wetBy_44 : decode cX12_wetBy 44 = .ok (.isub, 1) := dk_100 (dk_at dksX12_wetBy_1 20 rfl rfl)
theorem dX12_wetBy_45 : decode cX12_wetBy 45 = .ok (.invokestatic 323, 3) := dk_184 1 67 (dk_at dksX12_wetBy_1 21 rfl rfl)
theorem dX12_wetBy_48 : decode cX12_wetBy 48 = .ok (.ifCond .eq 31, 3) := dk_153 0 31 (dk_at dksX12_wetBy_2 0 rfl rfl)
theorem dX12_wetBy_51 : decode cX12_wetBy 51 = .ok (.aload_n 0, 1) := dk_42 (dk_at dksX12_wetBy_2 3 rfl rfl)
theorem dX12_wetBy_52 : decode cX12_wetBy 52 = .ok (.iload_n 1, 1) := dk_27 (dk_at dksX12_wetBy_2 4 rfl rfl)
theorem dX12_wetBy_53 : decode cX12_wetBy 53 = .ok (.bipush 64, 2) := dk_16 64 (dk_at dksX12_wetBy_2 5 rfl rfl)
theorem dX12_wetBy_55 : decode cX12_wetBy 55 = .ok (.idiv, 1) := dk_108 (dk_at dksX12_wetBy_2 7 rfl rfl)
theorem dX12_wetBy_56 : decode cX12_wetBy 56 = .ok (.iload 5, 2) := dk_21 5 (dk_at dksX12_wetBy_2 8 rfl rfl)
theorem dX12_wetBy_58 : decode cX12_wetBy 58 = .ok (.aload_n 0, 1) := dk_42 (dk_at dksX12_wetBy_2 10 rfl rfl)
theorem dX12_wetBy_59 : decode cX12_wetBy 59 = .ok (.getfield 116, 3) := dk_180 0 116 (dk_at dksX12_wetBy_2 11 rfl rfl)
theorem dX12_wetBy_62 : decode cX12_wetBy 62 = .ok (.bipush 48, 2) := dk_16 48 (dk_at dksX12_wetBy_2 14 rfl rfl)
theorem dX12_wetBy_64 : decode cX12_wetBy 64 = .ok (.iload_n 1, 1) := dk_27 (dk_at dksX12_wetBy_2 16 rfl rfl)
theorem dX12_wetBy_65 : decode cX12_wetBy 65 = .ok (.bipush 64, 2) := dk_16 64 (dk_at dksX12_wetBy_2 17 rfl rfl)
theorem dX12_wetBy_67 : decode cX12_wetBy 67 = .ok (.idiv, 1) := dk_108 (dk_at dksX12_wetBy_2 19 rfl rfl)
theorem dX12_wetBy_68 : decode cX12_wetBy 68 = .ok (.iadd, 1) := dk_96 (dk_at dksX12_wetBy_2 20 rfl rfl)
theorem dX12_wetBy_69 : decode cX12_wetBy 69 = .ok (.iaload, 1) := dk_46 (dk_at dksX12_wetBy_2 21 rfl rfl)
theorem dX12_wetBy_70 : decode cX12_wetBy 70 = .ok (.iload 6, 2) := dk_21 6 (dk_at dksX12_wetBy_2 22 rfl rfl)
theorem dX12_wetBy_72 : decode cX12_wetBy 72 = .ok (.iadd, 1) := dk_96 (dk_at dksX12_wetBy_3 0 rfl rfl)
theorem dX12_wetBy_73 : decode cX12_wetBy 73 = .ok (.invokevirtual 356, 3) := dk_182 1 100 (dk_at dksX12_wetBy_3 1 rfl rfl)
theorem dX12_wetBy_76 : decode cX12_wetBy 76 = .ok (.goto 4, 3) := dk_167 0 4 (dk_at dksX12_wetBy_3 4 rfl rfl)
theorem dX12_wetBy_79 : decode cX12_wetBy 79 = .ok (.iconst 0, 1) := dk_3 (dk_at dksX12_wetBy_3 7 rfl rfl)
theorem dX12_wetBy_80 : decode cX12_wetBy 80 = .ok (.ireturn, 1) := dk_172 (dk_at dksX12_wetBy_3 8 rfl rfl)
abbrev cX12_look : ByteArray := prog_22_method_111_code
def yX12_look : MethodName := ⟨RX12, "look", "(III)I"⟩
def dkwX12_look_5 : List UInt8 := [54, 5, 132, 6, 1, 167, 255, 189, 21, 4, 172]
abbrev dktX12_look_5 : List UInt8 := dkwX12_look_5 ++ []
def dkwX12_look_4 : List UInt8 := [161, 0, 6, 167, 0, 23, 21, 6, 16, 8, 108, 16, 10, 104, 21, 6, 16, 8, 112, 96, 54, 4, 21, 7]
abbrev dktX12_look_4 : List UInt8 := dkwX12_look_4 ++ dktX12_look_5
def dkwX12_look_3 : List UInt8 := [167, 0, 48, 42, 21, 6, 28, 29, 182, 1, 221, 54, 7, 21, 4, 155, 0, 13, 21, 7, 21, 5]
abbrev dktX12_look_3 : List UInt8 := dkwX12_look_3 ++ dktX12_look_4
def dkwX12_look_2 : List UInt8 := [54, 4, 3, 54, 5, 3, 54, 6, 21, 6, 16, 48, 162, 0, 66, 42, 21, 6, 182, 1, 110, 154, 0, 6]
abbrev dktX12_look_2 : List UInt8 := dkwX12_look_2 ++ dktX12_look_3
def dkwX12_look_1 : List UInt8 := [180, 0, 146, 21, 4, 42, 21, 4, 28, 29, 27, 182, 1, 217, 84, 132, 4, 1, 167, 255, 229, 16, 254]
abbrev dktX12_look_1 : List UInt8 := dkwX12_look_1 ++ dktX12_look_2
def dkwX12_look_0 : List UInt8 := [42, 27, 28, 29, 182, 1, 214, 154, 0, 5, 2, 172, 3, 54, 4, 21, 4, 17, 1, 0, 162, 0, 25, 42]
abbrev dktX12_look_0 : List UInt8 := dkwX12_look_0 ++ dktX12_look_1
theorem dksX12_look_0 : cX12_look.data.toList.drop 0 = dktX12_look_0 := by decide +kernel
theorem dksX12_look_1 : cX12_look.data.toList.drop 24 = dktX12_look_1 := dk_seg dksX12_look_0 24 rfl rfl
theorem dksX12_look_2 : cX12_look.data.toList.drop 47 = dktX12_look_2 := dk_seg dksX12_look_1 23 rfl rfl
theorem dksX12_look_3 : cX12_look.data.toList.drop 71 = dktX12_look_3 := dk_seg dksX12_look_2 24 rfl rfl
theorem dksX12_look_4 : cX12_look.data.toList.drop 93 = dktX12_look_4 := dk_seg dksX12_look_3 22 rfl rfl
theorem dksX12_look_5 : cX12_look.data.toList.drop 117 = dktX12_look_5 := dk_seg dksX12_look_4 24 rfl rfl
theorem dX12_look_0 : decode cX12_look 0 = .ok (.aload_n 0, 1) := dk_42 (dk_at dksX12_look_0 0 rfl rfl)
theorem dX12_look_1 : decode cX12_look 1 = .ok (.iload_n 1, 1) := dk_27 (dk_at dksX12_look_0 1 rfl rfl)
theorem dX12_look_2 : decode cX12_look 2 = .ok (.iload_n 2, 1) := dk_28 (dk_at dksX12_look_0 2 rfl rfl)
theorem dX12_look_3 : decode cX12_look 3 = .ok (.iload_n 3, 1) := dk_29 (dk_at dksX12_look_0 3 rfl rfl)
theorem dX12_look_4 : decode cX12_look 4 = .ok (.invokevirtual 470, 3) := dk_182 1 214 (dk_at dksX12_look_0 4 rfl rfl)
theorem dX12_look_7 : decode cX12_look 7 = .ok (.ifCond .ne 5, 3) := dk_154 0 5 (dk_at dksX12_look_0 7 rfl rfl)
theorem dX12_look_10 : decode cX12_look 10 = .ok (.iconst (-1), 1) := dk_2 (dk_at dksX12_look_0 10 rfl rfl)
theorem dX12_look_11 : decode cX12_look 11 = .ok (.ireturn, 1) := dk_172 (dk_at dksX12_look_0 11 rfl rfl)
theorem dX12_look_12 : decode cX12_look 12 = .ok (.iconst 0, 1) := dk_3 (dk_at dksX12_look_0 12 rfl rfl)
theorem dX12_look_13 : decode cX12_look 13 = .ok (.istore 4, 2) := dk_54 4 (dk_at dksX12_look_0 13 rfl rfl)
theorem dX12_look_15 : decode cX12_look 15 = .ok (.iload 4, 2) := dk_21 4 (dk_at dksX12_look_0 15 rfl rfl)
theorem dX12_look_17 : decode cX12_look 17 = .ok (.sipush 256, 3) := dk_17 1 0 (dk_at dksX12_look_0 17 rfl rfl)
theorem dX12_look_20 : decode cX12_look 20 = .ok (.if_icmp .ge 25, 3) := dk_162 0 25 (dk_at dksX12_look_0 20 rfl rfl)
theorem dX12_look_23 : decode cX12_look 23 = .ok (.aload_n 0, 1) := dk_42 (dk_at dksX12_look_0 23 rfl rfl)
theorem dX12_look_24 : decode cX12_look 24 = .ok (.getfield 146, 3) := dk_180 0 146 (dk_at dksX12_look_1 0 rfl rfl)
theorem dX12_look_27 : decode cX12_look 27 = .ok (.iload 4, 2) := dk_21 4 (dk_at dksX12_look_1 3 rfl rfl)
theorem dX12_look_29 : decode cX12_look 29 = .ok (.aload_n 0, 1) := dk_42 (dk_at dksX12_look_1 5 rfl rfl)
theorem dX12_look_30 : decode cX12_look 30 = .ok (.iload 4, 2) := dk_21 4 (dk_at dksX12_look_1 6 rfl rfl)
theorem dX12_look_32 : decode cX12_look 32 = .ok (.iload_n 2, 1) := dk_28 (dk_at dksX12_look_1 8 rfl rfl)
theorem dX12_look_33 : decode cX12_look 33 = .ok (.iload_n 3, 1) := dk_29 (dk_at dksX12_look_1 9 rfl rfl)
theorem dX12_look_34 : decode cX12_look 34 = .ok (.iload_n 1, 1) := dk_27 (dk_at dksX12_look_1 10 rfl rfl)
theorem dX12_look_35 : decode cX12_look 35 = .ok (.invokevirtual 473, 3) := dk_182 1 217 (dk_at dksX12_look_1 11 rfl rfl)
theorem dX12_look_38 : decode cX12_look 38 = .ok (.bastore, 1) := dk_84 (dk_at dksX12_look_1 14 rfl rfl)
theorem dX12_look_39 : decode cX12_look 39 = .ok (.iinc 4 1, 3) := dk_132 4 1 (dk_at dksX12_look_1 15 rfl rfl)
theorem dX12_look_42 : decode cX12_look 42 = .ok (.goto (-27), 3) := dk_167 255 229 (dk_at dksX12_look_1 18 rfl rfl)
theorem dX12_look_45 : decode cX12_look 45 = .ok (.bipush (-2), 2) := dk_16 254 (dk_at dksX12_look_1 21 rfl rfl)
theorem dX12_look_47 : decode cX12_look 47 = .ok (.istore 4, 2) := dk_54 4 (dk_at dksX12_look_2 0 rfl rfl)
theorem dX12_look_49 : decode cX12_look 49 = .ok (.iconst 0, 1) := dk_3 (dk_at dksX12_look_2 2 rfl rfl)
theorem dX12_look_50 : decode cX12_look 50 = .ok (.istore 5, 2) := dk_54 5 (dk_at dksX12_look_2 3 rfl rfl)
theorem dX12_look_52 : decode cX12_look 52 = .ok (.iconst 0, 1) := dk_3 (dk_at dksX12_look_2 5 rfl rfl)
theorem dX12_look_53 : decode cX12_look 53 = .ok (.istore 6, 2) := dk_54 6 (dk_at dksX12_look_2 6 rfl rfl)
theorem dX12_look_55 : decode cX12_look 55 = .ok (.iload 6, 2) := dk_21 6 (dk_at dksX12_look_2 8 rfl rfl)
theorem dX12_look_57 : decode cX12_look 57 = .ok (.bipush 48, 2) := dk_16 48 (dk_at dksX12_look_2 10 rfl rfl)
theorem dX12_look_59 : decode cX12_look 59 = .ok (.if_icmp .ge 66, 3) := dk_162 0 66 (dk_at dksX12_look_2 12 rfl rfl)
theorem dX12_look_62 : decode cX12_look 62 = .ok (.aload_n 0, 1) := dk_42 (dk_at dksX12_look_2 15 rfl rfl)
theorem dX12_look_63 : decode cX12_look 63 = .ok (.iload 6, 2) := dk_21 6 (dk_at dksX12_look_2 16 rfl rfl)
theorem dX12_look_65 : decode cX12_look 65 = .ok (.invokevirtual 366, 3) := dk_182 1 110 (dk_at dksX12_look_2 18 rfl rfl)
theorem dX12_look_68 : decode cX12_look 68 = .ok (.ifCond .ne 6, 3) := dk_154 0 6 (dk_at dksX12_look_2 21 rfl rfl)
theorem dX12_look_71 : decode cX12_look 71 = .ok (.goto 48, 3) := dk_167 0 48 (dk_at dksX12_look_3 0 rfl rfl)
theorem dX12_look_74 : decode cX12_look 74 = .ok (.aload_n 0, 1) := dk_42 (dk_at dksX12_look_3 3 rfl rfl)
theorem dX12_look_75 : decode cX12_look 75 = .ok (.iload 6, 2) := dk_21 6 (dk_at dksX12_look_3 4 rfl rfl)
theorem dX12_look_77 : decode cX12_look 77 = .ok (.iload_n 2, 1) := dk_28 (dk_at dksX12_look_3 6 rfl rfl)
theorem dX12_look_78 : decode cX12_look 78 = .ok (.iload_n 3, 1) := dk_29 (dk_at dksX12_look_3 7 rfl rfl)
theorem dX12_look_79 : decode cX12_look 79 = .ok (.invokevirtual 477, 3) := dk_182 1 221 (dk_at dksX12_look_3 8 rfl rfl)
theorem dX12_look_82 : decode cX12_look 82 = .ok (.istore 7, 2) := dk_54 7 (dk_at dksX12_look_3 11 rfl rfl)
theorem dX12_look_84 : decode cX12_look 84 = .ok (.iload 4, 2) := dk_21 4 (dk_at dksX12_look_3 13 rfl rfl)
theorem dX12_look_86 : decode cX12_look 86 = .ok (.ifCond .lt 13, 3) := dk_155 0 13 (dk_at dksX12_look_3 15 rfl rfl)
theorem dX12_look_89 : decode cX12_look 89 = .ok (.iload 7, 2) := dk_21 7 (dk_at dksX12_look_3 18 rfl rfl)
theorem dX12_look_91 : decode cX12_look 91 = .ok (.iload 5, 2) := dk_21 5 (dk_at dksX12_look_3 20 rfl rfl)
theorem dX12_look_93 : decode cX12_look 93 = .ok (.if_icmp .lt 6, 3) := dk_161 0 6 (dk_at dksX12_look_4 0 rfl rfl)
theorem dX12_look_96 : decode cX12_look 96 = .ok (.goto 23, 3) := dk_167 0 23 (dk_at dksX12_look_4 3 rfl rfl)
theorem dX12_look_99 : decode cX12_look 99 = .ok (.iload 6, 2) := dk_21 6 (dk_at dksX12_look_4 6 rfl rfl)
theorem dX12_look_101 : decode cX12_look 101 = .ok (.bipush 8, 2) := dk_16 8 (dk_at dksX12_look_4 8 rfl rfl)
theorem dX12_look_103 : decode cX12_look 103 = .ok (.idiv, 1) := dk_108 (dk_at dksX12_look_4 10 rfl rfl)
theorem dX12_look_104 : decode cX12_look 104 = .ok (.bipush 10, 2) := dk_16 10 (dk_at dksX12_look_4 11 rfl rfl)
theorem dX12_look_106 : decode cX12_look 106 = .ok (.imul, 1) := dk_104 (dk_at dksX12_look_4 13 rfl rfl)
theorem dX12_look_107 : decode cX12_look 107 = .ok (.iload 6, 2) := dk_21 6 (dk_at dksX12_look_4 14 rfl rfl)
theorem dX12_look_109 : decode cX12_look 109 = .ok (.bipush 8, 2) := dk_16 8 (dk_at dksX12_look_4 16 rfl rfl)
theorem dX12_look_111 : decode cX12_look 111 = .ok (.irem, 1) := dk_112 (dk_at dksX12_look_4 18 rfl rfl)
theorem dX12_look_112 : decode cX12_look 112 = .ok (.iadd, 1) := dk_96 (dk_at dksX12_look_4 19 rfl rfl)
theorem dX12_look_113 : decode cX12_look 113 = .ok (.istore 4, 2) := dk_54 4 (dk_at dksX12_look_4 20 rfl rfl)
theorem dX12_look_115 : decode cX12_look 115 = .ok (.iload 7, 2) := dk_21 7 (dk_at dksX12_look_4 22 rfl rfl)
theorem dX12_look_117 : decode cX12_look 117 = .ok (.istore 5, 2) := dk_54 5 (dk_at dksX12_look_5 0 rfl rfl)
theorem dX12_look_119 : decode cX12_look 119 = .ok (.iinc 6 1, 3) := dk_132 6 1 (dk_at dksX12_look_5 2 rfl rfl)
theorem dX12_look_122 : decode cX12_look 122 = .ok (.goto (-67), 3) := dk_167 255 189 (dk_at dksX12_look_5 5 rfl rfl)
theorem dX12_look_125 : decode cX12_look 125 = .ok (.iload 4, 2) := dk_21 4 (dk_at dksX12_look_5 8 rfl rfl)
theorem dX12_look_127 : decode cX12_look 127 = .ok (.ireturn, 1) := dk_172 (dk_at dksX12_look_5 10 rfl rfl)
abbrev cX12_worstAt : ByteArray := prog_22_method_110_code
def yX12_worstAt : MethodName := ⟨RX12, "worstAt", "(III)I"⟩
def dkwX12_worstAt_4 : List UInt8 := [42, 180, 0, 149, 21, 5, 46, 54, 4, 132, 5, 1, 167, 255, 225, 21, 4, 172]
abbrev dktX12_worstAt_4 : List UInt8 := dkwX12_worstAt_4 ++ []
def dkwX12_worstAt_3 : List UInt8 := [54, 4, 3, 54, 5, 21, 5, 16, 10, 162, 0, 30, 42, 180, 0, 149, 21, 5, 46, 21, 4, 164, 0, 12]
abbrev dktX12_worstAt_3 : List UInt8 := dkwX12_worstAt_3 ++ dktX12_worstAt_4
def dkwX12_worstAt_2 : List UInt8 := [180, 0, 149, 42, 21, 4, 28, 29, 27, 182, 1, 211, 92, 46, 4, 96, 79, 132, 4, 1, 167, 255, 217, 3]
abbrev dktX12_worstAt_2 : List UInt8 := dkwX12_worstAt_2 ++ dktX12_worstAt_3
def dkwX12_worstAt_1 : List UInt8 := [3, 54, 4, 21, 4, 17, 1, 0, 162, 0, 37, 42, 180, 0, 146, 21, 4, 51, 153, 0, 21, 42]
abbrev dktX12_worstAt_1 : List UInt8 := dkwX12_worstAt_1 ++ dktX12_worstAt_2
def dkwX12_worstAt_0 : List UInt8 := [3, 54, 4, 21, 4, 16, 10, 162, 0, 17, 42, 180, 0, 149, 21, 4, 3, 79, 132, 4, 1, 167, 255, 238]
abbrev dktX12_worstAt_0 : List UInt8 := dkwX12_worstAt_0 ++ dktX12_worstAt_1
theorem dksX12_worstAt_0 : cX12_worstAt.data.toList.drop 0 = dktX12_worstAt_0 := by decide +kernel
theorem dksX12_worstAt_1 : cX12_worstAt.data.toList.drop 24 = dktX12_worstAt_1 := dk_seg dksX12_worstAt_0 24 rfl rfl
theorem dksX12_worstAt_2 : cX12_worstAt.data.toList.drop 46 = dktX12_worstAt_2 := dk_seg dksX12_worstAt_1 22 rfl rfl
theorem dksX12_worstAt_3 : cX12_worstAt.data.toList.drop 70 = dktX12_worstAt_3 := dk_seg dksX12_worstAt_2 24 rfl rfl
theorem dksX12_worstAt_4 : cX12_worstAt.data.toList.drop 94 = dktX12_worstAt_4 := dk_seg dksX12_worstAt_3 24 rfl rfl
theorem dX12_worstAt_0 : decode cX12_worstAt 0 = .ok (.iconst 0, 1) := dk_3 (dk_at dksX12_worstAt_0 0 rfl rfl)
theorem dX12_worstAt_1 : decode cX12_worstAt 1 = .ok (.istore 4, 2) := dk_54 4 (dk_at dksX12_worstAt_0 1 rfl rfl)
theorem dX12_worstAt_3 : decode cX12_worstAt 3 = .ok (.iload 4, 2) := dk_21 4 (dk_at dksX12_worstAt_0 3 rfl rfl)
theorem dX12_worstAt_5 : decode cX12_worstAt 5 = .ok (.bipush 10, 2) := dk_16 10 (dk_at dksX12_worstAt_0 5 rfl rfl)
theorem dX12_worstAt_7 : decode cX12_worstAt 7 = .ok (.if_icmp .ge 17, 3) := dk_162 0 17 (dk_at dksX12_worstAt_0 7 rfl rfl)
theorem dX12_worstAt_10 : decode cX12_worstAt 10 = .ok (.aload_n 0, 1) := dk_42 (dk_at dksX12_worstAt_0 10 rfl rfl)
theorem dX12_worstAt_11 : decode cX12_worstAt 11 = .ok (.getfield 149, 3) := dk_180 0 149 (dk_at dksX12_worstAt_0 11 rfl rfl)
theorem dX12_worstAt_14 : decode cX12_worstAt 14 = .ok (.iload 4, 2) := dk_21 4 (dk_at dksX12_worstAt_0 14 rfl rfl)
theorem dX12_worstAt_16 : decode cX12_worstAt 16 = .ok (.iconst 0, 1) := dk_3 (dk_at dksX12_worstAt_0 16 rfl rfl)
theorem dX12_worstAt_17 : decode cX12_worstAt 17 = .ok (.iastore, 1) := dk_79 (dk_at dksX12_worstAt_0 17 rfl rfl)
theorem dX12_worstAt_18 : decode cX12_worstAt 18 = .ok (.iinc 4 1, 3) := dk_132 4 1 (dk_at dksX12_worstAt_0 18 rfl rfl)
theorem dX12_worstAt_21 : decode cX12_worstAt 21 = .ok (.goto (-18), 3) := dk_167 255 238 (dk_at dksX12_worstAt_0 21 rfl rfl)
theorem dX12_worstAt_24 : decode cX12_worstAt 24 = .ok (.iconst 0, 1) := dk_3 (dk_at dksX12_worstAt_1 0 rfl rfl)
theorem dX12_worstAt_25 : decode cX12_worstAt 25 = .ok (.istore 4, 2) := dk_54 4 (dk_at dksX12_worstAt_1 1 rfl rfl)
theorem dX12_worstAt_27 : decode cX12_worstAt 27 = .ok (.iload 4, 2) := dk_21 4 (dk_at dksX12_worstAt_1 3 rfl rfl)
theorem dX12_worstAt_29 : decode cX12_worstAt 29 = .ok (.sipush 256, 3) := dk_17 1 0 (dk_at dksX12_worstAt_1 5 rfl rfl)
theorem dX12_worstAt_32 : decode cX12_worstAt 32 = .ok (.if_icmp .ge 37, 3) := dk_162 0 37 (dk_at dksX12_worstAt_1 8 rfl rfl)
theorem dX12_worstAt_35 : decode cX12_worstAt 35 = .ok (.aload_n 0, 1) := dk_42 (dk_at dksX12_worstAt_1 11 rfl rfl)
theorem dX12_worstAt_36 : decode cX12_worstAt 36 = .ok (.getfield 146, 3) := dk_180 0 146 (dk_at dksX12_worstAt_1 12 rfl rfl)
theorem dX12_worstAt_39 : decode cX12_worstAt 39 = .ok (.iload 4, 2) := dk_21 4 (dk_at dksX12_worstAt_1 15 rfl rfl)
theorem dX12_worstAt_41 : decode cX12_worstAt 41 = .ok (.baload, 1) := dk_51 (dk_at dksX12_worstAt_1 17 rfl rfl)
theorem dX12_worstAt_42 : decode cX12_worstAt 42 = .ok (.ifCond .eq 21, 3) := dk_153 0 21 (dk_at dksX12_worstAt_1 18 rfl rfl)
theorem dX12_worstAt_45 : decode cX12_worstAt 45 = .ok (.aload_n 0, 1) := dk_42 (dk_at dksX12_worstAt_1 21 rfl rfl)
theorem dX12_worstAt_46 : decode cX12_worstAt 46 = .ok (.getfield 149, 3) := dk_180 0 149 (dk_at dksX12_worstAt_2 0 rfl rfl)
theorem dX12_worstAt_49 : decode cX12_worstAt 49 = .ok (.aload_n 0, 1) := dk_42 (dk_at dksX12_worstAt_2 3 rfl rfl)
theorem dX12_worstAt_50 : decode cX12_worstAt 50 = .ok (.iload 4, 2) := dk_21 4 (dk_at dksX12_worstAt_2 4 rfl rfl)
theorem dX12_worstAt_52 : decode cX12_worstAt 52 = .ok (.iload_n 2, 1) := dk_28 (dk_at dksX12_worstAt_2 6 rfl rfl)
theorem dX12_worstAt_53 : decode cX12_worstAt 53 = .ok (.iload_n 3, 1) := dk_29 (dk_at dksX12_worstAt_2 7 rfl rfl)
theorem dX12_worstAt_54 : decode cX12_worstAt 54 = .ok (.iload_n 1, 1) := dk_27 (dk_at dksX12_worstAt_2 8 rfl rfl)
theorem dX12_worstAt_55 : decode cX12_worstAt 55 = .ok (.invokevirtual 467, 3) := dk_182 1 211 (dk_at dksX12_worstAt_2 9 rfl rfl)
theorem dX12_worstAt_58 : decode cX12_worstAt 58 = .ok (.dup2, 1) := dk_92 (dk_at dksX12_worstAt_2 12 rfl rfl)
theorem dX12_worstAt_59 : decode cX12_worstAt 59 = .ok (.iaload, 1) := dk_46 (dk_at dksX12_worstAt_2 13 rfl rfl)
theorem dX12_worstAt_60 : decode cX12_worstAt 60 = .ok (.iconst 1, 1) := dk_4 (dk_at dksX12_worstAt_2 14 rfl rfl)
theorem dX12_worstAt_61 : decode cX12_worstAt 61 = .ok (.iadd, 1) := dk_96 (dk_at dksX12_worstAt_2 15 rfl rfl)
theorem dX12_worstAt_62 : decode cX12_worstAt 62 = .ok (.iastore, 1) := dk_79 (dk_at dksX12_worstAt_2 16 rfl rfl)
theorem dX12_worstAt_63 : decode cX12_worstAt 63 = .ok (.iinc 4 1, 3) := dk_132 4 1 (dk_at dksX12_worstAt_2 17 rfl rfl)
theorem dX12_worstAt_66 : decode cX12_worstAt 66 = .ok (.goto (-39), 3) := dk_167 255 217 (dk_at dksX12_worstAt_2 20 rfl rfl)
theorem dX12_worstAt_69 : decode cX12_worstAt 69 = .ok (.iconst 0, 1) := dk_3 (dk_at dksX12_worstAt_2 23 rfl rfl)
theorem dX12_worstAt_70 : decode cX12_worstAt 70 = .ok (.istore 4, 2) := dk_54 4 (dk_at dksX12_worstAt_3 0 rfl rfl)
theorem dX12_worstAt_72 : decode cX12_worstAt 72 = .ok (.iconst 0, 1) := dk_3 (dk_at dksX12_worstAt_3 2 rfl rfl)
theorem dX12_worstAt_73 : decode cX12_worstAt 73 = .ok (.istore 5, 2) := dk_54 5 (dk_at dksX12_worstAt_3 3 rfl rfl)
theorem dX12_worstAt_75 : decode cX12_worstAt 75 = .ok (.iload 5, 2) := dk_21 5 (dk_at dksX12_worstAt_3 5 rfl rfl)
theorem dX12_worstAt_77 : decode cX12_worstAt 77 = .ok (.bipush 10, 2) := dk_16 10 (dk_at dksX12_worstAt_3 7 rfl rfl)
theorem dX12_worstAt_79 : decode cX12_worstAt 79 = .ok (.if_icmp .ge 30, 3) := dk_162 0 30 (dk_at dksX12_worstAt_3 9 rfl rfl)
theorem dX12_worstAt_82 : decode cX12_worstAt 82 = .ok (.aload_n 0, 1) := dk_42 (dk_at dksX12_worstAt_3 12 rfl rfl)
theorem dX12_worstAt_83 : decode cX12_worstAt 83 = .ok (.getfield 149, 3) := dk_180 0 149 (dk_at dksX12_worstAt_3 13 rfl rfl)
theorem dX12_worstAt_86 : decode cX12_worstAt 86 = .ok (.iload 5, 2) := dk_21 5 (dk_at dksX12_worstAt_3 16 rfl rfl)
theorem dX12_worstAt_88 : decode cX12_worstAt 88 = .ok (.iaload, 1) := dk_46 (dk_at dksX12_worstAt_3 18 rfl rfl)
theorem dX12_worstAt_89 : decode cX12_worstAt 89 = .ok (.iload 4, 2) := dk_21 4 (dk_at dksX12_worstAt_3 19 rfl rfl)
theorem dX12_worstAt_91 : decode cX12_worstAt 91 = .ok (.if_icmp .le 12, 3) := dk_164 0 12 (dk_at dksX12_worstAt_3 21 rfl rfl)
theorem dX12_worstAt_94 : decode cX12_worstAt 94 = .ok (.aload_n 0, 1) := dk_42 (dk_at dksX12_worstAt_4 0 rfl rfl)
theorem dX12_worstAt_95 : decode cX12_worstAt 95 = .ok (.getfield 149, 3) := dk_180 0 149 (dk_at dksX12_worstAt_4 1 rfl rfl)
theorem dX12_worstAt_98 : decode cX12_worstAt 98 = .ok (.iload 5, 2) := dk_21 5 (dk_at dksX12_worstAt_4 4 rfl rfl)
theorem dX12_worstAt_100 : decode cX12_worstAt 100 = .ok (.iaload, 1) := dk_46 (dk_at dksX12_worstAt_4 6 rfl rfl)
theorem dX12_worstAt_101 : decode cX12_worstAt 101 = .ok (.istore 4, 2) := dk_54 4 (dk_at dksX12_worstAt_4 7 rfl rfl)
theorem dX12_worstAt_103 : decode cX12_worstAt 103 = .ok (.iinc 5 1, 3) := dk_132 5 1 (dk_at dksX12_worstAt_4 9 rfl rfl)
theorem dX12_worstAt_106 : decode cX12_worstAt 106 = .ok (.goto (-31), 3) := dk_167 255 225 (dk_at dksX12_worstAt_4 12 rfl rfl)
theorem dX12_worstAt_109 : decode cX12_worstAt 109 = .ok (.iload 4, 2) := dk_21 4 (dk_at dksX12_worstAt_4 15 rfl rfl)
theorem dX12_worstAt_111 : decode cX12_worstAt 111 = .ok (.ireturn, 1) := dk_172 (dk_at dksX12_worstAt_4 17 rfl rfl)
abbrev cX12_hold : ByteArray := prog_22_method_112_code
def yX12_hold : MethodName := ⟨RX12, "hold", "(I)Z"⟩
def dkwX12_hold_2 : List UInt8 := [167, 255, 230, 4, 172]
abbrev dktX12_hold_2 : List UInt8 := dkwX12_hold_2 ++ []
def dkwX12_hold_1 : List UInt8 := [162, 0, 26, 42, 180, 0, 155, 16, 92, 27, 104, 28, 96, 42, 180, 0, 116, 28, 46, 79, 132, 2, 1]
abbrev dktX12_hold_1 : List UInt8 := dkwX12_hold_1 ++ dktX12_hold_2
def dkwX12_hold_0 : List UInt8 := [27, 3, 5, 184, 1, 67, 154, 0, 5, 3, 172, 42, 180, 0, 152, 27, 4, 84, 3, 61, 28, 16, 92]
abbrev dktX12_hold_0 : List UInt8 := dkwX12_hold_0 ++ dktX12_hold_1
theorem dksX12_hold_0 : cX12_hold.data.toList.drop 0 = dktX12_hold_0 := by decide +kernel
theorem dksX12_hold_1 : cX12_hold.data.toList.drop 23 = dktX12_hold_1 := dk_seg dksX12_hold_0 23 rfl rfl
theorem dksX12_hold_2 : cX12_hold.data.toList.drop 46 = dktX12_hold_2 := dk_seg dksX12_hold_1 23 rfl rfl
theorem dX12_hold_0 : decode cX12_hold 0 = .ok (.iload_n 1, 1) := dk_27 (dk_at dksX12_hold_0 0 rfl rfl)
theorem dX12_hold_1 : decode cX12_hold 1 = .ok (.iconst 0, 1) := dk_3 (dk_at dksX12_hold_0 1 rfl rfl)
theorem dX12_hold_2 : decode cX12_hold 2 = .ok (.iconst 2, 1) := dk_5 (dk_at dksX12_hold_0 2 rfl rfl)
theorem dX12_hold_3 : decode cX12_hold 3 = .ok (.invokestatic 323, 3) := dk_184 1 67 (dk_at dksX12_hold_0 3 rfl rfl)
theorem dX12_hold_6 : decode cX12_hold 6 = .ok (.ifCond .ne 5, 3) := dk_154 0 5 (dk_at dksX12_hold_0 6 rfl rfl)
theorem dX12_hold_9 : decode cX12_hold 9 = .ok (.iconst 0, 1) := dk_3 (dk_at dksX12_hold_0 9 rfl rfl)
theorem dX12_hold_10 : decode cX12_hold 10 = .ok (.ireturn, 1) := dk_172 (dk_at dksX12_hold_0 10 rfl rfl)
theorem dX12_hold_11 : decode cX12_hold 11 = .ok (.aload_n 0, 1) := dk_42 (dk_at dksX12_hold_0 11 rfl rfl)
theorem dX12_hold_12 : decode cX12_hold 12 = .ok (.getfield 152, 3) := dk_180 0 152 (dk_at dksX12_hold_0 12 rfl rfl)
theorem dX12_hold_15 : decode cX12_hold 15 = .ok (.iload_n 1, 1) := dk_27 (dk_at dksX12_hold_0 15 rfl rfl)
theorem dX12_hold_16 : decode cX12_hold 16 = .ok (.iconst 1, 1) := dk_4 (dk_at dksX12_hold_0 16 rfl rfl)
theorem dX12_hold_17 : decode cX12_hold 17 = .ok (.bastore, 1) := dk_84 (dk_at dksX12_hold_0 17 rfl rfl)
theorem dX12_hold_18 : decode cX12_hold 18 = .ok (.iconst 0, 1) := dk_3 (dk_at dksX12_hold_0 18 rfl rfl)
theorem dX12_hold_19 : decode cX12_hold 19 = .ok (.istore_n 2, 1) := dk_61 (dk_at dksX12_hold_0 19 rfl rfl)
theorem dX12_hold_20 : decode cX12_hold 20 = .ok (.iload_n 2, 1) := dk_28 (dk_at dksX12_hold_0 20 rfl rfl)
theorem dX12_hold_21 : decode cX12_hold 21 = .ok (.bipush 92, 2) := dk_16 92 (dk_at dksX12_hold_0 21 rfl rfl)
theorem dX12_hold_23 : decode cX12_hold 23 = .ok (.if_icmp .ge 26, 3) := dk_162 0 26 (dk_at dksX12_hold_1 0 rfl rfl)
theorem dX12_hold_26 : decode cX12_hold 26 = .ok (.aload_n 0, 1) := dk_42 (dk_at dksX12_hold_1 3 rfl rfl)
theorem dX12_hold_27 : decode cX12_hold 27 = .ok (.getfield 155, 3) := dk_180 0 155 (dk_at dksX12_hold_1 4 rfl rfl)
theorem dX12_hold_30 : decode cX12_hold 30 = .ok (.bipush 92, 2) := dk_16 92 (dk_at dksX12_hold_1 7 rfl rfl)
theorem dX12_hold_32 : decode cX12_hold 32 = .ok (.iload_n 1, 1) := dk_27 (dk_at dksX12_hold_1 9 rfl rfl)
theorem dX12_hold_33 : decode cX12_hold 33 = .ok (.imul, 1) := dk_104 (dk_at dksX12_hold_1 10 rfl rfl)
theorem dX12_hold_34 : decode cX12_hold 34 = .ok (.iload_n 2, 1) := dk_28 (dk_at dksX12_hold_1 11 rfl rfl)
theorem dX12_hold_35 : decode cX12_hold 35 = .ok (.iadd, 1) := dk_96 (dk_at dksX12_hold_1 12 rfl rfl)
theorem dX12_hold_36 : decode cX12_hold 36 = .ok (.aload_n 0, 1) := dk_42 (dk_at dksX12_hold_1 13 rfl rfl)
theorem dX12_hold_37 : decode cX12_hold 37 = .ok (.getfield 116, 3) := dk_180 0 116 (dk_at dksX12_hold_1 14 rfl rfl)
theorem dX12_hold_40 : decode cX12_hold 40 = .ok (.iload_n 2, 1) := dk_28 (dk_at dksX12_hold_1 17 rfl rfl)
theorem dX12_hold_41 : decode cX12_hold 41 = .ok (.iaload, 1) := dk_46 (dk_at dksX12_hold_1 18 rfl rfl)
theorem dX12_hold_42 : decode cX12_hold 42 = .ok (.iastore, 1) := dk_79 (dk_at dksX12_hold_1 19 rfl rfl)
theorem dX12_hold_43 : decode cX12_hold 43 = .ok (.iinc 2 1, 3) := dk_132 2 1 (dk_at dksX12_hold_1 20 rfl rfl)
theorem dX12_hold_46 : decode cX12_hold 46 = .ok (.goto (-26), 3) := dk_167 255 230 (dk_at dksX12_hold_2 0 rfl rfl)
theorem dX12_hold_49 : decode cX12_hold 49 = .ok (.iconst 1, 1) := dk_4 (dk_at dksX12_hold_2 3 rfl rfl)
theorem dX12_hold_50 : decode cX12_hold 50 = .ok (.ireturn, 1) := dk_172 (dk_at dksX12_hold_2 4 rfl rfl)
abbrev cX12_restore : ByteArray := prog_22_method_113_code
def yX12_restore : MethodName := ⟨RX12, "restore", "(I)Z"⟩
def dkwX12_restore_2 : List UInt8 := [132, 2, 1, 167, 255, 230, 42, 3, 181, 1, 9, 4, 172]
abbrev dktX12_restore_2 : List UInt8 := dkwX12_restore_2 ++ []
def dkwX12_restore_1 : List UInt8 := [16, 92, 162, 0, 26, 42, 180, 0, 116, 28, 42, 180, 0, 155, 16, 92, 27, 104, 28, 96, 46, 79]
abbrev dktX12_restore_1 : List UInt8 := dkwX12_restore_1 ++ dktX12_restore_2
def dkwX12_restore_0 : List UInt8 := [27, 3, 5, 184, 1, 67, 153, 0, 12, 42, 180, 0, 152, 27, 51, 154, 0, 5, 3, 172, 3, 61, 28]
abbrev dktX12_restore_0 : List UInt8 := dkwX12_restore_0 ++ dktX12_restore_1
theorem dksX12_restore_0 : cX12_restore.data.toList.drop 0 = dktX12_restore_0 := by decide +kernel
theorem dksX12_restore_1 : cX12_restore.data.toList.drop 23 = dktX12_restore_1 := dk_seg dksX12_restore_0 23 rfl rfl
theorem dksX12_restore_2 : cX12_restore.data.toList.drop 45 = dktX12_restore_2 := dk_seg dksX12_restore_1 22 rfl rfl
theorem dX12_restore_0 : decode cX12_restore 0 = .ok (.iload_n 1, 1) := dk_27 (dk_at dksX12_restore_0 0 rfl rfl)
theorem dX12_restore_1 : decode cX12_restore 1 = .ok (.iconst 0, 1) := dk_3 (dk_at dksX12_restore_0 1 rfl rfl)
theorem dX12_restore_2 : decode cX12_restore 2 = .ok (.iconst 2, 1) := dk_5 (dk_at dksX12_restore_0 2 rfl rfl)
theorem dX12_restore_3 : decode cX12_restore 3 = .ok (.invokestatic 323, 3) := dk_184 1 67 (dk_at dksX12_restore_0 3 rfl rfl)
theorem dX12_restore_6 : decode cX12_restore 6 = .ok (.ifCond .eq 12, 3) := dk_153 0 12 (dk_at dksX12_restore_0 6 rfl rfl)
theorem dX12_restore_9 : decode cX12_restore 9 = .ok (.aload_n 0, 1) := dk_42 (dk_at dksX12_restore_0 9 rfl rfl)
theorem dX12_restore_10 : decode cX12_restore 10 = .ok (.getfield 152, 3) := dk_180 0 152 (dk_at dksX12_restore_0 10 rfl rfl)
theorem dX12_restore_13 : decode cX12_restore 13 = .ok (.iload_n 1, 1) := dk_27 (dk_at dksX12_restore_0 13 rfl rfl)
theorem dX12_restore_14 : decode cX12_restore 14 = .ok (.baload, 1) := dk_51 (dk_at dksX12_restore_0 14 rfl rfl)
theorem dX12_restore_15 : decode cX12_restore 15 = .ok (.ifCond .ne 5, 3) := dk_154 0 5 (dk_at dksX12_restore_0 15 rfl rfl)
theorem dX12_restore_18 : decode cX12_restore 18 = .ok (.iconst 0, 1) := dk_3 (dk_at dksX12_restore_0 18 rfl rfl)
theorem dX12_restore_19 : decode cX12_restore 19 = .ok (.ireturn, 1) := dk_172 (dk_at dksX12_restore_0 19 rfl rfl)
theorem dX12_restore_20 : decode cX12_restore 20 = .ok (.iconst 0, 1) := dk_3 (dk_at dksX12_restore_0 20 rfl rfl)
theorem dX12_restore_21 : decode cX12_restore 21 = .ok (.istore_n 2, 1) := dk_61 (dk_at dksX12_restore_0 21 rfl rfl)
theorem dX12_restore_22 : decode cX12_restore 22 = .ok (.iload_n 2, 1) := dk_28 (dk_at dksX12_restore_0 22 rfl rfl)
theorem dX12_restore_23 : decode cX12_restore 23 = .ok (.bipush 92, 2) := dk_16 92 (dk_at dksX12_restore_1 0 rfl rfl)
theorem dX12_restore_25 : decode cX12_restore 25 = .ok (.if_icmp .ge 26, 3) := dk_162 0 26 (dk_at dksX12_restore_1 2 rfl rfl)
theorem dX12_restore_28 : decode cX12_restore 28 = .ok (.aload_n 0, 1) := dk_42 (dk_at dksX12_restore_1 5 rfl rfl)
theorem dX12_restore_29 : decode cX12_restore 29 = .ok (.getfield 116, 3) := dk_180 0 116 (dk_at dksX12_restore_1 6 rfl rfl)
theorem dX12_restore_32 : decode cX12_restore 32 = .ok (.iload_n 2, 1) := dk_28 (dk_at dksX12_restore_1 9 rfl rfl)
theorem dX12_restore_33 : decode cX12_restore 33 = .ok (.aload_n 0, 1) := dk_42 (dk_at dksX12_restore_1 10 rfl rfl)
theorem dX12_restore_34 : decode cX12_restore 34 = .ok (.getfield 155, 3) := dk_180 0 155 (dk_at dksX12_restore_1 11 rfl rfl)
theorem dX12_restore_37 : decode cX12_restore 37 = .ok (.bipush 92, 2) := dk_16 92 (dk_at dksX12_restore_1 14 rfl rfl)
theorem dX12_restore_39 : decode cX12_restore 39 = .ok (.iload_n 1, 1) := dk_27 (dk_at dksX12_restore_1 16 rfl rfl)
theorem dX12_restore_40 : decode cX12_restore 40 = .ok (.imul, 1) := dk_104 (dk_at dksX12_restore_1 17 rfl rfl)
theorem dX12_restore_41 : decode cX12_restore 41 = .ok (.iload_n 2, 1) := dk_28 (dk_at dksX12_restore_1 18 rfl rfl)
theorem dX12_restore_42 : decode cX12_restore 42 = .ok (.iadd, 1) := dk_96 (dk_at dksX12_restore_1 19 rfl rfl)
theorem dX12_restore_43 : decode cX12_restore 43 = .ok (.iaload, 1) := dk_46 (dk_at dksX12_restore_1 20 rfl rfl)
theorem dX12_restore_44 : decode cX12_restore 44 = .ok (.iastore, 1) := dk_79 (dk_at dksX12_restore_1 21 rfl rfl)
theorem dX12_restore_45 : decode cX12_restore 45 = .ok (.iinc 2 1, 3) := dk_132 2 1 (dk_at dksX12_restore_2 0 rfl rfl)
theorem dX12_restore_48 : decode cX12_restore 48 = .ok (.goto (-26), 3) := dk_167 255 230 (dk_at dksX12_restore_2 3 rfl rfl)
theorem dX12_restore_51 : decode cX12_restore 51 = .ok (.aload_n 0, 1) := dk_42 (dk_at dksX12_restore_2 6 rfl rfl)
theorem dX12_restore_52 : decode cX12_restore 52 = .ok (.iconst 0, 1) := dk_3 (dk_at dksX12_restore_2 7 rfl rfl)
theorem dX12_restore_53 : decode cX12_restore 53 = .ok (.putfield 265, 3) := dk_181 1 9 (dk_at dksX12_restore_2 8 rfl rfl)
theorem dX12_restore_56 : decode cX12_restore 56 = .ok (.iconst 1, 1) := dk_4 (dk_at dksX12_restore_2 11 rfl rfl)
theorem dX12_restore_57 : decode cX12_restore 57 = .ok (.ireturn, 1) := dk_172 (dk_at dksX12_restore_2 12 rfl rfl)
abbrev cX12_count : ByteArray := prog_22_method_115_code
def yX12_count : MethodName := ⟨RX12, "count", "(I)I"⟩
def dkwX12_count_8 : List UInt8 := [16, 6, 182, 1, 224, 172, 2, 172]
abbrev dktX12_count_8 : List UInt8 := dkwX12_count_8 ++ []
def dkwX12_count_7 : List UInt8 := [5, 51, 153, 0, 7, 4, 167, 0, 4, 3, 96, 172, 42, 16, 76, 16, 6, 182, 1, 224, 172, 42, 16, 82]
abbrev dktX12_count_7 : List UInt8 := dkwX12_count_7 ++ dktX12_count_8
def dkwX12_count_6 : List UInt8 := [4, 167, 0, 4, 3, 42, 180, 0, 152, 4, 51, 153, 0, 7, 4, 167, 0, 4, 3, 96, 42, 180, 0, 152]
abbrev dktX12_count_6 : List UInt8 := dkwX12_count_6 ++ dktX12_count_7
def dkwX12_count_5 : List UInt8 := [42, 180, 0, 172, 172, 42, 180, 1, 9, 172, 42, 180, 1, 12, 172, 42, 180, 0, 152, 3, 51, 153, 0, 7]
abbrev dktX12_count_5 : List UInt8 := dkwX12_count_5 ++ dktX12_count_6
def dkwX12_count_4 : List UInt8 := [42, 180, 0, 116, 16, 88, 46, 172, 42, 3, 16, 48, 182, 1, 224, 172, 42, 180, 0, 116, 16, 90, 46, 172]
abbrev dktX12_count_4 : List UInt8 := dkwX12_count_4 ++ dktX12_count_5
def dkwX12_count_3 : List UInt8 := [42, 180, 0, 239, 46, 172, 42, 180, 0, 61, 42, 180, 0, 239, 46, 172, 42, 180, 0, 116, 16, 89, 46, 172]
abbrev dktX12_count_3 : List UInt8 := dkwX12_count_3 ++ dktX12_count_4
def dkwX12_count_2 : List UInt8 := [42, 180, 0, 46, 42, 180, 0, 239, 46, 172, 42, 180, 0, 43, 42, 180, 0, 239, 46, 172, 42, 180, 0, 52]
abbrev dktX12_count_2 : List UInt8 := dkwX12_count_2 ++ dktX12_count_3
def dkwX12_count_1 : List UInt8 := [170, 0, 0, 0, 0, 0, 221, 0, 0, 0, 0, 0, 0, 0, 13, 0, 0, 0, 71, 0, 0, 0, 81, 0, 0, 0, 91, 0, 0, 0, 101, 0, 0, 0, 111, 0, 0, 0, 119, 0, 0, 0, 127, 0, 0, 0, 135, 0, 0, 0, 143, 0, 0, 0, 148, 0, 0, 0, 153, 0, 0, 0, 158, 0, 0, 0, 203, 0, 0, 0, 212]
abbrev dktX12_count_1 : List UInt8 := dkwX12_count_1 ++ dktX12_count_2
def dkwX12_count_0 : List UInt8 := [27]
abbrev dktX12_count_0 : List UInt8 := dkwX12_count_0 ++ dktX12_count_1
theorem dksX12_count_0 : cX12_count.data.toList.drop 0 = dktX12_count_0 := by decide +kernel
theorem dksX12_count_1 : cX12_count.data.toList.drop 1 = dktX12_count_1 := dk_seg dksX12_count_0 1 rfl rfl
theorem dksX12_count_2 : cX12_count.data.toList.drop 72 = dktX12_count_2 := dk_seg dksX12_count_1 71 rfl rfl
theorem dksX12_count_3 : cX12_count.data.toList.drop 96 = dktX12_count_3 := dk_seg dksX12_count_2 24 rfl rfl
theorem dksX12_count_4 : cX12_count.data.toList.drop 120 = dktX12_count_4 := dk_seg dksX12_count_3 24 rfl rfl
theorem dksX12_count_5 : cX12_count.data.toList.drop 144 = dktX12_count_5 := dk_seg dksX12_count_4 24 rfl rfl
theorem dksX12_count_6 : cX12_count.data.toList.drop 168 = dktX12_count_6 := dk_seg dksX12_count_5 24 rfl rfl
theorem dksX12_count_7 : cX12_count.data.toList.drop 192 = dktX12_count_7 := dk_seg dksX12_count_6 24 rfl rfl
theorem dksX12_count_8 : cX12_count.data.toList.drop 216 = dktX12_count_8 := dk_seg dksX12_count_7 24 rfl rfl
theorem dX12_count_0 : decode cX12_count 0 = .ok (.iload_n 1, 1) := dk_27 (dk_at dksX12_count_0 0 rfl rfl)
theorem dX12_count_1 : decode cX12_count 1 = .ok (.tableswitch 221 0 13 #[71, 81, 91, 101, 111, 119, 127, 135, 143, 148, 153, 158, 203, 212], 71) := by decide +kernel
theorem dX12_count_72 : decode cX12_count 72 = .ok (.aload_n 0, 1) := dk_42 (dk_at dksX12_count_2 0 rfl rfl)
theorem dX12_count_73 : decode cX12_count 73 = .ok (.getfield 46, 3) := dk_180 0 46 (dk_at dksX12_count_2 1 rfl rfl)
theorem dX12_count_76 : decode cX12_count 76 = .ok (.aload_n 0, 1) := dk_42 (dk_at dksX12_count_2 4 rfl rfl)
theorem dX12_count_77 : decode cX12_count 77 = .ok (.getfield 239, 3) := dk_180 0 239 (dk_at dksX12_count_2 5 rfl rfl)
theorem dX12_count_80 : decode cX12_count 80 = .ok (.iaload, 1) := dk_46 (dk_at dksX12_count_2 8 rfl rfl)
theorem dX12_count_81 : decode cX12_count 81 = .ok (.ireturn, 1) := dk_172 (dk_at dksX12_count_2 9 rfl rfl)
theorem dX12_count_82 : decode cX12_count 82 = .ok (.aload_n 0, 1) := dk_42 (dk_at dksX12_count_2 10 rfl rfl)
theorem dX12_count_83 : decode cX12_count 83 = .ok (.getfield 43, 3) := dk_180 0 43 (dk_at dksX12_count_2 11 rfl rfl)
theorem dX12_count_86 : decode cX12_count 86 = .ok (.aload_n 0, 1) := dk_42 (dk_at dksX12_count_2 14 rfl rfl)
theorem dX12_count_87 : decode cX12_count 87 = .ok (.getfield 239, 3) := dk_180 0 239 (dk_at dksX12_count_2 15 rfl rfl)
theorem dX12_count_90 : decode cX12_count 90 = .ok (.iaload, 1) := dk_46 (dk_at dksX12_count_2 18 rfl rfl)
theorem dX12_count_91 : decode cX12_count 91 = .ok (.ireturn, 1) := dk_172 (dk_at dksX12_count_2 19 rfl rfl)
theorem dX12_count_92 : decode cX12_count 92 = .ok (.aload_n 0, 1) := dk_42 (dk_at dksX12_count_2 20 rfl rfl)
theorem dX12_count_93 : decode cX12_count 93 = .ok (.getfield 52, 3) := dk_180 0 52 (dk_at dksX12_count_2 21 rfl rfl)
theorem dX12_count_96 : decode cX12_count 96 = .ok (.aload_n 0, 1) := dk_42 (dk_at dksX12_count_3 0 rfl rfl)
theorem dX12_count_97 : decode cX12_count 97 = .ok (.getfield 239, 3) := dk_180 0 239 (dk_at dksX12_count_3 1 rfl rfl)
theorem dX12_count_100 : decode cX12_count 100 = .ok (.iaload, 1) := dk_46 (dk_at dksX12_count_3 4 rfl rfl)
theorem dX12_count_101 : decode cX12_count 101 = .ok (.ireturn, 1) := dk_172 (dk_at dksX12_count_3 5 rfl rfl)
theorem dX12_count_102 : decode cX12_count 102 = .ok (.aload_n 0, 1) := dk_42 (dk_at dksX12_count_3 6 rfl rfl)
theorem dX12_count_103 : decode cX12_count 103 = .ok (.getfield 61, 3) := dk_180 0 61 (dk_at dksX12_count_3 7 rfl rfl)
theorem dX12_count_106 : decode cX12_count 106 = .ok (.aload_n 0, 1) := dk_42 (dk_at dksX12_count_3 10 rfl rfl)
theorem dX12_count_107 : decode cX12_count 107 = .ok (.getfield 239, 3) := dk_180 0 239 (dk_at dksX12_count_3 11 rfl rfl)
theorem dX12_count_110 : decode cX12_count 110 = .ok (.iaload, 1) := dk_46 (dk_at dksX12_count_3 14 rfl rfl)
theorem dX12_count_111 : decode cX12_count 111 = .ok (.ireturn, 1) := dk_172 (dk_at dksX12_count_3 15 rfl rfl)
theorem dX12_count_112 : decode cX12_count 112 = .ok (.aload_n 0, 1) := dk_42 (dk_at dksX12_count_3 16 rfl rfl)
theorem dX12_count_113 : decode cX12_count 113 = .ok (.getfield 116, 3) := dk_180 0 116 (dk_at dksX12_count_3 17 rfl rfl)
theorem dX12_count_116 : decode cX12_count 116 = .ok (.bipush 89, 2) := dk_16 89 (dk_at dksX12_count_3 20 rfl rfl)
theorem dX12_count_118 : decode cX12_count 118 = .ok (.iaload, 1) := dk_46 (dk_at dksX12_count_3 22 rfl rfl)
theorem dX12_count_119 : decode cX12_count 119 = .ok (.ireturn, 1) := dk_172 (dk_at dksX12_count_3 23 rfl rfl)
theorem dX12_count_120 : decode cX12_count 120 = .ok (.aload_n 0, 1) := dk_42 (dk_at dksX12_count_4 0 rfl rfl)
theorem dX12_count_121 : decode cX12_count 121 = .ok (.getfield 116, 3) := dk_180 0 116 (dk_at dksX12_count_4 1 rfl rfl)
theorem dX12_count_124 : decode cX12_count 124 = .ok (.bipush 88, 2) := dk_16 88 (dk_at dksX12_count_4 4 rfl rfl)
theorem dX12_count_126 : decode cX12_count 126 = .ok (.iaload, 1) := dk_46 (dk_at dksX12_count_4 6 rfl rfl)
theorem dX12_count_127 : decode cX12_count 127 = .ok (.ireturn, 1) := dk_172 (dk_at dksX12_count_4 7 rfl rfl)
theorem dX12_count_128 : decode cX12_count 128 = .ok (.aload_n 0, 1) := dk_42 (dk_at dksX12_count_4 8 rfl rfl)
theorem dX12_count_129 : decode cX12_count 129 = .ok (.iconst 0, 1) := dk_3 (dk_at dksX12_count_4 9 rfl rfl)
theorem dX12_count_130 : decode cX12_count 130 = .ok (.bipush 48, 2) := dk_16 48 (dk_at dksX12_count_4 10 rfl rfl)
theorem dX12_count_132 : decode cX12_count 132 = .ok (.invokevirtual 480, 3) := dk_182 1 224 (dk_at dksX12_count_4 12 rfl rfl)
theorem dX12_count_135 : decode cX12_count 135 = .ok (.ireturn, 1) := dk_172 (dk_at dksX12_count_4 15 rfl rfl)
theorem dX12_count_136 : decode cX12_count 136 = .ok (.aload_n 0, 1) := dk_42 (dk_at dksX12_count_4 16 rfl rfl)
theorem dX12_count_137 : decode cX12_count 137 = .ok (.getfield 116, 3) := dk_180 0 116 (dk_at dksX12_count_4 17 rfl rfl)
theorem dX12_count_140 : decode cX12_count 140 = .ok (.bipush 90, 2) := dk_16 90 (dk_at dksX12_count_4 20 rfl rfl)
theorem dX12_count_142 : decode cX12_count 142 = .ok (.iaload, 1) := dk_46 (dk_at dksX12_count_4 22 rfl rfl)
theorem dX12_count_143 : decode cX12_count 143 = .ok (.ireturn, 1) := dk_172 (dk_at dksX12_count_4 23 rfl rfl)
theorem dX12_count_144 : decode cX12_count 144 = .ok (.aload_n 0, 1) := dk_42 (dk_at dksX12_count_5 0 rfl rfl)
theorem dX12_count_145 : decode cX12_count 145 = .ok (.getfield 172, 3) := dk_180 0 172 (dk_at dksX12_count_5 1 rfl rfl)
theorem dX12_count_148 : decode cX12_count 148 = .ok (.ireturn, 1) := dk_172 (dk_at dksX12_count_5 4 rfl rfl)
theorem dX12_count_149 : decode cX12_count 149 = .ok (.aload_n 0, 1) := dk_42 (dk_at dksX12_count_5 5 rfl rfl)
theorem dX12_count_150 : decode cX12_count 150 = .ok (.getfield 265, 3) := dk_180 1 9 (dk_at dksX12_count_5 6 rfl rfl)
theorem dX12_count_153 : decode cX12_count 153 = .ok (.ireturn, 1) := dk_172 (dk_at dksX12_count_5 9 rfl rfl)
theorem dX12_count_154 : decode cX12_count 154 = .ok (.aload_n 0, 1) := dk_42 (dk_at dksX12_count_5 10 rfl rfl)
theorem dX12_count_155 : decode cX12_count 155 = .ok (.getfield 268, 3) := dk_180 1 12 (dk_at dksX12_count_5 11 rfl rfl)
theorem dX12_count_158 : decode cX12_count 158 = .ok (.ireturn, 1) := dk_172 (dk_at dksX12_count_5 14 rfl rfl)
theorem dX12_count_159 : decode cX12_count 159 = .ok (.aload_n 0, 1) := dk_42 (dk_at dksX12_count_5 15 rfl rfl)
theorem dX12_count_160 : decode cX12_count 160 = .ok (.getfield 152, 3) := dk_180 0 152 (dk_at dksX12_count_5 16 rfl rfl)
theorem dX12_count_163 : decode cX12_count 163 = .ok (.iconst 0, 1) := dk_3 (dk_at dksX12_count_5 19 rfl rfl)
theorem dX12_count_164 : decode cX12_count 164 = .ok (.baload, 1) := dk_51 (dk_at dksX12_count_5 20 rfl rfl)
theorem dX12_count_165 : decode cX12_count 165 = .ok (.ifCond .eq 7, 3) := dk_153 0 7 (dk_at dksX12_count_5 21 rfl rfl)
theorem dX12_count_168 : decode cX12_count 168 = .ok (.iconst 1, 1) := dk_4 (dk_at dksX12_count_6 0 rfl rfl)
theorem dX12_count_169 : decode cX12_count 169 = .ok (.goto 4, 3) := dk_167 0 4 (dk_at dksX12_count_6 1 rfl rfl)
theorem dX12_count_172 : decode cX12_count 172 = .ok (.iconst 0, 1) := dk_3 (dk_at dksX12_count_6 4 rfl rfl)
theorem dX12_count_173 : decode cX12_count 173 = .ok (.aload_n 0, 1) := dk_42 (dk_at dksX12_count_6 5 rfl rfl)
theorem dX12_count_174 : decode cX12_count 174 = .ok (.getfield 152, 3) := dk_180 0 152 (dk_at dksX12_count_6 6 rfl rfl)
theorem dX12_count_177 : decode cX12_count 177 = .ok (.iconst 1, 1) := dk_4 (dk_at dksX12_count_6 9 rfl rfl)
theorem dX12_count_178 : decode cX12_count 178 = .ok (.baload, 1) := dk_51 (dk_at dksX12_count_6 10 rfl rfl)
theorem dX12_count_179 : decode cX12_count 179 = .ok (.ifCond .eq 7, 3) := dk_153 0 7 (dk_at dksX12_count_6 11 rfl rfl)
theorem dX12_count_182 : decode cX12_count 182 = .ok (.iconst 1, 1) := dk_4 (dk_at dksX12_count_6 14 rfl rfl)
theorem dX12_count_183 : decode cX12_count 183 = .ok (.goto 4, 3) := dk_167 0 4 (dk_at dksX12_count_6 15 rfl rfl)
theorem dX12_count_186 : decode cX12_count 186 = .ok (.iconst 0, 1) := dk_3 (dk_at dksX12_count_6 18 rfl rfl)
theorem dX12_count_187 : decode cX12_count 187 = .ok (.iadd, 1) := dk_96 (dk_at dksX12_count_6 19 rfl rfl)
theorem dX12_count_188 : decode cX12_count 188 = .ok (.aload_n 0, 1) := dk_42 (dk_at dksX12_count_6 20 rfl rfl)
theorem dX12_count_189 : decode cX12_count 189 = .ok (.getfield 152, 3) := dk_180 0 152 (dk_at dksX12_count_6 21 rfl rfl)
theorem dX12_count_192 : decode cX12_count 192 = .ok (.iconst 2, 1) := dk_5 (dk_at dksX12_count_7 0 rfl rfl)
theorem dX12_count_193 : decode cX12_count 193 = .ok (.baload, 1) := dk_51 (dk_at dksX12_count_7 1 rfl rfl)
theorem dX12_count_194 : decode cX12_count 194 = .ok (.ifCond .eq 7, 3) := dk_153 0 7 (dk_at dksX12_count_7 2 rfl rfl)
theorem dX12_count_197 : decode cX12_count 197 = .ok (.iconst 1, 1) := dk_4 (dk_at dksX12_count_7 5 rfl rfl)
theorem dX12_count_198 : decode cX12_count 198 = .ok (.goto 4, 3) := dk_167 0 4 (dk_at dksX12_count_7 6 rfl rfl)
theorem dX12_count_201 : decode cX12_count 201 = .ok (.iconst 0, 1) := dk_3 (dk_at dksX12_count_7 9 rfl rfl)
theorem dX12_count_202 : decode cX12_count 202 = .ok (.iadd, 1) := dk_96 (dk_at dksX12_count_7 10 rfl rfl)
theorem dX12_count_203 : decode cX12_count 203 = .ok (.ireturn, 1) := dk_172 (dk_at dksX12_count_7 11 rfl rfl)
theorem dX12_count_204 : decode cX12_count 204 = .ok (.aload_n 0, 1) := dk_42 (dk_at dksX12_count_7 12 rfl rfl)
theorem dX12_count_205 : decode cX12_count 205 = .ok (.bipush 76, 2) := dk_16 76 (dk_at dksX12_count_7 13 rfl rfl)
theorem dX12_count_207 : decode cX12_count 207 = .ok (.bipush 6, 2) := dk_16 6 (dk_at dksX12_count_7 15 rfl rfl)
theorem dX12_count_209 : decode cX12_count 209 = .ok (.invokevirtual 480, 3) := dk_182 1 224 (dk_at dksX12_count_7 17 rfl rfl)
theorem dX12_count_212 : decode cX12_count 212 = .ok (.ireturn, 1) := dk_172 (dk_at dksX12_count_7 20 rfl rfl)
theorem dX12_count_213 : decode cX12_count 213 = .ok (.aload_n 0, 1) := dk_42 (dk_at dksX12_count_7 21 rfl rfl)
theorem dX12_count_214 : decode cX12_count 214 = .ok (.bipush 82, 2) := dk_16 82 (dk_at dksX12_count_7 22 rfl rfl)
theorem dX12_count_216 : decode cX12_count 216 = .ok (.bipush 6, 2) := dk_16 6 (dk_at dksX12_count_8 0 rfl rfl)
theorem dX12_count_218 : decode cX12_count 218 = .ok (.invokevirtual 480, 3) := dk_182 1 224 (dk_at dksX12_count_8 2 rfl rfl)
theorem dX12_count_221 : decode cX12_count 221 = .ok (.ireturn, 1) := dk_172 (dk_at dksX12_count_8 5 rfl rfl)
theorem dX12_count_222 : decode cX12_count 222 = .ok (.iconst (-1), 1) := dk_2 (dk_at dksX12_count_8 6 rfl rfl)
theorem dX12_count_223 : decode cX12_count 223 = .ok (.ireturn, 1) := dk_172 (dk_at dksX12_count_8 7 rfl rfl)
abbrev cX12_sumNow : ByteArray := prog_22_method_114_code
def yX12_sumNow : MethodName := ⟨RX12, "sumNow", "(II)I"⟩
def dkwX12_sumNow_1 : List UInt8 := [132, 4, 1, 167, 255, 235, 29, 172]
abbrev dktX12_sumNow_1 : List UInt8 := dkwX12_sumNow_1 ++ []
def dkwX12_sumNow_0 : List UInt8 := [3, 62, 27, 54, 4, 21, 4, 27, 28, 96, 162, 0, 19, 29, 42, 180, 0, 116, 21, 4, 46, 96, 62]
abbrev dktX12_sumNow_0 : List UInt8 := dkwX12_sumNow_0 ++ dktX12_sumNow_1
theorem dksX12_sumNow_0 : cX12_sumNow.data.toList.drop 0 = dktX12_sumNow_0 := by decide +kernel
theorem dksX12_sumNow_1 : cX12_sumNow.data.toList.drop 23 = dktX12_sumNow_1 := dk_seg dksX12_sumNow_0 23 rfl rfl
theorem dX12_sumNow_0 : decode cX12_sumNow 0 = .ok (.iconst 0, 1) := dk_3 (dk_at dksX12_sumNow_0 0 rfl rfl)
theorem dX12_sumNow_1 : decode cX12_sumNow 1 = .ok (.istore_n 3, 1) := dk_62 (dk_at dksX12_sumNow_0 1 rfl rfl)
theorem dX12_sumNow_2 : decode cX12_sumNow 2 = .ok (.iload_n 1, 1) := dk_27 (dk_at dksX12_sumNow_0 2 rfl rfl)
theorem dX12_sumNow_3 : decode cX12_sumNow 3 = .ok (.istore 4, 2) := dk_54 4 (dk_at dksX12_sumNow_0 3 rfl rfl)
theorem dX12_sumNow_5 : decode cX12_sumNow 5 = .ok (.iload 4, 2) := dk_21 4 (dk_at dksX12_sumNow_0 5 rfl rfl)
theorem dX12_sumNow_7 : decode cX12_sumNow 7 = .ok (.iload_n 1, 1) := dk_27 (dk_at dksX12_sumNow_0 7 rfl rfl)
theorem dX12_sumNow_8 : decode cX12_sumNow 8 = .ok (.iload_n 2, 1) := dk_28 (dk_at dksX12_sumNow_0 8 rfl rfl)
theorem dX12_sumNow_9 : decode cX12_sumNow 9 = .ok (.iadd, 1) := dk_96 (dk_at dksX12_sumNow_0 9 rfl rfl)
theorem dX12_sumNow_10 : decode cX12_sumNow 10 = .ok (.if_icmp .ge 19, 3) := dk_162 0 19 (dk_at dksX12_sumNow_0 10 rfl rfl)
theorem dX12_sumNow_13 : decode cX12_sumNow 13 = .ok (.iload_n 3, 1) := dk_29 (dk_at dksX12_sumNow_0 13 rfl rfl)
theorem dX12_sumNow_14 : decode cX12_sumNow 14 = .ok (.aload_n 0, 1) := dk_42 (dk_at dksX12_sumNow_0 14 rfl rfl)
theorem dX12_sumNow_15 : decode cX12_sumNow 15 = .ok (.getfield 116, 3) := dk_180 0 116 (dk_at dksX12_sumNow_0 15 rfl rfl)
theorem dX12_sumNow_18 : decode cX12_sumNow 18 = .ok (.iload 4, 2) := dk_21 4 (dk_at dksX12_sumNow_0 18 rfl rfl)
theorem dX12_sumNow_20 : decode cX12_sumNow 20 = .ok (.iaload, 1) := dk_46 (dk_at dksX12_sumNow_0 20 rfl rfl)
theorem dX12_sumNow_21 : decode cX12_sumNow 21 = .ok (.iadd, 1) := dk_96 (dk_at dksX12_sumNow_0 21 rfl rfl)
theorem dX12_sumNow_22 : decode cX12_sumNow 22 = .ok (.istore_n 3, 1) := dk_62 (dk_at dksX12_sumNow_0 22 rfl rfl)
theorem dX12_sumNow_23 : decode cX12_sumNow 23 = .ok (.iinc 4 1, 3) := dk_132 4 1 (dk_at dksX12_sumNow_1 0 rfl rfl)
theorem dX12_sumNow_26 : decode cX12_sumNow 26 = .ok (.goto (-21), 3) := dk_167 255 235 (dk_at dksX12_sumNow_1 3 rfl rfl)
theorem dX12_sumNow_29 : decode cX12_sumNow 29 = .ok (.iload_n 3, 1) := dk_29 (dk_at dksX12_sumNow_1 6 rfl rfl)
theorem dX12_sumNow_30 : decode cX12_sumNow 30 = .ok (.ireturn, 1) := dk_172 (dk_at dksX12_sumNow_1 7 rfl rfl)
theorem q139 : (Jvm.Cond.initialized "RainLoomModel") ∈ lw_all := lw_g (lw_at lw_m1 21 rfl) rfl
theorem q1133 : (Jvm.Cond.selects "RainLoomModel" ({ cls := "java/lang/Object", name := "getClass", desc := "()Ljava/lang/Class;" } : Jvm.MethodName) ({ cls := "java/lang/Object", name := "getClass", desc := "()Ljava/lang/Class;" } : Jvm.MethodName)) ∈ lw_all := lw_g (lw_at lw_m5 55 rfl) rfl
theorem q1501 : (Jvm.Cond.instantiable "RainLoomModel" (72 : Nat)) ∈ lw_all := lw_g (lw_at lw_m6 183 rfl) rfl
theorem q1503 : (Jvm.Cond.instanceMethod ({ cls := "RainLoomModel", name := "<init>", desc := "()V" } : Jvm.MethodName)) ∈ lw_all := lw_g (lw_at lw_m6 185 rfl) rfl
theorem q1504 : (Jvm.Cond.code ({ cls := "RainLoomModel", name := "<init>", desc := "()V" } : Jvm.MethodName) prog_22_method_2_code (1 : Nat) (Option.none : Option Jvm.ClassFile.FieldType)) ∈ lw_all := lw_g (lw_at lw_m6 186 rfl) rfl
theorem q1505 : (Jvm.Cond.methodLink "RainLoomModel" (7 : Nat) ({ cls := "java/lang/Object", name := "<init>", desc := "()V" } : Jvm.MethodName)) ∈ lw_all := lw_g (lw_at lw_m6 187 rfl) rfl
theorem q1506 : (Jvm.Cond.methodLink "RainLoomModel" (158 : Nat) ({ cls := "RainLoomModel", name := "plain", desc := "(I)V" } : Jvm.MethodName)) ∈ lw_all := lw_g (lw_at lw_m6 188 rfl) rfl
theorem q1507 : (Jvm.Cond.privateMethod ({ cls := "RainLoomModel", name := "plain", desc := "(I)V" } : Jvm.MethodName)) ∈ lw_tbl := lw_at lw_m6 189 rfl
theorem q1508 : (Jvm.Cond.instanceMethod ({ cls := "RainLoomModel", name := "plain", desc := "(I)V" } : Jvm.MethodName)) ∈ lw_all := lw_g (lw_at lw_m6 190 rfl) rfl
theorem q1509 : (Jvm.Cond.code ({ cls := "RainLoomModel", name := "plain", desc := "(I)V" } : Jvm.MethodName) prog_22_method_19_code (3 : Nat) (Option.none : Option Jvm.ClassFile.FieldType)) ∈ lw_all := lw_g (lw_at lw_m6 191 rfl) rfl
theorem q1510 : (Jvm.Cond.methodLink "RainLoomModel" (162 : Nat) ({ cls := "RainLoomModel", name := "word", desc := "(IIIIIII)J" } : Jvm.MethodName)) ∈ lw_all := lw_g (lw_at lw_m6 192 rfl) rfl
theorem q1511 : (Jvm.Cond.static ({ cls := "RainLoomModel", name := "word", desc := "(IIIIIII)J" } : Jvm.MethodName)) ∈ lw_all := lw_g (lw_at lw_m6 193 rfl) rfl
theorem q1512 : (Jvm.Cond.code ({ cls := "RainLoomModel", name := "word", desc := "(IIIIIII)J" } : Jvm.MethodName) prog_22_method_10_code (7 : Nat) (Option.some Jvm.ClassFile.FieldType.long)) ∈ lw_all := lw_g (lw_at lw_m6 194 rfl) rfl
theorem q1513 : (Jvm.Cond.methodLink "RainLoomModel" (183 : Nat) ({ cls := "RainLoomModel", name := "appends", desc := "(JI)J" } : Jvm.MethodName)) ∈ lw_all := lw_g (lw_at lw_m6 195 rfl) rfl
theorem q1514 : (Jvm.Cond.static ({ cls := "RainLoomModel", name := "appends", desc := "(JI)J" } : Jvm.MethodName)) ∈ lw_all := lw_g (lw_at lw_m6 196 rfl) rfl
theorem q1515 : (Jvm.Cond.code ({ cls := "RainLoomModel", name := "appends", desc := "(JI)J" } : Jvm.MethodName) prog_22_method_9_code (3 : Nat) (Option.some Jvm.ClassFile.FieldType.long)) ∈ lw_all := lw_g (lw_at lw_m6 197 rfl) rfl
theorem q1516 : (Jvm.Cond.constantLong "RainLoomModel" (181 : Nat) (27 : Int64)) ∈ lw_all := lw_g (lw_at lw_m6 198 rfl) rfl
theorem q1517 : (Jvm.Cond.methodLink "RainLoomModel" (166 : Nat) ({ cls := "RainLoomModel", name := "begins", desc := "()V" } : Jvm.MethodName)) ∈ lw_all := lw_g (lw_at lw_m6 199 rfl) rfl
theorem q1518 : (Jvm.Cond.privateMethod ({ cls := "RainLoomModel", name := "begins", desc := "()V" } : Jvm.MethodName)) ∈ lw_tbl := lw_at lw_m6 200 rfl
theorem q1519 : (Jvm.Cond.instanceMethod ({ cls := "RainLoomModel", name := "begins", desc := "()V" } : Jvm.MethodName)) ∈ lw_all := lw_g (lw_at lw_m6 201 rfl) rfl
theorem q1520 : (Jvm.Cond.code ({ cls := "RainLoomModel", name := "begins", desc := "()V" } : Jvm.MethodName) prog_22_method_42_code (2 : Nat) (Option.none : Option Jvm.ClassFile.FieldType)) ∈ lw_all := lw_g (lw_at lw_m6 202 rfl) rfl
theorem q1521 : (Jvm.Cond.methodLink "RainLoomModel" (169 : Nat) ({ cls := "RainLoomModel", name := "keepsRow", desc := "()V" } : Jvm.MethodName)) ∈ lw_all := lw_g (lw_at lw_m6 203 rfl) rfl
theorem q1522 : (Jvm.Cond.privateMethod ({ cls := "RainLoomModel", name := "keepsRow", desc := "()V" } : Jvm.MethodName)) ∈ lw_tbl := lw_at lw_m6 204 rfl
theorem q1523 : (Jvm.Cond.instanceMethod ({ cls := "RainLoomModel", name := "keepsRow", desc := "()V" } : Jvm.MethodName)) ∈ lw_all := lw_g (lw_at lw_m6 205 rfl) rfl
theorem q1524 : (Jvm.Cond.code ({ cls := "RainLoomModel", name := "keepsRow", desc := "()V" } : Jvm.MethodName) prog_22_method_43_code (2 : Nat) (Option.none : Option Jvm.ClassFile.FieldType)) ∈ lw_all := lw_g (lw_at lw_m6 206 rfl) rfl
theorem q1525 : (Jvm.Cond.fieldLink "RainLoomModel" (13 : Nat) "RainLoomModel" "tape" "[B") ∈ lw_all := lw_g (lw_at lw_m6 207 rfl) rfl
theorem q1526 : (Jvm.Cond.fieldLink "RainLoomModel" (172 : Nat) "RainLoomModel" "taped" "I") ∈ lw_all := lw_g (lw_at lw_m6 208 rfl) rfl
theorem q1527 : (Jvm.Cond.fieldLink "RainLoomModel" (17 : Nat) "RainLoomModel" "text" "[B") ∈ lw_all := lw_g (lw_at lw_m6 209 rfl) rfl
theorem q1528 : (Jvm.Cond.fieldLink "RainLoomModel" (178 : Nat) "RainLoomModel" "size" "I") ∈ lw_all := lw_g (lw_at lw_m6 210 rfl) rfl
theorem q1529 : (Jvm.Cond.fieldLink "RainLoomModel" (20 : Nat) "RainLoomModel" "tKind" "[I") ∈ lw_all := lw_g (lw_at lw_m6 211 rfl) rfl
theorem q1530 : (Jvm.Cond.fieldLink "RainLoomModel" (24 : Nat) "RainLoomModel" "tPlace" "[I") ∈ lw_all := lw_g (lw_at lw_m6 212 rfl) rfl
theorem q1531 : (Jvm.Cond.fieldLink "RainLoomModel" (27 : Nat) "RainLoomModel" "tValue" "[I") ∈ lw_all := lw_g (lw_at lw_m6 213 rfl) rfl
theorem q1532 : (Jvm.Cond.fieldLink "RainLoomModel" (30 : Nat) "RainLoomModel" "tName" "[J") ∈ lw_all := lw_g (lw_at lw_m6 214 rfl) rfl
theorem q1533 : (Jvm.Cond.fieldLink "RainLoomModel" (34 : Nat) "RainLoomModel" "keys" "[J") ∈ lw_all := lw_g (lw_at lw_m6 215 rfl) rfl
theorem q1534 : (Jvm.Cond.fieldLink "RainLoomModel" (187 : Nat) "RainLoomModel" "tokens" "I") ∈ lw_all := lw_g (lw_at lw_m6 216 rfl) rfl
theorem q1535 : (Jvm.Cond.fieldLink "RainLoomModel" (212 : Nat) "RainLoomModel" "t" "I") ∈ lw_all := lw_g (lw_at lw_m6 217 rfl) rfl
theorem q1536 : (Jvm.Cond.fieldLink "RainLoomModel" (236 : Nat) "RainLoomModel" "open" "I") ∈ lw_all := lw_g (lw_at lw_m6 218 rfl) rfl
theorem q1537 : (Jvm.Cond.fieldLink "RainLoomModel" (209 : Nat) "RainLoomModel" "fault" "I") ∈ lw_all := lw_g (lw_at lw_m6 219 rfl) rfl
theorem q1538 : (Jvm.Cond.fieldLink "RainLoomModel" (215 : Nat) "RainLoomModel" "faultPlace" "I") ∈ lw_all := lw_g (lw_at lw_m6 220 rfl) rfl
theorem q1539 : (Jvm.Cond.fieldLink "RainLoomModel" (218 : Nat) "RainLoomModel" "worst" "I") ∈ lw_all := lw_g (lw_at lw_m6 221 rfl) rfl
theorem q1540 : (Jvm.Cond.fieldLink "RainLoomModel" (221 : Nat) "RainLoomModel" "worstPlace" "I") ∈ lw_all := lw_g (lw_at lw_m6 222 rfl) rfl
theorem q1541 : (Jvm.Cond.fieldLink "RainLoomModel" (37 : Nat) "RainLoomModel" "place" "I") ∈ lw_all := lw_g (lw_at lw_m6 223 rfl) rfl
theorem q1542 : (Jvm.Cond.fieldLink "RainLoomModel" (239 : Nat) "RainLoomModel" "live" "I") ∈ lw_all := lw_g (lw_at lw_m6 224 rfl) rfl
theorem q1543 : (Jvm.Cond.fieldLink "RainLoomModel" (242 : Nat) "RainLoomModel" "side" "I") ∈ lw_all := lw_g (lw_at lw_m6 225 rfl) rfl
theorem q1544 : (Jvm.Cond.fieldLink "RainLoomModel" (245 : Nat) "RainLoomModel" "names" "I") ∈ lw_all := lw_g (lw_at lw_m6 226 rfl) rfl
theorem q1545 : (Jvm.Cond.fieldLink "RainLoomModel" (40 : Nat) "RainLoomModel" "nameOf" "[J") ∈ lw_all := lw_g (lw_at lw_m6 227 rfl) rfl
theorem q1546 : (Jvm.Cond.fieldLink "RainLoomModel" (43 : Nat) "RainLoomModel" "rows" "[I") ∈ lw_all := lw_g (lw_at lw_m6 228 rfl) rfl
theorem q1547 : (Jvm.Cond.fieldLink "RainLoomModel" (46 : Nat) "RainLoomModel" "wide" "[I") ∈ lw_all := lw_g (lw_at lw_m6 229 rfl) rfl
theorem q1548 : (Jvm.Cond.fieldLink "RainLoomModel" (49 : Nat) "RainLoomModel" "fieldOf" "[I") ∈ lw_all := lw_g (lw_at lw_m6 230 rfl) rfl
theorem q1549 : (Jvm.Cond.fieldLink "RainLoomModel" (52 : Nat) "RainLoomModel" "fields" "[I") ∈ lw_all := lw_g (lw_at lw_m6 231 rfl) rfl
theorem q1550 : (Jvm.Cond.fieldLink "RainLoomModel" (55 : Nat) "RainLoomModel" "needsOf" "[I") ∈ lw_all := lw_g (lw_at lw_m6 232 rfl) rfl
theorem q1551 : (Jvm.Cond.fieldLink "RainLoomModel" (58 : Nat) "RainLoomModel" "drownsOf" "[I") ∈ lw_all := lw_g (lw_at lw_m6 233 rfl) rfl
theorem q1552 : (Jvm.Cond.fieldLink "RainLoomModel" (61 : Nat) "RainLoomModel" "looms" "[I") ∈ lw_all := lw_g (lw_at lw_m6 234 rfl) rfl
theorem q1553 : (Jvm.Cond.fieldLink "RainLoomModel" (64 : Nat) "RainLoomModel" "wideOf" "[I") ∈ lw_all := lw_g (lw_at lw_m6 235 rfl) rfl
theorem q1554 : (Jvm.Cond.fieldLink "RainLoomModel" (67 : Nat) "RainLoomModel" "pickTold" "[I") ∈ lw_all := lw_g (lw_at lw_m6 236 rfl) rfl
theorem q1555 : (Jvm.Cond.fieldLink "RainLoomModel" (70 : Nat) "RainLoomModel" "storeTold" "[I") ∈ lw_all := lw_g (lw_at lw_m6 237 rfl) rfl
theorem q1556 : (Jvm.Cond.fieldLink "RainLoomModel" (73 : Nat) "RainLoomModel" "gusts" "[I") ∈ lw_all := lw_g (lw_at lw_m6 238 rfl) rfl
theorem q1557 : (Jvm.Cond.fieldLink "RainLoomModel" (76 : Nat) "RainLoomModel" "seed" "[I") ∈ lw_all := lw_g (lw_at lw_m6 239 rfl) rfl
theorem q1558 : (Jvm.Cond.fieldLink "RainLoomModel" (79 : Nat) "RainLoomModel" "lawFirst" "[I") ∈ lw_all := lw_g (lw_at lw_m7 0 rfl) rfl
theorem q1559 : (Jvm.Cond.fieldLink "RainLoomModel" (82 : Nat) "RainLoomModel" "lawLast" "[I") ∈ lw_all := lw_g (lw_at lw_m7 1 rfl) rfl
theorem q1560 : (Jvm.Cond.fieldLink "RainLoomModel" (248 : Nat) "RainLoomModel" "branches" "I") ∈ lw_all := lw_g (lw_at lw_m7 2 rfl) rfl
theorem q1561 : (Jvm.Cond.fieldLink "RainLoomModel" (85 : Nat) "RainLoomModel" "hasTest" "[Z") ∈ lw_all := lw_g (lw_at lw_m7 3 rfl) rfl
theorem q1562 : (Jvm.Cond.fieldLink "RainLoomModel" (89 : Nat) "RainLoomModel" "testFrom" "[I") ∈ lw_all := lw_g (lw_at lw_m7 4 rfl) rfl
theorem q1563 : (Jvm.Cond.fieldLink "RainLoomModel" (92 : Nat) "RainLoomModel" "testMid" "[I") ∈ lw_all := lw_g (lw_at lw_m7 5 rfl) rfl
theorem q1564 : (Jvm.Cond.fieldLink "RainLoomModel" (95 : Nat) "RainLoomModel" "testTo" "[I") ∈ lw_all := lw_g (lw_at lw_m7 6 rfl) rfl
theorem q1565 : (Jvm.Cond.fieldLink "RainLoomModel" (98 : Nat) "RainLoomModel" "termTo" "[I") ∈ lw_all := lw_g (lw_at lw_m7 7 rfl) rfl
theorem q1566 : (Jvm.Cond.fieldLink "RainLoomModel" (251 : Nat) "RainLoomModel" "codes" "I") ∈ lw_all := lw_g (lw_at lw_m7 8 rfl) rfl
theorem q1567 : (Jvm.Cond.fieldLink "RainLoomModel" (101 : Nat) "RainLoomModel" "code" "[I") ∈ lw_all := lw_g (lw_at lw_m7 9 rfl) rfl
theorem q1568 : (Jvm.Cond.fieldLink "RainLoomModel" (104 : Nat) "RainLoomModel" "codeInt" "[I") ∈ lw_all := lw_g (lw_at lw_m7 10 rfl) rfl
theorem q1569 : (Jvm.Cond.fieldLink "RainLoomModel" (107 : Nat) "RainLoomModel" "waits" "[I") ∈ lw_all := lw_g (lw_at lw_m7 11 rfl) rfl
theorem q1570 : (Jvm.Cond.fieldLink "RainLoomModel" (306 : Nat) "RainLoomModel" "waiting" "I") ∈ lw_all := lw_g (lw_at lw_m7 12 rfl) rfl
theorem q1571 : (Jvm.Cond.fieldLink "RainLoomModel" (110 : Nat) "RainLoomModel" "variables" "[I") ∈ lw_all := lw_g (lw_at lw_m7 13 rfl) rfl
theorem q1572 : (Jvm.Cond.fieldLink "RainLoomModel" (113 : Nat) "RainLoomModel" "pile" "[I") ∈ lw_all := lw_g (lw_at lw_m7 14 rfl) rfl
theorem q1573 : (Jvm.Cond.fieldLink "RainLoomModel" (319 : Nat) "RainLoomModel" "isBroken" "Z") ∈ lw_all := lw_g (lw_at lw_m7 15 rfl) rfl
theorem q1574 : (Jvm.Cond.fieldLink "RainLoomModel" (116 : Nat) "RainLoomModel" "now" "[I") ∈ lw_all := lw_g (lw_at lw_m7 16 rfl) rfl
theorem q1575 : (Jvm.Cond.fieldLink "RainLoomModel" (119 : Nat) "RainLoomModel" "row" "[I") ∈ lw_all := lw_g (lw_at lw_m7 17 rfl) rfl
theorem q1576 : (Jvm.Cond.fieldLink "RainLoomModel" (327 : Nat) "RainLoomModel" "lots" "I") ∈ lw_all := lw_g (lw_at lw_m7 18 rfl) rfl
theorem q1577 : (Jvm.Cond.fieldLink "RainLoomModel" (265 : Nat) "RainLoomModel" "undos" "I") ∈ lw_all := lw_g (lw_at lw_m7 19 rfl) rfl
theorem q1578 : (Jvm.Cond.fieldLink "RainLoomModel" (122 : Nat) "RainLoomModel" "history" "[I") ∈ lw_all := lw_g (lw_at lw_m7 20 rfl) rfl
theorem q1579 : (Jvm.Cond.fieldLink "RainLoomModel" (417 : Nat) "RainLoomModel" "bestMore" "I") ∈ lw_all := lw_g (lw_at lw_m7 21 rfl) rfl
theorem q1580 : (Jvm.Cond.fieldLink "RainLoomModel" (411 : Nat) "RainLoomModel" "bestCell" "I") ∈ lw_all := lw_g (lw_at lw_m7 22 rfl) rfl
theorem q1581 : (Jvm.Cond.fieldLink "RainLoomModel" (125 : Nat) "RainLoomModel" "pieceWide" "[I") ∈ lw_all := lw_g (lw_at lw_m7 23 rfl) rfl
theorem q1582 : (Jvm.Cond.fieldLink "RainLoomModel" (128 : Nat) "RainLoomModel" "pieceLong" "[I") ∈ lw_all := lw_g (lw_at lw_m7 24 rfl) rfl
theorem q1583 : (Jvm.Cond.fieldLink "RainLoomModel" (131 : Nat) "RainLoomModel" "lies" "[I") ∈ lw_all := lw_g (lw_at lw_m7 25 rfl) rfl
theorem q1584 : (Jvm.Cond.fieldLink "RainLoomModel" (134 : Nat) "RainLoomModel" "taken" "[I") ∈ lw_all := lw_g (lw_at lw_m7 26 rfl) rfl
theorem q1585 : (Jvm.Cond.fieldLink "RainLoomModel" (427 : Nat) "RainLoomModel" "pieces" "I") ∈ lw_all := lw_g (lw_at lw_m7 27 rfl) rfl
theorem q1586 : (Jvm.Cond.fieldLink "RainLoomModel" (461 : Nat) "RainLoomModel" "bestOff" "I") ∈ lw_all := lw_g (lw_at lw_m7 28 rfl) rfl
theorem q1587 : (Jvm.Cond.fieldLink "RainLoomModel" (455 : Nat) "RainLoomModel" "bestWay" "I") ∈ lw_all := lw_g (lw_at lw_m7 29 rfl) rfl
theorem q1588 : (Jvm.Cond.fieldLink "RainLoomModel" (137 : Nat) "RainLoomModel" "offOf" "[I") ∈ lw_all := lw_g (lw_at lw_m7 30 rfl) rfl
theorem q1589 : (Jvm.Cond.fieldLink "RainLoomModel" (268 : Nat) "RainLoomModel" "told" "I") ∈ lw_all := lw_g (lw_at lw_m7 31 rfl) rfl
theorem q1590 : (Jvm.Cond.fieldLink "RainLoomModel" (140 : Nat) "RainLoomModel" "toldCell" "[I") ∈ lw_all := lw_g (lw_at lw_m7 32 rfl) rfl
theorem q1591 : (Jvm.Cond.fieldLink "RainLoomModel" (143 : Nat) "RainLoomModel" "toldWater" "[I") ∈ lw_all := lw_g (lw_at lw_m7 33 rfl) rfl
theorem q1592 : (Jvm.Cond.fieldLink "RainLoomModel" (146 : Nat) "RainLoomModel" "isOne" "[Z") ∈ lw_all := lw_g (lw_at lw_m7 34 rfl) rfl
theorem q1593 : (Jvm.Cond.fieldLink "RainLoomModel" (149 : Nat) "RainLoomModel" "waysBy" "[I") ∈ lw_all := lw_g (lw_at lw_m7 35 rfl) rfl
theorem q1594 : (Jvm.Cond.fieldLink "RainLoomModel" (152 : Nat) "RainLoomModel" "isHeld" "[Z") ∈ lw_all := lw_g (lw_at lw_m7 36 rfl) rfl
theorem q1595 : (Jvm.Cond.fieldLink "RainLoomModel" (155 : Nat) "RainLoomModel" "heldRows" "[I") ∈ lw_all := lw_g (lw_at lw_m7 37 rfl) rfl
theorem q1596 : (Jvm.Cond.lays "RainLoomModel" "RainLoomModel" "thrown" "I") ∈ lw_all := lw_g (lw_at lw_m7 38 rfl) rfl
theorem q1597 : (Jvm.Cond.soleField "RainLoomModel" "thrown") ∈ lw_all := lw_g (lw_at lw_m7 39 rfl) rfl
theorem q1598 : (Jvm.Cond.laysFinal "RainLoomModel" "RainLoomModel" "tape" "[B") ∈ lw_all := lw_g (lw_at lw_m7 40 rfl) rfl
theorem q1599 : (Jvm.Cond.soleField "RainLoomModel" "tape") ∈ lw_all := lw_g (lw_at lw_m7 41 rfl) rfl
theorem q1600 : (Jvm.Cond.lays "RainLoomModel" "RainLoomModel" "taped" "I") ∈ lw_all := lw_g (lw_at lw_m7 42 rfl) rfl
theorem q1601 : (Jvm.Cond.soleField "RainLoomModel" "taped") ∈ lw_all := lw_g (lw_at lw_m7 43 rfl) rfl
theorem q1602 : (Jvm.Cond.laysFinal "RainLoomModel" "RainLoomModel" "text" "[B") ∈ lw_all := lw_g (lw_at lw_m7 44 rfl) rfl
theorem q1603 : (Jvm.Cond.soleField "RainLoomModel" "text") ∈ lw_all := lw_g (lw_at lw_m7 45 rfl) rfl
theorem q1604 : (Jvm.Cond.lays "RainLoomModel" "RainLoomModel" "size" "I") ∈ lw_all := lw_g (lw_at lw_m7 46 rfl) rfl
theorem q1605 : (Jvm.Cond.soleField "RainLoomModel" "size") ∈ lw_all := lw_g (lw_at lw_m7 47 rfl) rfl
theorem q1606 : (Jvm.Cond.laysFinal "RainLoomModel" "RainLoomModel" "tKind" "[I") ∈ lw_all := lw_g (lw_at lw_m7 48 rfl) rfl
theorem q1607 : (Jvm.Cond.soleField "RainLoomModel" "tKind") ∈ lw_all := lw_g (lw_at lw_m7 49 rfl) rfl
theorem q1608 : (Jvm.Cond.laysFinal "RainLoomModel" "RainLoomModel" "tPlace" "[I") ∈ lw_all := lw_g (lw_at lw_m7 50 rfl) rfl
theorem q1609 : (Jvm.Cond.soleField "RainLoomModel" "tPlace") ∈ lw_all := lw_g (lw_at lw_m7 51 rfl) rfl
theorem q1610 : (Jvm.Cond.laysFinal "RainLoomModel" "RainLoomModel" "tValue" "[I") ∈ lw_all := lw_g (lw_at lw_m7 52 rfl) rfl
theorem q1611 : (Jvm.Cond.soleField "RainLoomModel" "tValue") ∈ lw_all := lw_g (lw_at lw_m7 53 rfl) rfl
theorem q1612 : (Jvm.Cond.laysFinal "RainLoomModel" "RainLoomModel" "tName" "[J") ∈ lw_all := lw_g (lw_at lw_m7 54 rfl) rfl
theorem q1613 : (Jvm.Cond.soleField "RainLoomModel" "tName") ∈ lw_all := lw_g (lw_at lw_m7 55 rfl) rfl
theorem q1614 : (Jvm.Cond.laysFinal "RainLoomModel" "RainLoomModel" "keys" "[J") ∈ lw_all := lw_g (lw_at lw_m7 56 rfl) rfl
theorem q1615 : (Jvm.Cond.soleField "RainLoomModel" "keys") ∈ lw_all := lw_g (lw_at lw_m7 57 rfl) rfl
theorem q1616 : (Jvm.Cond.lays "RainLoomModel" "RainLoomModel" "tokens" "I") ∈ lw_all := lw_g (lw_at lw_m7 58 rfl) rfl
theorem q1617 : (Jvm.Cond.soleField "RainLoomModel" "tokens") ∈ lw_all := lw_g (lw_at lw_m7 59 rfl) rfl
theorem q1618 : (Jvm.Cond.lays "RainLoomModel" "RainLoomModel" "t" "I") ∈ lw_all := lw_g (lw_at lw_m7 60 rfl) rfl
theorem q1619 : (Jvm.Cond.soleField "RainLoomModel" "t") ∈ lw_all := lw_g (lw_at lw_m7 61 rfl) rfl
theorem q1620 : (Jvm.Cond.lays "RainLoomModel" "RainLoomModel" "open" "I") ∈ lw_all := lw_g (lw_at lw_m7 62 rfl) rfl
theorem q1621 : (Jvm.Cond.soleField "RainLoomModel" "open") ∈ lw_all := lw_g (lw_at lw_m7 63 rfl) rfl
theorem q1622 : (Jvm.Cond.lays "RainLoomModel" "RainLoomModel" "fault" "I") ∈ lw_all := lw_g (lw_at lw_m7 64 rfl) rfl
theorem q1623 : (Jvm.Cond.soleField "RainLoomModel" "fault") ∈ lw_all := lw_g (lw_at lw_m7 65 rfl) rfl
theorem q1624 : (Jvm.Cond.lays "RainLoomModel" "RainLoomModel" "faultPlace" "I") ∈ lw_all := lw_g (lw_at lw_m7 66 rfl) rfl
theorem q1625 : (Jvm.Cond.soleField "RainLoomModel" "faultPlace") ∈ lw_all := lw_g (lw_at lw_m7 67 rfl) rfl
theorem q1626 : (Jvm.Cond.lays "RainLoomModel" "RainLoomModel" "worst" "I") ∈ lw_all := lw_g (lw_at lw_m7 68 rfl) rfl
theorem q1627 : (Jvm.Cond.soleField "RainLoomModel" "worst") ∈ lw_all := lw_g (lw_at lw_m7 69 rfl) rfl
theorem q1628 : (Jvm.Cond.lays "RainLoomModel" "RainLoomModel" "worstPlace" "I") ∈ lw_all := lw_g (lw_at lw_m7 70 rfl) rfl
theorem q1629 : (Jvm.Cond.soleField "RainLoomModel" "worstPlace") ∈ lw_all := lw_g (lw_at lw_m7 71 rfl) rfl
theorem q1630 : (Jvm.Cond.lays "RainLoomModel" "RainLoomModel" "place" "I") ∈ lw_all := lw_g (lw_at lw_m7 72 rfl) rfl
theorem q1631 : (Jvm.Cond.soleField "RainLoomModel" "place") ∈ lw_all := lw_g (lw_at lw_m7 73 rfl) rfl
theorem q1632 : (Jvm.Cond.lays "RainLoomModel" "RainLoomModel" "live" "I") ∈ lw_all := lw_g (lw_at lw_m7 74 rfl) rfl
theorem q1633 : (Jvm.Cond.soleField "RainLoomModel" "live") ∈ lw_all := lw_g (lw_at lw_m7 75 rfl) rfl
theorem q1634 : (Jvm.Cond.lays "RainLoomModel" "RainLoomModel" "side" "I") ∈ lw_all := lw_g (lw_at lw_m7 76 rfl) rfl
theorem q1635 : (Jvm.Cond.soleField "RainLoomModel" "side") ∈ lw_all := lw_g (lw_at lw_m7 77 rfl) rfl
theorem q1636 : (Jvm.Cond.lays "RainLoomModel" "RainLoomModel" "names" "I") ∈ lw_all := lw_g (lw_at lw_m7 78 rfl) rfl
theorem q1637 : (Jvm.Cond.soleField "RainLoomModel" "names") ∈ lw_all := lw_g (lw_at lw_m7 79 rfl) rfl
theorem q1638 : (Jvm.Cond.laysFinal "RainLoomModel" "RainLoomModel" "nameOf" "[J") ∈ lw_all := lw_g (lw_at lw_m7 80 rfl) rfl
theorem q1639 : (Jvm.Cond.soleField "RainLoomModel" "nameOf") ∈ lw_all := lw_g (lw_at lw_m7 81 rfl) rfl
theorem q1640 : (Jvm.Cond.laysFinal "RainLoomModel" "RainLoomModel" "rows" "[I") ∈ lw_all := lw_g (lw_at lw_m7 82 rfl) rfl
theorem q1641 : (Jvm.Cond.soleField "RainLoomModel" "rows") ∈ lw_all := lw_g (lw_at lw_m7 83 rfl) rfl
theorem q1642 : (Jvm.Cond.laysFinal "RainLoomModel" "RainLoomModel" "wide" "[I") ∈ lw_all := lw_g (lw_at lw_m7 84 rfl) rfl
theorem q1643 : (Jvm.Cond.soleField "RainLoomModel" "wide") ∈ lw_all := lw_g (lw_at lw_m7 85 rfl) rfl
theorem q1644 : (Jvm.Cond.laysFinal "RainLoomModel" "RainLoomModel" "fieldOf" "[I") ∈ lw_all := lw_g (lw_at lw_m7 86 rfl) rfl
theorem q1645 : (Jvm.Cond.soleField "RainLoomModel" "fieldOf") ∈ lw_all := lw_g (lw_at lw_m7 87 rfl) rfl
theorem q1646 : (Jvm.Cond.laysFinal "RainLoomModel" "RainLoomModel" "fields" "[I") ∈ lw_all := lw_g (lw_at lw_m7 88 rfl) rfl
theorem q1647 : (Jvm.Cond.soleField "RainLoomModel" "fields") ∈ lw_all := lw_g (lw_at lw_m7 89 rfl) rfl
theorem q1648 : (Jvm.Cond.laysFinal "RainLoomModel" "RainLoomModel" "needsOf" "[I") ∈ lw_all := lw_g (lw_at lw_m7 90 rfl) rfl
theorem q1649 : (Jvm.Cond.soleField "RainLoomModel" "needsOf") ∈ lw_all := lw_g (lw_at lw_m7 91 rfl) rfl
theorem q1650 : (Jvm.Cond.laysFinal "RainLoomModel" "RainLoomModel" "drownsOf" "[I") ∈ lw_all := lw_g (lw_at lw_m7 92 rfl) rfl
theorem q1651 : (Jvm.Cond.soleField "RainLoomModel" "drownsOf") ∈ lw_all := lw_g (lw_at lw_m7 93 rfl) rfl
theorem q1652 : (Jvm.Cond.laysFinal "RainLoomModel" "RainLoomModel" "looms" "[I") ∈ lw_all := lw_g (lw_at lw_m7 94 rfl) rfl
theorem q1653 : (Jvm.Cond.soleField "RainLoomModel" "looms") ∈ lw_all := lw_g (lw_at lw_m7 95 rfl) rfl
theorem q1654 : (Jvm.Cond.laysFinal "RainLoomModel" "RainLoomModel" "wideOf" "[I") ∈ lw_all := lw_g (lw_at lw_m7 96 rfl) rfl
theorem q1655 : (Jvm.Cond.soleField "RainLoomModel" "wideOf") ∈ lw_all := lw_g (lw_at lw_m7 97 rfl) rfl
theorem q1656 : (Jvm.Cond.laysFinal "RainLoomModel" "RainLoomModel" "pickTold" "[I") ∈ lw_all := lw_g (lw_at lw_m7 98 rfl) rfl
theorem q1657 : (Jvm.Cond.soleField "RainLoomModel" "pickTold") ∈ lw_all := lw_g (lw_at lw_m7 99 rfl) rfl
theorem q1658 : (Jvm.Cond.laysFinal "RainLoomModel" "RainLoomModel" "storeTold" "[I") ∈ lw_all := lw_g (lw_at lw_m7 100 rfl) rfl
theorem q1659 : (Jvm.Cond.soleField "RainLoomModel" "storeTold") ∈ lw_all := lw_g (lw_at lw_m7 101 rfl) rfl
theorem q1660 : (Jvm.Cond.laysFinal "RainLoomModel" "RainLoomModel" "gusts" "[I") ∈ lw_all := lw_g (lw_at lw_m7 102 rfl) rfl
theorem q1661 : (Jvm.Cond.soleField "RainLoomModel" "gusts") ∈ lw_all := lw_g (lw_at lw_m7 103 rfl) rfl
theorem q1662 : (Jvm.Cond.laysFinal "RainLoomModel" "RainLoomModel" "seed" "[I") ∈ lw_all := lw_g (lw_at lw_m7 104 rfl) rfl
theorem q1663 : (Jvm.Cond.soleField "RainLoomModel" "seed") ∈ lw_all := lw_g (lw_at lw_m7 105 rfl) rfl
theorem q1664 : (Jvm.Cond.laysFinal "RainLoomModel" "RainLoomModel" "lawFirst" "[I") ∈ lw_all := lw_g (lw_at lw_m7 106 rfl) rfl
theorem q1665 : (Jvm.Cond.soleField "RainLoomModel" "lawFirst") ∈ lw_all := lw_g (lw_at lw_m7 107 rfl) rfl
theorem q1666 : (Jvm.Cond.laysFinal "RainLoomModel" "RainLoomModel" "lawLast" "[I") ∈ lw_all := lw_g (lw_at lw_m7 108 rfl) rfl
theorem q1667 : (Jvm.Cond.soleField "RainLoomModel" "lawLast") ∈ lw_all := lw_g (lw_at lw_m7 109 rfl) rfl
theorem q1668 : (Jvm.Cond.lays "RainLoomModel" "RainLoomModel" "branches" "I") ∈ lw_all := lw_g (lw_at lw_m7 110 rfl) rfl
theorem q1669 : (Jvm.Cond.soleField "RainLoomModel" "branches") ∈ lw_all := lw_g (lw_at lw_m7 111 rfl) rfl
theorem q1670 : (Jvm.Cond.laysFinal "RainLoomModel" "RainLoomModel" "hasTest" "[Z") ∈ lw_all := lw_g (lw_at lw_m7 112 rfl) rfl
theorem q1671 : (Jvm.Cond.soleField "RainLoomModel" "hasTest") ∈ lw_all := lw_g (lw_at lw_m7 113 rfl) rfl
theorem q1672 : (Jvm.Cond.laysFinal "RainLoomModel" "RainLoomModel" "testFrom" "[I") ∈ lw_all := lw_g (lw_at lw_m7 114 rfl) rfl
theorem q1673 : (Jvm.Cond.soleField "RainLoomModel" "testFrom") ∈ lw_all := lw_g (lw_at lw_m7 115 rfl) rfl
theorem q1674 : (Jvm.Cond.laysFinal "RainLoomModel" "RainLoomModel" "testMid" "[I") ∈ lw_all := lw_g (lw_at lw_m7 116 rfl) rfl
theorem q1675 : (Jvm.Cond.soleField "RainLoomModel" "testMid") ∈ lw_all := lw_g (lw_at lw_m7 117 rfl) rfl
theorem q1676 : (Jvm.Cond.laysFinal "RainLoomModel" "RainLoomModel" "testTo" "[I") ∈ lw_all := lw_g (lw_at lw_m7 118 rfl) rfl
theorem q1677 : (Jvm.Cond.soleField "RainLoomModel" "testTo") ∈ lw_all := lw_g (lw_at lw_m7 119 rfl) rfl
theorem q1678 : (Jvm.Cond.laysFinal "RainLoomModel" "RainLoomModel" "termTo" "[I") ∈ lw_all := lw_g (lw_at lw_m7 120 rfl) rfl
theorem q1679 : (Jvm.Cond.soleField "RainLoomModel" "termTo") ∈ lw_all := lw_g (lw_at lw_m7 121 rfl) rfl
theorem q1680 : (Jvm.Cond.lays "RainLoomModel" "RainLoomModel" "codes" "I") ∈ lw_all := lw_g (lw_at lw_m7 122 rfl) rfl
theorem q1681 : (Jvm.Cond.soleField "RainLoomModel" "codes") ∈ lw_all := lw_g (lw_at lw_m7 123 rfl) rfl
theorem q1682 : (Jvm.Cond.laysFinal "RainLoomModel" "RainLoomModel" "code" "[I") ∈ lw_all := lw_g (lw_at lw_m7 124 rfl) rfl
theorem q1683 : (Jvm.Cond.soleField "RainLoomModel" "code") ∈ lw_all := lw_g (lw_at lw_m7 125 rfl) rfl
theorem q1684 : (Jvm.Cond.laysFinal "RainLoomModel" "RainLoomModel" "codeInt" "[I") ∈ lw_all := lw_g (lw_at lw_m7 126 rfl) rfl
theorem q1685 : (Jvm.Cond.soleField "RainLoomModel" "codeInt") ∈ lw_all := lw_g (lw_at lw_m7 127 rfl) rfl
theorem q1686 : (Jvm.Cond.laysFinal "RainLoomModel" "RainLoomModel" "waits" "[I") ∈ lw_all := lw_g (lw_at lw_m7 128 rfl) rfl
theorem q1687 : (Jvm.Cond.soleField "RainLoomModel" "waits") ∈ lw_all := lw_g (lw_at lw_m7 129 rfl) rfl
theorem q1688 : (Jvm.Cond.lays "RainLoomModel" "RainLoomModel" "waiting" "I") ∈ lw_all := lw_g (lw_at lw_m7 130 rfl) rfl
theorem q1689 : (Jvm.Cond.soleField "RainLoomModel" "waiting") ∈ lw_all := lw_g (lw_at lw_m7 131 rfl) rfl
theorem q1690 : (Jvm.Cond.laysFinal "RainLoomModel" "RainLoomModel" "variables" "[I") ∈ lw_all := lw_g (lw_at lw_m7 132 rfl) rfl
theorem q1691 : (Jvm.Cond.soleField "RainLoomModel" "variables") ∈ lw_all := lw_g (lw_at lw_m7 133 rfl) rfl
theorem q1692 : (Jvm.Cond.laysFinal "RainLoomModel" "RainLoomModel" "pile" "[I") ∈ lw_all := lw_g (lw_at lw_m7 134 rfl) rfl
theorem q1693 : (Jvm.Cond.soleField "RainLoomModel" "pile") ∈ lw_all := lw_g (lw_at lw_m7 135 rfl) rfl
theorem q1694 : (Jvm.Cond.lays "RainLoomModel" "RainLoomModel" "isBroken" "Z") ∈ lw_all := lw_g (lw_at lw_m7 136 rfl) rfl
theorem q1695 : (Jvm.Cond.soleField "RainLoomModel" "isBroken") ∈ lw_all := lw_g (lw_at lw_m7 137 rfl) rfl
theorem q1696 : (Jvm.Cond.laysFinal "RainLoomModel" "RainLoomModel" "now" "[I") ∈ lw_all := lw_g (lw_at lw_m7 138 rfl) rfl
theorem q1697 : (Jvm.Cond.soleField "RainLoomModel" "now") ∈ lw_all := lw_g (lw_at lw_m7 139 rfl) rfl
theorem q1698 : (Jvm.Cond.laysFinal "RainLoomModel" "RainLoomModel" "row" "[I") ∈ lw_all := lw_g (lw_at lw_m7 140 rfl) rfl
theorem q1699 : (Jvm.Cond.soleField "RainLoomModel" "row") ∈ lw_all := lw_g (lw_at lw_m7 141 rfl) rfl
theorem q1700 : (Jvm.Cond.lays "RainLoomModel" "RainLoomModel" "lots" "I") ∈ lw_all := lw_g (lw_at lw_m7 142 rfl) rfl
theorem q1701 : (Jvm.Cond.soleField "RainLoomModel" "lots") ∈ lw_all := lw_g (lw_at lw_m7 143 rfl) rfl
theorem q1702 : (Jvm.Cond.lays "RainLoomModel" "RainLoomModel" "undos" "I") ∈ lw_all := lw_g (lw_at lw_m7 144 rfl) rfl
theorem q1703 : (Jvm.Cond.soleField "RainLoomModel" "undos") ∈ lw_all := lw_g (lw_at lw_m7 145 rfl) rfl
theorem q1704 : (Jvm.Cond.laysFinal "RainLoomModel" "RainLoomModel" "history" "[I") ∈ lw_all := lw_g (lw_at lw_m7 146 rfl) rfl
theorem q1705 : (Jvm.Cond.soleField "RainLoomModel" "history") ∈ lw_all := lw_g (lw_at lw_m7 147 rfl) rfl
theorem q1706 : (Jvm.Cond.lays "RainLoomModel" "RainLoomModel" "bestMore" "I") ∈ lw_all := lw_g (lw_at lw_m7 148 rfl) rfl
theorem q1707 : (Jvm.Cond.soleField "RainLoomModel" "bestMore") ∈ lw_all := lw_g (lw_at lw_m7 149 rfl) rfl
theorem q1708 : (Jvm.Cond.lays "RainLoomModel" "RainLoomModel" "bestCell" "I") ∈ lw_all := lw_g (lw_at lw_m7 150 rfl) rfl
theorem q1709 : (Jvm.Cond.soleField "RainLoomModel" "bestCell") ∈ lw_all := lw_g (lw_at lw_m7 151 rfl) rfl
theorem q1710 : (Jvm.Cond.laysFinal "RainLoomModel" "RainLoomModel" "pieceWide" "[I") ∈ lw_all := lw_g (lw_at lw_m7 152 rfl) rfl
theorem q1711 : (Jvm.Cond.soleField "RainLoomModel" "pieceWide") ∈ lw_all := lw_g (lw_at lw_m7 153 rfl) rfl
theorem q1712 : (Jvm.Cond.laysFinal "RainLoomModel" "RainLoomModel" "pieceLong" "[I") ∈ lw_all := lw_g (lw_at lw_m7 154 rfl) rfl
theorem q1713 : (Jvm.Cond.soleField "RainLoomModel" "pieceLong") ∈ lw_all := lw_g (lw_at lw_m7 155 rfl) rfl
theorem q1714 : (Jvm.Cond.laysFinal "RainLoomModel" "RainLoomModel" "lies" "[I") ∈ lw_all := lw_g (lw_at lw_m7 156 rfl) rfl
theorem q1715 : (Jvm.Cond.soleField "RainLoomModel" "lies") ∈ lw_all := lw_g (lw_at lw_m7 157 rfl) rfl
theorem q1716 : (Jvm.Cond.laysFinal "RainLoomModel" "RainLoomModel" "taken" "[I") ∈ lw_all := lw_g (lw_at lw_m7 158 rfl) rfl
theorem q1717 : (Jvm.Cond.soleField "RainLoomModel" "taken") ∈ lw_all := lw_g (lw_at lw_m7 159 rfl) rfl
theorem q1718 : (Jvm.Cond.lays "RainLoomModel" "RainLoomModel" "pieces" "I") ∈ lw_all := lw_g (lw_at lw_m7 160 rfl) rfl
theorem q1719 : (Jvm.Cond.soleField "RainLoomModel" "pieces") ∈ lw_all := lw_g (lw_at lw_m7 161 rfl) rfl
theorem q1720 : (Jvm.Cond.lays "RainLoomModel" "RainLoomModel" "bestOff" "I") ∈ lw_all := lw_g (lw_at lw_m7 162 rfl) rfl
theorem q1721 : (Jvm.Cond.soleField "RainLoomModel" "bestOff") ∈ lw_all := lw_g (lw_at lw_m7 163 rfl) rfl
theorem q1722 : (Jvm.Cond.lays "RainLoomModel" "RainLoomModel" "bestWay" "I") ∈ lw_all := lw_g (lw_at lw_m7 164 rfl) rfl
theorem q1723 : (Jvm.Cond.soleField "RainLoomModel" "bestWay") ∈ lw_all := lw_g (lw_at lw_m7 165 rfl) rfl
theorem q1724 : (Jvm.Cond.laysFinal "RainLoomModel" "RainLoomModel" "offOf" "[I") ∈ lw_all := lw_g (lw_at lw_m7 166 rfl) rfl
theorem q1725 : (Jvm.Cond.soleField "RainLoomModel" "offOf") ∈ lw_all := lw_g (lw_at lw_m7 167 rfl) rfl
theorem q1726 : (Jvm.Cond.lays "RainLoomModel" "RainLoomModel" "told" "I") ∈ lw_all := lw_g (lw_at lw_m7 168 rfl) rfl
theorem q1727 : (Jvm.Cond.soleField "RainLoomModel" "told") ∈ lw_all := lw_g (lw_at lw_m7 169 rfl) rfl
theorem q1728 : (Jvm.Cond.laysFinal "RainLoomModel" "RainLoomModel" "toldCell" "[I") ∈ lw_all := lw_g (lw_at lw_m7 170 rfl) rfl
theorem q1729 : (Jvm.Cond.soleField "RainLoomModel" "toldCell") ∈ lw_all := lw_g (lw_at lw_m7 171 rfl) rfl
theorem q1730 : (Jvm.Cond.laysFinal "RainLoomModel" "RainLoomModel" "toldWater" "[I") ∈ lw_all := lw_g (lw_at lw_m7 172 rfl) rfl
theorem q1731 : (Jvm.Cond.soleField "RainLoomModel" "toldWater") ∈ lw_all := lw_g (lw_at lw_m7 173 rfl) rfl
theorem q1732 : (Jvm.Cond.laysFinal "RainLoomModel" "RainLoomModel" "isOne" "[Z") ∈ lw_all := lw_g (lw_at lw_m7 174 rfl) rfl
theorem q1733 : (Jvm.Cond.soleField "RainLoomModel" "isOne") ∈ lw_all := lw_g (lw_at lw_m7 175 rfl) rfl
theorem q1734 : (Jvm.Cond.laysFinal "RainLoomModel" "RainLoomModel" "waysBy" "[I") ∈ lw_all := lw_g (lw_at lw_m7 176 rfl) rfl
theorem q1735 : (Jvm.Cond.soleField "RainLoomModel" "waysBy") ∈ lw_all := lw_g (lw_at lw_m7 177 rfl) rfl
theorem q1736 : (Jvm.Cond.laysFinal "RainLoomModel" "RainLoomModel" "isHeld" "[Z") ∈ lw_all := lw_g (lw_at lw_m7 178 rfl) rfl
theorem q1737 : (Jvm.Cond.soleField "RainLoomModel" "isHeld") ∈ lw_all := lw_g (lw_at lw_m7 179 rfl) rfl
theorem q1738 : (Jvm.Cond.laysFinal "RainLoomModel" "RainLoomModel" "heldRows" "[I") ∈ lw_all := lw_g (lw_at lw_m7 180 rfl) rfl
theorem q1739 : (Jvm.Cond.soleField "RainLoomModel" "heldRows") ∈ lw_all := lw_g (lw_at lw_m7 181 rfl) rfl
theorem q1740 : (Jvm.Cond.superclass "RainLoomModel" "java/lang/Object") ∈ lw_all := lw_g (lw_at lw_m7 182 rfl) rfl
theorem q1743 : (Jvm.Cond.instanceMethod ({ cls := "RainLoomModel", name := "feed", desc := "(IIIII)I" } : Jvm.MethodName)) ∈ lw_all := lw_g (lw_at lw_m7 185 rfl) rfl
theorem q1744 : (Jvm.Cond.selects "RainLoomModel" ({ cls := "RainLoomModel", name := "feed", desc := "(IIIII)I" } : Jvm.MethodName) ({ cls := "RainLoomModel", name := "feed", desc := "(IIIII)I" } : Jvm.MethodName)) ∈ lw_all := lw_g (lw_at lw_m7 186 rfl) rfl
theorem q1745 : (Jvm.Cond.code ({ cls := "RainLoomModel", name := "feed", desc := "(IIIII)I" } : Jvm.MethodName) prog_22_method_3_code (6 : Nat) (Option.some Jvm.ClassFile.FieldType.int)) ∈ lw_all := lw_g (lw_at lw_m7 187 rfl) rfl
theorem q1746 : (Jvm.Cond.methodLink "RainLoomModel" (175 : Nat) ({ cls := "RainLoomModel", name := "put", desc := "(I)V" } : Jvm.MethodName)) ∈ lw_all := lw_g (lw_at lw_m7 188 rfl) rfl
theorem q1747 : (Jvm.Cond.privateMethod ({ cls := "RainLoomModel", name := "put", desc := "(I)V" } : Jvm.MethodName)) ∈ lw_tbl := lw_at lw_m7 189 rfl
theorem q1748 : (Jvm.Cond.instanceMethod ({ cls := "RainLoomModel", name := "put", desc := "(I)V" } : Jvm.MethodName)) ∈ lw_all := lw_g (lw_at lw_m7 190 rfl) rfl
theorem q1749 : (Jvm.Cond.code ({ cls := "RainLoomModel", name := "put", desc := "(I)V" } : Jvm.MethodName) prog_22_method_4_code (3 : Nat) (Option.none : Option Jvm.ClassFile.FieldType)) ∈ lw_all := lw_g (lw_at lw_m7 191 rfl) rfl
theorem q1751 : (Jvm.Cond.instanceMethod ({ cls := "RainLoomModel", name := "back", desc := "(I)I" } : Jvm.MethodName)) ∈ lw_all := lw_g (lw_at lw_m7 193 rfl) rfl
theorem q1752 : (Jvm.Cond.selects "RainLoomModel" ({ cls := "RainLoomModel", name := "back", desc := "(I)I" } : Jvm.MethodName) ({ cls := "RainLoomModel", name := "back", desc := "(I)I" } : Jvm.MethodName)) ∈ lw_all := lw_g (lw_at lw_m7 194 rfl) rfl
theorem q1753 : (Jvm.Cond.code ({ cls := "RainLoomModel", name := "back", desc := "(I)I" } : Jvm.MethodName) prog_22_method_5_code (2 : Nat) (Option.some Jvm.ClassFile.FieldType.int)) ∈ lw_all := lw_g (lw_at lw_m7 195 rfl) rfl
theorem q1755 : (Jvm.Cond.instanceMethod ({ cls := "RainLoomModel", name := "read", desc := "()I" } : Jvm.MethodName)) ∈ lw_all := lw_g (lw_at lw_m7 197 rfl) rfl
theorem q1756 : (Jvm.Cond.selects "RainLoomModel" ({ cls := "RainLoomModel", name := "read", desc := "()I" } : Jvm.MethodName) ({ cls := "RainLoomModel", name := "read", desc := "()I" } : Jvm.MethodName)) ∈ lw_all := lw_g (lw_at lw_m7 198 rfl) rfl
theorem q1757 : (Jvm.Cond.code ({ cls := "RainLoomModel", name := "read", desc := "()I" } : Jvm.MethodName) prog_22_method_20_code (2 : Nat) (Option.some Jvm.ClassFile.FieldType.int)) ∈ lw_all := lw_g (lw_at lw_m7 199 rfl) rfl
theorem q1758 : (Jvm.Cond.methodLink "RainLoomModel" (233 : Nat) ({ cls := "RainLoomModel", name := "cutsUp", desc := "()V" } : Jvm.MethodName)) ∈ lw_all := lw_g (lw_at lw_m7 200 rfl) rfl
theorem q1759 : (Jvm.Cond.privateMethod ({ cls := "RainLoomModel", name := "cutsUp", desc := "()V" } : Jvm.MethodName)) ∈ lw_tbl := lw_at lw_m7 201 rfl
theorem q1760 : (Jvm.Cond.instanceMethod ({ cls := "RainLoomModel", name := "cutsUp", desc := "()V" } : Jvm.MethodName)) ∈ lw_all := lw_g (lw_at lw_m7 202 rfl) rfl
theorem q1761 : (Jvm.Cond.code ({ cls := "RainLoomModel", name := "cutsUp", desc := "()V" } : Jvm.MethodName) prog_22_method_12_code (8 : Nat) (Option.none : Option Jvm.ClassFile.FieldType)) ∈ lw_all := lw_g (lw_at lw_m7 203 rfl) rfl
theorem q1762 : (Jvm.Cond.methodLink "RainLoomModel" (190 : Nat) ({ cls := "RainLoomModel", name := "byteAt", desc := "(I)I" } : Jvm.MethodName)) ∈ lw_all := lw_g (lw_at lw_m7 204 rfl) rfl
theorem q1763 : (Jvm.Cond.privateMethod ({ cls := "RainLoomModel", name := "byteAt", desc := "(I)I" } : Jvm.MethodName)) ∈ lw_tbl := lw_at lw_m7 205 rfl
theorem q1764 : (Jvm.Cond.instanceMethod ({ cls := "RainLoomModel", name := "byteAt", desc := "(I)I" } : Jvm.MethodName)) ∈ lw_all := lw_g (lw_at lw_m7 206 rfl) rfl
theorem q1765 : (Jvm.Cond.code ({ cls := "RainLoomModel", name := "byteAt", desc := "(I)I" } : Jvm.MethodName) prog_22_method_6_code (2 : Nat) (Option.some Jvm.ClassFile.FieldType.int)) ∈ lw_all := lw_g (lw_at lw_m7 207 rfl) rfl
theorem q1766 : (Jvm.Cond.methodLink "RainLoomModel" (194 : Nat) ({ cls := "RainLoomModel", name := "token", desc := "(IIIJ)V" } : Jvm.MethodName)) ∈ lw_all := lw_g (lw_at lw_m7 208 rfl) rfl
theorem q1767 : (Jvm.Cond.privateMethod ({ cls := "RainLoomModel", name := "token", desc := "(IIIJ)V" } : Jvm.MethodName)) ∈ lw_tbl := lw_at lw_m7 209 rfl
theorem q1768 : (Jvm.Cond.instanceMethod ({ cls := "RainLoomModel", name := "token", desc := "(IIIJ)V" } : Jvm.MethodName)) ∈ lw_all := lw_g (lw_at lw_m7 210 rfl) rfl
theorem q1769 : (Jvm.Cond.code ({ cls := "RainLoomModel", name := "token", desc := "(IIIJ)V" } : Jvm.MethodName) prog_22_method_11_code (6 : Nat) (Option.none : Option Jvm.ClassFile.FieldType)) ∈ lw_all := lw_g (lw_at lw_m7 211 rfl) rfl
theorem q1770 : (Jvm.Cond.methodLink "RainLoomModel" (198 : Nat) ({ cls := "RainLoomModel", name := "isLetter", desc := "(I)Z" } : Jvm.MethodName)) ∈ lw_all := lw_g (lw_at lw_m7 212 rfl) rfl
theorem q1771 : (Jvm.Cond.static ({ cls := "RainLoomModel", name := "isLetter", desc := "(I)Z" } : Jvm.MethodName)) ∈ lw_all := lw_g (lw_at lw_m7 213 rfl) rfl
theorem q1772 : (Jvm.Cond.code ({ cls := "RainLoomModel", name := "isLetter", desc := "(I)Z" } : Jvm.MethodName) prog_22_method_8_code (1 : Nat) (Option.some Jvm.ClassFile.FieldType.boolean)) ∈ lw_all := lw_g (lw_at lw_m7 214 rfl) rfl
theorem q1773 : (Jvm.Cond.methodLink "RainLoomModel" (202 : Nat) ({ cls := "RainLoomModel", name := "isDigit", desc := "(I)Z" } : Jvm.MethodName)) ∈ lw_all := lw_g (lw_at lw_m7 215 rfl) rfl
theorem q1774 : (Jvm.Cond.static ({ cls := "RainLoomModel", name := "isDigit", desc := "(I)Z" } : Jvm.MethodName)) ∈ lw_all := lw_g (lw_at lw_m7 216 rfl) rfl
theorem q1775 : (Jvm.Cond.code ({ cls := "RainLoomModel", name := "isDigit", desc := "(I)Z" } : Jvm.MethodName) prog_22_method_7_code (1 : Nat) (Option.some Jvm.ClassFile.FieldType.boolean)) ∈ lw_all := lw_g (lw_at lw_m7 217 rfl) rfl
theorem q1776 : (Jvm.Cond.methodLink "RainLoomModel" (205 : Nat) ({ cls := "RainLoomModel", name := "sign", desc := "(III)I" } : Jvm.MethodName)) ∈ lw_all := lw_g (lw_at lw_m7 218 rfl) rfl
theorem q1777 : (Jvm.Cond.privateMethod ({ cls := "RainLoomModel", name := "sign", desc := "(III)I" } : Jvm.MethodName)) ∈ lw_tbl := lw_at lw_m7 219 rfl
theorem q1778 : (Jvm.Cond.instanceMethod ({ cls := "RainLoomModel", name := "sign", desc := "(III)I" } : Jvm.MethodName)) ∈ lw_all := lw_g (lw_at lw_m7 220 rfl) rfl
theorem q1779 : (Jvm.Cond.code ({ cls := "RainLoomModel", name := "sign", desc := "(III)I" } : Jvm.MethodName) prog_22_method_13_code (5 : Nat) (Option.some Jvm.ClassFile.FieldType.int)) ∈ lw_all := lw_g (lw_at lw_m7 221 rfl) rfl
theorem q1780 : (Jvm.Cond.methodLink "RainLoomModel" (227 : Nat) ({ cls := "RainLoomModel", name := "is", desc := "(I)Z" } : Jvm.MethodName)) ∈ lw_all := lw_g (lw_at lw_m7 222 rfl) rfl
theorem q1781 : (Jvm.Cond.privateMethod ({ cls := "RainLoomModel", name := "is", desc := "(I)Z" } : Jvm.MethodName)) ∈ lw_tbl := lw_at lw_m7 223 rfl
theorem q1782 : (Jvm.Cond.instanceMethod ({ cls := "RainLoomModel", name := "is", desc := "(I)Z" } : Jvm.MethodName)) ∈ lw_all := lw_g (lw_at lw_m7 224 rfl) rfl
theorem q1783 : (Jvm.Cond.code ({ cls := "RainLoomModel", name := "is", desc := "(I)Z" } : Jvm.MethodName) prog_22_method_14_code (2 : Nat) (Option.some Jvm.ClassFile.FieldType.boolean)) ∈ lw_all := lw_g (lw_at lw_m7 225 rfl) rfl
theorem q1784 : (Jvm.Cond.methodLink "RainLoomModel" (254 : Nat) ({ cls := "RainLoomModel", name := "tellOne", desc := "()V" } : Jvm.MethodName)) ∈ lw_all := lw_g (lw_at lw_m7 226 rfl) rfl
theorem q1785 : (Jvm.Cond.privateMethod ({ cls := "RainLoomModel", name := "tellOne", desc := "()V" } : Jvm.MethodName)) ∈ lw_tbl := lw_at lw_m7 227 rfl
theorem q1786 : (Jvm.Cond.instanceMethod ({ cls := "RainLoomModel", name := "tellOne", desc := "()V" } : Jvm.MethodName)) ∈ lw_all := lw_g (lw_at lw_m7 228 rfl) rfl
theorem q1787 : (Jvm.Cond.code ({ cls := "RainLoomModel", name := "tellOne", desc := "()V" } : Jvm.MethodName) prog_22_method_24_code (2 : Nat) (Option.none : Option Jvm.ClassFile.FieldType)) ∈ lw_all := lw_g (lw_at lw_m7 229 rfl) rfl
theorem q1788 : (Jvm.Cond.methodLink "RainLoomModel" (271 : Nat) ({ cls := "RainLoomModel", name := "roomFor", desc := "(II)V" } : Jvm.MethodName)) ∈ lw_all := lw_g (lw_at lw_m7 230 rfl) rfl
theorem q1789 : (Jvm.Cond.privateMethod ({ cls := "RainLoomModel", name := "roomFor", desc := "(II)V" } : Jvm.MethodName)) ∈ lw_tbl := lw_at lw_m7 231 rfl
theorem q1790 : (Jvm.Cond.instanceMethod ({ cls := "RainLoomModel", name := "roomFor", desc := "(II)V" } : Jvm.MethodName)) ∈ lw_all := lw_g (lw_at lw_m7 232 rfl) rfl
theorem q1791 : (Jvm.Cond.code ({ cls := "RainLoomModel", name := "roomFor", desc := "(II)V" } : Jvm.MethodName) prog_22_method_23_code (3 : Nat) (Option.none : Option Jvm.ClassFile.FieldType)) ∈ lw_all := lw_g (lw_at lw_m7 233 rfl) rfl
theorem q1792 : (Jvm.Cond.methodLink "RainLoomModel" (224 : Nat) ({ cls := "RainLoomModel", name := "fail", desc := "(I)V" } : Jvm.MethodName)) ∈ lw_all := lw_g (lw_at lw_m7 234 rfl) rfl
theorem q1793 : (Jvm.Cond.privateMethod ({ cls := "RainLoomModel", name := "fail", desc := "(I)V" } : Jvm.MethodName)) ∈ lw_tbl := lw_at lw_m7 235 rfl
theorem q1794 : (Jvm.Cond.instanceMethod ({ cls := "RainLoomModel", name := "fail", desc := "(I)V" } : Jvm.MethodName)) ∈ lw_all := lw_g (lw_at lw_m7 236 rfl) rfl
theorem q1795 : (Jvm.Cond.code ({ cls := "RainLoomModel", name := "fail", desc := "(I)V" } : Jvm.MethodName) prog_22_method_15_code (2 : Nat) (Option.none : Option Jvm.ClassFile.FieldType)) ∈ lw_all := lw_g (lw_at lw_m7 237 rfl) rfl
theorem q1796 : (Jvm.Cond.methodLink "RainLoomModel" (230 : Nat) ({ cls := "RainLoomModel", name := "goesOn", desc := "()V" } : Jvm.MethodName)) ∈ lw_all := lw_g (lw_at lw_m7 238 rfl) rfl
theorem q1797 : (Jvm.Cond.privateMethod ({ cls := "RainLoomModel", name := "goesOn", desc := "()V" } : Jvm.MethodName)) ∈ lw_tbl := lw_at lw_m7 239 rfl
theorem q1798 : (Jvm.Cond.instanceMethod ({ cls := "RainLoomModel", name := "goesOn", desc := "()V" } : Jvm.MethodName)) ∈ lw_all := lw_g (lw_at lw_m8 0 rfl) rfl
theorem q1799 : (Jvm.Cond.code ({ cls := "RainLoomModel", name := "goesOn", desc := "()V" } : Jvm.MethodName) prog_22_method_17_code (1 : Nat) (Option.none : Option Jvm.ClassFile.FieldType)) ∈ lw_all := lw_g (lw_at lw_m8 1 rfl) rfl
theorem q1800 : (Jvm.Cond.methodLink "RainLoomModel" (274 : Nat) ({ cls := "RainLoomModel", name := "tellRow", desc := "()V" } : Jvm.MethodName)) ∈ lw_all := lw_g (lw_at lw_m8 2 rfl) rfl
theorem q1801 : (Jvm.Cond.privateMethod ({ cls := "RainLoomModel", name := "tellRow", desc := "()V" } : Jvm.MethodName)) ∈ lw_tbl := lw_at lw_m8 3 rfl
theorem q1802 : (Jvm.Cond.instanceMethod ({ cls := "RainLoomModel", name := "tellRow", desc := "()V" } : Jvm.MethodName)) ∈ lw_all := lw_g (lw_at lw_m8 4 rfl) rfl
theorem q1803 : (Jvm.Cond.code ({ cls := "RainLoomModel", name := "tellRow", desc := "()V" } : Jvm.MethodName) prog_22_method_28_code (7 : Nat) (Option.none : Option Jvm.ClassFile.FieldType)) ∈ lw_all := lw_g (lw_at lw_m8 5 rfl) rfl
theorem q1804 : (Jvm.Cond.methodLink "RainLoomModel" (287 : Nat) ({ cls := "RainLoomModel", name := "must", desc := "(I)V" } : Jvm.MethodName)) ∈ lw_all := lw_g (lw_at lw_m8 6 rfl) rfl
theorem q1805 : (Jvm.Cond.privateMethod ({ cls := "RainLoomModel", name := "must", desc := "(I)V" } : Jvm.MethodName)) ∈ lw_tbl := lw_at lw_m8 7 rfl
theorem q1806 : (Jvm.Cond.instanceMethod ({ cls := "RainLoomModel", name := "must", desc := "(I)V" } : Jvm.MethodName)) ∈ lw_all := lw_g (lw_at lw_m8 8 rfl) rfl
theorem q1807 : (Jvm.Cond.code ({ cls := "RainLoomModel", name := "must", desc := "(I)V" } : Jvm.MethodName) prog_22_method_18_code (2 : Nat) (Option.none : Option Jvm.ClassFile.FieldType)) ∈ lw_all := lw_g (lw_at lw_m8 9 rfl) rfl
theorem q1808 : (Jvm.Cond.methodLink "RainLoomModel" (261 : Nat) ({ cls := "RainLoomModel", name := "wrong", desc := "(II)V" } : Jvm.MethodName)) ∈ lw_all := lw_g (lw_at lw_m8 10 rfl) rfl
theorem q1809 : (Jvm.Cond.privateMethod ({ cls := "RainLoomModel", name := "wrong", desc := "(II)V" } : Jvm.MethodName)) ∈ lw_tbl := lw_at lw_m8 11 rfl
theorem q1810 : (Jvm.Cond.instanceMethod ({ cls := "RainLoomModel", name := "wrong", desc := "(II)V" } : Jvm.MethodName)) ∈ lw_all := lw_g (lw_at lw_m8 12 rfl) rfl
theorem q1811 : (Jvm.Cond.code ({ cls := "RainLoomModel", name := "wrong", desc := "(II)V" } : Jvm.MethodName) prog_22_method_16_code (4 : Nat) (Option.none : Option Jvm.ClassFile.FieldType)) ∈ lw_all := lw_g (lw_at lw_m8 13 rfl) rfl
theorem q1812 : (Jvm.Cond.methodLink "RainLoomModel" (277 : Nat) ({ cls := "RainLoomModel", name := "tellField", desc := "()V" } : Jvm.MethodName)) ∈ lw_all := lw_g (lw_at lw_m8 14 rfl) rfl
theorem q1813 : (Jvm.Cond.privateMethod ({ cls := "RainLoomModel", name := "tellField", desc := "()V" } : Jvm.MethodName)) ∈ lw_tbl := lw_at lw_m8 15 rfl
theorem q1814 : (Jvm.Cond.instanceMethod ({ cls := "RainLoomModel", name := "tellField", desc := "()V" } : Jvm.MethodName)) ∈ lw_all := lw_g (lw_at lw_m8 16 rfl) rfl
theorem q1815 : (Jvm.Cond.code ({ cls := "RainLoomModel", name := "tellField", desc := "()V" } : Jvm.MethodName) prog_22_method_29_code (3 : Nat) (Option.none : Option Jvm.ClassFile.FieldType)) ∈ lw_all := lw_g (lw_at lw_m8 17 rfl) rfl
theorem q1816 : (Jvm.Cond.methodLink "RainLoomModel" (293 : Nat) ({ cls := "RainLoomModel", name := "named", desc := "()I" } : Jvm.MethodName)) ∈ lw_all := lw_g (lw_at lw_m8 18 rfl) rfl
theorem q1817 : (Jvm.Cond.privateMethod ({ cls := "RainLoomModel", name := "named", desc := "()I" } : Jvm.MethodName)) ∈ lw_tbl := lw_at lw_m8 19 rfl
theorem q1818 : (Jvm.Cond.instanceMethod ({ cls := "RainLoomModel", name := "named", desc := "()I" } : Jvm.MethodName)) ∈ lw_all := lw_g (lw_at lw_m8 20 rfl) rfl
theorem q1819 : (Jvm.Cond.code ({ cls := "RainLoomModel", name := "named", desc := "()I" } : Jvm.MethodName) prog_22_method_25_code (3 : Nat) (Option.some Jvm.ClassFile.FieldType.int)) ∈ lw_all := lw_g (lw_at lw_m8 21 rfl) rfl
theorem q1820 : (Jvm.Cond.methodLink "RainLoomModel" (283 : Nat) ({ cls := "RainLoomModel", name := "bounded", desc := "(II)I" } : Jvm.MethodName)) ∈ lw_all := lw_g (lw_at lw_m8 22 rfl) rfl
theorem q1821 : (Jvm.Cond.privateMethod ({ cls := "RainLoomModel", name := "bounded", desc := "(II)I" } : Jvm.MethodName)) ∈ lw_tbl := lw_at lw_m8 23 rfl
theorem q1822 : (Jvm.Cond.instanceMethod ({ cls := "RainLoomModel", name := "bounded", desc := "(II)I" } : Jvm.MethodName)) ∈ lw_all := lw_g (lw_at lw_m8 24 rfl) rfl
theorem q1823 : (Jvm.Cond.code ({ cls := "RainLoomModel", name := "bounded", desc := "(II)I" } : Jvm.MethodName) prog_22_method_27_code (4 : Nat) (Option.some Jvm.ClassFile.FieldType.int)) ∈ lw_all := lw_g (lw_at lw_m8 25 rfl) rfl
theorem q1824 : (Jvm.Cond.methodLink "RainLoomModel" (297 : Nat) ({ cls := "RainLoomModel", name := "ends", desc := "(I)V" } : Jvm.MethodName)) ∈ lw_all := lw_g (lw_at lw_m8 26 rfl) rfl
theorem q1825 : (Jvm.Cond.privateMethod ({ cls := "RainLoomModel", name := "ends", desc := "(I)V" } : Jvm.MethodName)) ∈ lw_tbl := lw_at lw_m8 27 rfl
theorem q1826 : (Jvm.Cond.instanceMethod ({ cls := "RainLoomModel", name := "ends", desc := "(I)V" } : Jvm.MethodName)) ∈ lw_all := lw_g (lw_at lw_m8 28 rfl) rfl
theorem q1827 : (Jvm.Cond.code ({ cls := "RainLoomModel", name := "ends", desc := "(I)V" } : Jvm.MethodName) prog_22_method_26_code (2 : Nat) (Option.none : Option Jvm.ClassFile.FieldType)) ∈ lw_all := lw_g (lw_at lw_m8 29 rfl) rfl
theorem q1828 : (Jvm.Cond.methodLink "RainLoomModel" (280 : Nat) ({ cls := "RainLoomModel", name := "tellLoom", desc := "()V" } : Jvm.MethodName)) ∈ lw_all := lw_g (lw_at lw_m8 30 rfl) rfl
theorem q1829 : (Jvm.Cond.privateMethod ({ cls := "RainLoomModel", name := "tellLoom", desc := "()V" } : Jvm.MethodName)) ∈ lw_tbl := lw_at lw_m8 31 rfl
theorem q1830 : (Jvm.Cond.instanceMethod ({ cls := "RainLoomModel", name := "tellLoom", desc := "()V" } : Jvm.MethodName)) ∈ lw_all := lw_g (lw_at lw_m8 32 rfl) rfl
theorem q1831 : (Jvm.Cond.code ({ cls := "RainLoomModel", name := "tellLoom", desc := "()V" } : Jvm.MethodName) prog_22_method_30_code (3 : Nat) (Option.none : Option Jvm.ClassFile.FieldType)) ∈ lw_all := lw_g (lw_at lw_m8 33 rfl) rfl
theorem q1832 : (Jvm.Cond.methodLink "RainLoomModel" (290 : Nat) ({ cls := "RainLoomModel", name := "tellLaw", desc := "(I)V" } : Jvm.MethodName)) ∈ lw_all := lw_g (lw_at lw_m8 34 rfl) rfl
theorem q1833 : (Jvm.Cond.privateMethod ({ cls := "RainLoomModel", name := "tellLaw", desc := "(I)V" } : Jvm.MethodName)) ∈ lw_tbl := lw_at lw_m8 35 rfl
theorem q1834 : (Jvm.Cond.instanceMethod ({ cls := "RainLoomModel", name := "tellLaw", desc := "(I)V" } : Jvm.MethodName)) ∈ lw_all := lw_g (lw_at lw_m8 36 rfl) rfl
theorem q1835 : (Jvm.Cond.code ({ cls := "RainLoomModel", name := "tellLaw", desc := "(I)V" } : Jvm.MethodName) prog_22_method_31_code (4 : Nat) (Option.none : Option Jvm.ClassFile.FieldType)) ∈ lw_all := lw_g (lw_at lw_m8 37 rfl) rfl
theorem q1836 : (Jvm.Cond.methodLink "RainLoomModel" (300 : Nat) ({ cls := "RainLoomModel", name := "expression", desc := "()V" } : Jvm.MethodName)) ∈ lw_all := lw_g (lw_at lw_m8 38 rfl) rfl
theorem q1837 : (Jvm.Cond.privateMethod ({ cls := "RainLoomModel", name := "expression", desc := "()V" } : Jvm.MethodName)) ∈ lw_tbl := lw_at lw_m8 39 rfl
theorem q1838 : (Jvm.Cond.instanceMethod ({ cls := "RainLoomModel", name := "expression", desc := "()V" } : Jvm.MethodName)) ∈ lw_all := lw_g (lw_at lw_m8 40 rfl) rfl
theorem q1839 : (Jvm.Cond.code ({ cls := "RainLoomModel", name := "expression", desc := "()V" } : Jvm.MethodName) prog_22_method_35_code (3 : Nat) (Option.none : Option Jvm.ClassFile.FieldType)) ∈ lw_all := lw_g (lw_at lw_m8 41 rfl) rfl
theorem q1840 : (Jvm.Cond.methodLink "RainLoomModel" (312 : Nat) ({ cls := "RainLoomModel", name := "unit", desc := "()V" } : Jvm.MethodName)) ∈ lw_all := lw_g (lw_at lw_m8 42 rfl) rfl
theorem q1841 : (Jvm.Cond.privateMethod ({ cls := "RainLoomModel", name := "unit", desc := "()V" } : Jvm.MethodName)) ∈ lw_tbl := lw_at lw_m8 43 rfl
theorem q1842 : (Jvm.Cond.instanceMethod ({ cls := "RainLoomModel", name := "unit", desc := "()V" } : Jvm.MethodName)) ∈ lw_all := lw_g (lw_at lw_m8 44 rfl) rfl
theorem q1843 : (Jvm.Cond.code ({ cls := "RainLoomModel", name := "unit", desc := "()V" } : Jvm.MethodName) prog_22_method_36_code (1 : Nat) (Option.none : Option Jvm.ClassFile.FieldType)) ∈ lw_all := lw_g (lw_at lw_m8 45 rfl) rfl
theorem q1844 : (Jvm.Cond.methodLink "RainLoomModel" (309 : Nat) ({ cls := "RainLoomModel", name := "emit", desc := "(II)V" } : Jvm.MethodName)) ∈ lw_all := lw_g (lw_at lw_m8 46 rfl) rfl
theorem q1845 : (Jvm.Cond.privateMethod ({ cls := "RainLoomModel", name := "emit", desc := "(II)V" } : Jvm.MethodName)) ∈ lw_tbl := lw_at lw_m8 47 rfl
theorem q1846 : (Jvm.Cond.instanceMethod ({ cls := "RainLoomModel", name := "emit", desc := "(II)V" } : Jvm.MethodName)) ∈ lw_all := lw_g (lw_at lw_m8 48 rfl) rfl
theorem q1847 : (Jvm.Cond.code ({ cls := "RainLoomModel", name := "emit", desc := "(II)V" } : Jvm.MethodName) prog_22_method_33_code (3 : Nat) (Option.none : Option Jvm.ClassFile.FieldType)) ∈ lw_all := lw_g (lw_at lw_m8 49 rfl) rfl
theorem q1848 : (Jvm.Cond.methodLink "RainLoomModel" (315 : Nat) ({ cls := "RainLoomModel", name := "comesOut", desc := "(Z)V" } : Jvm.MethodName)) ∈ lw_all := lw_g (lw_at lw_m8 50 rfl) rfl
theorem q1849 : (Jvm.Cond.privateMethod ({ cls := "RainLoomModel", name := "comesOut", desc := "(Z)V" } : Jvm.MethodName)) ∈ lw_tbl := lw_at lw_m8 51 rfl
theorem q1850 : (Jvm.Cond.instanceMethod ({ cls := "RainLoomModel", name := "comesOut", desc := "(Z)V" } : Jvm.MethodName)) ∈ lw_all := lw_g (lw_at lw_m8 52 rfl) rfl
theorem q1851 : (Jvm.Cond.code ({ cls := "RainLoomModel", name := "comesOut", desc := "(Z)V" } : Jvm.MethodName) prog_22_method_34_code (3 : Nat) (Option.none : Option Jvm.ClassFile.FieldType)) ∈ lw_all := lw_g (lw_at lw_m8 53 rfl) rfl
theorem q1852 : (Jvm.Cond.methodLink "RainLoomModel" (303 : Nat) ({ cls := "RainLoomModel", name := "term", desc := "()V" } : Jvm.MethodName)) ∈ lw_all := lw_g (lw_at lw_m8 54 rfl) rfl
theorem q1853 : (Jvm.Cond.privateMethod ({ cls := "RainLoomModel", name := "term", desc := "()V" } : Jvm.MethodName)) ∈ lw_tbl := lw_at lw_m8 55 rfl
theorem q1854 : (Jvm.Cond.instanceMethod ({ cls := "RainLoomModel", name := "term", desc := "()V" } : Jvm.MethodName)) ∈ lw_all := lw_g (lw_at lw_m8 56 rfl) rfl
theorem q1855 : (Jvm.Cond.code ({ cls := "RainLoomModel", name := "term", desc := "()V" } : Jvm.MethodName) prog_22_method_32_code (1 : Nat) (Option.none : Option Jvm.ClassFile.FieldType)) ∈ lw_all := lw_g (lw_at lw_m8 57 rfl) rfl
theorem q1856 : (Jvm.Cond.methodLink "RainLoomModel" (257 : Nat) ({ cls := "RainLoomModel", name := "areFields", desc := "()Z" } : Jvm.MethodName)) ∈ lw_all := lw_g (lw_at lw_m8 58 rfl) rfl
theorem q1857 : (Jvm.Cond.privateMethod ({ cls := "RainLoomModel", name := "areFields", desc := "()Z" } : Jvm.MethodName)) ∈ lw_tbl := lw_at lw_m8 59 rfl
theorem q1858 : (Jvm.Cond.instanceMethod ({ cls := "RainLoomModel", name := "areFields", desc := "()Z" } : Jvm.MethodName)) ∈ lw_all := lw_g (lw_at lw_m8 60 rfl) rfl
theorem q1859 : (Jvm.Cond.code ({ cls := "RainLoomModel", name := "areFields", desc := "()Z" } : Jvm.MethodName) prog_22_method_22_code (3 : Nat) (Option.some Jvm.ClassFile.FieldType.boolean)) ∈ lw_all := lw_g (lw_at lw_m8 61 rfl) rfl
theorem q1861 : (Jvm.Cond.instanceMethod ({ cls := "RainLoomModel", name := "place", desc := "()I" } : Jvm.MethodName)) ∈ lw_all := lw_g (lw_at lw_m8 63 rfl) rfl
theorem q1862 : (Jvm.Cond.selects "RainLoomModel" ({ cls := "RainLoomModel", name := "place", desc := "()I" } : Jvm.MethodName) ({ cls := "RainLoomModel", name := "place", desc := "()I" } : Jvm.MethodName)) ∈ lw_all := lw_g (lw_at lw_m8 64 rfl) rfl
theorem q1863 : (Jvm.Cond.code ({ cls := "RainLoomModel", name := "place", desc := "()I" } : Jvm.MethodName) prog_22_method_21_code (1 : Nat) (Option.some Jvm.ClassFile.FieldType.int)) ∈ lw_all := lw_g (lw_at lw_m8 65 rfl) rfl
theorem q1865 : (Jvm.Cond.instanceMethod ({ cls := "RainLoomModel", name := "cell", desc := "(III)I" } : Jvm.MethodName)) ∈ lw_all := lw_g (lw_at lw_m8 67 rfl) rfl
theorem q1866 : (Jvm.Cond.selects "RainLoomModel" ({ cls := "RainLoomModel", name := "cell", desc := "(III)I" } : Jvm.MethodName) ({ cls := "RainLoomModel", name := "cell", desc := "(III)I" } : Jvm.MethodName)) ∈ lw_all := lw_g (lw_at lw_m8 68 rfl) rfl
theorem q1867 : (Jvm.Cond.code ({ cls := "RainLoomModel", name := "cell", desc := "(III)I" } : Jvm.MethodName) prog_22_method_60_code (5 : Nat) (Option.some Jvm.ClassFile.FieldType.int)) ∈ lw_all := lw_g (lw_at lw_m8 69 rfl) rfl
theorem q1868 : (Jvm.Cond.methodLink "RainLoomModel" (343 : Nat) ({ cls := "RainLoomModel", name := "isCell", desc := "(II)Z" } : Jvm.MethodName)) ∈ lw_all := lw_g (lw_at lw_m8 70 rfl) rfl
theorem q1869 : (Jvm.Cond.privateMethod ({ cls := "RainLoomModel", name := "isCell", desc := "(II)Z" } : Jvm.MethodName)) ∈ lw_tbl := lw_at lw_m8 71 rfl
theorem q1870 : (Jvm.Cond.instanceMethod ({ cls := "RainLoomModel", name := "isCell", desc := "(II)Z" } : Jvm.MethodName)) ∈ lw_all := lw_g (lw_at lw_m8 72 rfl) rfl
theorem q1871 : (Jvm.Cond.code ({ cls := "RainLoomModel", name := "isCell", desc := "(II)Z" } : Jvm.MethodName) prog_22_method_39_code (3 : Nat) (Option.some Jvm.ClassFile.FieldType.boolean)) ∈ lw_all := lw_g (lw_at lw_m8 73 rfl) rfl
theorem q1872 : (Jvm.Cond.methodLink "RainLoomModel" (323 : Nat) ({ cls := "RainLoomModel", name := "in", desc := "(III)Z" } : Jvm.MethodName)) ∈ lw_all := lw_g (lw_at lw_m8 74 rfl) rfl
theorem q1873 : (Jvm.Cond.static ({ cls := "RainLoomModel", name := "in", desc := "(III)Z" } : Jvm.MethodName)) ∈ lw_all := lw_g (lw_at lw_m8 75 rfl) rfl
theorem q1874 : (Jvm.Cond.code ({ cls := "RainLoomModel", name := "in", desc := "(III)Z" } : Jvm.MethodName) prog_22_method_38_code (3 : Nat) (Option.some Jvm.ClassFile.FieldType.boolean)) ∈ lw_all := lw_g (lw_at lw_m8 76 rfl) rfl
theorem q1875 : (Jvm.Cond.methodLink "RainLoomModel" (381 : Nat) ({ cls := "RainLoomModel", name := "copies", desc := "()V" } : Jvm.MethodName)) ∈ lw_all := lw_g (lw_at lw_m8 77 rfl) rfl
theorem q1876 : (Jvm.Cond.privateMethod ({ cls := "RainLoomModel", name := "copies", desc := "()V" } : Jvm.MethodName)) ∈ lw_tbl := lw_at lw_m8 78 rfl
theorem q1877 : (Jvm.Cond.instanceMethod ({ cls := "RainLoomModel", name := "copies", desc := "()V" } : Jvm.MethodName)) ∈ lw_all := lw_g (lw_at lw_m8 79 rfl) rfl
theorem q1878 : (Jvm.Cond.code ({ cls := "RainLoomModel", name := "copies", desc := "()V" } : Jvm.MethodName) prog_22_method_44_code (2 : Nat) (Option.none : Option Jvm.ClassFile.FieldType)) ∈ lw_all := lw_g (lw_at lw_m8 80 rfl) rfl
theorem q1879 : (Jvm.Cond.methodLink "RainLoomModel" (347 : Nat) ({ cls := "RainLoomModel", name := "fieldAt", desc := "(I)I" } : Jvm.MethodName)) ∈ lw_all := lw_g (lw_at lw_m8 81 rfl) rfl
theorem q1880 : (Jvm.Cond.privateMethod ({ cls := "RainLoomModel", name := "fieldAt", desc := "(I)I" } : Jvm.MethodName)) ∈ lw_tbl := lw_at lw_m8 82 rfl
theorem q1881 : (Jvm.Cond.instanceMethod ({ cls := "RainLoomModel", name := "fieldAt", desc := "(I)I" } : Jvm.MethodName)) ∈ lw_all := lw_g (lw_at lw_m8 83 rfl) rfl
theorem q1882 : (Jvm.Cond.code ({ cls := "RainLoomModel", name := "fieldAt", desc := "(I)I" } : Jvm.MethodName) prog_22_method_50_code (2 : Nat) (Option.some Jvm.ClassFile.FieldType.int)) ∈ lw_all := lw_g (lw_at lw_m8 84 rfl) rfl
theorem q1883 : (Jvm.Cond.methodLink "RainLoomModel" (369 : Nat) ({ cls := "RainLoomModel", name := "isLacking", desc := "(I)Z" } : Jvm.MethodName)) ∈ lw_all := lw_g (lw_at lw_m8 85 rfl) rfl
theorem q1884 : (Jvm.Cond.privateMethod ({ cls := "RainLoomModel", name := "isLacking", desc := "(I)Z" } : Jvm.MethodName)) ∈ lw_tbl := lw_at lw_m8 86 rfl
theorem q1885 : (Jvm.Cond.instanceMethod ({ cls := "RainLoomModel", name := "isLacking", desc := "(I)Z" } : Jvm.MethodName)) ∈ lw_all := lw_g (lw_at lw_m8 87 rfl) rfl
theorem q1886 : (Jvm.Cond.code ({ cls := "RainLoomModel", name := "isLacking", desc := "(I)Z" } : Jvm.MethodName) prog_22_method_54_code (2 : Nat) (Option.some Jvm.ClassFile.FieldType.boolean)) ∈ lw_all := lw_g (lw_at lw_m8 88 rfl) rfl
theorem q1887 : (Jvm.Cond.methodLink "RainLoomModel" (350 : Nat) ({ cls := "RainLoomModel", name := "needOf", desc := "(I)I" } : Jvm.MethodName)) ∈ lw_all := lw_g (lw_at lw_m8 89 rfl) rfl
theorem q1888 : (Jvm.Cond.privateMethod ({ cls := "RainLoomModel", name := "needOf", desc := "(I)I" } : Jvm.MethodName)) ∈ lw_tbl := lw_at lw_m8 90 rfl
theorem q1889 : (Jvm.Cond.instanceMethod ({ cls := "RainLoomModel", name := "needOf", desc := "(I)I" } : Jvm.MethodName)) ∈ lw_all := lw_g (lw_at lw_m8 91 rfl) rfl
theorem q1890 : (Jvm.Cond.code ({ cls := "RainLoomModel", name := "needOf", desc := "(I)I" } : Jvm.MethodName) prog_22_method_52_code (2 : Nat) (Option.some Jvm.ClassFile.FieldType.int)) ∈ lw_all := lw_g (lw_at lw_m8 92 rfl) rfl
theorem q1891 : (Jvm.Cond.methodLink "RainLoomModel" (372 : Nat) ({ cls := "RainLoomModel", name := "isFlooded", desc := "(I)Z" } : Jvm.MethodName)) ∈ lw_all := lw_g (lw_at lw_m8 93 rfl) rfl
theorem q1892 : (Jvm.Cond.privateMethod ({ cls := "RainLoomModel", name := "isFlooded", desc := "(I)Z" } : Jvm.MethodName)) ∈ lw_tbl := lw_at lw_m8 94 rfl
theorem q1893 : (Jvm.Cond.instanceMethod ({ cls := "RainLoomModel", name := "isFlooded", desc := "(I)Z" } : Jvm.MethodName)) ∈ lw_all := lw_g (lw_at lw_m8 95 rfl) rfl
theorem q1894 : (Jvm.Cond.code ({ cls := "RainLoomModel", name := "isFlooded", desc := "(I)Z" } : Jvm.MethodName) prog_22_method_55_code (2 : Nat) (Option.some Jvm.ClassFile.FieldType.boolean)) ∈ lw_all := lw_g (lw_at lw_m8 96 rfl) rfl
theorem q1895 : (Jvm.Cond.methodLink "RainLoomModel" (353 : Nat) ({ cls := "RainLoomModel", name := "drownOf", desc := "(I)I" } : Jvm.MethodName)) ∈ lw_all := lw_g (lw_at lw_m8 97 rfl) rfl
theorem q1896 : (Jvm.Cond.privateMethod ({ cls := "RainLoomModel", name := "drownOf", desc := "(I)I" } : Jvm.MethodName)) ∈ lw_tbl := lw_at lw_m8 98 rfl
theorem q1897 : (Jvm.Cond.instanceMethod ({ cls := "RainLoomModel", name := "drownOf", desc := "(I)I" } : Jvm.MethodName)) ∈ lw_all := lw_g (lw_at lw_m8 99 rfl) rfl
theorem q1898 : (Jvm.Cond.code ({ cls := "RainLoomModel", name := "drownOf", desc := "(I)I" } : Jvm.MethodName) prog_22_method_53_code (2 : Nat) (Option.some Jvm.ClassFile.FieldType.int)) ∈ lw_all := lw_g (lw_at lw_m8 100 rfl) rfl
theorem q1900 : (Jvm.Cond.instanceMethod ({ cls := "RainLoomModel", name := "field", desc := "(II)I" } : Jvm.MethodName)) ∈ lw_all := lw_g (lw_at lw_m8 102 rfl) rfl
theorem q1901 : (Jvm.Cond.selects "RainLoomModel" ({ cls := "RainLoomModel", name := "field", desc := "(II)I" } : Jvm.MethodName) ({ cls := "RainLoomModel", name := "field", desc := "(II)I" } : Jvm.MethodName)) ∈ lw_all := lw_g (lw_at lw_m8 103 rfl) rfl
theorem q1902 : (Jvm.Cond.code ({ cls := "RainLoomModel", name := "field", desc := "(II)I" } : Jvm.MethodName) prog_22_method_63_code (5 : Nat) (Option.some Jvm.ClassFile.FieldType.int)) ∈ lw_all := lw_g (lw_at lw_m8 104 rfl) rfl
theorem q1903 : (Jvm.Cond.methodLink "RainLoomModel" (387 : Nat) ({ cls := "RainLoomModel", name := "isField", desc := "(I)Z" } : Jvm.MethodName)) ∈ lw_all := lw_g (lw_at lw_m8 105 rfl) rfl
theorem q1904 : (Jvm.Cond.privateMethod ({ cls := "RainLoomModel", name := "isField", desc := "(I)Z" } : Jvm.MethodName)) ∈ lw_tbl := lw_at lw_m8 106 rfl
theorem q1905 : (Jvm.Cond.instanceMethod ({ cls := "RainLoomModel", name := "isField", desc := "(I)Z" } : Jvm.MethodName)) ∈ lw_all := lw_g (lw_at lw_m8 107 rfl) rfl
theorem q1906 : (Jvm.Cond.code ({ cls := "RainLoomModel", name := "isField", desc := "(I)Z" } : Jvm.MethodName) prog_22_method_40_code (2 : Nat) (Option.some Jvm.ClassFile.FieldType.boolean)) ∈ lw_all := lw_g (lw_at lw_m8 108 rfl) rfl
theorem q1907 : (Jvm.Cond.methodLink "RainLoomModel" (384 : Nat) ({ cls := "RainLoomModel", name := "cellsOf", desc := "(I)I" } : Jvm.MethodName)) ∈ lw_all := lw_g (lw_at lw_m8 109 rfl) rfl
theorem q1908 : (Jvm.Cond.privateMethod ({ cls := "RainLoomModel", name := "cellsOf", desc := "(I)I" } : Jvm.MethodName)) ∈ lw_tbl := lw_at lw_m8 110 rfl
theorem q1909 : (Jvm.Cond.instanceMethod ({ cls := "RainLoomModel", name := "cellsOf", desc := "(I)I" } : Jvm.MethodName)) ∈ lw_all := lw_g (lw_at lw_m8 111 rfl) rfl
theorem q1910 : (Jvm.Cond.code ({ cls := "RainLoomModel", name := "cellsOf", desc := "(I)I" } : Jvm.MethodName) prog_22_method_61_code (4 : Nat) (Option.some Jvm.ClassFile.FieldType.int)) ∈ lw_all := lw_g (lw_at lw_m8 112 rfl) rfl
theorem q1911 : (Jvm.Cond.methodLink "RainLoomModel" (366 : Nat) ({ cls := "RainLoomModel", name := "isLand", desc := "(I)Z" } : Jvm.MethodName)) ∈ lw_all := lw_g (lw_at lw_m8 113 rfl) rfl
theorem q1912 : (Jvm.Cond.privateMethod ({ cls := "RainLoomModel", name := "isLand", desc := "(I)Z" } : Jvm.MethodName)) ∈ lw_tbl := lw_at lw_m8 114 rfl
theorem q1913 : (Jvm.Cond.instanceMethod ({ cls := "RainLoomModel", name := "isLand", desc := "(I)Z" } : Jvm.MethodName)) ∈ lw_all := lw_g (lw_at lw_m8 115 rfl) rfl
theorem q1914 : (Jvm.Cond.code ({ cls := "RainLoomModel", name := "isLand", desc := "(I)Z" } : Jvm.MethodName) prog_22_method_51_code (2 : Nat) (Option.some Jvm.ClassFile.FieldType.boolean)) ∈ lw_all := lw_g (lw_at lw_m8 116 rfl) rfl
theorem q1915 : (Jvm.Cond.methodLink "RainLoomModel" (390 : Nat) ({ cls := "RainLoomModel", name := "needAll", desc := "(I)I" } : Jvm.MethodName)) ∈ lw_all := lw_g (lw_at lw_m8 117 rfl) rfl
theorem q1916 : (Jvm.Cond.privateMethod ({ cls := "RainLoomModel", name := "needAll", desc := "(I)I" } : Jvm.MethodName)) ∈ lw_tbl := lw_at lw_m8 118 rfl
theorem q1917 : (Jvm.Cond.instanceMethod ({ cls := "RainLoomModel", name := "needAll", desc := "(I)I" } : Jvm.MethodName)) ∈ lw_all := lw_g (lw_at lw_m8 119 rfl) rfl
theorem q1918 : (Jvm.Cond.code ({ cls := "RainLoomModel", name := "needAll", desc := "(I)I" } : Jvm.MethodName) prog_22_method_62_code (2 : Nat) (Option.some Jvm.ClassFile.FieldType.int)) ∈ lw_all := lw_g (lw_at lw_m8 120 rfl) rfl
theorem q1920 : (Jvm.Cond.instanceMethod ({ cls := "RainLoomModel", name := "loom", desc := "(II)I" } : Jvm.MethodName)) ∈ lw_all := lw_g (lw_at lw_m8 122 rfl) rfl
theorem q1921 : (Jvm.Cond.selects "RainLoomModel" ({ cls := "RainLoomModel", name := "loom", desc := "(II)I" } : Jvm.MethodName) ({ cls := "RainLoomModel", name := "loom", desc := "(II)I" } : Jvm.MethodName)) ∈ lw_all := lw_g (lw_at lw_m8 123 rfl) rfl
theorem q1922 : (Jvm.Cond.code ({ cls := "RainLoomModel", name := "loom", desc := "(II)I" } : Jvm.MethodName) prog_22_method_64_code (3 : Nat) (Option.some Jvm.ClassFile.FieldType.int)) ∈ lw_all := lw_g (lw_at lw_m8 124 rfl) rfl
theorem q1923 : (Jvm.Cond.methodLink "RainLoomModel" (393 : Nat) ({ cls := "RainLoomModel", name := "isLoom", desc := "(I)Z" } : Jvm.MethodName)) ∈ lw_all := lw_g (lw_at lw_m8 125 rfl) rfl
theorem q1924 : (Jvm.Cond.privateMethod ({ cls := "RainLoomModel", name := "isLoom", desc := "(I)Z" } : Jvm.MethodName)) ∈ lw_tbl := lw_at lw_m8 126 rfl
theorem q1925 : (Jvm.Cond.instanceMethod ({ cls := "RainLoomModel", name := "isLoom", desc := "(I)Z" } : Jvm.MethodName)) ∈ lw_all := lw_g (lw_at lw_m8 127 rfl) rfl
theorem q1926 : (Jvm.Cond.code ({ cls := "RainLoomModel", name := "isLoom", desc := "(I)Z" } : Jvm.MethodName) prog_22_method_41_code (2 : Nat) (Option.some Jvm.ClassFile.FieldType.boolean)) ∈ lw_all := lw_g (lw_at lw_m8 128 rfl) rfl
theorem q1928 : (Jvm.Cond.instanceMethod ({ cls := "RainLoomModel", name := "thread", desc := "(III)I" } : Jvm.MethodName)) ∈ lw_all := lw_g (lw_at lw_m8 130 rfl) rfl
theorem q1929 : (Jvm.Cond.selects "RainLoomModel" ({ cls := "RainLoomModel", name := "thread", desc := "(III)I" } : Jvm.MethodName) ({ cls := "RainLoomModel", name := "thread", desc := "(III)I" } : Jvm.MethodName)) ∈ lw_all := lw_g (lw_at lw_m8 131 rfl) rfl
theorem q1930 : (Jvm.Cond.code ({ cls := "RainLoomModel", name := "thread", desc := "(III)I" } : Jvm.MethodName) prog_22_method_65_code (4 : Nat) (Option.some Jvm.ClassFile.FieldType.int)) ∈ lw_all := lw_g (lw_at lw_m8 132 rfl) rfl
theorem q1931 : (Jvm.Cond.methodLink "RainLoomModel" (356 : Nat) ({ cls := "RainLoomModel", name := "threadOf", desc := "(III)I" } : Jvm.MethodName)) ∈ lw_all := lw_g (lw_at lw_m8 133 rfl) rfl
theorem q1932 : (Jvm.Cond.privateMethod ({ cls := "RainLoomModel", name := "threadOf", desc := "(III)I" } : Jvm.MethodName)) ∈ lw_tbl := lw_at lw_m8 134 rfl
theorem q1933 : (Jvm.Cond.instanceMethod ({ cls := "RainLoomModel", name := "threadOf", desc := "(III)I" } : Jvm.MethodName)) ∈ lw_all := lw_g (lw_at lw_m8 135 rfl) rfl
theorem q1934 : (Jvm.Cond.code ({ cls := "RainLoomModel", name := "threadOf", desc := "(III)I" } : Jvm.MethodName) prog_22_method_49_code (4 : Nat) (Option.some Jvm.ClassFile.FieldType.int)) ∈ lw_all := lw_g (lw_at lw_m8 136 rfl) rfl
theorem q1935 : (Jvm.Cond.methodLink "RainLoomModel" (337 : Nat) ({ cls := "RainLoomModel", name := "looks", desc := "()V" } : Jvm.MethodName)) ∈ lw_all := lw_g (lw_at lw_m8 137 rfl) rfl
theorem q1936 : (Jvm.Cond.privateMethod ({ cls := "RainLoomModel", name := "looks", desc := "()V" } : Jvm.MethodName)) ∈ lw_tbl := lw_at lw_m8 138 rfl
theorem q1937 : (Jvm.Cond.instanceMethod ({ cls := "RainLoomModel", name := "looks", desc := "()V" } : Jvm.MethodName)) ∈ lw_all := lw_g (lw_at lw_m8 139 rfl) rfl
theorem q1938 : (Jvm.Cond.code ({ cls := "RainLoomModel", name := "looks", desc := "()V" } : Jvm.MethodName) prog_22_method_47_code (2 : Nat) (Option.none : Option Jvm.ClassFile.FieldType)) ∈ lw_all := lw_g (lw_at lw_m8 140 rfl) rfl
theorem q1939 : (Jvm.Cond.methodLink "RainLoomModel" (340 : Nat) ({ cls := "RainLoomModel", name := "asks", desc := "(III)I" } : Jvm.MethodName)) ∈ lw_all := lw_g (lw_at lw_m8 141 rfl) rfl
theorem q1940 : (Jvm.Cond.privateMethod ({ cls := "RainLoomModel", name := "asks", desc := "(III)I" } : Jvm.MethodName)) ∈ lw_tbl := lw_at lw_m8 142 rfl
theorem q1941 : (Jvm.Cond.instanceMethod ({ cls := "RainLoomModel", name := "asks", desc := "(III)I" } : Jvm.MethodName)) ∈ lw_all := lw_g (lw_at lw_m8 143 rfl) rfl
theorem q1942 : (Jvm.Cond.code ({ cls := "RainLoomModel", name := "asks", desc := "(III)I" } : Jvm.MethodName) prog_22_method_48_code (8 : Nat) (Option.some Jvm.ClassFile.FieldType.int)) ∈ lw_all := lw_g (lw_at lw_m8 144 rfl) rfl
theorem q1943 : (Jvm.Cond.methodLink "RainLoomModel" (334 : Nat) ({ cls := "RainLoomModel", name := "termOf", desc := "(II)I" } : Jvm.MethodName)) ∈ lw_all := lw_g (lw_at lw_m8 145 rfl) rfl
theorem q1944 : (Jvm.Cond.privateMethod ({ cls := "RainLoomModel", name := "termOf", desc := "(II)I" } : Jvm.MethodName)) ∈ lw_tbl := lw_at lw_m8 146 rfl
theorem q1945 : (Jvm.Cond.instanceMethod ({ cls := "RainLoomModel", name := "termOf", desc := "(II)I" } : Jvm.MethodName)) ∈ lw_all := lw_g (lw_at lw_m8 147 rfl) rfl
theorem q1946 : (Jvm.Cond.code ({ cls := "RainLoomModel", name := "termOf", desc := "(II)I" } : Jvm.MethodName) prog_22_method_37_code (8 : Nat) (Option.some Jvm.ClassFile.FieldType.int)) ∈ lw_all := lw_g (lw_at lw_m8 148 rfl) rfl
theorem q1948 : (Jvm.Cond.instanceMethod ({ cls := "RainLoomModel", name := "order", desc := "(IIIII)Z" } : Jvm.MethodName)) ∈ lw_all := lw_g (lw_at lw_m8 150 rfl) rfl
theorem q1949 : (Jvm.Cond.selects "RainLoomModel" ({ cls := "RainLoomModel", name := "order", desc := "(IIIII)Z" } : Jvm.MethodName) ({ cls := "RainLoomModel", name := "order", desc := "(IIIII)Z" } : Jvm.MethodName)) ∈ lw_all := lw_g (lw_at lw_m8 151 rfl) rfl
theorem q1950 : (Jvm.Cond.code ({ cls := "RainLoomModel", name := "order", desc := "(IIIII)Z" } : Jvm.MethodName) prog_22_method_68_code (6 : Nat) (Option.some Jvm.ClassFile.FieldType.boolean)) ∈ lw_all := lw_g (lw_at lw_m8 152 rfl) rfl
theorem q1951 : (Jvm.Cond.methodLink "RainLoomModel" (396 : Nat) ({ cls := "RainLoomModel", name := "isPiece", desc := "(III)Z" } : Jvm.MethodName)) ∈ lw_all := lw_g (lw_at lw_m8 153 rfl) rfl
theorem q1952 : (Jvm.Cond.privateMethod ({ cls := "RainLoomModel", name := "isPiece", desc := "(III)Z" } : Jvm.MethodName)) ∈ lw_tbl := lw_at lw_m8 154 rfl
theorem q1953 : (Jvm.Cond.instanceMethod ({ cls := "RainLoomModel", name := "isPiece", desc := "(III)Z" } : Jvm.MethodName)) ∈ lw_all := lw_g (lw_at lw_m8 155 rfl) rfl
theorem q1954 : (Jvm.Cond.code ({ cls := "RainLoomModel", name := "isPiece", desc := "(III)Z" } : Jvm.MethodName) prog_22_method_67_code (4 : Nat) (Option.some Jvm.ClassFile.FieldType.boolean)) ∈ lw_all := lw_g (lw_at lw_m8 156 rfl) rfl
theorem q1955 : (Jvm.Cond.methodLink "RainLoomModel" (399 : Nat) ({ cls := "RainLoomModel", name := "keeps", desc := "()V" } : Jvm.MethodName)) ∈ lw_all := lw_g (lw_at lw_m8 157 rfl) rfl
theorem q1956 : (Jvm.Cond.privateMethod ({ cls := "RainLoomModel", name := "keeps", desc := "()V" } : Jvm.MethodName)) ∈ lw_tbl := lw_at lw_m8 158 rfl
theorem q1957 : (Jvm.Cond.instanceMethod ({ cls := "RainLoomModel", name := "keeps", desc := "()V" } : Jvm.MethodName)) ∈ lw_all := lw_g (lw_at lw_m8 159 rfl) rfl
theorem q1958 : (Jvm.Cond.code ({ cls := "RainLoomModel", name := "keeps", desc := "()V" } : Jvm.MethodName) prog_22_method_66_code (2 : Nat) (Option.none : Option Jvm.ClassFile.FieldType)) ∈ lw_all := lw_g (lw_at lw_m8 160 rfl) rfl
theorem q1960 : (Jvm.Cond.instanceMethod ({ cls := "RainLoomModel", name := "stop", desc := "(I)Z" } : Jvm.MethodName)) ∈ lw_all := lw_g (lw_at lw_m8 162 rfl) rfl
theorem q1961 : (Jvm.Cond.selects "RainLoomModel" ({ cls := "RainLoomModel", name := "stop", desc := "(I)Z" } : Jvm.MethodName) ({ cls := "RainLoomModel", name := "stop", desc := "(I)Z" } : Jvm.MethodName)) ∈ lw_all := lw_g (lw_at lw_m8 163 rfl) rfl
theorem q1962 : (Jvm.Cond.code ({ cls := "RainLoomModel", name := "stop", desc := "(I)Z" } : Jvm.MethodName) prog_22_method_69_code (3 : Nat) (Option.some Jvm.ClassFile.FieldType.boolean)) ∈ lw_all := lw_g (lw_at lw_m8 164 rfl) rfl
theorem q1964 : (Jvm.Cond.instanceMethod ({ cls := "RainLoomModel", name := "fall", desc := "(IIIII)I" } : Jvm.MethodName)) ∈ lw_all := lw_g (lw_at lw_m8 166 rfl) rfl
theorem q1965 : (Jvm.Cond.selects "RainLoomModel" ({ cls := "RainLoomModel", name := "fall", desc := "(IIIII)I" } : Jvm.MethodName) ({ cls := "RainLoomModel", name := "fall", desc := "(IIIII)I" } : Jvm.MethodName)) ∈ lw_all := lw_g (lw_at lw_m8 167 rfl) rfl
theorem q1966 : (Jvm.Cond.code ({ cls := "RainLoomModel", name := "fall", desc := "(IIIII)I" } : Jvm.MethodName) prog_22_method_70_code (7 : Nat) (Option.some Jvm.ClassFile.FieldType.int)) ∈ lw_all := lw_g (lw_at lw_m8 168 rfl) rfl
theorem q1967 : (Jvm.Cond.methodLink "RainLoomModel" (362 : Nat) ({ cls := "RainLoomModel", name := "falls", desc := "(IIIII)I" } : Jvm.MethodName)) ∈ lw_all := lw_g (lw_at lw_m8 169 rfl) rfl
theorem q1968 : (Jvm.Cond.privateMethod ({ cls := "RainLoomModel", name := "falls", desc := "(IIIII)I" } : Jvm.MethodName)) ∈ lw_tbl := lw_at lw_m8 170 rfl
theorem q1969 : (Jvm.Cond.instanceMethod ({ cls := "RainLoomModel", name := "falls", desc := "(IIIII)I" } : Jvm.MethodName)) ∈ lw_all := lw_g (lw_at lw_m8 171 rfl) rfl
theorem q1970 : (Jvm.Cond.code ({ cls := "RainLoomModel", name := "falls", desc := "(IIIII)I" } : Jvm.MethodName) prog_22_method_56_code (14 : Nat) (Option.some Jvm.ClassFile.FieldType.int)) ∈ lw_all := lw_g (lw_at lw_m8 172 rfl) rfl
theorem q1972 : (Jvm.Cond.instanceMethod ({ cls := "RainLoomModel", name := "turn", desc := "(II)I" } : Jvm.MethodName)) ∈ lw_all := lw_g (lw_at lw_m8 174 rfl) rfl
theorem q1973 : (Jvm.Cond.selects "RainLoomModel" ({ cls := "RainLoomModel", name := "turn", desc := "(II)I" } : Jvm.MethodName) ({ cls := "RainLoomModel", name := "turn", desc := "(II)I" } : Jvm.MethodName)) ∈ lw_all := lw_g (lw_at lw_m8 175 rfl) rfl
theorem q1974 : (Jvm.Cond.code ({ cls := "RainLoomModel", name := "turn", desc := "(II)I" } : Jvm.MethodName) prog_22_method_71_code (3 : Nat) (Option.some Jvm.ClassFile.FieldType.int)) ∈ lw_all := lw_g (lw_at lw_m8 176 rfl) rfl
theorem q1976 : (Jvm.Cond.instanceMethod ({ cls := "RainLoomModel", name := "days", desc := "(I)I" } : Jvm.MethodName)) ∈ lw_all := lw_g (lw_at lw_m8 178 rfl) rfl
theorem q1977 : (Jvm.Cond.selects "RainLoomModel" ({ cls := "RainLoomModel", name := "days", desc := "(I)I" } : Jvm.MethodName) ({ cls := "RainLoomModel", name := "days", desc := "(I)I" } : Jvm.MethodName)) ∈ lw_all := lw_g (lw_at lw_m8 179 rfl) rfl
theorem q1978 : (Jvm.Cond.code ({ cls := "RainLoomModel", name := "days", desc := "(I)I" } : Jvm.MethodName) prog_22_method_72_code (2 : Nat) (Option.some Jvm.ClassFile.FieldType.int)) ∈ lw_all := lw_g (lw_at lw_m8 180 rfl) rfl
theorem q1979 : (Jvm.Cond.methodLink "RainLoomModel" (402 : Nat) ({ cls := "RainLoomModel", name := "goes", desc := "(I)V" } : Jvm.MethodName)) ∈ lw_all := lw_g (lw_at lw_m8 181 rfl) rfl
theorem q1980 : (Jvm.Cond.privateMethod ({ cls := "RainLoomModel", name := "goes", desc := "(I)V" } : Jvm.MethodName)) ∈ lw_tbl := lw_at lw_m8 182 rfl
theorem q1981 : (Jvm.Cond.instanceMethod ({ cls := "RainLoomModel", name := "goes", desc := "(I)V" } : Jvm.MethodName)) ∈ lw_all := lw_g (lw_at lw_m8 183 rfl) rfl
theorem q1982 : (Jvm.Cond.code ({ cls := "RainLoomModel", name := "goes", desc := "(I)V" } : Jvm.MethodName) prog_22_method_59_code (3 : Nat) (Option.none : Option Jvm.ClassFile.FieldType)) ∈ lw_all := lw_g (lw_at lw_m8 184 rfl) rfl
theorem q1983 : (Jvm.Cond.methodLink "RainLoomModel" (378 : Nat) ({ cls := "RainLoomModel", name := "dayGoes", desc := "()V" } : Jvm.MethodName)) ∈ lw_all := lw_g (lw_at lw_m8 185 rfl) rfl
theorem q1984 : (Jvm.Cond.privateMethod ({ cls := "RainLoomModel", name := "dayGoes", desc := "()V" } : Jvm.MethodName)) ∈ lw_tbl := lw_at lw_m8 186 rfl
theorem q1985 : (Jvm.Cond.instanceMethod ({ cls := "RainLoomModel", name := "dayGoes", desc := "()V" } : Jvm.MethodName)) ∈ lw_all := lw_g (lw_at lw_m8 187 rfl) rfl
theorem q1986 : (Jvm.Cond.code ({ cls := "RainLoomModel", name := "dayGoes", desc := "()V" } : Jvm.MethodName) prog_22_method_58_code (3 : Nat) (Option.none : Option Jvm.ClassFile.FieldType)) ∈ lw_all := lw_g (lw_at lw_m8 188 rfl) rfl
theorem q1987 : (Jvm.Cond.methodLink "RainLoomModel" (359 : Nat) ({ cls := "RainLoomModel", name := "lotOf", desc := "(I)I" } : Jvm.MethodName)) ∈ lw_all := lw_g (lw_at lw_m8 189 rfl) rfl
theorem q1988 : (Jvm.Cond.privateMethod ({ cls := "RainLoomModel", name := "lotOf", desc := "(I)I" } : Jvm.MethodName)) ∈ lw_tbl := lw_at lw_m8 190 rfl
theorem q1989 : (Jvm.Cond.instanceMethod ({ cls := "RainLoomModel", name := "lotOf", desc := "(I)I" } : Jvm.MethodName)) ∈ lw_all := lw_g (lw_at lw_m8 191 rfl) rfl
theorem q1990 : (Jvm.Cond.code ({ cls := "RainLoomModel", name := "lotOf", desc := "(I)I" } : Jvm.MethodName) prog_22_method_46_code (2 : Nat) (Option.some Jvm.ClassFile.FieldType.int)) ∈ lw_all := lw_g (lw_at lw_m8 192 rfl) rfl
theorem q1991 : (Jvm.Cond.methodLink "RainLoomModel" (331 : Nat) ({ cls := "RainLoomModel", name := "mixed", desc := "(II)I" } : Jvm.MethodName)) ∈ lw_all := lw_g (lw_at lw_m8 193 rfl) rfl
theorem q1992 : (Jvm.Cond.static ({ cls := "RainLoomModel", name := "mixed", desc := "(II)I" } : Jvm.MethodName)) ∈ lw_all := lw_g (lw_at lw_m8 194 rfl) rfl
theorem q1993 : (Jvm.Cond.code ({ cls := "RainLoomModel", name := "mixed", desc := "(II)I" } : Jvm.MethodName) prog_22_method_45_code (3 : Nat) (Option.some Jvm.ClassFile.FieldType.int)) ∈ lw_all := lw_g (lw_at lw_m8 195 rfl) rfl
theorem q1994 : (Jvm.Cond.constant "RainLoomModel" (330 : Nat) (1103515245 : Int32)) ∈ lw_all := lw_g (lw_at lw_m8 196 rfl) rfl
theorem q1995 : (Jvm.Cond.methodLink "RainLoomModel" (375 : Nat) ({ cls := "RainLoomModel", name := "driesIn", desc := "(I)I" } : Jvm.MethodName)) ∈ lw_all := lw_g (lw_at lw_m8 197 rfl) rfl
theorem q1996 : (Jvm.Cond.privateMethod ({ cls := "RainLoomModel", name := "driesIn", desc := "(I)I" } : Jvm.MethodName)) ∈ lw_tbl := lw_at lw_m8 198 rfl
theorem q1997 : (Jvm.Cond.instanceMethod ({ cls := "RainLoomModel", name := "driesIn", desc := "(I)I" } : Jvm.MethodName)) ∈ lw_all := lw_g (lw_at lw_m8 199 rfl) rfl
theorem q1998 : (Jvm.Cond.code ({ cls := "RainLoomModel", name := "driesIn", desc := "(I)I" } : Jvm.MethodName) prog_22_method_57_code (2 : Nat) (Option.some Jvm.ClassFile.FieldType.int)) ∈ lw_all := lw_g (lw_at lw_m8 200 rfl) rfl
theorem q2000 : (Jvm.Cond.instanceMethod ({ cls := "RainLoomModel", name := "undo", desc := "()Z" } : Jvm.MethodName)) ∈ lw_all := lw_g (lw_at lw_m8 202 rfl) rfl
theorem q2001 : (Jvm.Cond.selects "RainLoomModel" ({ cls := "RainLoomModel", name := "undo", desc := "()Z" } : Jvm.MethodName) ({ cls := "RainLoomModel", name := "undo", desc := "()Z" } : Jvm.MethodName)) ∈ lw_all := lw_g (lw_at lw_m8 203 rfl) rfl
theorem q2002 : (Jvm.Cond.code ({ cls := "RainLoomModel", name := "undo", desc := "()Z" } : Jvm.MethodName) prog_22_method_73_code (2 : Nat) (Option.some Jvm.ClassFile.FieldType.boolean)) ∈ lw_all := lw_g (lw_at lw_m8 204 rfl) rfl
theorem q2004 : (Jvm.Cond.instanceMethod ({ cls := "RainLoomModel", name := "holds", desc := "(IIIZ)I" } : Jvm.MethodName)) ∈ lw_all := lw_g (lw_at lw_m8 206 rfl) rfl
theorem q2005 : (Jvm.Cond.selects "RainLoomModel" ({ cls := "RainLoomModel", name := "holds", desc := "(IIIZ)I" } : Jvm.MethodName) ({ cls := "RainLoomModel", name := "holds", desc := "(IIIZ)I" } : Jvm.MethodName)) ∈ lw_all := lw_g (lw_at lw_m8 207 rfl) rfl
theorem q2006 : (Jvm.Cond.code ({ cls := "RainLoomModel", name := "holds", desc := "(IIIZ)I" } : Jvm.MethodName) prog_22_method_75_code (7 : Nat) (Option.some Jvm.ClassFile.FieldType.int)) ∈ lw_all := lw_g (lw_at lw_m8 208 rfl) rfl
theorem q2007 : (Jvm.Cond.methodLink "RainLoomModel" (405 : Nat) ({ cls := "RainLoomModel", name := "heldBy", desc := "(III)I" } : Jvm.MethodName)) ∈ lw_all := lw_g (lw_at lw_m8 209 rfl) rfl
theorem q2008 : (Jvm.Cond.privateMethod ({ cls := "RainLoomModel", name := "heldBy", desc := "(III)I" } : Jvm.MethodName)) ∈ lw_tbl := lw_at lw_m8 210 rfl
theorem q2009 : (Jvm.Cond.instanceMethod ({ cls := "RainLoomModel", name := "heldBy", desc := "(III)I" } : Jvm.MethodName)) ∈ lw_all := lw_g (lw_at lw_m8 211 rfl) rfl
theorem q2010 : (Jvm.Cond.code ({ cls := "RainLoomModel", name := "heldBy", desc := "(III)I" } : Jvm.MethodName) prog_22_method_74_code (6 : Nat) (Option.some Jvm.ClassFile.FieldType.int)) ∈ lw_all := lw_g (lw_at lw_m8 212 rfl) rfl
theorem q2012 : (Jvm.Cond.instanceMethod ({ cls := "RainLoomModel", name := "comes", desc := "(III)I" } : Jvm.MethodName)) ∈ lw_all := lw_g (lw_at lw_m8 214 rfl) rfl
theorem q2013 : (Jvm.Cond.selects "RainLoomModel" ({ cls := "RainLoomModel", name := "comes", desc := "(III)I" } : Jvm.MethodName) ({ cls := "RainLoomModel", name := "comes", desc := "(III)I" } : Jvm.MethodName)) ∈ lw_all := lw_g (lw_at lw_m8 215 rfl) rfl
theorem q2014 : (Jvm.Cond.code ({ cls := "RainLoomModel", name := "comes", desc := "(III)I" } : Jvm.MethodName) prog_22_method_76_code (7 : Nat) (Option.some Jvm.ClassFile.FieldType.int)) ∈ lw_all := lw_g (lw_at lw_m8 216 rfl) rfl
theorem q2016 : (Jvm.Cond.instanceMethod ({ cls := "RainLoomModel", name := "round", desc := "(I)I" } : Jvm.MethodName)) ∈ lw_all := lw_g (lw_at lw_m8 218 rfl) rfl
theorem q2017 : (Jvm.Cond.selects "RainLoomModel" ({ cls := "RainLoomModel", name := "round", desc := "(I)I" } : Jvm.MethodName) ({ cls := "RainLoomModel", name := "round", desc := "(I)I" } : Jvm.MethodName)) ∈ lw_all := lw_g (lw_at lw_m8 219 rfl) rfl
theorem q2018 : (Jvm.Cond.code ({ cls := "RainLoomModel", name := "round", desc := "(I)I" } : Jvm.MethodName) prog_22_method_78_code (3 : Nat) (Option.some Jvm.ClassFile.FieldType.int)) ∈ lw_all := lw_g (lw_at lw_m8 220 rfl) rfl
theorem q2019 : (Jvm.Cond.methodLink "RainLoomModel" (408 : Nat) ({ cls := "RainLoomModel", name := "isRound", desc := "(II)Z" } : Jvm.MethodName)) ∈ lw_all := lw_g (lw_at lw_m8 221 rfl) rfl
theorem q2020 : (Jvm.Cond.privateMethod ({ cls := "RainLoomModel", name := "isRound", desc := "(II)Z" } : Jvm.MethodName)) ∈ lw_tbl := lw_at lw_m8 222 rfl
theorem q2021 : (Jvm.Cond.instanceMethod ({ cls := "RainLoomModel", name := "isRound", desc := "(II)Z" } : Jvm.MethodName)) ∈ lw_all := lw_g (lw_at lw_m8 223 rfl) rfl
theorem q2022 : (Jvm.Cond.code ({ cls := "RainLoomModel", name := "isRound", desc := "(II)Z" } : Jvm.MethodName) prog_22_method_77_code (5 : Nat) (Option.some Jvm.ClassFile.FieldType.boolean)) ∈ lw_all := lw_g (lw_at lw_m8 224 rfl) rfl
theorem q2024 : (Jvm.Cond.instanceMethod ({ cls := "RainLoomModel", name := "agree", desc := "(II)I" } : Jvm.MethodName)) ∈ lw_all := lw_g (lw_at lw_m8 226 rfl) rfl
theorem q2025 : (Jvm.Cond.selects "RainLoomModel" ({ cls := "RainLoomModel", name := "agree", desc := "(II)I" } : Jvm.MethodName) ({ cls := "RainLoomModel", name := "agree", desc := "(II)I" } : Jvm.MethodName)) ∈ lw_all := lw_g (lw_at lw_m8 227 rfl) rfl
theorem q2026 : (Jvm.Cond.code ({ cls := "RainLoomModel", name := "agree", desc := "(II)I" } : Jvm.MethodName) prog_22_method_79_code (6 : Nat) (Option.some Jvm.ClassFile.FieldType.int)) ∈ lw_all := lw_g (lw_at lw_m8 228 rfl) rfl
theorem q2028 : (Jvm.Cond.instanceMethod ({ cls := "RainLoomModel", name := "where", desc := "(IIII)I" } : Jvm.MethodName)) ∈ lw_all := lw_g (lw_at lw_m8 230 rfl) rfl
theorem q2029 : (Jvm.Cond.selects "RainLoomModel" ({ cls := "RainLoomModel", name := "where", desc := "(IIII)I" } : Jvm.MethodName) ({ cls := "RainLoomModel", name := "where", desc := "(IIII)I" } : Jvm.MethodName)) ∈ lw_all := lw_g (lw_at lw_m8 231 rfl) rfl
theorem q2030 : (Jvm.Cond.code ({ cls := "RainLoomModel", name := "where", desc := "(IIII)I" } : Jvm.MethodName) prog_22_method_82_code (5 : Nat) (Option.some Jvm.ClassFile.FieldType.int)) ∈ lw_all := lw_g (lw_at lw_m8 232 rfl) rfl
theorem q2031 : (Jvm.Cond.methodLink "RainLoomModel" (420 : Nat) ({ cls := "RainLoomModel", name := "fillsWhere", desc := "(III)V" } : Jvm.MethodName)) ∈ lw_all := lw_g (lw_at lw_m8 233 rfl) rfl
theorem q2032 : (Jvm.Cond.privateMethod ({ cls := "RainLoomModel", name := "fillsWhere", desc := "(III)V" } : Jvm.MethodName)) ∈ lw_tbl := lw_at lw_m8 234 rfl
theorem q2033 : (Jvm.Cond.instanceMethod ({ cls := "RainLoomModel", name := "fillsWhere", desc := "(III)V" } : Jvm.MethodName)) ∈ lw_all := lw_g (lw_at lw_m8 235 rfl) rfl
theorem q2034 : (Jvm.Cond.code ({ cls := "RainLoomModel", name := "fillsWhere", desc := "(III)V" } : Jvm.MethodName) prog_22_method_81_code (7 : Nat) (Option.none : Option Jvm.ClassFile.FieldType)) ∈ lw_all := lw_g (lw_at lw_m8 236 rfl) rfl
theorem q2035 : (Jvm.Cond.methodLink "RainLoomModel" (414 : Nat) ({ cls := "RainLoomModel", name := "moreBy", desc := "(IIIII)I" } : Jvm.MethodName)) ∈ lw_all := lw_g (lw_at lw_m8 237 rfl) rfl
theorem q2036 : (Jvm.Cond.privateMethod ({ cls := "RainLoomModel", name := "moreBy", desc := "(IIIII)I" } : Jvm.MethodName)) ∈ lw_tbl := lw_at lw_m8 238 rfl
theorem q2037 : (Jvm.Cond.instanceMethod ({ cls := "RainLoomModel", name := "moreBy", desc := "(IIIII)I" } : Jvm.MethodName)) ∈ lw_all := lw_g (lw_at lw_m8 239 rfl) rfl
theorem q2038 : (Jvm.Cond.code ({ cls := "RainLoomModel", name := "moreBy", desc := "(IIIII)I" } : Jvm.MethodName) prog_22_method_80_code (8 : Nat) (Option.some Jvm.ClassFile.FieldType.int)) ∈ lw_all := lw_g (lw_at lw_m9 0 rfl) rfl
theorem q2040 : (Jvm.Cond.instanceMethod ({ cls := "RainLoomModel", name := "cut", desc := "(IIII)I" } : Jvm.MethodName)) ∈ lw_all := lw_g (lw_at lw_m9 2 rfl) rfl
theorem q2041 : (Jvm.Cond.selects "RainLoomModel" ({ cls := "RainLoomModel", name := "cut", desc := "(IIII)I" } : Jvm.MethodName) ({ cls := "RainLoomModel", name := "cut", desc := "(IIII)I" } : Jvm.MethodName)) ∈ lw_all := lw_g (lw_at lw_m9 3 rfl) rfl
theorem q2042 : (Jvm.Cond.code ({ cls := "RainLoomModel", name := "cut", desc := "(IIII)I" } : Jvm.MethodName) prog_22_method_88_code (9 : Nat) (Option.some Jvm.ClassFile.FieldType.int)) ∈ lw_all := lw_g (lw_at lw_m9 4 rfl) rfl
theorem q2043 : (Jvm.Cond.methodLink "RainLoomModel" (436 : Nat) ({ cls := "RainLoomModel", name := "adds", desc := "(I)Z" } : Jvm.MethodName)) ∈ lw_all := lw_g (lw_at lw_m9 5 rfl) rfl
theorem q2044 : (Jvm.Cond.privateMethod ({ cls := "RainLoomModel", name := "adds", desc := "(I)Z" } : Jvm.MethodName)) ∈ lw_tbl := lw_at lw_m9 6 rfl
theorem q2045 : (Jvm.Cond.instanceMethod ({ cls := "RainLoomModel", name := "adds", desc := "(I)Z" } : Jvm.MethodName)) ∈ lw_all := lw_g (lw_at lw_m9 7 rfl) rfl
theorem q2046 : (Jvm.Cond.code ({ cls := "RainLoomModel", name := "adds", desc := "(I)Z" } : Jvm.MethodName) prog_22_method_87_code (4 : Nat) (Option.some Jvm.ClassFile.FieldType.boolean)) ∈ lw_all := lw_g (lw_at lw_m9 8 rfl) rfl
theorem q2047 : (Jvm.Cond.methodLink "RainLoomModel" (439 : Nat) ({ cls := "RainLoomModel", name := "goesIn", desc := "(I)Z" } : Jvm.MethodName)) ∈ lw_all := lw_g (lw_at lw_m9 9 rfl) rfl
theorem q2048 : (Jvm.Cond.privateMethod ({ cls := "RainLoomModel", name := "goesIn", desc := "(I)Z" } : Jvm.MethodName)) ∈ lw_tbl := lw_at lw_m9 10 rfl
theorem q2049 : (Jvm.Cond.instanceMethod ({ cls := "RainLoomModel", name := "goesIn", desc := "(I)Z" } : Jvm.MethodName)) ∈ lw_all := lw_g (lw_at lw_m9 11 rfl) rfl
theorem q2050 : (Jvm.Cond.code ({ cls := "RainLoomModel", name := "goesIn", desc := "(I)Z" } : Jvm.MethodName) prog_22_method_86_code (5 : Nat) (Option.some Jvm.ClassFile.FieldType.boolean)) ∈ lw_all := lw_g (lw_at lw_m9 12 rfl) rfl
theorem q2051 : (Jvm.Cond.methodLink "RainLoomModel" (430 : Nat) ({ cls := "RainLoomModel", name := "nextPlace", desc := "(III)I" } : Jvm.MethodName)) ∈ lw_all := lw_g (lw_at lw_m9 13 rfl) rfl
theorem q2052 : (Jvm.Cond.privateMethod ({ cls := "RainLoomModel", name := "nextPlace", desc := "(III)I" } : Jvm.MethodName)) ∈ lw_tbl := lw_at lw_m9 14 rfl
theorem q2053 : (Jvm.Cond.instanceMethod ({ cls := "RainLoomModel", name := "nextPlace", desc := "(III)I" } : Jvm.MethodName)) ∈ lw_all := lw_g (lw_at lw_m9 15 rfl) rfl
theorem q2054 : (Jvm.Cond.code ({ cls := "RainLoomModel", name := "nextPlace", desc := "(III)I" } : Jvm.MethodName) prog_22_method_85_code (5 : Nat) (Option.some Jvm.ClassFile.FieldType.int)) ∈ lw_all := lw_g (lw_at lw_m9 16 rfl) rfl
theorem q2055 : (Jvm.Cond.methodLink "RainLoomModel" (424 : Nat) ({ cls := "RainLoomModel", name := "isFree", desc := "(II)Z" } : Jvm.MethodName)) ∈ lw_all := lw_g (lw_at lw_m9 17 rfl) rfl
theorem q2056 : (Jvm.Cond.privateMethod ({ cls := "RainLoomModel", name := "isFree", desc := "(II)Z" } : Jvm.MethodName)) ∈ lw_tbl := lw_at lw_m9 18 rfl
theorem q2057 : (Jvm.Cond.instanceMethod ({ cls := "RainLoomModel", name := "isFree", desc := "(II)Z" } : Jvm.MethodName)) ∈ lw_all := lw_g (lw_at lw_m9 19 rfl) rfl
theorem q2058 : (Jvm.Cond.code ({ cls := "RainLoomModel", name := "isFree", desc := "(II)Z" } : Jvm.MethodName) prog_22_method_83_code (5 : Nat) (Option.some Jvm.ClassFile.FieldType.boolean)) ∈ lw_all := lw_g (lw_at lw_m9 20 rfl) rfl
theorem q2059 : (Jvm.Cond.methodLink "RainLoomModel" (433 : Nat) ({ cls := "RainLoomModel", name := "flips", desc := "(II)V" } : Jvm.MethodName)) ∈ lw_all := lw_g (lw_at lw_m9 21 rfl) rfl
theorem q2060 : (Jvm.Cond.privateMethod ({ cls := "RainLoomModel", name := "flips", desc := "(II)V" } : Jvm.MethodName)) ∈ lw_tbl := lw_at lw_m9 22 rfl
theorem q2061 : (Jvm.Cond.instanceMethod ({ cls := "RainLoomModel", name := "flips", desc := "(II)V" } : Jvm.MethodName)) ∈ lw_all := lw_g (lw_at lw_m9 23 rfl) rfl
theorem q2062 : (Jvm.Cond.code ({ cls := "RainLoomModel", name := "flips", desc := "(II)V" } : Jvm.MethodName) prog_22_method_84_code (5 : Nat) (Option.none : Option Jvm.ClassFile.FieldType)) ∈ lw_all := lw_g (lw_at lw_m9 24 rfl) rfl
theorem q2064 : (Jvm.Cond.instanceMethod ({ cls := "RainLoomModel", name := "then", desc := "(III)I" } : Jvm.MethodName)) ∈ lw_all := lw_g (lw_at lw_m9 26 rfl) rfl
theorem q2065 : (Jvm.Cond.selects "RainLoomModel" ({ cls := "RainLoomModel", name := "then", desc := "(III)I" } : Jvm.MethodName) ({ cls := "RainLoomModel", name := "then", desc := "(III)I" } : Jvm.MethodName)) ∈ lw_all := lw_g (lw_at lw_m9 27 rfl) rfl
theorem q2066 : (Jvm.Cond.code ({ cls := "RainLoomModel", name := "then", desc := "(III)I" } : Jvm.MethodName) prog_22_method_90_code (4 : Nat) (Option.some Jvm.ClassFile.FieldType.int)) ∈ lw_all := lw_g (lw_at lw_m9 28 rfl) rfl
theorem q2067 : (Jvm.Cond.methodLink "RainLoomModel" (442 : Nat) ({ cls := "RainLoomModel", name := "isLong", desc := "(I)Z" } : Jvm.MethodName)) ∈ lw_all := lw_g (lw_at lw_m9 29 rfl) rfl
theorem q2068 : (Jvm.Cond.static ({ cls := "RainLoomModel", name := "isLong", desc := "(I)Z" } : Jvm.MethodName)) ∈ lw_all := lw_g (lw_at lw_m9 30 rfl) rfl
theorem q2069 : (Jvm.Cond.code ({ cls := "RainLoomModel", name := "isLong", desc := "(I)Z" } : Jvm.MethodName) prog_22_method_89_code (1 : Nat) (Option.some Jvm.ClassFile.FieldType.boolean)) ∈ lw_all := lw_g (lw_at lw_m9 31 rfl) rfl
theorem q2071 : (Jvm.Cond.instanceMethod ({ cls := "RainLoomModel", name := "all", desc := "(II)I" } : Jvm.MethodName)) ∈ lw_all := lw_g (lw_at lw_m9 33 rfl) rfl
theorem q2072 : (Jvm.Cond.selects "RainLoomModel" ({ cls := "RainLoomModel", name := "all", desc := "(II)I" } : Jvm.MethodName) ({ cls := "RainLoomModel", name := "all", desc := "(II)I" } : Jvm.MethodName)) ∈ lw_all := lw_g (lw_at lw_m9 34 rfl) rfl
theorem q2073 : (Jvm.Cond.code ({ cls := "RainLoomModel", name := "all", desc := "(II)I" } : Jvm.MethodName) prog_22_method_92_code (3 : Nat) (Option.some Jvm.ClassFile.FieldType.int)) ∈ lw_all := lw_g (lw_at lw_m9 35 rfl) rfl
theorem q2074 : (Jvm.Cond.methodLink "RainLoomModel" (445 : Nat) ({ cls := "RainLoomModel", name := "moreIn", desc := "(I)I" } : Jvm.MethodName)) ∈ lw_all := lw_g (lw_at lw_m9 36 rfl) rfl
theorem q2075 : (Jvm.Cond.privateMethod ({ cls := "RainLoomModel", name := "moreIn", desc := "(I)I" } : Jvm.MethodName)) ∈ lw_tbl := lw_at lw_m9 37 rfl
theorem q2076 : (Jvm.Cond.instanceMethod ({ cls := "RainLoomModel", name := "moreIn", desc := "(I)I" } : Jvm.MethodName)) ∈ lw_all := lw_g (lw_at lw_m9 38 rfl) rfl
theorem q2077 : (Jvm.Cond.code ({ cls := "RainLoomModel", name := "moreIn", desc := "(I)I" } : Jvm.MethodName) prog_22_method_91_code (4 : Nat) (Option.some Jvm.ClassFile.FieldType.int)) ∈ lw_all := lw_g (lw_at lw_m9 39 rfl) rfl
theorem q2079 : (Jvm.Cond.instanceMethod ({ cls := "RainLoomModel", name := "wettest", desc := "(II)I" } : Jvm.MethodName)) ∈ lw_all := lw_g (lw_at lw_m9 41 rfl) rfl
theorem q2080 : (Jvm.Cond.selects "RainLoomModel" ({ cls := "RainLoomModel", name := "wettest", desc := "(II)I" } : Jvm.MethodName) ({ cls := "RainLoomModel", name := "wettest", desc := "(II)I" } : Jvm.MethodName)) ∈ lw_all := lw_g (lw_at lw_m9 42 rfl) rfl
theorem q2081 : (Jvm.Cond.code ({ cls := "RainLoomModel", name := "wettest", desc := "(II)I" } : Jvm.MethodName) prog_22_method_93_code (5 : Nat) (Option.some Jvm.ClassFile.FieldType.int)) ∈ lw_all := lw_g (lw_at lw_m9 43 rfl) rfl
theorem q2083 : (Jvm.Cond.instanceMethod ({ cls := "RainLoomModel", name := "dry", desc := "(I)I" } : Jvm.MethodName)) ∈ lw_all := lw_g (lw_at lw_m9 45 rfl) rfl
theorem q2084 : (Jvm.Cond.selects "RainLoomModel" ({ cls := "RainLoomModel", name := "dry", desc := "(I)I" } : Jvm.MethodName) ({ cls := "RainLoomModel", name := "dry", desc := "(I)I" } : Jvm.MethodName)) ∈ lw_all := lw_g (lw_at lw_m9 46 rfl) rfl
theorem q2085 : (Jvm.Cond.code ({ cls := "RainLoomModel", name := "dry", desc := "(I)I" } : Jvm.MethodName) prog_22_method_94_code (4 : Nat) (Option.some Jvm.ClassFile.FieldType.int)) ∈ lw_all := lw_g (lw_at lw_m9 47 rfl) rfl
theorem q2087 : (Jvm.Cond.instanceMethod ({ cls := "RainLoomModel", name := "emptyBy", desc := "()I" } : Jvm.MethodName)) ∈ lw_all := lw_g (lw_at lw_m9 49 rfl) rfl
theorem q2088 : (Jvm.Cond.selects "RainLoomModel" ({ cls := "RainLoomModel", name := "emptyBy", desc := "()I" } : Jvm.MethodName) ({ cls := "RainLoomModel", name := "emptyBy", desc := "()I" } : Jvm.MethodName)) ∈ lw_all := lw_g (lw_at lw_m9 50 rfl) rfl
theorem q2089 : (Jvm.Cond.code ({ cls := "RainLoomModel", name := "emptyBy", desc := "()I" } : Jvm.MethodName) prog_22_method_95_code (2 : Nat) (Option.some Jvm.ClassFile.FieldType.int)) ∈ lw_all := lw_g (lw_at lw_m9 51 rfl) rfl
theorem q2091 : (Jvm.Cond.instanceMethod ({ cls := "RainLoomModel", name := "serve", desc := "(III)I" } : Jvm.MethodName)) ∈ lw_all := lw_g (lw_at lw_m9 53 rfl) rfl
theorem q2092 : (Jvm.Cond.selects "RainLoomModel" ({ cls := "RainLoomModel", name := "serve", desc := "(III)I" } : Jvm.MethodName) ({ cls := "RainLoomModel", name := "serve", desc := "(III)I" } : Jvm.MethodName)) ∈ lw_all := lw_g (lw_at lw_m9 54 rfl) rfl
theorem q2093 : (Jvm.Cond.code ({ cls := "RainLoomModel", name := "serve", desc := "(III)I" } : Jvm.MethodName) prog_22_method_100_code (5 : Nat) (Option.some Jvm.ClassFile.FieldType.int)) ∈ lw_all := lw_g (lw_at lw_m9 55 rfl) rfl
theorem q2094 : (Jvm.Cond.methodLink "RainLoomModel" (464 : Nat) ({ cls := "RainLoomModel", name := "fillsServe", desc := "(II)V" } : Jvm.MethodName)) ∈ lw_all := lw_g (lw_at lw_m9 56 rfl) rfl
theorem q2095 : (Jvm.Cond.privateMethod ({ cls := "RainLoomModel", name := "fillsServe", desc := "(II)V" } : Jvm.MethodName)) ∈ lw_tbl := lw_at lw_m9 57 rfl
theorem q2096 : (Jvm.Cond.instanceMethod ({ cls := "RainLoomModel", name := "fillsServe", desc := "(II)V" } : Jvm.MethodName)) ∈ lw_all := lw_g (lw_at lw_m9 58 rfl) rfl
theorem q2097 : (Jvm.Cond.code ({ cls := "RainLoomModel", name := "fillsServe", desc := "(II)V" } : Jvm.MethodName) prog_22_method_99_code (5 : Nat) (Option.none : Option Jvm.ClassFile.FieldType)) ∈ lw_all := lw_g (lw_at lw_m9 59 rfl) rfl
theorem q2098 : (Jvm.Cond.methodLink "RainLoomModel" (451 : Nat) ({ cls := "RainLoomModel", name := "offBy", desc := "(IIII)I" } : Jvm.MethodName)) ∈ lw_all := lw_g (lw_at lw_m9 60 rfl) rfl
theorem q2099 : (Jvm.Cond.privateMethod ({ cls := "RainLoomModel", name := "offBy", desc := "(IIII)I" } : Jvm.MethodName)) ∈ lw_tbl := lw_at lw_m9 61 rfl
theorem q2100 : (Jvm.Cond.instanceMethod ({ cls := "RainLoomModel", name := "offBy", desc := "(IIII)I" } : Jvm.MethodName)) ∈ lw_all := lw_g (lw_at lw_m9 62 rfl) rfl
theorem q2101 : (Jvm.Cond.code ({ cls := "RainLoomModel", name := "offBy", desc := "(IIII)I" } : Jvm.MethodName) prog_22_method_97_code (6 : Nat) (Option.some Jvm.ClassFile.FieldType.int)) ∈ lw_all := lw_g (lw_at lw_m9 63 rfl) rfl
theorem q2102 : (Jvm.Cond.methodLink "RainLoomModel" (448 : Nat) ({ cls := "RainLoomModel", name := "sixes", desc := "(I)I" } : Jvm.MethodName)) ∈ lw_all := lw_g (lw_at lw_m9 64 rfl) rfl
theorem q2103 : (Jvm.Cond.static ({ cls := "RainLoomModel", name := "sixes", desc := "(I)I" } : Jvm.MethodName)) ∈ lw_all := lw_g (lw_at lw_m9 65 rfl) rfl
theorem q2104 : (Jvm.Cond.code ({ cls := "RainLoomModel", name := "sixes", desc := "(I)I" } : Jvm.MethodName) prog_22_method_96_code (3 : Nat) (Option.some Jvm.ClassFile.FieldType.int)) ∈ lw_all := lw_g (lw_at lw_m9 66 rfl) rfl
theorem q2105 : (Jvm.Cond.methodLink "RainLoomModel" (458 : Nat) ({ cls := "RainLoomModel", name := "offAll", desc := "(I)I" } : Jvm.MethodName)) ∈ lw_all := lw_g (lw_at lw_m9 67 rfl) rfl
theorem q2106 : (Jvm.Cond.privateMethod ({ cls := "RainLoomModel", name := "offAll", desc := "(I)I" } : Jvm.MethodName)) ∈ lw_tbl := lw_at lw_m9 68 rfl
theorem q2107 : (Jvm.Cond.instanceMethod ({ cls := "RainLoomModel", name := "offAll", desc := "(I)I" } : Jvm.MethodName)) ∈ lw_all := lw_g (lw_at lw_m9 69 rfl) rfl
theorem q2108 : (Jvm.Cond.code ({ cls := "RainLoomModel", name := "offAll", desc := "(I)I" } : Jvm.MethodName) prog_22_method_98_code (7 : Nat) (Option.some Jvm.ClassFile.FieldType.int)) ∈ lw_all := lw_g (lw_at lw_m9 70 rfl) rfl
theorem q2110 : (Jvm.Cond.instanceMethod ({ cls := "RainLoomModel", name := "suits", desc := "(III)I" } : Jvm.MethodName)) ∈ lw_all := lw_g (lw_at lw_m9 72 rfl) rfl
theorem q2111 : (Jvm.Cond.selects "RainLoomModel" ({ cls := "RainLoomModel", name := "suits", desc := "(III)I" } : Jvm.MethodName) ({ cls := "RainLoomModel", name := "suits", desc := "(III)I" } : Jvm.MethodName)) ∈ lw_all := lw_g (lw_at lw_m9 73 rfl) rfl
theorem q2112 : (Jvm.Cond.code ({ cls := "RainLoomModel", name := "suits", desc := "(III)I" } : Jvm.MethodName) prog_22_method_101_code (6 : Nat) (Option.some Jvm.ClassFile.FieldType.int)) ∈ lw_all := lw_g (lw_at lw_m9 74 rfl) rfl
theorem q2114 : (Jvm.Cond.instanceMethod ({ cls := "RainLoomModel", name := "now", desc := "(IZ)I" } : Jvm.MethodName)) ∈ lw_all := lw_g (lw_at lw_m9 76 rfl) rfl
theorem q2115 : (Jvm.Cond.selects "RainLoomModel" ({ cls := "RainLoomModel", name := "now", desc := "(IZ)I" } : Jvm.MethodName) ({ cls := "RainLoomModel", name := "now", desc := "(IZ)I" } : Jvm.MethodName)) ∈ lw_all := lw_g (lw_at lw_m9 77 rfl) rfl
theorem q2116 : (Jvm.Cond.code ({ cls := "RainLoomModel", name := "now", desc := "(IZ)I" } : Jvm.MethodName) prog_22_method_102_code (5 : Nat) (Option.some Jvm.ClassFile.FieldType.int)) ∈ lw_all := lw_g (lw_at lw_m9 78 rfl) rfl
theorem q2118 : (Jvm.Cond.instanceMethod ({ cls := "RainLoomModel", name := "year", desc := "(II)I" } : Jvm.MethodName)) ∈ lw_all := lw_g (lw_at lw_m9 80 rfl) rfl
theorem q2119 : (Jvm.Cond.selects "RainLoomModel" ({ cls := "RainLoomModel", name := "year", desc := "(II)I" } : Jvm.MethodName) ({ cls := "RainLoomModel", name := "year", desc := "(II)I" } : Jvm.MethodName)) ∈ lw_all := lw_g (lw_at lw_m9 81 rfl) rfl
theorem q2120 : (Jvm.Cond.code ({ cls := "RainLoomModel", name := "year", desc := "(II)I" } : Jvm.MethodName) prog_22_method_103_code (5 : Nat) (Option.some Jvm.ClassFile.FieldType.int)) ∈ lw_all := lw_g (lw_at lw_m9 82 rfl) rfl
theorem q2122 : (Jvm.Cond.instanceMethod ({ cls := "RainLoomModel", name := "tell", desc := "(III)I" } : Jvm.MethodName)) ∈ lw_all := lw_g (lw_at lw_m9 84 rfl) rfl
theorem q2123 : (Jvm.Cond.selects "RainLoomModel" ({ cls := "RainLoomModel", name := "tell", desc := "(III)I" } : Jvm.MethodName) ({ cls := "RainLoomModel", name := "tell", desc := "(III)I" } : Jvm.MethodName)) ∈ lw_all := lw_g (lw_at lw_m9 85 rfl) rfl
theorem q2124 : (Jvm.Cond.code ({ cls := "RainLoomModel", name := "tell", desc := "(III)I" } : Jvm.MethodName) prog_22_method_104_code (4 : Nat) (Option.some Jvm.ClassFile.FieldType.int)) ∈ lw_all := lw_g (lw_at lw_m9 86 rfl) rfl
theorem q2126 : (Jvm.Cond.instanceMethod ({ cls := "RainLoomModel", name := "forget", desc := "()I" } : Jvm.MethodName)) ∈ lw_all := lw_g (lw_at lw_m9 88 rfl) rfl
theorem q2127 : (Jvm.Cond.selects "RainLoomModel" ({ cls := "RainLoomModel", name := "forget", desc := "()I" } : Jvm.MethodName) ({ cls := "RainLoomModel", name := "forget", desc := "()I" } : Jvm.MethodName)) ∈ lw_all := lw_g (lw_at lw_m9 89 rfl) rfl
theorem q2128 : (Jvm.Cond.code ({ cls := "RainLoomModel", name := "forget", desc := "()I" } : Jvm.MethodName) prog_22_method_105_code (2 : Nat) (Option.some Jvm.ClassFile.FieldType.int)) ∈ lw_all := lw_g (lw_at lw_m9 90 rfl) rfl
theorem q2130 : (Jvm.Cond.instanceMethod ({ cls := "RainLoomModel", name := "fell", desc := "(IIII)I" } : Jvm.MethodName)) ∈ lw_all := lw_g (lw_at lw_m9 92 rfl) rfl
theorem q2131 : (Jvm.Cond.selects "RainLoomModel" ({ cls := "RainLoomModel", name := "fell", desc := "(IIII)I" } : Jvm.MethodName) ({ cls := "RainLoomModel", name := "fell", desc := "(IIII)I" } : Jvm.MethodName)) ∈ lw_all := lw_g (lw_at lw_m9 93 rfl) rfl
theorem q2132 : (Jvm.Cond.code ({ cls := "RainLoomModel", name := "fell", desc := "(IIII)I" } : Jvm.MethodName) prog_22_method_109_code (7 : Nat) (Option.some Jvm.ClassFile.FieldType.int)) ∈ lw_all := lw_g (lw_at lw_m9 94 rfl) rfl
theorem q2133 : (Jvm.Cond.methodLink "RainLoomModel" (470 : Nat) ({ cls := "RainLoomModel", name := "isAsked", desc := "(III)Z" } : Jvm.MethodName)) ∈ lw_all := lw_g (lw_at lw_m9 95 rfl) rfl
theorem q2134 : (Jvm.Cond.privateMethod ({ cls := "RainLoomModel", name := "isAsked", desc := "(III)Z" } : Jvm.MethodName)) ∈ lw_tbl := lw_at lw_m9 96 rfl
theorem q2135 : (Jvm.Cond.instanceMethod ({ cls := "RainLoomModel", name := "isAsked", desc := "(III)Z" } : Jvm.MethodName)) ∈ lw_all := lw_g (lw_at lw_m9 97 rfl) rfl
theorem q2136 : (Jvm.Cond.code ({ cls := "RainLoomModel", name := "isAsked", desc := "(III)Z" } : Jvm.MethodName) prog_22_method_108_code (4 : Nat) (Option.some Jvm.ClassFile.FieldType.boolean)) ∈ lw_all := lw_g (lw_at lw_m9 98 rfl) rfl
theorem q2137 : (Jvm.Cond.methodLink "RainLoomModel" (473 : Nat) ({ cls := "RainLoomModel", name := "isWay", desc := "(IIII)Z" } : Jvm.MethodName)) ∈ lw_all := lw_g (lw_at lw_m9 99 rfl) rfl
theorem q2138 : (Jvm.Cond.privateMethod ({ cls := "RainLoomModel", name := "isWay", desc := "(IIII)Z" } : Jvm.MethodName)) ∈ lw_tbl := lw_at lw_m9 100 rfl
theorem q2139 : (Jvm.Cond.instanceMethod ({ cls := "RainLoomModel", name := "isWay", desc := "(IIII)Z" } : Jvm.MethodName)) ∈ lw_all := lw_g (lw_at lw_m9 101 rfl) rfl
theorem q2140 : (Jvm.Cond.code ({ cls := "RainLoomModel", name := "isWay", desc := "(IIII)Z" } : Jvm.MethodName) prog_22_method_107_code (6 : Nat) (Option.some Jvm.ClassFile.FieldType.boolean)) ∈ lw_all := lw_g (lw_at lw_m9 102 rfl) rfl
theorem q2141 : (Jvm.Cond.methodLink "RainLoomModel" (467 : Nat) ({ cls := "RainLoomModel", name := "wetBy", desc := "(IIII)I" } : Jvm.MethodName)) ∈ lw_all := lw_g (lw_at lw_m9 103 rfl) rfl
theorem q2142 : (Jvm.Cond.privateMethod ({ cls := "RainLoomModel", name := "wetBy", desc := "(IIII)I" } : Jvm.MethodName)) ∈ lw_tbl := lw_at lw_m9 104 rfl
theorem q2143 : (Jvm.Cond.instanceMethod ({ cls := "RainLoomModel", name := "wetBy", desc := "(IIII)I" } : Jvm.MethodName)) ∈ lw_all := lw_g (lw_at lw_m9 105 rfl) rfl
theorem q2144 : (Jvm.Cond.code ({ cls := "RainLoomModel", name := "wetBy", desc := "(IIII)I" } : Jvm.MethodName) prog_22_method_106_code (7 : Nat) (Option.some Jvm.ClassFile.FieldType.int)) ∈ lw_all := lw_g (lw_at lw_m9 106 rfl) rfl
theorem q2146 : (Jvm.Cond.instanceMethod ({ cls := "RainLoomModel", name := "look", desc := "(III)I" } : Jvm.MethodName)) ∈ lw_all := lw_g (lw_at lw_m9 108 rfl) rfl
theorem q2147 : (Jvm.Cond.selects "RainLoomModel" ({ cls := "RainLoomModel", name := "look", desc := "(III)I" } : Jvm.MethodName) ({ cls := "RainLoomModel", name := "look", desc := "(III)I" } : Jvm.MethodName)) ∈ lw_all := lw_g (lw_at lw_m9 109 rfl) rfl
theorem q2148 : (Jvm.Cond.code ({ cls := "RainLoomModel", name := "look", desc := "(III)I" } : Jvm.MethodName) prog_22_method_111_code (8 : Nat) (Option.some Jvm.ClassFile.FieldType.int)) ∈ lw_all := lw_g (lw_at lw_m9 110 rfl) rfl
theorem q2149 : (Jvm.Cond.methodLink "RainLoomModel" (477 : Nat) ({ cls := "RainLoomModel", name := "worstAt", desc := "(III)I" } : Jvm.MethodName)) ∈ lw_all := lw_g (lw_at lw_m9 111 rfl) rfl
theorem q2150 : (Jvm.Cond.privateMethod ({ cls := "RainLoomModel", name := "worstAt", desc := "(III)I" } : Jvm.MethodName)) ∈ lw_tbl := lw_at lw_m9 112 rfl
theorem q2151 : (Jvm.Cond.instanceMethod ({ cls := "RainLoomModel", name := "worstAt", desc := "(III)I" } : Jvm.MethodName)) ∈ lw_all := lw_g (lw_at lw_m9 113 rfl) rfl
theorem q2152 : (Jvm.Cond.code ({ cls := "RainLoomModel", name := "worstAt", desc := "(III)I" } : Jvm.MethodName) prog_22_method_110_code (6 : Nat) (Option.some Jvm.ClassFile.FieldType.int)) ∈ lw_all := lw_g (lw_at lw_m9 114 rfl) rfl
theorem q2154 : (Jvm.Cond.instanceMethod ({ cls := "RainLoomModel", name := "hold", desc := "(I)Z" } : Jvm.MethodName)) ∈ lw_all := lw_g (lw_at lw_m9 116 rfl) rfl
theorem q2155 : (Jvm.Cond.selects "RainLoomModel" ({ cls := "RainLoomModel", name := "hold", desc := "(I)Z" } : Jvm.MethodName) ({ cls := "RainLoomModel", name := "hold", desc := "(I)Z" } : Jvm.MethodName)) ∈ lw_all := lw_g (lw_at lw_m9 117 rfl) rfl
theorem q2156 : (Jvm.Cond.code ({ cls := "RainLoomModel", name := "hold", desc := "(I)Z" } : Jvm.MethodName) prog_22_method_112_code (3 : Nat) (Option.some Jvm.ClassFile.FieldType.boolean)) ∈ lw_all := lw_g (lw_at lw_m9 118 rfl) rfl
theorem q2158 : (Jvm.Cond.instanceMethod ({ cls := "RainLoomModel", name := "restore", desc := "(I)Z" } : Jvm.MethodName)) ∈ lw_all := lw_g (lw_at lw_m9 120 rfl) rfl
theorem q2159 : (Jvm.Cond.selects "RainLoomModel" ({ cls := "RainLoomModel", name := "restore", desc := "(I)Z" } : Jvm.MethodName) ({ cls := "RainLoomModel", name := "restore", desc := "(I)Z" } : Jvm.MethodName)) ∈ lw_all := lw_g (lw_at lw_m9 121 rfl) rfl
theorem q2160 : (Jvm.Cond.code ({ cls := "RainLoomModel", name := "restore", desc := "(I)Z" } : Jvm.MethodName) prog_22_method_113_code (3 : Nat) (Option.some Jvm.ClassFile.FieldType.boolean)) ∈ lw_all := lw_g (lw_at lw_m9 122 rfl) rfl
theorem q2162 : (Jvm.Cond.instanceMethod ({ cls := "RainLoomModel", name := "count", desc := "(I)I" } : Jvm.MethodName)) ∈ lw_all := lw_g (lw_at lw_m9 124 rfl) rfl
theorem q2163 : (Jvm.Cond.selects "RainLoomModel" ({ cls := "RainLoomModel", name := "count", desc := "(I)I" } : Jvm.MethodName) ({ cls := "RainLoomModel", name := "count", desc := "(I)I" } : Jvm.MethodName)) ∈ lw_all := lw_g (lw_at lw_m9 125 rfl) rfl
theorem q2164 : (Jvm.Cond.code ({ cls := "RainLoomModel", name := "count", desc := "(I)I" } : Jvm.MethodName) prog_22_method_115_code (2 : Nat) (Option.some Jvm.ClassFile.FieldType.int)) ∈ lw_all := lw_g (lw_at lw_m9 126 rfl) rfl
theorem q2165 : (Jvm.Cond.methodLink "RainLoomModel" (480 : Nat) ({ cls := "RainLoomModel", name := "sumNow", desc := "(II)I" } : Jvm.MethodName)) ∈ lw_all := lw_g (lw_at lw_m9 127 rfl) rfl
theorem q2166 : (Jvm.Cond.privateMethod ({ cls := "RainLoomModel", name := "sumNow", desc := "(II)I" } : Jvm.MethodName)) ∈ lw_tbl := lw_at lw_m9 128 rfl
theorem q2167 : (Jvm.Cond.instanceMethod ({ cls := "RainLoomModel", name := "sumNow", desc := "(II)I" } : Jvm.MethodName)) ∈ lw_all := lw_g (lw_at lw_m9 129 rfl) rfl
theorem q2168 : (Jvm.Cond.code ({ cls := "RainLoomModel", name := "sumNow", desc := "(II)I" } : Jvm.MethodName) prog_22_method_114_code (5 : Nat) (Option.some Jvm.ClassFile.FieldType.int)) ∈ lw_all := lw_g (lw_at lw_m9 130 rfl) rfl
theorem q2193 : (Jvm.Cond.castable "RainLoomModel" "java/lang/Object") ∈ lw_tbl := lw_at lw_m9 155 rfl
theorem in_X12 : ∀ w ∈ wsX120, w ∈ lw_all := lw_in wsX120 [1596, 1598, 1600, 1602, 1604, 1606, 1608, 1610, 1612, 1614, 1616, 1618, 1620, 1622, 1624, 1626, 1628, 1630, 1632, 1634, 1636, 1638, 1640, 1642, 1644, 1646, 1648, 1650, 1652, 1654, 1656, 1658, 1660, 1662, 1664, 1666, 1668, 1670, 1672, 1674, 1676, 1678, 1680, 1682, 1684, 1686, 1688, 1690, 1692, 1694, 1696, 1698, 1700, 1702, 1704, 1706, 1708, 1710, 1712, 1714, 1716, 1718, 1720, 1722, 1724, 1726, 1728, 1730, 1732, 1734, 1736, 1738] (by decide +kernel) (by decide +kernel)
