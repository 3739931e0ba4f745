/-! equations, an instruction a row: printed by gen_eq.py -/
set_option maxRecDepth 100000
section
variable {d : Nat} {h : jv_H} {lc : jv_L} {st : List Value} {u v w : Int32} {lv lw : Int64} {a b : Nat} {r : Value} {x0 x1 x2 x3 x4 x5 x6 x7 x8 x9 x10 x11 x12 x13 x14 x15 x16 x17 x18 x19 x20 x21 x22 x23 x24 x25 x26 x27 x28 x29 : Option Value} {y0 y1 y2 y3 y4 y5 y6 y7 z0 z1 z2 z3 z4 z5 z6 z7 z8 : Value} {a0 a1 a2 a3 a4 a5 a6 a7 a8 : Nat} {i0 i1 i2 i3 i4 i5 i6 i7 i8 : Int32} {l0 l1 l2 l3 l4 l5 l6 l7 l8 : Int64}
theorem jm_1 : jt_M[1]? = some (1, yX12_init, cX12_init, 1, (Option.none : Option Jvm.ClassFile.FieldType), []) := rfl
theorem jo_1 : jv_own 1 = 1 := rfl
theorem ji_1 : jv_init 1 = true := rfl
theorem jr_1 : jv_ret 1 = (Option.none : Option Jvm.ClassFile.FieldType) := rfl
theorem jm_2 : jt_M[2]? = some (1, yX12_plain, cX12_plain, 3, (Option.none : Option Jvm.ClassFile.FieldType), []) := rfl
theorem jo_2 : jv_own 2 = 1 := rfl
theorem ji_2 : jv_init 2 = false := rfl
theorem jr_2 : jv_ret 2 = (Option.none : Option Jvm.ClassFile.FieldType) := rfl
theorem jm_3 : jt_M[3]? = some (1, yX12_word, cX12_word, 7, (Option.some Jvm.ClassFile.FieldType.long), []) := rfl
theorem jo_3 : jv_own 3 = 1 := rfl
theorem ji_3 : jv_init 3 = false := rfl
theorem jr_3 : jv_ret 3 = (Option.some Jvm.ClassFile.FieldType.long) := rfl
theorem jm_4 : jt_M[4]? = some (1, yX12_appends, cX12_appends, 3, (Option.some Jvm.ClassFile.FieldType.long), []) := rfl
theorem jo_4 : jv_own 4 = 1 := rfl
theorem ji_4 : jv_init 4 = false := rfl
theorem jr_4 : jv_ret 4 = (Option.some Jvm.ClassFile.FieldType.long) := rfl
theorem jm_5 : jt_M[5]? = some (1, yX12_begins, cX12_begins, 2, (Option.none : Option Jvm.ClassFile.FieldType), []) := rfl
theorem jo_5 : jv_own 5 = 1 := rfl
theorem ji_5 : jv_init 5 = false := rfl
theorem jr_5 : jv_ret 5 = (Option.none : Option Jvm.ClassFile.FieldType) := rfl
theorem jm_6 : jt_M[6]? = some (1, yX12_keepsRow, cX12_keepsRow, 2, (Option.none : Option Jvm.ClassFile.FieldType), []) := rfl
theorem jo_6 : jv_own 6 = 1 := rfl
theorem ji_6 : jv_init 6 = false := rfl
theorem jr_6 : jv_ret 6 = (Option.none : Option Jvm.ClassFile.FieldType) := rfl
theorem jm_7 : jt_M[7]? = some (1, yX12_feed, cX12_feed, 6, (Option.some Jvm.ClassFile.FieldType.int), []) := rfl
theorem jo_7 : jv_own 7 = 1 := rfl
theorem ji_7 : jv_init 7 = false := rfl
theorem jr_7 : jv_ret 7 = (Option.some Jvm.ClassFile.FieldType.int) := rfl
theorem jm_8 : jt_M[8]? = some (1, yX12_put, cX12_put, 3, (Option.none : Option Jvm.ClassFile.FieldType), []) := rfl
theorem jo_8 : jv_own 8 = 1 := rfl
theorem ji_8 : jv_init 8 = false := rfl
theorem jr_8 : jv_ret 8 = (Option.none : Option Jvm.ClassFile.FieldType) := rfl
theorem jm_9 : jt_M[9]? = some (1, yX12_back, cX12_back, 2, (Option.some Jvm.ClassFile.FieldType.int), []) := rfl
theorem jo_9 : jv_own 9 = 1 := rfl
theorem ji_9 : jv_init 9 = false := rfl
theorem jr_9 : jv_ret 9 = (Option.some Jvm.ClassFile.FieldType.int) := rfl
theorem jm_10 : jt_M[10]? = some (1, yX12_read, cX12_read, 2, (Option.some Jvm.ClassFile.FieldType.int), []) := rfl
theorem jo_10 : jv_own 10 = 1 := rfl
theorem ji_10 : jv_init 10 = false := rfl
theorem jr_10 : jv_ret 10 = (Option.some Jvm.ClassFile.FieldType.int) := rfl
theorem jm_11 : jt_M[11]? = some (1, yX12_cutsUp, cX12_cutsUp, 8, (Option.none : Option Jvm.ClassFile.FieldType), []) := rfl
theorem jo_11 : jv_own 11 = 1 := rfl
theorem ji_11 : jv_init 11 = false := rfl
theorem jr_11 : jv_ret 11 = (Option.none : Option Jvm.ClassFile.FieldType) := rfl
theorem jm_12 : jt_M[12]? = some (1, yX12_byteAt, cX12_byteAt, 2, (Option.some Jvm.ClassFile.FieldType.int), []) := rfl
theorem jo_12 : jv_own 12 = 1 := rfl
theorem ji_12 : jv_init 12 = false := rfl
theorem jr_12 : jv_ret 12 = (Option.some Jvm.ClassFile.FieldType.int) := rfl
theorem jm_13 : jt_M[13]? = some (1, yX12_token, cX12_token, 6, (Option.none : Option Jvm.ClassFile.FieldType), []) := rfl
theorem jo_13 : jv_own 13 = 1 := rfl
theorem ji_13 : jv_init 13 = false := rfl
theorem jr_13 : jv_ret 13 = (Option.none : Option Jvm.ClassFile.FieldType) := rfl
theorem jm_14 : jt_M[14]? = some (1, yX12_isLetter, cX12_isLetter, 1, (Option.some Jvm.ClassFile.FieldType.boolean), []) := rfl
theorem jo_14 : jv_own 14 = 1 := rfl
theorem ji_14 : jv_init 14 = false := rfl
theorem jr_14 : jv_ret 14 = (Option.some Jvm.ClassFile.FieldType.boolean) := rfl
theorem jm_15 : jt_M[15]? = some (1, yX12_isDigit, cX12_isDigit, 1, (Option.some Jvm.ClassFile.FieldType.boolean), []) := rfl
theorem jo_15 : jv_own 15 = 1 := rfl
theorem ji_15 : jv_init 15 = false := rfl
theorem jr_15 : jv_ret 15 = (Option.some Jvm.ClassFile.FieldType.boolean) := rfl
theorem jm_16 : jt_M[16]? = some (1, yX12_sign, cX12_sign, 5, (Option.some Jvm.ClassFile.FieldType.int), []) := rfl
theorem jo_16 : jv_own 16 = 1 := rfl
theorem ji_16 : jv_init 16 = false := rfl
theorem jr_16 : jv_ret 16 = (Option.some Jvm.ClassFile.FieldType.int) := rfl
theorem jm_17 : jt_M[17]? = some (1, yX12_is, cX12_is, 2, (Option.some Jvm.ClassFile.FieldType.boolean), []) := rfl
theorem jo_17 : jv_own 17 = 1 := rfl
theorem ji_17 : jv_init 17 = false := rfl
theorem jr_17 : jv_ret 17 = (Option.some Jvm.ClassFile.FieldType.boolean) := rfl
theorem jm_18 : jt_M[18]? = some (1, yX12_tellOne, cX12_tellOne, 2, (Option.none : Option Jvm.ClassFile.FieldType), []) := rfl
theorem jo_18 : jv_own 18 = 1 := rfl
theorem ji_18 : jv_init 18 = false := rfl
theorem jr_18 : jv_ret 18 = (Option.none : Option Jvm.ClassFile.FieldType) := rfl
theorem jm_19 : jt_M[19]? = some (1, yX12_roomFor, cX12_roomFor, 3, (Option.none : Option Jvm.ClassFile.FieldType), []) := rfl
theorem jo_19 : jv_own 19 = 1 := rfl
theorem ji_19 : jv_init 19 = false := rfl
theorem jr_19 : jv_ret 19 = (Option.none : Option Jvm.ClassFile.FieldType) := rfl
theorem jm_20 : jt_M[20]? = some (1, yX12_fail, cX12_fail, 2, (Option.none : Option Jvm.ClassFile.FieldType), []) := rfl
theorem jo_20 : jv_own 20 = 1 := rfl
theorem ji_20 : jv_init 20 = false := rfl
theorem jr_20 : jv_ret 20 = (Option.none : Option Jvm.ClassFile.FieldType) := rfl
theorem jm_21 : jt_M[21]? = some (1, yX12_goesOn, cX12_goesOn, 1, (Option.none : Option Jvm.ClassFile.FieldType), []) := rfl
theorem jo_21 : jv_own 21 = 1 := rfl
theorem ji_21 : jv_init 21 = false := rfl
theorem jr_21 : jv_ret 21 = (Option.none : Option Jvm.ClassFile.FieldType) := rfl
theorem jm_22 : jt_M[22]? = some (1, yX12_tellRow, cX12_tellRow, 7, (Option.none : Option Jvm.ClassFile.FieldType), []) := rfl
theorem jo_22 : jv_own 22 = 1 := rfl
theorem ji_22 : jv_init 22 = false := rfl
theorem jr_22 : jv_ret 22 = (Option.none : Option Jvm.ClassFile.FieldType) := rfl
theorem jm_23 : jt_M[23]? = some (1, yX12_must, cX12_must, 2, (Option.none : Option Jvm.ClassFile.FieldType), []) := rfl
theorem jo_23 : jv_own 23 = 1 := rfl
theorem ji_23 : jv_init 23 = false := rfl
theorem jr_23 : jv_ret 23 = (Option.none : Option Jvm.ClassFile.FieldType) := rfl
theorem jm_24 : jt_M[24]? = some (1, yX12_wrong, cX12_wrong, 4, (Option.none : Option Jvm.ClassFile.FieldType), []) := rfl
theorem jo_24 : jv_own 24 = 1 := rfl
theorem ji_24 : jv_init 24 = false := rfl
theorem jr_24 : jv_ret 24 = (Option.none : Option Jvm.ClassFile.FieldType) := rfl
theorem jm_25 : jt_M[25]? = some (1, yX12_tellField, cX12_tellField, 3, (Option.none : Option Jvm.ClassFile.FieldType), []) := rfl
theorem jo_25 : jv_own 25 = 1 := rfl
theorem ji_25 : jv_init 25 = false := rfl
theorem jr_25 : jv_ret 25 = (Option.none : Option Jvm.ClassFile.FieldType) := rfl
theorem jm_26 : jt_M[26]? = some (1, yX12_named, cX12_named, 3, (Option.some Jvm.ClassFile.FieldType.int), []) := rfl
theorem jo_26 : jv_own 26 = 1 := rfl
theorem ji_26 : jv_init 26 = false := rfl
theorem jr_26 : jv_ret 26 = (Option.some Jvm.ClassFile.FieldType.int) := rfl
theorem jm_27 : jt_M[27]? = some (1, yX12_bounded, cX12_bounded, 4, (Option.some Jvm.ClassFile.FieldType.int), []) := rfl
theorem jo_27 : jv_own 27 = 1 := rfl
theorem ji_27 : jv_init 27 = false := rfl
theorem jr_27 : jv_ret 27 = (Option.some Jvm.ClassFile.FieldType.int) := rfl
theorem jm_28 : jt_M[28]? = some (1, yX12_ends, cX12_ends, 2, (Option.none : Option Jvm.ClassFile.FieldType), []) := rfl
theorem jo_28 : jv_own 28 = 1 := rfl
theorem ji_28 : jv_init 28 = false := rfl
theorem jr_28 : jv_ret 28 = (Option.none : Option Jvm.ClassFile.FieldType) := rfl
theorem jm_29 : jt_M[29]? = some (1, yX12_tellLoom, cX12_tellLoom, 3, (Option.none : Option Jvm.ClassFile.FieldType), []) := rfl
theorem jo_29 : jv_own 29 = 1 := rfl
theorem ji_29 : jv_init 29 = false := rfl
theorem jr_29 : jv_ret 29 = (Option.none : Option Jvm.ClassFile.FieldType) := rfl
theorem jm_30 : jt_M[30]? = some (1, yX12_tellLaw, cX12_tellLaw, 4, (Option.none : Option Jvm.ClassFile.FieldType), []) := rfl
theorem jo_30 : jv_own 30 = 1 := rfl
theorem ji_30 : jv_init 30 = false := rfl
theorem jr_30 : jv_ret 30 = (Option.none : Option Jvm.ClassFile.FieldType) := rfl
theorem jm_31 : jt_M[31]? = some (1, yX12_expression, cX12_expression, 3, (Option.none : Option Jvm.ClassFile.FieldType), []) := rfl
theorem jo_31 : jv_own 31 = 1 := rfl
theorem ji_31 : jv_init 31 = false := rfl
theorem jr_31 : jv_ret 31 = (Option.none : Option Jvm.ClassFile.FieldType) := rfl
theorem jm_32 : jt_M[32]? = some (1, yX12_unit, cX12_unit, 1, (Option.none : Option Jvm.ClassFile.FieldType), []) := rfl
theorem jo_32 : jv_own 32 = 1 := rfl
theorem ji_32 : jv_init 32 = false := rfl
theorem jr_32 : jv_ret 32 = (Option.none : Option Jvm.ClassFile.FieldType) := rfl
theorem jm_33 : jt_M[33]? = some (1, yX12_emit, cX12_emit, 3, (Option.none : Option Jvm.ClassFile.FieldType), []) := rfl
theorem jo_33 : jv_own 33 = 1 := rfl
theorem ji_33 : jv_init 33 = false := rfl
theorem jr_33 : jv_ret 33 = (Option.none : Option Jvm.ClassFile.FieldType) := rfl
theorem jm_34 : jt_M[34]? = some (1, yX12_comesOut, cX12_comesOut, 3, (Option.none : Option Jvm.ClassFile.FieldType), []) := rfl
theorem jo_34 : jv_own 34 = 1 := rfl
theorem ji_34 : jv_init 34 = false := rfl
theorem jr_34 : jv_ret 34 = (Option.none : Option Jvm.ClassFile.FieldType) := rfl
theorem jm_35 : jt_M[35]? = some (1, yX12_term, cX12_term, 1, (Option.none : Option Jvm.ClassFile.FieldType), []) := rfl
theorem jo_35 : jv_own 35 = 1 := rfl
theorem ji_35 : jv_init 35 = false := rfl
theorem jr_35 : jv_ret 35 = (Option.none : Option Jvm.ClassFile.FieldType) := rfl
theorem jm_36 : jt_M[36]? = some (1, yX12_areFields, cX12_areFields, 3, (Option.some Jvm.ClassFile.FieldType.boolean), []) := rfl
theorem jo_36 : jv_own 36 = 1 := rfl
theorem ji_36 : jv_init 36 = false := rfl
theorem jr_36 : jv_ret 36 = (Option.some Jvm.ClassFile.FieldType.boolean) := rfl
theorem jm_37 : jt_M[37]? = some (1, yX12_place, cX12_place, 1, (Option.some Jvm.ClassFile.FieldType.int), []) := rfl
theorem jo_37 : jv_own 37 = 1 := rfl
theorem ji_37 : jv_init 37 = false := rfl
theorem jr_37 : jv_ret 37 = (Option.some Jvm.ClassFile.FieldType.int) := rfl
theorem jm_38 : jt_M[38]? = some (1, yX12_cell, cX12_cell, 5, (Option.some Jvm.ClassFile.FieldType.int), []) := rfl
theorem jo_38 : jv_own 38 = 1 := rfl
theorem ji_38 : jv_init 38 = false := rfl
theorem jr_38 : jv_ret 38 = (Option.some Jvm.ClassFile.FieldType.int) := rfl
theorem jm_39 : jt_M[39]? = some (1, yX12_isCell, cX12_isCell, 3, (Option.some Jvm.ClassFile.FieldType.boolean), []) := rfl
theorem jo_39 : jv_own 39 = 1 := rfl
theorem ji_39 : jv_init 39 = false := rfl
theorem jr_39 : jv_ret 39 = (Option.some Jvm.ClassFile.FieldType.boolean) := rfl
theorem jm_40 : jt_M[40]? = some (1, yX12_in, cX12_in, 3, (Option.some Jvm.ClassFile.FieldType.boolean), []) := rfl
theorem jo_40 : jv_own 40 = 1 := rfl
theorem ji_40 : jv_init 40 = false := rfl
theorem jr_40 : jv_ret 40 = (Option.some Jvm.ClassFile.FieldType.boolean) := rfl
theorem jm_41 : jt_M[41]? = some (1, yX12_copies, cX12_copies, 2, (Option.none : Option Jvm.ClassFile.FieldType), []) := rfl
theorem jo_41 : jv_own 41 = 1 := rfl
theorem ji_41 : jv_init 41 = false := rfl
theorem jr_41 : jv_ret 41 = (Option.none : Option Jvm.ClassFile.FieldType) := rfl
theorem jm_42 : jt_M[42]? = some (1, yX12_fieldAt, cX12_fieldAt, 2, (Option.some Jvm.ClassFile.FieldType.int), []) := rfl
theorem jo_42 : jv_own 42 = 1 := rfl
theorem ji_42 : jv_init 42 = false := rfl
theorem jr_42 : jv_ret 42 = (Option.some Jvm.ClassFile.FieldType.int) := rfl
theorem jm_43 : jt_M[43]? = some (1, yX12_isLacking, cX12_isLacking, 2, (Option.some Jvm.ClassFile.FieldType.boolean), []) := rfl
theorem jo_43 : jv_own 43 = 1 := rfl
theorem ji_43 : jv_init 43 = false := rfl
theorem jr_43 : jv_ret 43 = (Option.some Jvm.ClassFile.FieldType.boolean) := rfl
theorem jm_44 : jt_M[44]? = some (1, yX12_needOf, cX12_needOf, 2, (Option.some Jvm.ClassFile.FieldType.int), []) := rfl
theorem jo_44 : jv_own 44 = 1 := rfl
theorem ji_44 : jv_init 44 = false := rfl
theorem jr_44 : jv_ret 44 = (Option.some Jvm.ClassFile.FieldType.int) := rfl
theorem jm_45 : jt_M[45]? = some (1, yX12_isFlooded, cX12_isFlooded, 2, (Option.some Jvm.ClassFile.FieldType.boolean), []) := rfl
theorem jo_45 : jv_own 45 = 1 := rfl
theorem ji_45 : jv_init 45 = false := rfl
theorem jr_45 : jv_ret 45 = (Option.some Jvm.ClassFile.FieldType.boolean) := rfl
theorem jm_46 : jt_M[46]? = some (1, yX12_drownOf, cX12_drownOf, 2, (Option.some Jvm.ClassFile.FieldType.int), []) := rfl
theorem jo_46 : jv_own 46 = 1 := rfl
theorem ji_46 : jv_init 46 = false := rfl
theorem jr_46 : jv_ret 46 = (Option.some Jvm.ClassFile.FieldType.int) := rfl
theorem jm_47 : jt_M[47]? = some (1, yX12_field, cX12_field, 5, (Option.some Jvm.ClassFile.FieldType.int), []) := rfl
theorem jo_47 : jv_own 47 = 1 := rfl
theorem ji_47 : jv_init 47 = false := rfl
theorem jr_47 : jv_ret 47 = (Option.some Jvm.ClassFile.FieldType.int) := rfl
theorem jm_48 : jt_M[48]? = some (1, yX12_isField, cX12_isField, 2, (Option.some Jvm.ClassFile.FieldType.boolean), []) := rfl
theorem jo_48 : jv_own 48 = 1 := rfl
theorem ji_48 : jv_init 48 = false := rfl
theorem jr_48 : jv_ret 48 = (Option.some Jvm.ClassFile.FieldType.boolean) := rfl
theorem jm_49 : jt_M[49]? = some (1, yX12_cellsOf, cX12_cellsOf, 4, (Option.some Jvm.ClassFile.FieldType.int), []) := rfl
theorem jo_49 : jv_own 49 = 1 := rfl
theorem ji_49 : jv_init 49 = false := rfl
theorem jr_49 : jv_ret 49 = (Option.some Jvm.ClassFile.FieldType.int) := rfl
theorem jm_50 : jt_M[50]? = some (1, yX12_isLand, cX12_isLand, 2, (Option.some Jvm.ClassFile.FieldType.boolean), []) := rfl
theorem jo_50 : jv_own 50 = 1 := rfl
theorem ji_50 : jv_init 50 = false := rfl
theorem jr_50 : jv_ret 50 = (Option.some Jvm.ClassFile.FieldType.boolean) := rfl
theorem jm_51 : jt_M[51]? = some (1, yX12_needAll, cX12_needAll, 2, (Option.some Jvm.ClassFile.FieldType.int), []) := rfl
theorem jo_51 : jv_own 51 = 1 := rfl
theorem ji_51 : jv_init 51 = false := rfl
theorem jr_51 : jv_ret 51 = (Option.some Jvm.ClassFile.FieldType.int) := rfl
theorem jm_52 : jt_M[52]? = some (1, yX12_loom, cX12_loom, 3, (Option.some Jvm.ClassFile.FieldType.int), []) := rfl
theorem jo_52 : jv_own 52 = 1 := rfl
theorem ji_52 : jv_init 52 = false := rfl
theorem jr_52 : jv_ret 52 = (Option.some Jvm.ClassFile.FieldType.int) := rfl
theorem jm_53 : jt_M[53]? = some (1, yX12_isLoom, cX12_isLoom, 2, (Option.some Jvm.ClassFile.FieldType.boolean), []) := rfl
theorem jo_53 : jv_own 53 = 1 := rfl
theorem ji_53 : jv_init 53 = false := rfl
theorem jr_53 : jv_ret 53 = (Option.some Jvm.ClassFile.FieldType.boolean) := rfl
theorem jm_54 : jt_M[54]? = some (1, yX12_thread, cX12_thread, 4, (Option.some Jvm.ClassFile.FieldType.int), []) := rfl
theorem jo_54 : jv_own 54 = 1 := rfl
theorem ji_54 : jv_init 54 = false := rfl
theorem jr_54 : jv_ret 54 = (Option.some Jvm.ClassFile.FieldType.int) := rfl
theorem jm_55 : jt_M[55]? = some (1, yX12_threadOf, cX12_threadOf, 4, (Option.some Jvm.ClassFile.FieldType.int), []) := rfl
theorem jo_55 : jv_own 55 = 1 := rfl
theorem ji_55 : jv_init 55 = false := rfl
theorem jr_55 : jv_ret 55 = (Option.some Jvm.ClassFile.FieldType.int) := rfl
theorem jm_56 : jt_M[56]? = some (1, yX12_looks, cX12_looks, 2, (Option.none : Option Jvm.ClassFile.FieldType), []) := rfl
theorem jo_56 : jv_own 56 = 1 := rfl
theorem ji_56 : jv_init 56 = false := rfl
theorem jr_56 : jv_ret 56 = (Option.none : Option Jvm.ClassFile.FieldType) := rfl
theorem jm_57 : jt_M[57]? = some (1, yX12_asks, cX12_asks, 8, (Option.some Jvm.ClassFile.FieldType.int), []) := rfl
theorem jo_57 : jv_own 57 = 1 := rfl
theorem ji_57 : jv_init 57 = false := rfl
theorem jr_57 : jv_ret 57 = (Option.some Jvm.ClassFile.FieldType.int) := rfl
theorem jm_58 : jt_M[58]? = some (1, yX12_termOf, cX12_termOf, 8, (Option.some Jvm.ClassFile.FieldType.int), []) := rfl
theorem jo_58 : jv_own 58 = 1 := rfl
theorem ji_58 : jv_init 58 = false := rfl
theorem jr_58 : jv_ret 58 = (Option.some Jvm.ClassFile.FieldType.int) := rfl
theorem jm_59 : jt_M[59]? = some (1, yX12_order, cX12_order, 6, (Option.some Jvm.ClassFile.FieldType.boolean), []) := rfl
theorem jo_59 : jv_own 59 = 1 := rfl
theorem ji_59 : jv_init 59 = false := rfl
theorem jr_59 : jv_ret 59 = (Option.some Jvm.ClassFile.FieldType.boolean) := rfl
theorem jm_60 : jt_M[60]? = some (1, yX12_isPiece, cX12_isPiece, 4, (Option.some Jvm.ClassFile.FieldType.boolean), []) := rfl
theorem jo_60 : jv_own 60 = 1 := rfl
theorem ji_60 : jv_init 60 = false := rfl
theorem jr_60 : jv_ret 60 = (Option.some Jvm.ClassFile.FieldType.boolean) := rfl
theorem jm_61 : jt_M[61]? = some (1, yX12_keeps, cX12_keeps, 2, (Option.none : Option Jvm.ClassFile.FieldType), []) := rfl
theorem jo_61 : jv_own 61 = 1 := rfl
theorem ji_61 : jv_init 61 = false := rfl
theorem jr_61 : jv_ret 61 = (Option.none : Option Jvm.ClassFile.FieldType) := rfl
theorem jm_62 : jt_M[62]? = some (1, yX12_stop, cX12_stop, 3, (Option.some Jvm.ClassFile.FieldType.boolean), []) := rfl
theorem jo_62 : jv_own 62 = 1 := rfl
theorem ji_62 : jv_init 62 = false := rfl
theorem jr_62 : jv_ret 62 = (Option.some Jvm.ClassFile.FieldType.boolean) := rfl
theorem jm_63 : jt_M[63]? = some (1, yX12_fall, cX12_fall, 7, (Option.some Jvm.ClassFile.FieldType.int), []) := rfl
theorem jo_63 : jv_own 63 = 1 := rfl
theorem ji_63 : jv_init 63 = false := rfl
theorem jr_63 : jv_ret 63 = (Option.some Jvm.ClassFile.FieldType.int) := rfl
theorem jm_64 : jt_M[64]? = some (1, yX12_falls, cX12_falls, 14, (Option.some Jvm.ClassFile.FieldType.int), []) := rfl
theorem jo_64 : jv_own 64 = 1 := rfl
theorem ji_64 : jv_init 64 = false := rfl
theorem jr_64 : jv_ret 64 = (Option.some Jvm.ClassFile.FieldType.int) := rfl
theorem jm_65 : jt_M[65]? = some (1, yX12_turn, cX12_turn, 3, (Option.some Jvm.ClassFile.FieldType.int), []) := rfl
theorem jo_65 : jv_own 65 = 1 := rfl
theorem ji_65 : jv_init 65 = false := rfl
theorem jr_65 : jv_ret 65 = (Option.some Jvm.ClassFile.FieldType.int) := rfl
theorem jm_66 : jt_M[66]? = some (1, yX12_days, cX12_days, 2, (Option.some Jvm.ClassFile.FieldType.int), []) := rfl
theorem jo_66 : jv_own 66 = 1 := rfl
theorem ji_66 : jv_init 66 = false := rfl
theorem jr_66 : jv_ret 66 = (Option.some Jvm.ClassFile.FieldType.int) := rfl
theorem jm_67 : jt_M[67]? = some (1, yX12_goes, cX12_goes, 3, (Option.none : Option Jvm.ClassFile.FieldType), []) := rfl
theorem jo_67 : jv_own 67 = 1 := rfl
theorem ji_67 : jv_init 67 = false := rfl
theorem jr_67 : jv_ret 67 = (Option.none : Option Jvm.ClassFile.FieldType) := rfl
theorem jm_68 : jt_M[68]? = some (1, yX12_dayGoes, cX12_dayGoes, 3, (Option.none : Option Jvm.ClassFile.FieldType), []) := rfl
theorem jo_68 : jv_own 68 = 1 := rfl
theorem ji_68 : jv_init 68 = false := rfl
theorem jr_68 : jv_ret 68 = (Option.none : Option Jvm.ClassFile.FieldType) := rfl
theorem jm_69 : jt_M[69]? = some (1, yX12_lotOf, cX12_lotOf, 2, (Option.some Jvm.ClassFile.FieldType.int), []) := rfl
theorem jo_69 : jv_own 69 = 1 := rfl
theorem ji_69 : jv_init 69 = false := rfl
theorem jr_69 : jv_ret 69 = (Option.some Jvm.ClassFile.FieldType.int) := rfl
theorem jm_70 : jt_M[70]? = some (1, yX12_mixed, cX12_mixed, 3, (Option.some Jvm.ClassFile.FieldType.int), []) := rfl
theorem jo_70 : jv_own 70 = 1 := rfl
theorem ji_70 : jv_init 70 = false := rfl
theorem jr_70 : jv_ret 70 = (Option.some Jvm.ClassFile.FieldType.int) := rfl
theorem jm_71 : jt_M[71]? = some (1, yX12_driesIn, cX12_driesIn, 2, (Option.some Jvm.ClassFile.FieldType.int), []) := rfl
theorem jo_71 : jv_own 71 = 1 := rfl
theorem ji_71 : jv_init 71 = false := rfl
theorem jr_71 : jv_ret 71 = (Option.some Jvm.ClassFile.FieldType.int) := rfl
theorem jm_72 : jt_M[72]? = some (1, yX12_undo, cX12_undo, 2, (Option.some Jvm.ClassFile.FieldType.boolean), []) := rfl
theorem jo_72 : jv_own 72 = 1 := rfl
theorem ji_72 : jv_init 72 = false := rfl
theorem jr_72 : jv_ret 72 = (Option.some Jvm.ClassFile.FieldType.boolean) := rfl
theorem jm_73 : jt_M[73]? = some (1, yX12_holds, cX12_holds, 7, (Option.some Jvm.ClassFile.FieldType.int), []) := rfl
theorem jo_73 : jv_own 73 = 1 := rfl
theorem ji_73 : jv_init 73 = false := rfl
theorem jr_73 : jv_ret 73 = (Option.some Jvm.ClassFile.FieldType.int) := rfl
theorem jm_74 : jt_M[74]? = some (1, yX12_heldBy, cX12_heldBy, 6, (Option.some Jvm.ClassFile.FieldType.int), []) := rfl
theorem jo_74 : jv_own 74 = 1 := rfl
theorem ji_74 : jv_init 74 = false := rfl
theorem jr_74 : jv_ret 74 = (Option.some Jvm.ClassFile.FieldType.int) := rfl
theorem jm_75 : jt_M[75]? = some (1, yX12_comes, cX12_comes, 7, (Option.some Jvm.ClassFile.FieldType.int), []) := rfl
theorem jo_75 : jv_own 75 = 1 := rfl
theorem ji_75 : jv_init 75 = false := rfl
theorem jr_75 : jv_ret 75 = (Option.some Jvm.ClassFile.FieldType.int) := rfl
theorem jm_76 : jt_M[76]? = some (1, yX12_round, cX12_round, 3, (Option.some Jvm.ClassFile.FieldType.int), []) := rfl
theorem jo_76 : jv_own 76 = 1 := rfl
theorem ji_76 : jv_init 76 = false := rfl
theorem jr_76 : jv_ret 76 = (Option.some Jvm.ClassFile.FieldType.int) := rfl
theorem jm_77 : jt_M[77]? = some (1, yX12_isRound, cX12_isRound, 5, (Option.some Jvm.ClassFile.FieldType.boolean), []) := rfl
theorem jo_77 : jv_own 77 = 1 := rfl
theorem ji_77 : jv_init 77 = false := rfl
theorem jr_77 : jv_ret 77 = (Option.some Jvm.ClassFile.FieldType.boolean) := rfl
theorem jm_78 : jt_M[78]? = some (1, yX12_agree, cX12_agree, 6, (Option.some Jvm.ClassFile.FieldType.int), []) := rfl
theorem jo_78 : jv_own 78 = 1 := rfl
theorem ji_78 : jv_init 78 = false := rfl
theorem jr_78 : jv_ret 78 = (Option.some Jvm.ClassFile.FieldType.int) := rfl
theorem jm_79 : jt_M[79]? = some (1, yX12_where, cX12_where, 5, (Option.some Jvm.ClassFile.FieldType.int), []) := rfl
theorem jo_79 : jv_own 79 = 1 := rfl
theorem ji_79 : jv_init 79 = false := rfl
theorem jr_79 : jv_ret 79 = (Option.some Jvm.ClassFile.FieldType.int) := rfl
theorem jm_80 : jt_M[80]? = some (1, yX12_fillsWhere, cX12_fillsWhere, 7, (Option.none : Option Jvm.ClassFile.FieldType), []) := rfl
theorem jo_80 : jv_own 80 = 1 := rfl
theorem ji_80 : jv_init 80 = false := rfl
theorem jr_80 : jv_ret 80 = (Option.none : Option Jvm.ClassFile.FieldType) := rfl
theorem jm_81 : jt_M[81]? = some (1, yX12_moreBy, cX12_moreBy, 8, (Option.some Jvm.ClassFile.FieldType.int), []) := rfl
theorem jo_81 : jv_own 81 = 1 := rfl
theorem ji_81 : jv_init 81 = false := rfl
theorem jr_81 : jv_ret 81 = (Option.some Jvm.ClassFile.FieldType.int) := rfl
theorem jm_82 : jt_M[82]? = some (1, yX12_cut, cX12_cut, 9, (Option.some Jvm.ClassFile.FieldType.int), []) := rfl
theorem jo_82 : jv_own 82 = 1 := rfl
theorem ji_82 : jv_init 82 = false := rfl
theorem jr_82 : jv_ret 82 = (Option.some Jvm.ClassFile.FieldType.int) := rfl
theorem jm_83 : jt_M[83]? = some (1, yX12_adds, cX12_adds, 4, (Option.some Jvm.ClassFile.FieldType.boolean), []) := rfl
theorem jo_83 : jv_own 83 = 1 := rfl
theorem ji_83 : jv_init 83 = false := rfl
theorem jr_83 : jv_ret 83 = (Option.some Jvm.ClassFile.FieldType.boolean) := rfl
theorem jm_84 : jt_M[84]? = some (1, yX12_goesIn, cX12_goesIn, 5, (Option.some Jvm.ClassFile.FieldType.boolean), []) := rfl
theorem jo_84 : jv_own 84 = 1 := rfl
theorem ji_84 : jv_init 84 = false := rfl
theorem jr_84 : jv_ret 84 = (Option.some Jvm.ClassFile.FieldType.boolean) := rfl
theorem jm_85 : jt_M[85]? = some (1, yX12_nextPlace, cX12_nextPlace, 5, (Option.some Jvm.ClassFile.FieldType.int), []) := rfl
theorem jo_85 : jv_own 85 = 1 := rfl
theorem ji_85 : jv_init 85 = false := rfl
theorem jr_85 : jv_ret 85 = (Option.some Jvm.ClassFile.FieldType.int) := rfl
theorem jm_86 : jt_M[86]? = some (1, yX12_isFree, cX12_isFree, 5, (Option.some Jvm.ClassFile.FieldType.boolean), []) := rfl
theorem jo_86 : jv_own 86 = 1 := rfl
theorem ji_86 : jv_init 86 = false := rfl
theorem jr_86 : jv_ret 86 = (Option.some Jvm.ClassFile.FieldType.boolean) := rfl
theorem jm_87 : jt_M[87]? = some (1, yX12_flips, cX12_flips, 5, (Option.none : Option Jvm.ClassFile.FieldType), []) := rfl
theorem jo_87 : jv_own 87 = 1 := rfl
theorem ji_87 : jv_init 87 = false := rfl
theorem jr_87 : jv_ret 87 = (Option.none : Option Jvm.ClassFile.FieldType) := rfl
theorem jm_88 : jt_M[88]? = some (1, yX12_then, cX12_then, 4, (Option.some Jvm.ClassFile.FieldType.int), []) := rfl
theorem jo_88 : jv_own 88 = 1 := rfl
theorem ji_88 : jv_init 88 = false := rfl
theorem jr_88 : jv_ret 88 = (Option.some Jvm.ClassFile.FieldType.int) := rfl
theorem jm_89 : jt_M[89]? = some (1, yX12_isLong, cX12_isLong, 1, (Option.some Jvm.ClassFile.FieldType.boolean), []) := rfl
theorem jo_89 : jv_own 89 = 1 := rfl
theorem ji_89 : jv_init 89 = false := rfl
theorem jr_89 : jv_ret 89 = (Option.some Jvm.ClassFile.FieldType.boolean) := rfl
theorem jm_90 : jt_M[90]? = some (1, yX12_all, cX12_all, 3, (Option.some Jvm.ClassFile.FieldType.int), []) := rfl
theorem jo_90 : jv_own 90 = 1 := rfl
theorem ji_90 : jv_init 90 = false := rfl
theorem jr_90 : jv_ret 90 = (Option.some Jvm.ClassFile.FieldType.int) := rfl
theorem jm_91 : jt_M[91]? = some (1, yX12_moreIn, cX12_moreIn, 4, (Option.some Jvm.ClassFile.FieldType.int), []) := rfl
theorem jo_91 : jv_own 91 = 1 := rfl
theorem ji_91 : jv_init 91 = false := rfl
theorem jr_91 : jv_ret 91 = (Option.some Jvm.ClassFile.FieldType.int) := rfl
theorem jm_92 : jt_M[92]? = some (1, yX12_wettest, cX12_wettest, 5, (Option.some Jvm.ClassFile.FieldType.int), []) := rfl
theorem jo_92 : jv_own 92 = 1 := rfl
theorem ji_92 : jv_init 92 = false := rfl
theorem jr_92 : jv_ret 92 = (Option.some Jvm.ClassFile.FieldType.int) := rfl
theorem jm_93 : jt_M[93]? = some (1, yX12_dry, cX12_dry, 4, (Option.some Jvm.ClassFile.FieldType.int), []) := rfl
theorem jo_93 : jv_own 93 = 1 := rfl
theorem ji_93 : jv_init 93 = false := rfl
theorem jr_93 : jv_ret 93 = (Option.some Jvm.ClassFile.FieldType.int) := rfl
theorem jm_94 : jt_M[94]? = some (1, yX12_emptyBy, cX12_emptyBy, 2, (Option.some Jvm.ClassFile.FieldType.int), []) := rfl
theorem jo_94 : jv_own 94 = 1 := rfl
theorem ji_94 : jv_init 94 = false := rfl
theorem jr_94 : jv_ret 94 = (Option.some Jvm.ClassFile.FieldType.int) := rfl
theorem jm_95 : jt_M[95]? = some (1, yX12_serve, cX12_serve, 5, (Option.some Jvm.ClassFile.FieldType.int), []) := rfl
theorem jo_95 : jv_own 95 = 1 := rfl
theorem ji_95 : jv_init 95 = false := rfl
theorem jr_95 : jv_ret 95 = (Option.some Jvm.ClassFile.FieldType.int) := rfl
theorem jm_96 : jt_M[96]? = some (1, yX12_fillsServe, cX12_fillsServe, 5, (Option.none : Option Jvm.ClassFile.FieldType), []) := rfl
theorem jo_96 : jv_own 96 = 1 := rfl
theorem ji_96 : jv_init 96 = false := rfl
theorem jr_96 : jv_ret 96 = (Option.none : Option Jvm.ClassFile.FieldType) := rfl
theorem jm_97 : jt_M[97]? = some (1, yX12_offBy, cX12_offBy, 6, (Option.some Jvm.ClassFile.FieldType.int), []) := rfl
theorem jo_97 : jv_own 97 = 1 := rfl
theorem ji_97 : jv_init 97 = false := rfl
theorem jr_97 : jv_ret 97 = (Option.some Jvm.ClassFile.FieldType.int) := rfl
theorem jm_98 : jt_M[98]? = some (1, yX12_sixes, cX12_sixes, 3, (Option.some Jvm.ClassFile.FieldType.int), []) := rfl
theorem jo_98 : jv_own 98 = 1 := rfl
theorem ji_98 : jv_init 98 = false := rfl
theorem jr_98 : jv_ret 98 = (Option.some Jvm.ClassFile.FieldType.int) := rfl
theorem jm_99 : jt_M[99]? = some (1, yX12_offAll, cX12_offAll, 7, (Option.some Jvm.ClassFile.FieldType.int), []) := rfl
theorem jo_99 : jv_own 99 = 1 := rfl
theorem ji_99 : jv_init 99 = false := rfl
theorem jr_99 : jv_ret 99 = (Option.some Jvm.ClassFile.FieldType.int) := rfl
theorem jm_100 : jt_M[100]? = some (1, yX12_suits, cX12_suits, 6, (Option.some Jvm.ClassFile.FieldType.int), []) := rfl
theorem jo_100 : jv_own 100 = 1 := rfl
theorem ji_100 : jv_init 100 = false := rfl
theorem jr_100 : jv_ret 100 = (Option.some Jvm.ClassFile.FieldType.int) := rfl
theorem jm_101 : jt_M[101]? = some (1, yX12_now, cX12_now, 5, (Option.some Jvm.ClassFile.FieldType.int), []) := rfl
theorem jo_101 : jv_own 101 = 1 := rfl
theorem ji_101 : jv_init 101 = false := rfl
theorem jr_101 : jv_ret 101 = (Option.some Jvm.ClassFile.FieldType.int) := rfl
theorem jm_102 : jt_M[102]? = some (1, yX12_year, cX12_year, 5, (Option.some Jvm.ClassFile.FieldType.int), []) := rfl
theorem jo_102 : jv_own 102 = 1 := rfl
theorem ji_102 : jv_init 102 = false := rfl
theorem jr_102 : jv_ret 102 = (Option.some Jvm.ClassFile.FieldType.int) := rfl
theorem jm_103 : jt_M[103]? = some (1, yX12_tell, cX12_tell, 4, (Option.some Jvm.ClassFile.FieldType.int), []) := rfl
theorem jo_103 : jv_own 103 = 1 := rfl
theorem ji_103 : jv_init 103 = false := rfl
theorem jr_103 : jv_ret 103 = (Option.some Jvm.ClassFile.FieldType.int) := rfl
theorem jm_104 : jt_M[104]? = some (1, yX12_forget, cX12_forget, 2, (Option.some Jvm.ClassFile.FieldType.int), []) := rfl
theorem jo_104 : jv_own 104 = 1 := rfl
theorem ji_104 : jv_init 104 = false := rfl
theorem jr_104 : jv_ret 104 = (Option.some Jvm.ClassFile.FieldType.int) := rfl
theorem jm_105 : jt_M[105]? = some (1, yX12_fell, cX12_fell, 7, (Option.some Jvm.ClassFile.FieldType.int), []) := rfl
theorem jo_105 : jv_own 105 = 1 := rfl
theorem ji_105 : jv_init 105 = false := rfl
theorem jr_105 : jv_ret 105 = (Option.some Jvm.ClassFile.FieldType.int) := rfl
theorem jm_106 : jt_M[106]? = some (1, yX12_isAsked, cX12_isAsked, 4, (Option.some Jvm.ClassFile.FieldType.boolean), []) := rfl
theorem jo_106 : jv_own 106 = 1 := rfl
theorem ji_106 : jv_init 106 = false := rfl
theorem jr_106 : jv_ret 106 = (Option.some Jvm.ClassFile.FieldType.boolean) := rfl
theorem jm_107 : jt_M[107]? = some (1, yX12_isWay, cX12_isWay, 6, (Option.some Jvm.ClassFile.FieldType.boolean), []) := rfl
theorem jo_107 : jv_own 107 = 1 := rfl
theorem ji_107 : jv_init 107 = false := rfl
theorem jr_107 : jv_ret 107 = (Option.some Jvm.ClassFile.FieldType.boolean) := rfl
theorem jm_108 : jt_M[108]? = some (1, yX12_wetBy, cX12_wetBy, 7, (Option.some Jvm.ClassFile.FieldType.int), []) := rfl
theorem jo_108 : jv_own 108 = 1 := rfl
theorem ji_108 : jv_init 108 = false := rfl
theorem jr_108 : jv_ret 108 = (Option.some Jvm.ClassFile.FieldType.int) := rfl
theorem jm_109 : jt_M[109]? = some (1, yX12_look, cX12_look, 8, (Option.some Jvm.ClassFile.FieldType.int), []) := rfl
theorem jo_109 : jv_own 109 = 1 := rfl
theorem ji_109 : jv_init 109 = false := rfl
theorem jr_109 : jv_ret 109 = (Option.some Jvm.ClassFile.FieldType.int) := rfl
theorem jm_110 : jt_M[110]? = some (1, yX12_worstAt, cX12_worstAt, 6, (Option.some Jvm.ClassFile.FieldType.int), []) := rfl
theorem jo_110 : jv_own 110 = 1 := rfl
theorem ji_110 : jv_init 110 = false := rfl
theorem jr_110 : jv_ret 110 = (Option.some Jvm.ClassFile.FieldType.int) := rfl
theorem jm_111 : jt_M[111]? = some (1, yX12_hold, cX12_hold, 3, (Option.some Jvm.ClassFile.FieldType.boolean), []) := rfl
theorem jo_111 : jv_own 111 = 1 := rfl
theorem ji_111 : jv_init 111 = false := rfl
theorem jr_111 : jv_ret 111 = (Option.some Jvm.ClassFile.FieldType.boolean) := rfl
theorem jm_112 : jt_M[112]? = some (1, yX12_restore, cX12_restore, 3, (Option.some Jvm.ClassFile.FieldType.boolean), []) := rfl
theorem jo_112 : jv_own 112 = 1 := rfl
theorem ji_112 : jv_init 112 = false := rfl
theorem jr_112 : jv_ret 112 = (Option.some Jvm.ClassFile.FieldType.boolean) := rfl
theorem jm_113 : jt_M[113]? = some (1, yX12_count, cX12_count, 2, (Option.some Jvm.ClassFile.FieldType.int), []) := rfl
theorem jo_113 : jv_own 113 = 1 := rfl
theorem ji_113 : jv_init 113 = false := rfl
theorem jr_113 : jv_ret 113 = (Option.some Jvm.ClassFile.FieldType.int) := rfl
theorem jm_114 : jt_M[114]? = some (1, yX12_sumNow, cX12_sumNow, 5, (Option.some Jvm.ClassFile.FieldType.int), []) := rfl
theorem jo_114 : jv_own 114 = 1 := rfl
theorem ji_114 : jv_init 114 = false := rfl
theorem jr_114 : jv_ret 114 = (Option.some Jvm.ClassFile.FieldType.int) := rfl
theorem jF_1_101 : jv_F 1 101 = [(0, 43, .array .int)] := rfl
theorem jF_1_104 : jv_F 1 104 = [(0, 44, .array .int)] := rfl
theorem jF_1_107 : jv_F 1 107 = [(0, 45, .array .int)] := rfl
theorem jF_1_110 : jv_F 1 110 = [(0, 47, .array .int)] := rfl
theorem jF_1_113 : jv_F 1 113 = [(0, 48, .array .int)] := rfl
theorem jF_1_116 : jv_F 1 116 = [(0, 50, .array .int)] := rfl
theorem jF_1_119 : jv_F 1 119 = [(0, 51, .array .int)] := rfl
theorem jF_1_122 : jv_F 1 122 = [(0, 54, .array .int)] := rfl
theorem jF_1_125 : jv_F 1 125 = [(0, 57, .array .int)] := rfl
theorem jF_1_128 : jv_F 1 128 = [(0, 58, .array .int)] := rfl
theorem jF_1_13 : jv_F 1 13 = [(0, 1, .array .byte)] := rfl
theorem jF_1_131 : jv_F 1 131 = [(0, 59, .array .int)] := rfl
theorem jF_1_134 : jv_F 1 134 = [(0, 60, .array .int)] := rfl
theorem jF_1_137 : jv_F 1 137 = [(0, 64, .array .int)] := rfl
theorem jF_1_140 : jv_F 1 140 = [(0, 66, .array .int)] := rfl
theorem jF_1_143 : jv_F 1 143 = [(0, 67, .array .int)] := rfl
theorem jF_1_146 : jv_F 1 146 = [(0, 68, .array .boolean)] := rfl
theorem jF_1_149 : jv_F 1 149 = [(0, 69, .array .int)] := rfl
theorem jF_1_152 : jv_F 1 152 = [(0, 70, .array .boolean)] := rfl
theorem jF_1_155 : jv_F 1 155 = [(0, 71, .array .int)] := rfl
theorem jF_1_17 : jv_F 1 17 = [(0, 3, .array .byte)] := rfl
theorem jF_1_172 : jv_F 1 172 = [(0, 2, .int)] := rfl
theorem jF_1_178 : jv_F 1 178 = [(0, 4, .int)] := rfl
theorem jF_1_187 : jv_F 1 187 = [(0, 10, .int)] := rfl
theorem jF_1_20 : jv_F 1 20 = [(0, 5, .array .int)] := rfl
theorem jF_1_209 : jv_F 1 209 = [(0, 13, .int)] := rfl
theorem jF_1_212 : jv_F 1 212 = [(0, 11, .int)] := rfl
theorem jF_1_215 : jv_F 1 215 = [(0, 14, .int)] := rfl
theorem jF_1_218 : jv_F 1 218 = [(0, 15, .int)] := rfl
theorem jF_1_221 : jv_F 1 221 = [(0, 16, .int)] := rfl
theorem jF_1_236 : jv_F 1 236 = [(0, 12, .int)] := rfl
theorem jF_1_239 : jv_F 1 239 = [(0, 18, .int)] := rfl
theorem jF_1_24 : jv_F 1 24 = [(0, 6, .array .int)] := rfl
theorem jF_1_242 : jv_F 1 242 = [(0, 19, .int)] := rfl
theorem jF_1_245 : jv_F 1 245 = [(0, 20, .int)] := rfl
theorem jF_1_248 : jv_F 1 248 = [(0, 36, .int)] := rfl
theorem jF_1_251 : jv_F 1 251 = [(0, 42, .int)] := rfl
theorem jF_1_265 : jv_F 1 265 = [(0, 53, .int)] := rfl
theorem jF_1_268 : jv_F 1 268 = [(0, 65, .int)] := rfl
theorem jF_1_27 : jv_F 1 27 = [(0, 7, .array .int)] := rfl
theorem jF_1_30 : jv_F 1 30 = [(0, 8, .array .long)] := rfl
theorem jF_1_306 : jv_F 1 306 = [(0, 46, .int)] := rfl
theorem jF_1_319 : jv_F 1 319 = [(0, 49, .boolean)] := rfl
theorem jF_1_327 : jv_F 1 327 = [(0, 52, .int)] := rfl
theorem jF_1_34 : jv_F 1 34 = [(0, 9, .array .long)] := rfl
theorem jF_1_37 : jv_F 1 37 = [(0, 17, .int)] := rfl
theorem jF_1_40 : jv_F 1 40 = [(0, 21, .array .long)] := rfl
theorem jF_1_411 : jv_F 1 411 = [(0, 56, .int)] := rfl
theorem jF_1_417 : jv_F 1 417 = [(0, 55, .int)] := rfl
theorem jF_1_427 : jv_F 1 427 = [(0, 61, .int)] := rfl
theorem jF_1_43 : jv_F 1 43 = [(0, 22, .array .int)] := rfl
theorem jF_1_455 : jv_F 1 455 = [(0, 63, .int)] := rfl
theorem jF_1_46 : jv_F 1 46 = [(0, 23, .array .int)] := rfl
theorem jF_1_461 : jv_F 1 461 = [(0, 62, .int)] := rfl
theorem jF_1_49 : jv_F 1 49 = [(0, 24, .array .int)] := rfl
theorem jF_1_52 : jv_F 1 52 = [(0, 25, .array .int)] := rfl
theorem jF_1_55 : jv_F 1 55 = [(0, 26, .array .int)] := rfl
theorem jF_1_58 : jv_F 1 58 = [(0, 27, .array .int)] := rfl
theorem jF_1_61 : jv_F 1 61 = [(0, 28, .array .int)] := rfl
theorem jF_1_64 : jv_F 1 64 = [(0, 29, .array .int)] := rfl
theorem jF_1_67 : jv_F 1 67 = [(0, 30, .array .int)] := rfl
theorem jF_1_70 : jv_F 1 70 = [(0, 31, .array .int)] := rfl
theorem jF_1_73 : jv_F 1 73 = [(0, 32, .array .int)] := rfl
theorem jF_1_76 : jv_F 1 76 = [(0, 33, .array .int)] := rfl
theorem jF_1_79 : jv_F 1 79 = [(0, 34, .array .int)] := rfl
theorem jF_1_82 : jv_F 1 82 = [(0, 35, .array .int)] := rfl
theorem jF_1_85 : jv_F 1 85 = [(0, 37, .array .boolean)] := rfl
theorem jF_1_89 : jv_F 1 89 = [(0, 38, .array .int)] := rfl
theorem jF_1_92 : jv_F 1 92 = [(0, 39, .array .int)] := rfl
theorem jF_1_95 : jv_F 1 95 = [(0, 40, .array .int)] := rfl
theorem jF_1_98 : jv_F 1 98 = [(0, 41, .array .int)] := rfl
theorem jG_1_101i : jv_FP 1 true 101 = [(0, 43, .array .int)] := rfl
theorem jG_1_104i : jv_FP 1 true 104 = [(0, 44, .array .int)] := rfl
theorem jG_1_107i : jv_FP 1 true 107 = [(0, 45, .array .int)] := rfl
theorem jG_1_110i : jv_FP 1 true 110 = [(0, 47, .array .int)] := rfl
theorem jG_1_113i : jv_FP 1 true 113 = [(0, 48, .array .int)] := rfl
theorem jG_1_116i : jv_FP 1 true 116 = [(0, 50, .array .int)] := rfl
theorem jG_1_119i : jv_FP 1 true 119 = [(0, 51, .array .int)] := rfl
theorem jG_1_122i : jv_FP 1 true 122 = [(0, 54, .array .int)] := rfl
theorem jG_1_125i : jv_FP 1 true 125 = [(0, 57, .array .int)] := rfl
theorem jG_1_128i : jv_FP 1 true 128 = [(0, 58, .array .int)] := rfl
theorem jG_1_13i : jv_FP 1 true 13 = [(0, 1, .array .byte)] := rfl
theorem jG_1_131i : jv_FP 1 true 131 = [(0, 59, .array .int)] := rfl
theorem jG_1_134i : jv_FP 1 true 134 = [(0, 60, .array .int)] := rfl
theorem jG_1_137i : jv_FP 1 true 137 = [(0, 64, .array .int)] := rfl
theorem jG_1_140i : jv_FP 1 true 140 = [(0, 66, .array .int)] := rfl
theorem jG_1_143i : jv_FP 1 true 143 = [(0, 67, .array .int)] := rfl
theorem jG_1_146i : jv_FP 1 true 146 = [(0, 68, .array .boolean)] := rfl
theorem jG_1_149i : jv_FP 1 true 149 = [(0, 69, .array .int)] := rfl
theorem jG_1_152i : jv_FP 1 true 152 = [(0, 70, .array .boolean)] := rfl
theorem jG_1_155i : jv_FP 1 true 155 = [(0, 71, .array .int)] := rfl
theorem jG_1_17i : jv_FP 1 true 17 = [(0, 3, .array .byte)] := rfl
theorem jG_1_172 : jv_FP 1 false 172 = [(0, 2, .int)] := rfl
theorem jG_1_178 : jv_FP 1 false 178 = [(0, 4, .int)] := rfl
theorem jG_1_187 : jv_FP 1 false 187 = [(0, 10, .int)] := rfl
theorem jG_1_20i : jv_FP 1 true 20 = [(0, 5, .array .int)] := rfl
theorem jG_1_209 : jv_FP 1 false 209 = [(0, 13, .int)] := rfl
theorem jG_1_212 : jv_FP 1 false 212 = [(0, 11, .int)] := rfl
theorem jG_1_215 : jv_FP 1 false 215 = [(0, 14, .int)] := rfl
theorem jG_1_218 : jv_FP 1 false 218 = [(0, 15, .int)] := rfl
theorem jG_1_221 : jv_FP 1 false 221 = [(0, 16, .int)] := rfl
theorem jG_1_236 : jv_FP 1 false 236 = [(0, 12, .int)] := rfl
theorem jG_1_239 : jv_FP 1 false 239 = [(0, 18, .int)] := rfl
theorem jG_1_24i : jv_FP 1 true 24 = [(0, 6, .array .int)] := rfl
theorem jG_1_242 : jv_FP 1 false 242 = [(0, 19, .int)] := rfl
theorem jG_1_245 : jv_FP 1 false 245 = [(0, 20, .int)] := rfl
theorem jG_1_248 : jv_FP 1 false 248 = [(0, 36, .int)] := rfl
theorem jG_1_251 : jv_FP 1 false 251 = [(0, 42, .int)] := rfl
theorem jG_1_265 : jv_FP 1 false 265 = [(0, 53, .int)] := rfl
theorem jG_1_268 : jv_FP 1 false 268 = [(0, 65, .int)] := rfl
theorem jG_1_27i : jv_FP 1 true 27 = [(0, 7, .array .int)] := rfl
theorem jG_1_30i : jv_FP 1 true 30 = [(0, 8, .array .long)] := rfl
theorem jG_1_306 : jv_FP 1 false 306 = [(0, 46, .int)] := rfl
theorem jG_1_319 : jv_FP 1 false 319 = [(0, 49, .boolean)] := rfl
theorem jG_1_327 : jv_FP 1 false 327 = [(0, 52, .int)] := rfl
theorem jG_1_34i : jv_FP 1 true 34 = [(0, 9, .array .long)] := rfl
theorem jG_1_37 : jv_FP 1 false 37 = [(0, 17, .int)] := rfl
theorem jG_1_37i : jv_FP 1 true 37 = [(0, 17, .int)] := rfl
theorem jG_1_40i : jv_FP 1 true 40 = [(0, 21, .array .long)] := rfl
theorem jG_1_411 : jv_FP 1 false 411 = [(0, 56, .int)] := rfl
theorem jG_1_417 : jv_FP 1 false 417 = [(0, 55, .int)] := rfl
theorem jG_1_427 : jv_FP 1 false 427 = [(0, 61, .int)] := rfl
theorem jG_1_43i : jv_FP 1 true 43 = [(0, 22, .array .int)] := rfl
theorem jG_1_455 : jv_FP 1 false 455 = [(0, 63, .int)] := rfl
theorem jG_1_46i : jv_FP 1 true 46 = [(0, 23, .array .int)] := rfl
theorem jG_1_461 : jv_FP 1 false 461 = [(0, 62, .int)] := rfl
theorem jG_1_49i : jv_FP 1 true 49 = [(0, 24, .array .int)] := rfl
theorem jG_1_52i : jv_FP 1 true 52 = [(0, 25, .array .int)] := rfl
theorem jG_1_55i : jv_FP 1 true 55 = [(0, 26, .array .int)] := rfl
theorem jG_1_58i : jv_FP 1 true 58 = [(0, 27, .array .int)] := rfl
theorem jG_1_61i : jv_FP 1 true 61 = [(0, 28, .array .int)] := rfl
theorem jG_1_64i : jv_FP 1 true 64 = [(0, 29, .array .int)] := rfl
theorem jG_1_67i : jv_FP 1 true 67 = [(0, 30, .array .int)] := rfl
theorem jG_1_70i : jv_FP 1 true 70 = [(0, 31, .array .int)] := rfl
theorem jG_1_73i : jv_FP 1 true 73 = [(0, 32, .array .int)] := rfl
theorem jG_1_76i : jv_FP 1 true 76 = [(0, 33, .array .int)] := rfl
theorem jG_1_79i : jv_FP 1 true 79 = [(0, 34, .array .int)] := rfl
theorem jG_1_82i : jv_FP 1 true 82 = [(0, 35, .array .int)] := rfl
theorem jG_1_85i : jv_FP 1 true 85 = [(0, 37, .array .boolean)] := rfl
theorem jG_1_89i : jv_FP 1 true 89 = [(0, 38, .array .int)] := rfl
theorem jG_1_92i : jv_FP 1 true 92 = [(0, 39, .array .int)] := rfl
theorem jG_1_95i : jv_FP 1 true 95 = [(0, 40, .array .int)] := rfl
theorem jG_1_98i : jv_FP 1 true 98 = [(0, 41, .array .int)] := rfl
theorem jK_1_181 : jv_find jt_K 1 181 = some (.long (27)) := rfl
theorem jK_1_330 : jv_find jt_K 1 330 = some (.int (1103515245)) := rfl
theorem jP_1_7 : jv_find jt_P 1 7 = some ((0, none)) := rfl
theorem jT_1_162 : jv_find jt_S 1 162 = some ((7, some 3)) := rfl
theorem jT_1_183 : jv_find jt_S 1 183 = some ((2, some 4)) := rfl
theorem jT_1_198 : jv_find jt_S 1 198 = some ((1, some 14)) := rfl
theorem jT_1_202 : jv_find jt_S 1 202 = some ((1, some 15)) := rfl
theorem jT_1_323 : jv_find jt_S 1 323 = some ((3, some 40)) := rfl
theorem jT_1_331 : jv_find jt_S 1 331 = some ((2, some 70)) := rfl
theorem jT_1_442 : jv_find jt_S 1 442 = some ((1, some 89)) := rfl
theorem jT_1_448 : jv_find jt_S 1 448 = some ((1, some 98)) := rfl
theorem jV_1_158 : jv_find jt_V 1 158 = some ((1, [(0, 2)])) := rfl
theorem jV_1_166 : jv_find jt_V 1 166 = some ((0, [(0, 5)])) := rfl
theorem jV_1_169 : jv_find jt_V 1 169 = some ((0, [(0, 6)])) := rfl
theorem jV_1_175 : jv_find jt_V 1 175 = some ((1, [(0, 8)])) := rfl
theorem jV_1_190 : jv_find jt_V 1 190 = some ((1, [(0, 12)])) := rfl
theorem jV_1_194 : jv_find jt_V 1 194 = some ((4, [(0, 13)])) := rfl
theorem jV_1_205 : jv_find jt_V 1 205 = some ((3, [(0, 16)])) := rfl
theorem jV_1_224 : jv_find jt_V 1 224 = some ((1, [(0, 20)])) := rfl
theorem jV_1_227 : jv_find jt_V 1 227 = some ((1, [(0, 17)])) := rfl
theorem jV_1_230 : jv_find jt_V 1 230 = some ((0, [(0, 21)])) := rfl
theorem jV_1_233 : jv_find jt_V 1 233 = some ((0, [(0, 11)])) := rfl
theorem jV_1_254 : jv_find jt_V 1 254 = some ((0, [(0, 18)])) := rfl
theorem jV_1_257 : jv_find jt_V 1 257 = some ((0, [(0, 36)])) := rfl
theorem jV_1_261 : jv_find jt_V 1 261 = some ((2, [(0, 24)])) := rfl
theorem jV_1_271 : jv_find jt_V 1 271 = some ((2, [(0, 19)])) := rfl
theorem jV_1_274 : jv_find jt_V 1 274 = some ((0, [(0, 22)])) := rfl
theorem jV_1_277 : jv_find jt_V 1 277 = some ((0, [(0, 25)])) := rfl
theorem jV_1_280 : jv_find jt_V 1 280 = some ((0, [(0, 29)])) := rfl
theorem jV_1_283 : jv_find jt_V 1 283 = some ((2, [(0, 27)])) := rfl
theorem jV_1_287 : jv_find jt_V 1 287 = some ((1, [(0, 23)])) := rfl
theorem jV_1_290 : jv_find jt_V 1 290 = some ((1, [(0, 30)])) := rfl
theorem jV_1_293 : jv_find jt_V 1 293 = some ((0, [(0, 26)])) := rfl
theorem jV_1_297 : jv_find jt_V 1 297 = some ((1, [(0, 28)])) := rfl
theorem jV_1_300 : jv_find jt_V 1 300 = some ((0, [(0, 31)])) := rfl
theorem jV_1_303 : jv_find jt_V 1 303 = some ((0, [(0, 35)])) := rfl
theorem jV_1_309 : jv_find jt_V 1 309 = some ((2, [(0, 33)])) := rfl
theorem jV_1_312 : jv_find jt_V 1 312 = some ((0, [(0, 32)])) := rfl
theorem jV_1_315 : jv_find jt_V 1 315 = some ((1, [(0, 34)])) := rfl
theorem jV_1_334 : jv_find jt_V 1 334 = some ((2, [(0, 58)])) := rfl
theorem jV_1_337 : jv_find jt_V 1 337 = some ((0, [(0, 56)])) := rfl
theorem jV_1_340 : jv_find jt_V 1 340 = some ((3, [(0, 57)])) := rfl
theorem jV_1_343 : jv_find jt_V 1 343 = some ((2, [(0, 39)])) := rfl
theorem jV_1_347 : jv_find jt_V 1 347 = some ((1, [(0, 42)])) := rfl
theorem jV_1_350 : jv_find jt_V 1 350 = some ((1, [(0, 44)])) := rfl
theorem jV_1_353 : jv_find jt_V 1 353 = some ((1, [(0, 46)])) := rfl
theorem jV_1_356 : jv_find jt_V 1 356 = some ((3, [(0, 55)])) := rfl
theorem jV_1_359 : jv_find jt_V 1 359 = some ((1, [(0, 69)])) := rfl
theorem jV_1_362 : jv_find jt_V 1 362 = some ((5, [(0, 64)])) := rfl
theorem jV_1_366 : jv_find jt_V 1 366 = some ((1, [(0, 50)])) := rfl
theorem jV_1_369 : jv_find jt_V 1 369 = some ((1, [(0, 43)])) := rfl
theorem jV_1_372 : jv_find jt_V 1 372 = some ((1, [(0, 45)])) := rfl
theorem jV_1_375 : jv_find jt_V 1 375 = some ((1, [(0, 71)])) := rfl
theorem jV_1_378 : jv_find jt_V 1 378 = some ((0, [(0, 68)])) := rfl
theorem jV_1_381 : jv_find jt_V 1 381 = some ((0, [(0, 41)])) := rfl
theorem jV_1_384 : jv_find jt_V 1 384 = some ((1, [(0, 49)])) := rfl
theorem jV_1_387 : jv_find jt_V 1 387 = some ((1, [(0, 48)])) := rfl
theorem jV_1_390 : jv_find jt_V 1 390 = some ((1, [(0, 51)])) := rfl
theorem jV_1_393 : jv_find jt_V 1 393 = some ((1, [(0, 53)])) := rfl
theorem jV_1_396 : jv_find jt_V 1 396 = some ((3, [(0, 60)])) := rfl
theorem jV_1_399 : jv_find jt_V 1 399 = some ((0, [(0, 61)])) := rfl
theorem jV_1_402 : jv_find jt_V 1 402 = some ((1, [(0, 67)])) := rfl
theorem jV_1_405 : jv_find jt_V 1 405 = some ((3, [(0, 74)])) := rfl
theorem jV_1_408 : jv_find jt_V 1 408 = some ((2, [(0, 77)])) := rfl
theorem jV_1_414 : jv_find jt_V 1 414 = some ((5, [(0, 81)])) := rfl
theorem jV_1_420 : jv_find jt_V 1 420 = some ((3, [(0, 80)])) := rfl
theorem jV_1_424 : jv_find jt_V 1 424 = some ((2, [(0, 86)])) := rfl
theorem jV_1_430 : jv_find jt_V 1 430 = some ((3, [(0, 85)])) := rfl
theorem jV_1_433 : jv_find jt_V 1 433 = some ((2, [(0, 87)])) := rfl
theorem jV_1_436 : jv_find jt_V 1 436 = some ((1, [(0, 83)])) := rfl
theorem jV_1_439 : jv_find jt_V 1 439 = some ((1, [(0, 84)])) := rfl
theorem jV_1_445 : jv_find jt_V 1 445 = some ((1, [(0, 91)])) := rfl
theorem jV_1_451 : jv_find jt_V 1 451 = some ((4, [(0, 97)])) := rfl
theorem jV_1_458 : jv_find jt_V 1 458 = some ((1, [(0, 99)])) := rfl
theorem jV_1_464 : jv_find jt_V 1 464 = some ((2, [(0, 96)])) := rfl
theorem jV_1_467 : jv_find jt_V 1 467 = some ((4, [(0, 108)])) := rfl
theorem jV_1_470 : jv_find jt_V 1 470 = some ((3, [(0, 106)])) := rfl
theorem jV_1_473 : jv_find jt_V 1 473 = some ((4, [(0, 107)])) := rfl
theorem jV_1_477 : jv_find jt_V 1 477 = some ((3, [(0, 110)])) := rfl
theorem jV_1_480 : jv_find jt_V 1 480 = some ((2, [(0, 114)])) := rfl
/-! 1: RainLoomModel.<init>()V -/
theorem n1 : jv_cd (d + 1) 1 [.ref a0] h = jv_ev d 1 0 [some (.ref a0)] [] h := rfl
theorem e1_0 : jv_ev d 1 0 [some (.ref a)] st h = jv_ev d 1 1 [some (.ref a)] (.ref a :: st) h := jq_nx (jv_insR jm_1 dX12_init_0) rfl
theorem e1_1 : jv_ev d 1 1 lc [.ref b] h = if jt_off ≤ b then jv_ev d 1 4 lc [] h else none := jq_O (jv_insR jm_1 dX12_init_1) jo_1 jP_1_7 (Nat.le_of_ble_eq_true rfl)
theorem e1_4 : jv_ev d 1 4 [some (.ref a)] st h = jv_ev d 1 5 [some (.ref a)] (.ref a :: st) h := jq_nx (jv_insR jm_1 dX12_init_4) rfl
theorem e1_5 : jv_ev d 1 5 lc st h = jv_ev d 1 8 lc (.int 2000 :: st) h := jq_sipush (jv_insR jm_1 dX12_init_5) (by decide)
theorem e1_8 : jv_ev d 1 8 lc (.int v :: st) h = if v < 0 ∨ 100000 < v.toNatClampNeg then none else jv_ev d 1 10 lc (.ref h.length :: st) (h ++ [.inl (1, v.toNatClampNeg, .inl (fun _ => 0))]) := jq_newa (jv_insR jm_1 dX12_init_8)
theorem e1_10 : jv_ev d 1 10 lc (r :: .ref a :: st) h = (jv_pf h a [(0, 1, .array .byte)] r).bind fun h => jv_ev d 1 13 lc st h := jq_put (jv_insR jm_1 dX12_init_10) jo_1 ji_1 jG_1_13i
theorem e1_13 : jv_ev d 1 13 [some (.ref a)] st h = jv_ev d 1 14 [some (.ref a)] (.ref a :: st) h := jq_nx (jv_insR jm_1 dX12_init_13) rfl
theorem e1_14 : jv_ev d 1 14 lc st h = jv_ev d 1 17 lc (.int 2000 :: st) h := jq_sipush (jv_insR jm_1 dX12_init_14) (by decide)
theorem e1_17 : jv_ev d 1 17 lc (.int v :: st) h = if v < 0 ∨ 100000 < v.toNatClampNeg then none else jv_ev d 1 19 lc (.ref h.length :: st) (h ++ [.inl (1, v.toNatClampNeg, .inl (fun _ => 0))]) := jq_newa (jv_insR jm_1 dX12_init_17)
theorem e1_19 : jv_ev d 1 19 lc (r :: .ref a :: st) h = (jv_pf h a [(0, 3, .array .byte)] r).bind fun h => jv_ev d 1 22 lc st h := jq_put (jv_insR jm_1 dX12_init_19) jo_1 ji_1 jG_1_17i
theorem e1_22 : jv_ev d 1 22 [some (.ref a)] st h = jv_ev d 1 23 [some (.ref a)] (.ref a :: st) h := jq_nx (jv_insR jm_1 dX12_init_22) rfl
theorem e1_23 : jv_ev d 1 23 lc st h = jv_ev d 1 26 lc (.int 403 :: st) h := jq_sipush (jv_insR jm_1 dX12_init_23) (by decide)
theorem e1_26 : jv_ev d 1 26 lc (.int v :: st) h = if v < 0 ∨ 100000 < v.toNatClampNeg then none else jv_ev d 1 28 lc (.ref h.length :: st) (h ++ [.inl (0, v.toNatClampNeg, .inl (fun _ => 0))]) := jq_newa (jv_insR jm_1 dX12_init_26)
theorem e1_28 : jv_ev d 1 28 lc (r :: .ref a :: st) h = (jv_pf h a [(0, 5, .array .int)] r).bind fun h => jv_ev d 1 31 lc st h := jq_put (jv_insR jm_1 dX12_init_28) jo_1 ji_1 jG_1_20i
theorem e1_31 : jv_ev d 1 31 [some (.ref a)] st h = jv_ev d 1 32 [some (.ref a)] (.ref a :: st) h := jq_nx (jv_insR jm_1 dX12_init_31) rfl
theorem e1_32 : jv_ev d 1 32 lc st h = jv_ev d 1 35 lc (.int 403 :: st) h := jq_sipush (jv_insR jm_1 dX12_init_32) (by decide)
theorem e1_35 : jv_ev d 1 35 lc (.int v :: st) h = if v < 0 ∨ 100000 < v.toNatClampNeg then none else jv_ev d 1 37 lc (.ref h.length :: st) (h ++ [.inl (0, v.toNatClampNeg, .inl (fun _ => 0))]) := jq_newa (jv_insR jm_1 dX12_init_35)
theorem e1_37 : jv_ev d 1 37 lc (r :: .ref a :: st) h = (jv_pf h a [(0, 6, .array .int)] r).bind fun h => jv_ev d 1 40 lc st h := jq_put (jv_insR jm_1 dX12_init_37) jo_1 ji_1 jG_1_24i
theorem e1_40 : jv_ev d 1 40 [some (.ref a)] st h = jv_ev d 1 41 [some (.ref a)] (.ref a :: st) h := jq_nx (jv_insR jm_1 dX12_init_40) rfl
theorem e1_41 : jv_ev d 1 41 lc st h = jv_ev d 1 44 lc (.int 403 :: st) h := jq_sipush (jv_insR jm_1 dX12_init_41) (by decide)
theorem e1_44 : jv_ev d 1 44 lc (.int v :: st) h = if v < 0 ∨ 100000 < v.toNatClampNeg then none else jv_ev d 1 46 lc (.ref h.length :: st) (h ++ [.inl (0, v.toNatClampNeg, .inl (fun _ => 0))]) := jq_newa (jv_insR jm_1 dX12_init_44)
theorem e1_46 : jv_ev d 1 46 lc (r :: .ref a :: st) h = (jv_pf h a [(0, 7, .array .int)] r).bind fun h => jv_ev d 1 49 lc st h := jq_put (jv_insR jm_1 dX12_init_46) jo_1 ji_1 jG_1_27i
theorem e1_49 : jv_ev d 1 49 [some (.ref a)] st h = jv_ev d 1 50 [some (.ref a)] (.ref a :: st) h := jq_nx (jv_insR jm_1 dX12_init_49) rfl
theorem e1_50 : jv_ev d 1 50 lc st h = jv_ev d 1 53 lc (.int 403 :: st) h := jq_sipush (jv_insR jm_1 dX12_init_50) (by decide)
theorem e1_53 : jv_ev d 1 53 lc (.int v :: st) h = if v < 0 ∨ 100000 < v.toNatClampNeg then none else jv_ev d 1 55 lc (.ref h.length :: st) (h ++ [.inl (4, v.toNatClampNeg, .inr (.inl (fun _ => 0)))]) := jq_newa (jv_insR jm_1 dX12_init_53)
theorem e1_55 : jv_ev d 1 55 lc (r :: .ref a :: st) h = (jv_pf h a [(0, 8, .array .long)] r).bind fun h => jv_ev d 1 58 lc st h := jq_put (jv_insR jm_1 dX12_init_55) jo_1 ji_1 jG_1_30i
theorem e1_58 : jv_ev d 1 58 [some (.ref a)] st h = jv_ev d 1 59 [some (.ref a)] (.ref a :: st) h := jq_nx (jv_insR jm_1 dX12_init_58) rfl
theorem e1_59 : jv_ev d 1 59 lc st h = jv_ev d 1 61 lc (.int 21 :: st) h := jq_bipush (jv_insR jm_1 dX12_init_59) (by decide)
theorem e1_61 : jv_ev d 1 61 lc (.int v :: st) h = if v < 0 ∨ 100000 < v.toNatClampNeg then none else jv_ev d 1 63 lc (.ref h.length :: st) (h ++ [.inl (4, v.toNatClampNeg, .inr (.inl (fun _ => 0)))]) := jq_newa (jv_insR jm_1 dX12_init_61)
theorem e1_63 : jv_ev d 1 63 lc (r :: .ref a :: st) h = (jv_pf h a [(0, 9, .array .long)] r).bind fun h => jv_ev d 1 66 lc st h := jq_put (jv_insR jm_1 dX12_init_63) jo_1 ji_1 jG_1_34i
theorem e1_66 : jv_ev d 1 66 [some (.ref a)] st h = jv_ev d 1 67 [some (.ref a)] (.ref a :: st) h := jq_nx (jv_insR jm_1 dX12_init_66) rfl
theorem e1_67 : jv_ev d 1 67 lc st h = jv_ev d 1 68 lc (.int (-1) :: st) h := jq_iconst (jv_insR jm_1 dX12_init_67) (by decide)
theorem e1_68 : jv_ev d 1 68 lc (r :: .ref a :: st) h = (jv_pf h a [(0, 17, .int)] r).bind fun h => jv_ev d 1 71 lc st h := jq_put (jv_insR jm_1 dX12_init_68) jo_1 ji_1 jG_1_37i
theorem e1_71 : jv_ev d 1 71 [some (.ref a)] st h = jv_ev d 1 72 [some (.ref a)] (.ref a :: st) h := jq_nx (jv_insR jm_1 dX12_init_71) rfl
theorem e1_72 : jv_ev d 1 72 lc st h = jv_ev d 1 74 lc (.int 10 :: st) h := jq_bipush (jv_insR jm_1 dX12_init_72) (by decide)
theorem e1_74 : jv_ev d 1 74 lc (.int v :: st) h = if v < 0 ∨ 100000 < v.toNatClampNeg then none else jv_ev d 1 76 lc (.ref h.length :: st) (h ++ [.inl (4, v.toNatClampNeg, .inr (.inl (fun _ => 0)))]) := jq_newa (jv_insR jm_1 dX12_init_74)
theorem e1_76 : jv_ev d 1 76 lc (r :: .ref a :: st) h = (jv_pf h a [(0, 21, .array .long)] r).bind fun h => jv_ev d 1 79 lc st h := jq_put (jv_insR jm_1 dX12_init_76) jo_1 ji_1 jG_1_40i
theorem e1_79 : jv_ev d 1 79 [some (.ref a)] st h = jv_ev d 1 80 [some (.ref a)] (.ref a :: st) h := jq_nx (jv_insR jm_1 dX12_init_79) rfl
theorem e1_80 : jv_ev d 1 80 lc st h = jv_ev d 1 81 lc (.int 2 :: st) h := jq_iconst (jv_insR jm_1 dX12_init_80) (by decide)
theorem e1_81 : jv_ev d 1 81 lc (.int v :: st) h = if v < 0 ∨ 100000 < v.toNatClampNeg then none else jv_ev d 1 83 lc (.ref h.length :: st) (h ++ [.inl (0, v.toNatClampNeg, .inl (fun _ => 0))]) := jq_newa (jv_insR jm_1 dX12_init_81)
theorem e1_83 : jv_ev d 1 83 lc (r :: .ref a :: st) h = (jv_pf h a [(0, 22, .array .int)] r).bind fun h => jv_ev d 1 86 lc st h := jq_put (jv_insR jm_1 dX12_init_83) jo_1 ji_1 jG_1_43i
theorem e1_86 : jv_ev d 1 86 [some (.ref a)] st h = jv_ev d 1 87 [some (.ref a)] (.ref a :: st) h := jq_nx (jv_insR jm_1 dX12_init_86) rfl
theorem e1_87 : jv_ev d 1 87 lc st h = jv_ev d 1 88 lc (.int 2 :: st) h := jq_iconst (jv_insR jm_1 dX12_init_87) (by decide)
theorem e1_88 : jv_ev d 1 88 lc (.int v :: st) h = if v < 0 ∨ 100000 < v.toNatClampNeg then none else jv_ev d 1 90 lc (.ref h.length :: st) (h ++ [.inl (0, v.toNatClampNeg, .inl (fun _ => 0))]) := jq_newa (jv_insR jm_1 dX12_init_88)
theorem e1_90 : jv_ev d 1 90 lc (r :: .ref a :: st) h = (jv_pf h a [(0, 23, .array .int)] r).bind fun h => jv_ev d 1 93 lc st h := jq_put (jv_insR jm_1 dX12_init_90) jo_1 ji_1 jG_1_46i
theorem e1_93 : jv_ev d 1 93 [some (.ref a)] st h = jv_ev d 1 94 [some (.ref a)] (.ref a :: st) h := jq_nx (jv_insR jm_1 dX12_init_93) rfl
theorem e1_94 : jv_ev d 1 94 lc st h = jv_ev d 1 96 lc (.int 96 :: st) h := jq_bipush (jv_insR jm_1 dX12_init_94) (by decide)
theorem e1_96 : jv_ev d 1 96 lc (.int v :: st) h = if v < 0 ∨ 100000 < v.toNatClampNeg then none else jv_ev d 1 98 lc (.ref h.length :: st) (h ++ [.inl (0, v.toNatClampNeg, .inl (fun _ => 0))]) := jq_newa (jv_insR jm_1 dX12_init_96)
theorem e1_98 : jv_ev d 1 98 lc (r :: .ref a :: st) h = (jv_pf h a [(0, 24, .array .int)] r).bind fun h => jv_ev d 1 101 lc st h := jq_put (jv_insR jm_1 dX12_init_98) jo_1 ji_1 jG_1_49i
theorem e1_101 : jv_ev d 1 101 [some (.ref a)] st h = jv_ev d 1 102 [some (.ref a)] (.ref a :: st) h := jq_nx (jv_insR jm_1 dX12_init_101) rfl
theorem e1_102 : jv_ev d 1 102 lc st h = jv_ev d 1 103 lc (.int 2 :: st) h := jq_iconst (jv_insR jm_1 dX12_init_102) (by decide)
theorem e1_103 : jv_ev d 1 103 lc (.int v :: st) h = if v < 0 ∨ 100000 < v.toNatClampNeg then none else jv_ev d 1 105 lc (.ref h.length :: st) (h ++ [.inl (0, v.toNatClampNeg, .inl (fun _ => 0))]) := jq_newa (jv_insR jm_1 dX12_init_103)
theorem e1_105 : jv_ev d 1 105 lc (r :: .ref a :: st) h = (jv_pf h a [(0, 25, .array .int)] r).bind fun h => jv_ev d 1 108 lc st h := jq_put (jv_insR jm_1 dX12_init_105) jo_1 ji_1 jG_1_52i
theorem e1_108 : jv_ev d 1 108 [some (.ref a)] st h = jv_ev d 1 109 [some (.ref a)] (.ref a :: st) h := jq_nx (jv_insR jm_1 dX12_init_108) rfl
theorem e1_109 : jv_ev d 1 109 lc st h = jv_ev d 1 111 lc (.int 12 :: st) h := jq_bipush (jv_insR jm_1 dX12_init_109) (by decide)
theorem e1_111 : jv_ev d 1 111 lc (.int v :: st) h = if v < 0 ∨ 100000 < v.toNatClampNeg then none else jv_ev d 1 113 lc (.ref h.length :: st) (h ++ [.inl (0, v.toNatClampNeg, .inl (fun _ => 0))]) := jq_newa (jv_insR jm_1 dX12_init_111)
theorem e1_113 : jv_ev d 1 113 lc (r :: .ref a :: st) h = (jv_pf h a [(0, 26, .array .int)] r).bind fun h => jv_ev d 1 116 lc st h := jq_put (jv_insR jm_1 dX12_init_113) jo_1 ji_1 jG_1_55i
theorem e1_116 : jv_ev d 1 116 [some (.ref a)] st h = jv_ev d 1 117 [some (.ref a)] (.ref a :: st) h := jq_nx (jv_insR jm_1 dX12_init_116) rfl
theorem e1_117 : jv_ev d 1 117 lc st h = jv_ev d 1 119 lc (.int 12 :: st) h := jq_bipush (jv_insR jm_1 dX12_init_117) (by decide)
theorem e1_119 : jv_ev d 1 119 lc (.int v :: st) h = if v < 0 ∨ 100000 < v.toNatClampNeg then none else jv_ev d 1 121 lc (.ref h.length :: st) (h ++ [.inl (0, v.toNatClampNeg, .inl (fun _ => 0))]) := jq_newa (jv_insR jm_1 dX12_init_119)
theorem e1_121 : jv_ev d 1 121 lc (r :: .ref a :: st) h = (jv_pf h a [(0, 27, .array .int)] r).bind fun h => jv_ev d 1 124 lc st h := jq_put (jv_insR jm_1 dX12_init_121) jo_1 ji_1 jG_1_58i
theorem e1_124 : jv_ev d 1 124 [some (.ref a)] st h = jv_ev d 1 125 [some (.ref a)] (.ref a :: st) h := jq_nx (jv_insR jm_1 dX12_init_124) rfl
theorem e1_125 : jv_ev d 1 125 lc st h = jv_ev d 1 126 lc (.int 2 :: st) h := jq_iconst (jv_insR jm_1 dX12_init_125) (by decide)
theorem e1_126 : jv_ev d 1 126 lc (.int v :: st) h = if v < 0 ∨ 100000 < v.toNatClampNeg then none else jv_ev d 1 128 lc (.ref h.length :: st) (h ++ [.inl (0, v.toNatClampNeg, .inl (fun _ => 0))]) := jq_newa (jv_insR jm_1 dX12_init_126)
theorem e1_128 : jv_ev d 1 128 lc (r :: .ref a :: st) h = (jv_pf h a [(0, 28, .array .int)] r).bind fun h => jv_ev d 1 131 lc st h := jq_put (jv_insR jm_1 dX12_init_128) jo_1 ji_1 jG_1_61i
theorem e1_131 : jv_ev d 1 131 [some (.ref a)] st h = jv_ev d 1 132 [some (.ref a)] (.ref a :: st) h := jq_nx (jv_insR jm_1 dX12_init_131) rfl
theorem e1_132 : jv_ev d 1 132 lc st h = jv_ev d 1 134 lc (.int 8 :: st) h := jq_bipush (jv_insR jm_1 dX12_init_132) (by decide)
theorem e1_134 : jv_ev d 1 134 lc (.int v :: st) h = if v < 0 ∨ 100000 < v.toNatClampNeg then none else jv_ev d 1 136 lc (.ref h.length :: st) (h ++ [.inl (0, v.toNatClampNeg, .inl (fun _ => 0))]) := jq_newa (jv_insR jm_1 dX12_init_134)
theorem e1_136 : jv_ev d 1 136 lc (r :: .ref a :: st) h = (jv_pf h a [(0, 29, .array .int)] r).bind fun h => jv_ev d 1 139 lc st h := jq_put (jv_insR jm_1 dX12_init_136) jo_1 ji_1 jG_1_64i
theorem e1_139 : jv_ev d 1 139 [some (.ref a)] st h = jv_ev d 1 140 [some (.ref a)] (.ref a :: st) h := jq_nx (jv_insR jm_1 dX12_init_139) rfl
theorem e1_140 : jv_ev d 1 140 lc st h = jv_ev d 1 142 lc (.int 8 :: st) h := jq_bipush (jv_insR jm_1 dX12_init_140) (by decide)
theorem e1_142 : jv_ev d 1 142 lc (.int v :: st) h = if v < 0 ∨ 100000 < v.toNatClampNeg then none else jv_ev d 1 144 lc (.ref h.length :: st) (h ++ [.inl (0, v.toNatClampNeg, .inl (fun _ => 0))]) := jq_newa (jv_insR jm_1 dX12_init_142)
theorem e1_144 : jv_ev d 1 144 lc (r :: .ref a :: st) h = (jv_pf h a [(0, 30, .array .int)] r).bind fun h => jv_ev d 1 147 lc st h := jq_put (jv_insR jm_1 dX12_init_144) jo_1 ji_1 jG_1_67i
theorem e1_147 : jv_ev d 1 147 [some (.ref a)] st h = jv_ev d 1 148 [some (.ref a)] (.ref a :: st) h := jq_nx (jv_insR jm_1 dX12_init_147) rfl
theorem e1_148 : jv_ev d 1 148 lc st h = jv_ev d 1 149 lc (.int 2 :: st) h := jq_iconst (jv_insR jm_1 dX12_init_148) (by decide)
theorem e1_149 : jv_ev d 1 149 lc (.int v :: st) h = if v < 0 ∨ 100000 < v.toNatClampNeg then none else jv_ev d 1 151 lc (.ref h.length :: st) (h ++ [.inl (0, v.toNatClampNeg, .inl (fun _ => 0))]) := jq_newa (jv_insR jm_1 dX12_init_149)
theorem e1_151 : jv_ev d 1 151 lc (r :: .ref a :: st) h = (jv_pf h a [(0, 31, .array .int)] r).bind fun h => jv_ev d 1 154 lc st h := jq_put (jv_insR jm_1 dX12_init_151) jo_1 ji_1 jG_1_70i
theorem e1_154 : jv_ev d 1 154 [some (.ref a)] st h = jv_ev d 1 155 [some (.ref a)] (.ref a :: st) h := jq_nx (jv_insR jm_1 dX12_init_154) rfl
theorem e1_155 : jv_ev d 1 155 lc st h = jv_ev d 1 156 lc (.int 2 :: st) h := jq_iconst (jv_insR jm_1 dX12_init_155) (by decide)
theorem e1_156 : jv_ev d 1 156 lc (.int v :: st) h = if v < 0 ∨ 100000 < v.toNatClampNeg then none else jv_ev d 1 158 lc (.ref h.length :: st) (h ++ [.inl (0, v.toNatClampNeg, .inl (fun _ => 0))]) := jq_newa (jv_insR jm_1 dX12_init_156)
theorem e1_158 : jv_ev d 1 158 lc (r :: .ref a :: st) h = (jv_pf h a [(0, 32, .array .int)] r).bind fun h => jv_ev d 1 161 lc st h := jq_put (jv_insR jm_1 dX12_init_158) jo_1 ji_1 jG_1_73i
theorem e1_161 : jv_ev d 1 161 [some (.ref a)] st h = jv_ev d 1 162 [some (.ref a)] (.ref a :: st) h := jq_nx (jv_insR jm_1 dX12_init_161) rfl
theorem e1_162 : jv_ev d 1 162 lc st h = jv_ev d 1 163 lc (.int 2 :: st) h := jq_iconst (jv_insR jm_1 dX12_init_162) (by decide)
theorem e1_163 : jv_ev d 1 163 lc (.int v :: st) h = if v < 0 ∨ 100000 < v.toNatClampNeg then none else jv_ev d 1 165 lc (.ref h.length :: st) (h ++ [.inl (0, v.toNatClampNeg, .inl (fun _ => 0))]) := jq_newa (jv_insR jm_1 dX12_init_163)
theorem e1_165 : jv_ev d 1 165 lc (r :: .ref a :: st) h = (jv_pf h a [(0, 33, .array .int)] r).bind fun h => jv_ev d 1 168 lc st h := jq_put (jv_insR jm_1 dX12_init_165) jo_1 ji_1 jG_1_76i
theorem e1_168 : jv_ev d 1 168 [some (.ref a)] st h = jv_ev d 1 169 [some (.ref a)] (.ref a :: st) h := jq_nx (jv_insR jm_1 dX12_init_168) rfl
theorem e1_169 : jv_ev d 1 169 lc st h = jv_ev d 1 171 lc (.int 6 :: st) h := jq_bipush (jv_insR jm_1 dX12_init_169) (by decide)
theorem e1_171 : jv_ev d 1 171 lc (.int v :: st) h = if v < 0 ∨ 100000 < v.toNatClampNeg then none else jv_ev d 1 173 lc (.ref h.length :: st) (h ++ [.inl (0, v.toNatClampNeg, .inl (fun _ => 0))]) := jq_newa (jv_insR jm_1 dX12_init_171)
theorem e1_173 : jv_ev d 1 173 lc (r :: .ref a :: st) h = (jv_pf h a [(0, 34, .array .int)] r).bind fun h => jv_ev d 1 176 lc st h := jq_put (jv_insR jm_1 dX12_init_173) jo_1 ji_1 jG_1_79i
theorem e1_176 : jv_ev d 1 176 [some (.ref a)] st h = jv_ev d 1 177 [some (.ref a)] (.ref a :: st) h := jq_nx (jv_insR jm_1 dX12_init_176) rfl
theorem e1_177 : jv_ev d 1 177 lc st h = jv_ev d 1 179 lc (.int 6 :: st) h := jq_bipush (jv_insR jm_1 dX12_init_177) (by decide)
theorem e1_179 : jv_ev d 1 179 lc (.int v :: st) h = if v < 0 ∨ 100000 < v.toNatClampNeg then none else jv_ev d 1 181 lc (.ref h.length :: st) (h ++ [.inl (0, v.toNatClampNeg, .inl (fun _ => 0))]) := jq_newa (jv_insR jm_1 dX12_init_179)
theorem e1_181 : jv_ev d 1 181 lc (r :: .ref a :: st) h = (jv_pf h a [(0, 35, .array .int)] r).bind fun h => jv_ev d 1 184 lc st h := jq_put (jv_insR jm_1 dX12_init_181) jo_1 ji_1 jG_1_82i
theorem e1_184 : jv_ev d 1 184 [some (.ref a)] st h = jv_ev d 1 185 [some (.ref a)] (.ref a :: st) h := jq_nx (jv_insR jm_1 dX12_init_184) rfl
theorem e1_185 : jv_ev d 1 185 lc st h = jv_ev d 1 188 lc (.int 260 :: st) h := jq_sipush (jv_insR jm_1 dX12_init_185) (by decide)
theorem e1_188 : jv_ev d 1 188 lc (.int v :: st) h = if v < 0 ∨ 100000 < v.toNatClampNeg then none else jv_ev d 1 190 lc (.ref h.length :: st) (h ++ [.inl (2, v.toNatClampNeg, .inl (fun _ => 0))]) := jq_newa (jv_insR jm_1 dX12_init_188)
theorem e1_190 : jv_ev d 1 190 lc (r :: .ref a :: st) h = (jv_pf h a [(0, 37, .array .boolean)] r).bind fun h => jv_ev d 1 193 lc st h := jq_put (jv_insR jm_1 dX12_init_190) jo_1 ji_1 jG_1_85i
theorem e1_193 : jv_ev d 1 193 [some (.ref a)] st h = jv_ev d 1 194 [some (.ref a)] (.ref a :: st) h := jq_nx (jv_insR jm_1 dX12_init_193) rfl
theorem e1_194 : jv_ev d 1 194 lc st h = jv_ev d 1 197 lc (.int 260 :: st) h := jq_sipush (jv_insR jm_1 dX12_init_194) (by decide)
theorem e1_197 : jv_ev d 1 197 lc (.int v :: st) h = if v < 0 ∨ 100000 < v.toNatClampNeg then none else jv_ev d 1 199 lc (.ref h.length :: st) (h ++ [.inl (0, v.toNatClampNeg, .inl (fun _ => 0))]) := jq_newa (jv_insR jm_1 dX12_init_197)
theorem e1_199 : jv_ev d 1 199 lc (r :: .ref a :: st) h = (jv_pf h a [(0, 38, .array .int)] r).bind fun h => jv_ev d 1 202 lc st h := jq_put (jv_insR jm_1 dX12_init_199) jo_1 ji_1 jG_1_89i
theorem e1_202 : jv_ev d 1 202 [some (.ref a)] st h = jv_ev d 1 203 [some (.ref a)] (.ref a :: st) h := jq_nx (jv_insR jm_1 dX12_init_202) rfl
theorem e1_203 : jv_ev d 1 203 lc st h = jv_ev d 1 206 lc (.int 260 :: st) h := jq_sipush (jv_insR jm_1 dX12_init_203) (by decide)
theorem e1_206 : jv_ev d 1 206 lc (.int v :: st) h = if v < 0 ∨ 100000 < v.toNatClampNeg then none else jv_ev d 1 208 lc (.ref h.length :: st) (h ++ [.inl (0, v.toNatClampNeg, .inl (fun _ => 0))]) := jq_newa (jv_insR jm_1 dX12_init_206)
theorem e1_208 : jv_ev d 1 208 lc (r :: .ref a :: st) h = (jv_pf h a [(0, 39, .array .int)] r).bind fun h => jv_ev d 1 211 lc st h := jq_put (jv_insR jm_1 dX12_init_208) jo_1 ji_1 jG_1_92i
theorem e1_211 : jv_ev d 1 211 [some (.ref a)] st h = jv_ev d 1 212 [some (.ref a)] (.ref a :: st) h := jq_nx (jv_insR jm_1 dX12_init_211) rfl
theorem e1_212 : jv_ev d 1 212 lc st h = jv_ev d 1 215 lc (.int 260 :: st) h := jq_sipush (jv_insR jm_1 dX12_init_212) (by decide)
theorem e1_215 : jv_ev d 1 215 lc (.int v :: st) h = if v < 0 ∨ 100000 < v.toNatClampNeg then none else jv_ev d 1 217 lc (.ref h.length :: st) (h ++ [.inl (0, v.toNatClampNeg, .inl (fun _ => 0))]) := jq_newa (jv_insR jm_1 dX12_init_215)
theorem e1_217 : jv_ev d 1 217 lc (r :: .ref a :: st) h = (jv_pf h a [(0, 40, .array .int)] r).bind fun h => jv_ev d 1 220 lc st h := jq_put (jv_insR jm_1 dX12_init_217) jo_1 ji_1 jG_1_95i
theorem e1_220 : jv_ev d 1 220 [some (.ref a)] st h = jv_ev d 1 221 [some (.ref a)] (.ref a :: st) h := jq_nx (jv_insR jm_1 dX12_init_220) rfl
theorem e1_221 : jv_ev d 1 221 lc st h = jv_ev d 1 224 lc (.int 260 :: st) h := jq_sipush (jv_insR jm_1 dX12_init_221) (by decide)
theorem e1_224 : jv_ev d 1 224 lc (.int v :: st) h = if v < 0 ∨ 100000 < v.toNatClampNeg then none else jv_ev d 1 226 lc (.ref h.length :: st) (h ++ [.inl (0, v.toNatClampNeg, .inl (fun _ => 0))]) := jq_newa (jv_insR jm_1 dX12_init_224)
theorem e1_226 : jv_ev d 1 226 lc (r :: .ref a :: st) h = (jv_pf h a [(0, 41, .array .int)] r).bind fun h => jv_ev d 1 229 lc st h := jq_put (jv_insR jm_1 dX12_init_226) jo_1 ji_1 jG_1_98i
theorem e1_229 : jv_ev d 1 229 [some (.ref a)] st h = jv_ev d 1 230 [some (.ref a)] (.ref a :: st) h := jq_nx (jv_insR jm_1 dX12_init_229) rfl
theorem e1_230 : jv_ev d 1 230 lc st h = jv_ev d 1 233 lc (.int 840 :: st) h := jq_sipush (jv_insR jm_1 dX12_init_230) (by decide)
theorem e1_233 : jv_ev d 1 233 lc (.int v :: st) h = if v < 0 ∨ 100000 < v.toNatClampNeg then none else jv_ev d 1 235 lc (.ref h.length :: st) (h ++ [.inl (0, v.toNatClampNeg, .inl (fun _ => 0))]) := jq_newa (jv_insR jm_1 dX12_init_233)
theorem e1_235 : jv_ev d 1 235 lc (r :: .ref a :: st) h = (jv_pf h a [(0, 43, .array .int)] r).bind fun h => jv_ev d 1 238 lc st h := jq_put (jv_insR jm_1 dX12_init_235) jo_1 ji_1 jG_1_101i
theorem e1_238 : jv_ev d 1 238 [some (.ref a)] st h = jv_ev d 1 239 [some (.ref a)] (.ref a :: st) h := jq_nx (jv_insR jm_1 dX12_init_238) rfl
theorem e1_239 : jv_ev d 1 239 lc st h = jv_ev d 1 242 lc (.int 840 :: st) h := jq_sipush (jv_insR jm_1 dX12_init_239) (by decide)
theorem e1_242 : jv_ev d 1 242 lc (.int v :: st) h = if v < 0 ∨ 100000 < v.toNatClampNeg then none else jv_ev d 1 244 lc (.ref h.length :: st) (h ++ [.inl (0, v.toNatClampNeg, .inl (fun _ => 0))]) := jq_newa (jv_insR jm_1 dX12_init_242)
theorem e1_244 : jv_ev d 1 244 lc (r :: .ref a :: st) h = (jv_pf h a [(0, 44, .array .int)] r).bind fun h => jv_ev d 1 247 lc st h := jq_put (jv_insR jm_1 dX12_init_244) jo_1 ji_1 jG_1_104i
theorem e1_247 : jv_ev d 1 247 [some (.ref a)] st h = jv_ev d 1 248 [some (.ref a)] (.ref a :: st) h := jq_nx (jv_insR jm_1 dX12_init_247) rfl
theorem e1_248 : jv_ev d 1 248 lc st h = jv_ev d 1 250 lc (.int 64 :: st) h := jq_bipush (jv_insR jm_1 dX12_init_248) (by decide)
theorem e1_250 : jv_ev d 1 250 lc (.int v :: st) h = if v < 0 ∨ 100000 < v.toNatClampNeg then none else jv_ev d 1 252 lc (.ref h.length :: st) (h ++ [.inl (0, v.toNatClampNeg, .inl (fun _ => 0))]) := jq_newa (jv_insR jm_1 dX12_init_250)
theorem e1_252 : jv_ev d 1 252 lc (r :: .ref a :: st) h = (jv_pf h a [(0, 45, .array .int)] r).bind fun h => jv_ev d 1 255 lc st h := jq_put (jv_insR jm_1 dX12_init_252) jo_1 ji_1 jG_1_107i
theorem e1_255 : jv_ev d 1 255 [some (.ref a)] st h = jv_ev d 1 256 [some (.ref a)] (.ref a :: st) h := jq_nx (jv_insR jm_1 dX12_init_255) rfl
theorem e1_256 : jv_ev d 1 256 lc st h = jv_ev d 1 258 lc (.int 9 :: st) h := jq_bipush (jv_insR jm_1 dX12_init_256) (by decide)
theorem e1_258 : jv_ev d 1 258 lc (.int v :: st) h = if v < 0 ∨ 100000 < v.toNatClampNeg then none else jv_ev d 1 260 lc (.ref h.length :: st) (h ++ [.inl (0, v.toNatClampNeg, .inl (fun _ => 0))]) := jq_newa (jv_insR jm_1 dX12_init_258)
theorem e1_260 : jv_ev d 1 260 lc (r :: .ref a :: st) h = (jv_pf h a [(0, 47, .array .int)] r).bind fun h => jv_ev d 1 263 lc st h := jq_put (jv_insR jm_1 dX12_init_260) jo_1 ji_1 jG_1_110i
theorem e1_263 : jv_ev d 1 263 [some (.ref a)] st h = jv_ev d 1 264 [some (.ref a)] (.ref a :: st) h := jq_nx (jv_insR jm_1 dX12_init_263) rfl
theorem e1_264 : jv_ev d 1 264 lc st h = jv_ev d 1 267 lc (.int 400 :: st) h := jq_sipush (jv_insR jm_1 dX12_init_264) (by decide)
theorem e1_267 : jv_ev d 1 267 lc (.int v :: st) h = if v < 0 ∨ 100000 < v.toNatClampNeg then none else jv_ev d 1 269 lc (.ref h.length :: st) (h ++ [.inl (0, v.toNatClampNeg, .inl (fun _ => 0))]) := jq_newa (jv_insR jm_1 dX12_init_267)
theorem e1_269 : jv_ev d 1 269 lc (r :: .ref a :: st) h = (jv_pf h a [(0, 48, .array .int)] r).bind fun h => jv_ev d 1 272 lc st h := jq_put (jv_insR jm_1 dX12_init_269) jo_1 ji_1 jG_1_113i
theorem e1_272 : jv_ev d 1 272 [some (.ref a)] st h = jv_ev d 1 273 [some (.ref a)] (.ref a :: st) h := jq_nx (jv_insR jm_1 dX12_init_272) rfl
theorem e1_273 : jv_ev d 1 273 lc st h = jv_ev d 1 275 lc (.int 92 :: st) h := jq_bipush (jv_insR jm_1 dX12_init_273) (by decide)
theorem e1_275 : jv_ev d 1 275 lc (.int v :: st) h = if v < 0 ∨ 100000 < v.toNatClampNeg then none else jv_ev d 1 277 lc (.ref h.length :: st) (h ++ [.inl (0, v.toNatClampNeg, .inl (fun _ => 0))]) := jq_newa (jv_insR jm_1 dX12_init_275)
theorem e1_277 : jv_ev d 1 277 lc (r :: .ref a :: st) h = (jv_pf h a [(0, 50, .array .int)] r).bind fun h => jv_ev d 1 280 lc st h := jq_put (jv_insR jm_1 dX12_init_277) jo_1 ji_1 jG_1_116i
theorem e1_280 : jv_ev d 1 280 [some (.ref a)] st h = jv_ev d 1 281 [some (.ref a)] (.ref a :: st) h := jq_nx (jv_insR jm_1 dX12_init_280) rfl
theorem e1_281 : jv_ev d 1 281 lc st h = jv_ev d 1 283 lc (.int 92 :: st) h := jq_bipush (jv_insR jm_1 dX12_init_281) (by decide)
theorem e1_283 : jv_ev d 1 283 lc (.int v :: st) h = if v < 0 ∨ 100000 < v.toNatClampNeg then none else jv_ev d 1 285 lc (.ref h.length :: st) (h ++ [.inl (0, v.toNatClampNeg, .inl (fun _ => 0))]) := jq_newa (jv_insR jm_1 dX12_init_283)
theorem e1_285 : jv_ev d 1 285 lc (r :: .ref a :: st) h = (jv_pf h a [(0, 51, .array .int)] r).bind fun h => jv_ev d 1 288 lc st h := jq_put (jv_insR jm_1 dX12_init_285) jo_1 ji_1 jG_1_119i
theorem e1_288 : jv_ev d 1 288 [some (.ref a)] st h = jv_ev d 1 289 [some (.ref a)] (.ref a :: st) h := jq_nx (jv_insR jm_1 dX12_init_288) rfl
theorem e1_289 : jv_ev d 1 289 lc st h = jv_ev d 1 292 lc (.int 2760 :: st) h := jq_sipush (jv_insR jm_1 dX12_init_289) (by decide)
theorem e1_292 : jv_ev d 1 292 lc (.int v :: st) h = if v < 0 ∨ 100000 < v.toNatClampNeg then none else jv_ev d 1 294 lc (.ref h.length :: st) (h ++ [.inl (0, v.toNatClampNeg, .inl (fun _ => 0))]) := jq_newa (jv_insR jm_1 dX12_init_292)
theorem e1_294 : jv_ev d 1 294 lc (r :: .ref a :: st) h = (jv_pf h a [(0, 54, .array .int)] r).bind fun h => jv_ev d 1 297 lc st h := jq_put (jv_insR jm_1 dX12_init_294) jo_1 ji_1 jG_1_122i
theorem e1_297 : jv_ev d 1 297 [some (.ref a)] st h = jv_ev d 1 298 [some (.ref a)] (.ref a :: st) h := jq_nx (jv_insR jm_1 dX12_init_297) rfl
theorem e1_298 : jv_ev d 1 298 lc st h = jv_ev d 1 299 lc (.int 4 :: st) h := jq_iconst (jv_insR jm_1 dX12_init_298) (by decide)
theorem e1_299 : jv_ev d 1 299 lc (.int v :: st) h = if v < 0 ∨ 100000 < v.toNatClampNeg then none else jv_ev d 1 301 lc (.ref h.length :: st) (h ++ [.inl (0, v.toNatClampNeg, .inl (fun _ => 0))]) := jq_newa (jv_insR jm_1 dX12_init_299)
theorem e1_301 : jv_ev d 1 301 lc (r :: .ref a :: st) h = (jv_pf h a [(0, 57, .array .int)] r).bind fun h => jv_ev d 1 304 lc st h := jq_put (jv_insR jm_1 dX12_init_301) jo_1 ji_1 jG_1_125i
theorem e1_304 : jv_ev d 1 304 [some (.ref a)] st h = jv_ev d 1 305 [some (.ref a)] (.ref a :: st) h := jq_nx (jv_insR jm_1 dX12_init_304) rfl
theorem e1_305 : jv_ev d 1 305 lc st h = jv_ev d 1 306 lc (.int 4 :: st) h := jq_iconst (jv_insR jm_1 dX12_init_305) (by decide)
theorem e1_306 : jv_ev d 1 306 lc (.int v :: st) h = if v < 0 ∨ 100000 < v.toNatClampNeg then none else jv_ev d 1 308 lc (.ref h.length :: st) (h ++ [.inl (0, v.toNatClampNeg, .inl (fun _ => 0))]) := jq_newa (jv_insR jm_1 dX12_init_306)
theorem e1_308 : jv_ev d 1 308 lc (r :: .ref a :: st) h = (jv_pf h a [(0, 58, .array .int)] r).bind fun h => jv_ev d 1 311 lc st h := jq_put (jv_insR jm_1 dX12_init_308) jo_1 ji_1 jG_1_128i
theorem e1_311 : jv_ev d 1 311 [some (.ref a)] st h = jv_ev d 1 312 [some (.ref a)] (.ref a :: st) h := jq_nx (jv_insR jm_1 dX12_init_311) rfl
theorem e1_312 : jv_ev d 1 312 lc st h = jv_ev d 1 313 lc (.int 4 :: st) h := jq_iconst (jv_insR jm_1 dX12_init_312) (by decide)
theorem e1_313 : jv_ev d 1 313 lc (.int v :: st) h = if v < 0 ∨ 100000 < v.toNatClampNeg then none else jv_ev d 1 315 lc (.ref h.length :: st) (h ++ [.inl (0, v.toNatClampNeg, .inl (fun _ => 0))]) := jq_newa (jv_insR jm_1 dX12_init_313)
theorem e1_315 : jv_ev d 1 315 lc (r :: .ref a :: st) h = (jv_pf h a [(0, 59, .array .int)] r).bind fun h => jv_ev d 1 318 lc st h := jq_put (jv_insR jm_1 dX12_init_315) jo_1 ji_1 jG_1_131i
theorem e1_318 : jv_ev d 1 318 [some (.ref a)] st h = jv_ev d 1 319 [some (.ref a)] (.ref a :: st) h := jq_nx (jv_insR jm_1 dX12_init_318) rfl
theorem e1_319 : jv_ev d 1 319 lc st h = jv_ev d 1 321 lc (.int 24 :: st) h := jq_bipush (jv_insR jm_1 dX12_init_319) (by decide)
theorem e1_321 : jv_ev d 1 321 lc (.int v :: st) h = if v < 0 ∨ 100000 < v.toNatClampNeg then none else jv_ev d 1 323 lc (.ref h.length :: st) (h ++ [.inl (0, v.toNatClampNeg, .inl (fun _ => 0))]) := jq_newa (jv_insR jm_1 dX12_init_321)
theorem e1_323 : jv_ev d 1 323 lc (r :: .ref a :: st) h = (jv_pf h a [(0, 60, .array .int)] r).bind fun h => jv_ev d 1 326 lc st h := jq_put (jv_insR jm_1 dX12_init_323) jo_1 ji_1 jG_1_134i
theorem e1_326 : jv_ev d 1 326 [some (.ref a)] st h = jv_ev d 1 327 [some (.ref a)] (.ref a :: st) h := jq_nx (jv_insR jm_1 dX12_init_326) rfl
theorem e1_327 : jv_ev d 1 327 lc st h = jv_ev d 1 329 lc (.int 24 :: st) h := jq_bipush (jv_insR jm_1 dX12_init_327) (by decide)
theorem e1_329 : jv_ev d 1 329 lc (.int v :: st) h = if v < 0 ∨ 100000 < v.toNatClampNeg then none else jv_ev d 1 331 lc (.ref h.length :: st) (h ++ [.inl (0, v.toNatClampNeg, .inl (fun _ => 0))]) := jq_newa (jv_insR jm_1 dX12_init_329)
theorem e1_331 : jv_ev d 1 331 lc (r :: .ref a :: st) h = (jv_pf h a [(0, 64, .array .int)] r).bind fun h => jv_ev d 1 334 lc st h := jq_put (jv_insR jm_1 dX12_init_331) jo_1 ji_1 jG_1_137i
theorem e1_334 : jv_ev d 1 334 [some (.ref a)] st h = jv_ev d 1 335 [some (.ref a)] (.ref a :: st) h := jq_nx (jv_insR jm_1 dX12_init_334) rfl
theorem e1_335 : jv_ev d 1 335 lc st h = jv_ev d 1 337 lc (.int 20 :: st) h := jq_bipush (jv_insR jm_1 dX12_init_335) (by decide)
theorem e1_337 : jv_ev d 1 337 lc (.int v :: st) h = if v < 0 ∨ 100000 < v.toNatClampNeg then none else jv_ev d 1 339 lc (.ref h.length :: st) (h ++ [.inl (0, v.toNatClampNeg, .inl (fun _ => 0))]) := jq_newa (jv_insR jm_1 dX12_init_337)
theorem e1_339 : jv_ev d 1 339 lc (r :: .ref a :: st) h = (jv_pf h a [(0, 66, .array .int)] r).bind fun h => jv_ev d 1 342 lc st h := jq_put (jv_insR jm_1 dX12_init_339) jo_1 ji_1 jG_1_140i
theorem e1_342 : jv_ev d 1 342 [some (.ref a)] st h = jv_ev d 1 343 [some (.ref a)] (.ref a :: st) h := jq_nx (jv_insR jm_1 dX12_init_342) rfl
theorem e1_343 : jv_ev d 1 343 lc st h = jv_ev d 1 345 lc (.int 20 :: st) h := jq_bipush (jv_insR jm_1 dX12_init_343) (by decide)
theorem e1_345 : jv_ev d 1 345 lc (.int v :: st) h = if v < 0 ∨ 100000 < v.toNatClampNeg then none else jv_ev d 1 347 lc (.ref h.length :: st) (h ++ [.inl (0, v.toNatClampNeg, .inl (fun _ => 0))]) := jq_newa (jv_insR jm_1 dX12_init_345)
theorem e1_347 : jv_ev d 1 347 lc (r :: .ref a :: st) h = (jv_pf h a [(0, 67, .array .int)] r).bind fun h => jv_ev d 1 350 lc st h := jq_put (jv_insR jm_1 dX12_init_347) jo_1 ji_1 jG_1_143i
theorem e1_350 : jv_ev d 1 350 [some (.ref a)] st h = jv_ev d 1 351 [some (.ref a)] (.ref a :: st) h := jq_nx (jv_insR jm_1 dX12_init_350) rfl
theorem e1_351 : jv_ev d 1 351 lc st h = jv_ev d 1 354 lc (.int 256 :: st) h := jq_sipush (jv_insR jm_1 dX12_init_351) (by decide)
theorem e1_354 : jv_ev d 1 354 lc (.int v :: st) h = if v < 0 ∨ 100000 < v.toNatClampNeg then none else jv_ev d 1 356 lc (.ref h.length :: st) (h ++ [.inl (2, v.toNatClampNeg, .inl (fun _ => 0))]) := jq_newa (jv_insR jm_1 dX12_init_354)
theorem e1_356 : jv_ev d 1 356 lc (r :: .ref a :: st) h = (jv_pf h a [(0, 68, .array .boolean)] r).bind fun h => jv_ev d 1 359 lc st h := jq_put (jv_insR jm_1 dX12_init_356) jo_1 ji_1 jG_1_146i
theorem e1_359 : jv_ev d 1 359 [some (.ref a)] st h = jv_ev d 1 360 [some (.ref a)] (.ref a :: st) h := jq_nx (jv_insR jm_1 dX12_init_359) rfl
theorem e1_360 : jv_ev d 1 360 lc st h = jv_ev d 1 362 lc (.int 10 :: st) h := jq_bipush (jv_insR jm_1 dX12_init_360) (by decide)
theorem e1_362 : jv_ev d 1 362 lc (.int v :: st) h = if v < 0 ∨ 100000 < v.toNatClampNeg then none else jv_ev d 1 364 lc (.ref h.length :: st) (h ++ [.inl (0, v.toNatClampNeg, .inl (fun _ => 0))]) := jq_newa (jv_insR jm_1 dX12_init_362)
theorem e1_364 : jv_ev d 1 364 lc (r :: .ref a :: st) h = (jv_pf h a [(0, 69, .array .int)] r).bind fun h => jv_ev d 1 367 lc st h := jq_put (jv_insR jm_1 dX12_init_364) jo_1 ji_1 jG_1_149i
theorem e1_367 : jv_ev d 1 367 [some (.ref a)] st h = jv_ev d 1 368 [some (.ref a)] (.ref a :: st) h := jq_nx (jv_insR jm_1 dX12_init_367) rfl
theorem e1_368 : jv_ev d 1 368 lc st h = jv_ev d 1 369 lc (.int 3 :: st) h := jq_iconst (jv_insR jm_1 dX12_init_368) (by decide)
theorem e1_369 : jv_ev d 1 369 lc (.int v :: st) h = if v < 0 ∨ 100000 < v.toNatClampNeg then none else jv_ev d 1 371 lc (.ref h.length :: st) (h ++ [.inl (2, v.toNatClampNeg, .inl (fun _ => 0))]) := jq_newa (jv_insR jm_1 dX12_init_369)
theorem e1_371 : jv_ev d 1 371 lc (r :: .ref a :: st) h = (jv_pf h a [(0, 70, .array .boolean)] r).bind fun h => jv_ev d 1 374 lc st h := jq_put (jv_insR jm_1 dX12_init_371) jo_1 ji_1 jG_1_152i
theorem e1_374 : jv_ev d 1 374 [some (.ref a)] st h = jv_ev d 1 375 [some (.ref a)] (.ref a :: st) h := jq_nx (jv_insR jm_1 dX12_init_374) rfl
theorem e1_375 : jv_ev d 1 375 lc st h = jv_ev d 1 378 lc (.int 276 :: st) h := jq_sipush (jv_insR jm_1 dX12_init_375) (by decide)
theorem e1_378 : jv_ev d 1 378 lc (.int v :: st) h = if v < 0 ∨ 100000 < v.toNatClampNeg then none else jv_ev d 1 380 lc (.ref h.length :: st) (h ++ [.inl (0, v.toNatClampNeg, .inl (fun _ => 0))]) := jq_newa (jv_insR jm_1 dX12_init_378)
theorem e1_380 : jv_ev d 1 380 lc (r :: .ref a :: st) h = (jv_pf h a [(0, 71, .array .int)] r).bind fun h => jv_ev d 1 383 lc st h := jq_put (jv_insR jm_1 dX12_init_380) jo_1 ji_1 jG_1_155i
theorem e1_383 : jv_ev d 1 383 [some (.ref a)] st h = jv_ev d 1 384 [some (.ref a)] (.ref a :: st) h := jq_nx (jv_insR jm_1 dX12_init_383) rfl
theorem e1_384 : jv_ev d 1 384 lc st h = jv_ev d 1 385 lc (.int 0 :: st) h := jq_iconst (jv_insR jm_1 dX12_init_384) (by decide)
theorem e1_385 : jv_ev d 1 385 lc [z0, .ref b] h = (jv_rc h b [(0, 2)]).bind fun y => (jv_cd d y [.ref b, z0] h).bind fun r => jv_on r (fun v h => jv_ev d 1 388 lc (v.toList ++ []) h) (fun q h => some (.inr q, h)) := jq_V (as := [z0]) (rest := []) (jv_insR jm_1 dX12_init_385) jo_1 jV_1_158 rfl rfl rfl rfl
theorem e1_388 : jv_ev d 1 388 [some (.ref a)] st h = jv_ev d 1 389 [some (.ref a)] (.ref a :: st) h := jq_nx (jv_insR jm_1 dX12_init_388) rfl
theorem e1_389 : jv_ev d 1 389 lc (.ref a :: st) h = (jv_gf h a [(0, 9, .array .long)]).bind fun r => jv_ev d 1 392 lc (r :: st) h := jq_get (jv_insR jm_1 dX12_init_389) jo_1 jF_1_34
theorem e1_392 : jv_ev d 1 392 lc st h = jv_ev d 1 393 lc (.int 0 :: st) h := jq_iconst (jv_insR jm_1 dX12_init_392) (by decide)
theorem e1_393 : jv_ev d 1 393 lc st h = jv_ev d 1 395 lc (.int 114 :: st) h := jq_bipush (jv_insR jm_1 dX12_init_393) (by decide)
theorem e1_395 : jv_ev d 1 395 lc st h = jv_ev d 1 397 lc (.int 111 :: st) h := jq_bipush (jv_insR jm_1 dX12_init_395) (by decide)
theorem e1_397 : jv_ev d 1 397 lc st h = jv_ev d 1 399 lc (.int 119 :: st) h := jq_bipush (jv_insR jm_1 dX12_init_397) (by decide)
theorem e1_399 : jv_ev d 1 399 lc st h = jv_ev d 1 400 lc (.int 0 :: st) h := jq_iconst (jv_insR jm_1 dX12_init_399) (by decide)
theorem e1_400 : jv_ev d 1 400 lc st h = jv_ev d 1 401 lc (.int 0 :: st) h := jq_iconst (jv_insR jm_1 dX12_init_400) (by decide)
theorem e1_401 : jv_ev d 1 401 lc st h = jv_ev d 1 402 lc (.int 0 :: st) h := jq_iconst (jv_insR jm_1 dX12_init_401) (by decide)
theorem e1_402 : jv_ev d 1 402 lc st h = jv_ev d 1 403 lc (.int 0 :: st) h := jq_iconst (jv_insR jm_1 dX12_init_402) (by decide)
theorem e1_403 : jv_ev d 1 403 lc [z6, z5, z4, z3, z2, z1, z0, y0, y1] h = (jv_cd d 3 [z0, z1, z2, z3, z4, z5, z6] h).bind fun r => jv_on r (fun v h => jv_ev d 1 406 lc (v.toList ++ [y0, y1]) h) (fun q h => some (.inr q, h)) := jq_S (as := [z0, z1, z2, z3, z4, z5, z6]) (rest := [y0, y1]) (jv_insR jm_1 dX12_init_403) jo_1 jT_1_162 rfl rfl rfl rfl
theorem e1_406 : jv_ev d 1 406 lc (.long lw :: .int v :: .ref a :: st) h = (jv_lp h a v lw).bind fun h => jv_ev d 1 407 lc st h := jq_last (jv_insR jm_1 dX12_init_406)
theorem e1_407 : jv_ev d 1 407 [some (.ref a)] st h = jv_ev d 1 408 [some (.ref a)] (.ref a :: st) h := jq_nx (jv_insR jm_1 dX12_init_407) rfl
theorem e1_408 : jv_ev d 1 408 lc (.ref a :: st) h = (jv_gf h a [(0, 9, .array .long)]).bind fun r => jv_ev d 1 411 lc (r :: st) h := jq_get (jv_insR jm_1 dX12_init_408) jo_1 jF_1_34
theorem e1_411 : jv_ev d 1 411 lc st h = jv_ev d 1 412 lc (.int 1 :: st) h := jq_iconst (jv_insR jm_1 dX12_init_411) (by decide)
theorem e1_412 : jv_ev d 1 412 lc st h = jv_ev d 1 414 lc (.int 102 :: st) h := jq_bipush (jv_insR jm_1 dX12_init_412) (by decide)
theorem e1_414 : jv_ev d 1 414 lc st h = jv_ev d 1 416 lc (.int 105 :: st) h := jq_bipush (jv_insR jm_1 dX12_init_414) (by decide)
theorem e1_416 : jv_ev d 1 416 lc st h = jv_ev d 1 418 lc (.int 101 :: st) h := jq_bipush (jv_insR jm_1 dX12_init_416) (by decide)
theorem e1_418 : jv_ev d 1 418 lc st h = jv_ev d 1 420 lc (.int 108 :: st) h := jq_bipush (jv_insR jm_1 dX12_init_418) (by decide)
theorem e1_420 : jv_ev d 1 420 lc st h = jv_ev d 1 422 lc (.int 100 :: st) h := jq_bipush (jv_insR jm_1 dX12_init_420) (by decide)
theorem e1_422 : jv_ev d 1 422 lc st h = jv_ev d 1 423 lc (.int 0 :: st) h := jq_iconst (jv_insR jm_1 dX12_init_422) (by decide)
theorem e1_423 : jv_ev d 1 423 lc st h = jv_ev d 1 424 lc (.int 0 :: st) h := jq_iconst (jv_insR jm_1 dX12_init_423) (by decide)
theorem e1_424 : jv_ev d 1 424 lc [z6, z5, z4, z3, z2, z1, z0, y0, y1] h = (jv_cd d 3 [z0, z1, z2, z3, z4, z5, z6] h).bind fun r => jv_on r (fun v h => jv_ev d 1 427 lc (v.toList ++ [y0, y1]) h) (fun q h => some (.inr q, h)) := jq_S (as := [z0, z1, z2, z3, z4, z5, z6]) (rest := [y0, y1]) (jv_insR jm_1 dX12_init_424) jo_1 jT_1_162 rfl rfl rfl rfl
theorem e1_427 : jv_ev d 1 427 lc (.long lw :: .int v :: .ref a :: st) h = (jv_lp h a v lw).bind fun h => jv_ev d 1 428 lc st h := jq_last (jv_insR jm_1 dX12_init_427)
theorem e1_428 : jv_ev d 1 428 [some (.ref a)] st h = jv_ev d 1 429 [some (.ref a)] (.ref a :: st) h := jq_nx (jv_insR jm_1 dX12_init_428) rfl
theorem e1_429 : jv_ev d 1 429 lc (.ref a :: st) h = (jv_gf h a [(0, 9, .array .long)]).bind fun r => jv_ev d 1 432 lc (r :: st) h := jq_get (jv_insR jm_1 dX12_init_429) jo_1 jF_1_34
theorem e1_432 : jv_ev d 1 432 lc st h = jv_ev d 1 433 lc (.int 2 :: st) h := jq_iconst (jv_insR jm_1 dX12_init_432) (by decide)
theorem e1_433 : jv_ev d 1 433 lc st h = jv_ev d 1 435 lc (.int 108 :: st) h := jq_bipush (jv_insR jm_1 dX12_init_433) (by decide)
theorem e1_435 : jv_ev d 1 435 lc st h = jv_ev d 1 437 lc (.int 111 :: st) h := jq_bipush (jv_insR jm_1 dX12_init_435) (by decide)
theorem e1_437 : jv_ev d 1 437 lc st h = jv_ev d 1 439 lc (.int 111 :: st) h := jq_bipush (jv_insR jm_1 dX12_init_437) (by decide)
theorem e1_439 : jv_ev d 1 439 lc st h = jv_ev d 1 441 lc (.int 109 :: st) h := jq_bipush (jv_insR jm_1 dX12_init_439) (by decide)
theorem e1_441 : jv_ev d 1 441 lc st h = jv_ev d 1 442 lc (.int 0 :: st) h := jq_iconst (jv_insR jm_1 dX12_init_441) (by decide)
theorem e1_442 : jv_ev d 1 442 lc st h = jv_ev d 1 443 lc (.int 0 :: st) h := jq_iconst (jv_insR jm_1 dX12_init_442) (by decide)
theorem e1_443 : jv_ev d 1 443 lc st h = jv_ev d 1 444 lc (.int 0 :: st) h := jq_iconst (jv_insR jm_1 dX12_init_443) (by decide)
theorem e1_444 : jv_ev d 1 444 lc [z6, z5, z4, z3, z2, z1, z0, y0, y1] h = (jv_cd d 3 [z0, z1, z2, z3, z4, z5, z6] h).bind fun r => jv_on r (fun v h => jv_ev d 1 447 lc (v.toList ++ [y0, y1]) h) (fun q h => some (.inr q, h)) := jq_S (as := [z0, z1, z2, z3, z4, z5, z6]) (rest := [y0, y1]) (jv_insR jm_1 dX12_init_444) jo_1 jT_1_162 rfl rfl rfl rfl
theorem e1_447 : jv_ev d 1 447 lc (.long lw :: .int v :: .ref a :: st) h = (jv_lp h a v lw).bind fun h => jv_ev d 1 448 lc st h := jq_last (jv_insR jm_1 dX12_init_447)
theorem e1_448 : jv_ev d 1 448 [some (.ref a)] st h = jv_ev d 1 449 [some (.ref a)] (.ref a :: st) h := jq_nx (jv_insR jm_1 dX12_init_448) rfl
theorem e1_449 : jv_ev d 1 449 lc (.ref a :: st) h = (jv_gf h a [(0, 9, .array .long)]).bind fun r => jv_ev d 1 452 lc (r :: st) h := jq_get (jv_insR jm_1 dX12_init_449) jo_1 jF_1_34
theorem e1_452 : jv_ev d 1 452 lc st h = jv_ev d 1 453 lc (.int 3 :: st) h := jq_iconst (jv_insR jm_1 dX12_init_452) (by decide)
theorem e1_453 : jv_ev d 1 453 lc st h = jv_ev d 1 455 lc (.int 119 :: st) h := jq_bipush (jv_insR jm_1 dX12_init_453) (by decide)
theorem e1_455 : jv_ev d 1 455 lc st h = jv_ev d 1 457 lc (.int 101 :: st) h := jq_bipush (jv_insR jm_1 dX12_init_455) (by decide)
theorem e1_457 : jv_ev d 1 457 lc st h = jv_ev d 1 459 lc (.int 97 :: st) h := jq_bipush (jv_insR jm_1 dX12_init_457) (by decide)
theorem e1_459 : jv_ev d 1 459 lc st h = jv_ev d 1 461 lc (.int 118 :: st) h := jq_bipush (jv_insR jm_1 dX12_init_459) (by decide)
theorem e1_461 : jv_ev d 1 461 lc st h = jv_ev d 1 463 lc (.int 101 :: st) h := jq_bipush (jv_insR jm_1 dX12_init_461) (by decide)
theorem e1_463 : jv_ev d 1 463 lc st h = jv_ev d 1 465 lc (.int 115 :: st) h := jq_bipush (jv_insR jm_1 dX12_init_463) (by decide)
theorem e1_465 : jv_ev d 1 465 lc st h = jv_ev d 1 466 lc (.int 0 :: st) h := jq_iconst (jv_insR jm_1 dX12_init_465) (by decide)
theorem e1_466 : jv_ev d 1 466 lc [z6, z5, z4, z3, z2, z1, z0, y0, y1] h = (jv_cd d 3 [z0, z1, z2, z3, z4, z5, z6] h).bind fun r => jv_on r (fun v h => jv_ev d 1 469 lc (v.toList ++ [y0, y1]) h) (fun q h => some (.inr q, h)) := jq_S (as := [z0, z1, z2, z3, z4, z5, z6]) (rest := [y0, y1]) (jv_insR jm_1 dX12_init_466) jo_1 jT_1_162 rfl rfl rfl rfl
theorem e1_469 : jv_ev d 1 469 lc (.long lw :: .int v :: .ref a :: st) h = (jv_lp h a v lw).bind fun h => jv_ev d 1 470 lc st h := jq_last (jv_insR jm_1 dX12_init_469)
theorem e1_470 : jv_ev d 1 470 [some (.ref a)] st h = jv_ev d 1 471 [some (.ref a)] (.ref a :: st) h := jq_nx (jv_insR jm_1 dX12_init_470) rfl
theorem e1_471 : jv_ev d 1 471 lc (.ref a :: st) h = (jv_gf h a [(0, 9, .array .long)]).bind fun r => jv_ev d 1 474 lc (r :: st) h := jq_get (jv_insR jm_1 dX12_init_471) jo_1 jF_1_34
theorem e1_474 : jv_ev d 1 474 lc st h = jv_ev d 1 475 lc (.int 4 :: st) h := jq_iconst (jv_insR jm_1 dX12_init_474) (by decide)
theorem e1_475 : jv_ev d 1 475 lc st h = jv_ev d 1 477 lc (.int 100 :: st) h := jq_bipush (jv_insR jm_1 dX12_init_475) (by decide)
theorem e1_477 : jv_ev d 1 477 lc st h = jv_ev d 1 479 lc (.int 114 :: st) h := jq_bipush (jv_insR jm_1 dX12_init_477) (by decide)
theorem e1_479 : jv_ev d 1 479 lc st h = jv_ev d 1 481 lc (.int 105 :: st) h := jq_bipush (jv_insR jm_1 dX12_init_479) (by decide)
theorem e1_481 : jv_ev d 1 481 lc st h = jv_ev d 1 483 lc (.int 101 :: st) h := jq_bipush (jv_insR jm_1 dX12_init_481) (by decide)
theorem e1_483 : jv_ev d 1 483 lc st h = jv_ev d 1 485 lc (.int 115 :: st) h := jq_bipush (jv_insR jm_1 dX12_init_483) (by decide)
theorem e1_485 : jv_ev d 1 485 lc st h = jv_ev d 1 486 lc (.int 0 :: st) h := jq_iconst (jv_insR jm_1 dX12_init_485) (by decide)
theorem e1_486 : jv_ev d 1 486 lc st h = jv_ev d 1 487 lc (.int 0 :: st) h := jq_iconst (jv_insR jm_1 dX12_init_486) (by decide)
theorem e1_487 : jv_ev d 1 487 lc [z6, z5, z4, z3, z2, z1, z0, y0, y1] h = (jv_cd d 3 [z0, z1, z2, z3, z4, z5, z6] h).bind fun r => jv_on r (fun v h => jv_ev d 1 490 lc (v.toList ++ [y0, y1]) h) (fun q h => some (.inr q, h)) := jq_S (as := [z0, z1, z2, z3, z4, z5, z6]) (rest := [y0, y1]) (jv_insR jm_1 dX12_init_487) jo_1 jT_1_162 rfl rfl rfl rfl
theorem e1_490 : jv_ev d 1 490 lc (.long lw :: .int v :: .ref a :: st) h = (jv_lp h a v lw).bind fun h => jv_ev d 1 491 lc st h := jq_last (jv_insR jm_1 dX12_init_490)
theorem e1_491 : jv_ev d 1 491 [some (.ref a)] st h = jv_ev d 1 492 [some (.ref a)] (.ref a :: st) h := jq_nx (jv_insR jm_1 dX12_init_491) rfl
theorem e1_492 : jv_ev d 1 492 lc (.ref a :: st) h = (jv_gf h a [(0, 9, .array .long)]).bind fun r => jv_ev d 1 495 lc (r :: st) h := jq_get (jv_insR jm_1 dX12_init_492) jo_1 jF_1_34
theorem e1_495 : jv_ev d 1 495 lc st h = jv_ev d 1 496 lc (.int 5 :: st) h := jq_iconst (jv_insR jm_1 dX12_init_495) (by decide)
theorem e1_496 : jv_ev d 1 496 lc st h = jv_ev d 1 498 lc (.int 103 :: st) h := jq_bipush (jv_insR jm_1 dX12_init_496) (by decide)
theorem e1_498 : jv_ev d 1 498 lc st h = jv_ev d 1 500 lc (.int 97 :: st) h := jq_bipush (jv_insR jm_1 dX12_init_498) (by decide)
theorem e1_500 : jv_ev d 1 500 lc st h = jv_ev d 1 502 lc (.int 116 :: st) h := jq_bipush (jv_insR jm_1 dX12_init_500) (by decide)
theorem e1_502 : jv_ev d 1 502 lc st h = jv_ev d 1 504 lc (.int 104 :: st) h := jq_bipush (jv_insR jm_1 dX12_init_502) (by decide)
theorem e1_504 : jv_ev d 1 504 lc st h = jv_ev d 1 506 lc (.int 101 :: st) h := jq_bipush (jv_insR jm_1 dX12_init_504) (by decide)
theorem e1_506 : jv_ev d 1 506 lc st h = jv_ev d 1 508 lc (.int 114 :: st) h := jq_bipush (jv_insR jm_1 dX12_init_506) (by decide)
theorem e1_508 : jv_ev d 1 508 lc st h = jv_ev d 1 510 lc (.int 115 :: st) h := jq_bipush (jv_insR jm_1 dX12_init_508) (by decide)
theorem e1_510 : jv_ev d 1 510 lc [z6, z5, z4, z3, z2, z1, z0, y0, y1] h = (jv_cd d 3 [z0, z1, z2, z3, z4, z5, z6] h).bind fun r => jv_on r (fun v h => jv_ev d 1 513 lc (v.toList ++ [y0, y1]) h) (fun q h => some (.inr q, h)) := jq_S (as := [z0, z1, z2, z3, z4, z5, z6]) (rest := [y0, y1]) (jv_insR jm_1 dX12_init_510) jo_1 jT_1_162 rfl rfl rfl rfl
theorem e1_513 : jv_ev d 1 513 lc (.long lw :: .int v :: .ref a :: st) h = (jv_lp h a v lw).bind fun h => jv_ev d 1 514 lc st h := jq_last (jv_insR jm_1 dX12_init_513)
theorem e1_514 : jv_ev d 1 514 [some (.ref a)] st h = jv_ev d 1 515 [some (.ref a)] (.ref a :: st) h := jq_nx (jv_insR jm_1 dX12_init_514) rfl
theorem e1_515 : jv_ev d 1 515 lc (.ref a :: st) h = (jv_gf h a [(0, 9, .array .long)]).bind fun r => jv_ev d 1 518 lc (r :: st) h := jq_get (jv_insR jm_1 dX12_init_515) jo_1 jF_1_34
theorem e1_518 : jv_ev d 1 518 lc st h = jv_ev d 1 520 lc (.int 6 :: st) h := jq_bipush (jv_insR jm_1 dX12_init_518) (by decide)
theorem e1_520 : jv_ev d 1 520 lc st h = jv_ev d 1 522 lc (.int 115 :: st) h := jq_bipush (jv_insR jm_1 dX12_init_520) (by decide)
theorem e1_522 : jv_ev d 1 522 lc st h = jv_ev d 1 524 lc (.int 116 :: st) h := jq_bipush (jv_insR jm_1 dX12_init_522) (by decide)
theorem e1_524 : jv_ev d 1 524 lc st h = jv_ev d 1 526 lc (.int 111 :: st) h := jq_bipush (jv_insR jm_1 dX12_init_524) (by decide)
theorem e1_526 : jv_ev d 1 526 lc st h = jv_ev d 1 528 lc (.int 114 :: st) h := jq_bipush (jv_insR jm_1 dX12_init_526) (by decide)
theorem e1_528 : jv_ev d 1 528 lc st h = jv_ev d 1 530 lc (.int 101 :: st) h := jq_bipush (jv_insR jm_1 dX12_init_528) (by decide)
theorem e1_530 : jv_ev d 1 530 lc st h = jv_ev d 1 531 lc (.int 0 :: st) h := jq_iconst (jv_insR jm_1 dX12_init_530) (by decide)
theorem e1_531 : jv_ev d 1 531 lc st h = jv_ev d 1 532 lc (.int 0 :: st) h := jq_iconst (jv_insR jm_1 dX12_init_531) (by decide)
theorem e1_532 : jv_ev d 1 532 lc [z6, z5, z4, z3, z2, z1, z0, y0, y1] h = (jv_cd d 3 [z0, z1, z2, z3, z4, z5, z6] h).bind fun r => jv_on r (fun v h => jv_ev d 1 535 lc (v.toList ++ [y0, y1]) h) (fun q h => some (.inr q, h)) := jq_S (as := [z0, z1, z2, z3, z4, z5, z6]) (rest := [y0, y1]) (jv_insR jm_1 dX12_init_532) jo_1 jT_1_162 rfl rfl rfl rfl
theorem e1_535 : jv_ev d 1 535 lc (.long lw :: .int v :: .ref a :: st) h = (jv_lp h a v lw).bind fun h => jv_ev d 1 536 lc st h := jq_last (jv_insR jm_1 dX12_init_535)
theorem e1_536 : jv_ev d 1 536 [some (.ref a)] st h = jv_ev d 1 537 [some (.ref a)] (.ref a :: st) h := jq_nx (jv_insR jm_1 dX12_init_536) rfl
theorem e1_537 : jv_ev d 1 537 lc (.ref a :: st) h = (jv_gf h a [(0, 9, .array .long)]).bind fun r => jv_ev d 1 540 lc (r :: st) h := jq_get (jv_insR jm_1 dX12_init_537) jo_1 jF_1_34
theorem e1_540 : jv_ev d 1 540 lc st h = jv_ev d 1 542 lc (.int 7 :: st) h := jq_bipush (jv_insR jm_1 dX12_init_540) (by decide)
theorem e1_542 : jv_ev d 1 542 lc st h = jv_ev d 1 544 lc (.int 103 :: st) h := jq_bipush (jv_insR jm_1 dX12_init_542) (by decide)
theorem e1_544 : jv_ev d 1 544 lc st h = jv_ev d 1 546 lc (.int 117 :: st) h := jq_bipush (jv_insR jm_1 dX12_init_544) (by decide)
theorem e1_546 : jv_ev d 1 546 lc st h = jv_ev d 1 548 lc (.int 115 :: st) h := jq_bipush (jv_insR jm_1 dX12_init_546) (by decide)
theorem e1_548 : jv_ev d 1 548 lc st h = jv_ev d 1 550 lc (.int 116 :: st) h := jq_bipush (jv_insR jm_1 dX12_init_548) (by decide)
theorem e1_550 : jv_ev d 1 550 lc st h = jv_ev d 1 552 lc (.int 115 :: st) h := jq_bipush (jv_insR jm_1 dX12_init_550) (by decide)
theorem e1_552 : jv_ev d 1 552 lc st h = jv_ev d 1 553 lc (.int 0 :: st) h := jq_iconst (jv_insR jm_1 dX12_init_552) (by decide)
theorem e1_553 : jv_ev d 1 553 lc st h = jv_ev d 1 554 lc (.int 0 :: st) h := jq_iconst (jv_insR jm_1 dX12_init_553) (by decide)
theorem e1_554 : jv_ev d 1 554 lc [z6, z5, z4, z3, z2, z1, z0, y0, y1] h = (jv_cd d 3 [z0, z1, z2, z3, z4, z5, z6] h).bind fun r => jv_on r (fun v h => jv_ev d 1 557 lc (v.toList ++ [y0, y1]) h) (fun q h => some (.inr q, h)) := jq_S (as := [z0, z1, z2, z3, z4, z5, z6]) (rest := [y0, y1]) (jv_insR jm_1 dX12_init_554) jo_1 jT_1_162 rfl rfl rfl rfl
theorem e1_557 : jv_ev d 1 557 lc (.long lw :: .int v :: .ref a :: st) h = (jv_lp h a v lw).bind fun h => jv_ev d 1 558 lc st h := jq_last (jv_insR jm_1 dX12_init_557)
theorem e1_558 : jv_ev d 1 558 [some (.ref a)] st h = jv_ev d 1 559 [some (.ref a)] (.ref a :: st) h := jq_nx (jv_insR jm_1 dX12_init_558) rfl
theorem e1_559 : jv_ev d 1 559 lc (.ref a :: st) h = (jv_gf h a [(0, 9, .array .long)]).bind fun r => jv_ev d 1 562 lc (r :: st) h := jq_get (jv_insR jm_1 dX12_init_559) jo_1 jF_1_34
theorem e1_562 : jv_ev d 1 562 lc st h = jv_ev d 1 564 lc (.int 8 :: st) h := jq_bipush (jv_insR jm_1 dX12_init_562) (by decide)
theorem e1_564 : jv_ev d 1 564 lc st h = jv_ev d 1 566 lc (.int 115 :: st) h := jq_bipush (jv_insR jm_1 dX12_init_564) (by decide)
theorem e1_566 : jv_ev d 1 566 lc st h = jv_ev d 1 568 lc (.int 101 :: st) h := jq_bipush (jv_insR jm_1 dX12_init_566) (by decide)
theorem e1_568 : jv_ev d 1 568 lc st h = jv_ev d 1 570 lc (.int 101 :: st) h := jq_bipush (jv_insR jm_1 dX12_init_568) (by decide)
theorem e1_570 : jv_ev d 1 570 lc st h = jv_ev d 1 572 lc (.int 100 :: st) h := jq_bipush (jv_insR jm_1 dX12_init_570) (by decide)
theorem e1_572 : jv_ev d 1 572 lc st h = jv_ev d 1 573 lc (.int 0 :: st) h := jq_iconst (jv_insR jm_1 dX12_init_572) (by decide)
theorem e1_573 : jv_ev d 1 573 lc st h = jv_ev d 1 574 lc (.int 0 :: st) h := jq_iconst (jv_insR jm_1 dX12_init_573) (by decide)
theorem e1_574 : jv_ev d 1 574 lc st h = jv_ev d 1 575 lc (.int 0 :: st) h := jq_iconst (jv_insR jm_1 dX12_init_574) (by decide)
theorem e1_575 : jv_ev d 1 575 lc [z6, z5, z4, z3, z2, z1, z0, y0, y1] h = (jv_cd d 3 [z0, z1, z2, z3, z4, z5, z6] h).bind fun r => jv_on r (fun v h => jv_ev d 1 578 lc (v.toList ++ [y0, y1]) h) (fun q h => some (.inr q, h)) := jq_S (as := [z0, z1, z2, z3, z4, z5, z6]) (rest := [y0, y1]) (jv_insR jm_1 dX12_init_575) jo_1 jT_1_162 rfl rfl rfl rfl
theorem e1_578 : jv_ev d 1 578 lc (.long lw :: .int v :: .ref a :: st) h = (jv_lp h a v lw).bind fun h => jv_ev d 1 579 lc st h := jq_last (jv_insR jm_1 dX12_init_578)
theorem e1_579 : jv_ev d 1 579 [some (.ref a)] st h = jv_ev d 1 580 [some (.ref a)] (.ref a :: st) h := jq_nx (jv_insR jm_1 dX12_init_579) rfl
theorem e1_580 : jv_ev d 1 580 lc (.ref a :: st) h = (jv_gf h a [(0, 9, .array .long)]).bind fun r => jv_ev d 1 583 lc (r :: st) h := jq_get (jv_insR jm_1 dX12_init_580) jo_1 jF_1_34
theorem e1_583 : jv_ev d 1 583 lc st h = jv_ev d 1 585 lc (.int 9 :: st) h := jq_bipush (jv_insR jm_1 dX12_init_583) (by decide)
theorem e1_585 : jv_ev d 1 585 lc st h = jv_ev d 1 587 lc (.int 105 :: st) h := jq_bipush (jv_insR jm_1 dX12_init_585) (by decide)
theorem e1_587 : jv_ev d 1 587 lc st h = jv_ev d 1 589 lc (.int 102 :: st) h := jq_bipush (jv_insR jm_1 dX12_init_587) (by decide)
theorem e1_589 : jv_ev d 1 589 lc st h = jv_ev d 1 590 lc (.int 0 :: st) h := jq_iconst (jv_insR jm_1 dX12_init_589) (by decide)
theorem e1_590 : jv_ev d 1 590 lc st h = jv_ev d 1 591 lc (.int 0 :: st) h := jq_iconst (jv_insR jm_1 dX12_init_590) (by decide)
theorem e1_591 : jv_ev d 1 591 lc st h = jv_ev d 1 592 lc (.int 0 :: st) h := jq_iconst (jv_insR jm_1 dX12_init_591) (by decide)
theorem e1_592 : jv_ev d 1 592 lc st h = jv_ev d 1 593 lc (.int 0 :: st) h := jq_iconst (jv_insR jm_1 dX12_init_592) (by decide)
theorem e1_593 : jv_ev d 1 593 lc st h = jv_ev d 1 594 lc (.int 0 :: st) h := jq_iconst (jv_insR jm_1 dX12_init_593) (by decide)
theorem e1_594 : jv_ev d 1 594 lc [z6, z5, z4, z3, z2, z1, z0, y0, y1] h = (jv_cd d 3 [z0, z1, z2, z3, z4, z5, z6] h).bind fun r => jv_on r (fun v h => jv_ev d 1 597 lc (v.toList ++ [y0, y1]) h) (fun q h => some (.inr q, h)) := jq_S (as := [z0, z1, z2, z3, z4, z5, z6]) (rest := [y0, y1]) (jv_insR jm_1 dX12_init_594) jo_1 jT_1_162 rfl rfl rfl rfl
theorem e1_597 : jv_ev d 1 597 lc (.long lw :: .int v :: .ref a :: st) h = (jv_lp h a v lw).bind fun h => jv_ev d 1 598 lc st h := jq_last (jv_insR jm_1 dX12_init_597)
theorem e1_598 : jv_ev d 1 598 [some (.ref a)] st h = jv_ev d 1 599 [some (.ref a)] (.ref a :: st) h := jq_nx (jv_insR jm_1 dX12_init_598) rfl
theorem e1_599 : jv_ev d 1 599 lc (.ref a :: st) h = (jv_gf h a [(0, 9, .array .long)]).bind fun r => jv_ev d 1 602 lc (r :: st) h := jq_get (jv_insR jm_1 dX12_init_599) jo_1 jF_1_34
theorem e1_602 : jv_ev d 1 602 lc st h = jv_ev d 1 604 lc (.int 10 :: st) h := jq_bipush (jv_insR jm_1 dX12_init_602) (by decide)
theorem e1_604 : jv_ev d 1 604 lc st h = jv_ev d 1 606 lc (.int 116 :: st) h := jq_bipush (jv_insR jm_1 dX12_init_604) (by decide)
theorem e1_606 : jv_ev d 1 606 lc st h = jv_ev d 1 608 lc (.int 104 :: st) h := jq_bipush (jv_insR jm_1 dX12_init_606) (by decide)
theorem e1_608 : jv_ev d 1 608 lc st h = jv_ev d 1 610 lc (.int 101 :: st) h := jq_bipush (jv_insR jm_1 dX12_init_608) (by decide)
theorem e1_610 : jv_ev d 1 610 lc st h = jv_ev d 1 612 lc (.int 110 :: st) h := jq_bipush (jv_insR jm_1 dX12_init_610) (by decide)
theorem e1_612 : jv_ev d 1 612 lc st h = jv_ev d 1 613 lc (.int 0 :: st) h := jq_iconst (jv_insR jm_1 dX12_init_612) (by decide)
theorem e1_613 : jv_ev d 1 613 lc st h = jv_ev d 1 614 lc (.int 0 :: st) h := jq_iconst (jv_insR jm_1 dX12_init_613) (by decide)
theorem e1_614 : jv_ev d 1 614 lc st h = jv_ev d 1 615 lc (.int 0 :: st) h := jq_iconst (jv_insR jm_1 dX12_init_614) (by decide)
theorem e1_615 : jv_ev d 1 615 lc [z6, z5, z4, z3, z2, z1, z0, y0, y1] h = (jv_cd d 3 [z0, z1, z2, z3, z4, z5, z6] h).bind fun r => jv_on r (fun v h => jv_ev d 1 618 lc (v.toList ++ [y0, y1]) h) (fun q h => some (.inr q, h)) := jq_S (as := [z0, z1, z2, z3, z4, z5, z6]) (rest := [y0, y1]) (jv_insR jm_1 dX12_init_615) jo_1 jT_1_162 rfl rfl rfl rfl
theorem e1_618 : jv_ev d 1 618 lc (.long lw :: .int v :: .ref a :: st) h = (jv_lp h a v lw).bind fun h => jv_ev d 1 619 lc st h := jq_last (jv_insR jm_1 dX12_init_618)
theorem e1_619 : jv_ev d 1 619 [some (.ref a)] st h = jv_ev d 1 620 [some (.ref a)] (.ref a :: st) h := jq_nx (jv_insR jm_1 dX12_init_619) rfl
theorem e1_620 : jv_ev d 1 620 lc (.ref a :: st) h = (jv_gf h a [(0, 9, .array .long)]).bind fun r => jv_ev d 1 623 lc (r :: st) h := jq_get (jv_insR jm_1 dX12_init_620) jo_1 jF_1_34
theorem e1_623 : jv_ev d 1 623 lc st h = jv_ev d 1 625 lc (.int 11 :: st) h := jq_bipush (jv_insR jm_1 dX12_init_623) (by decide)
theorem e1_625 : jv_ev d 1 625 lc st h = jv_ev d 1 627 lc (.int 101 :: st) h := jq_bipush (jv_insR jm_1 dX12_init_625) (by decide)
theorem e1_627 : jv_ev d 1 627 lc st h = jv_ev d 1 629 lc (.int 108 :: st) h := jq_bipush (jv_insR jm_1 dX12_init_627) (by decide)
theorem e1_629 : jv_ev d 1 629 lc st h = jv_ev d 1 631 lc (.int 115 :: st) h := jq_bipush (jv_insR jm_1 dX12_init_629) (by decide)
theorem e1_631 : jv_ev d 1 631 lc st h = jv_ev d 1 633 lc (.int 101 :: st) h := jq_bipush (jv_insR jm_1 dX12_init_631) (by decide)
theorem e1_633 : jv_ev d 1 633 lc st h = jv_ev d 1 634 lc (.int 0 :: st) h := jq_iconst (jv_insR jm_1 dX12_init_633) (by decide)
theorem e1_634 : jv_ev d 1 634 lc st h = jv_ev d 1 635 lc (.int 0 :: st) h := jq_iconst (jv_insR jm_1 dX12_init_634) (by decide)
theorem e1_635 : jv_ev d 1 635 lc st h = jv_ev d 1 636 lc (.int 0 :: st) h := jq_iconst (jv_insR jm_1 dX12_init_635) (by decide)
theorem e1_636 : jv_ev d 1 636 lc [z6, z5, z4, z3, z2, z1, z0, y0, y1] h = (jv_cd d 3 [z0, z1, z2, z3, z4, z5, z6] h).bind fun r => jv_on r (fun v h => jv_ev d 1 639 lc (v.toList ++ [y0, y1]) h) (fun q h => some (.inr q, h)) := jq_S (as := [z0, z1, z2, z3, z4, z5, z6]) (rest := [y0, y1]) (jv_insR jm_1 dX12_init_636) jo_1 jT_1_162 rfl rfl rfl rfl
theorem e1_639 : jv_ev d 1 639 lc (.long lw :: .int v :: .ref a :: st) h = (jv_lp h a v lw).bind fun h => jv_ev d 1 640 lc st h := jq_last (jv_insR jm_1 dX12_init_639)
theorem e1_640 : jv_ev d 1 640 [some (.ref a)] st h = jv_ev d 1 641 [some (.ref a)] (.ref a :: st) h := jq_nx (jv_insR jm_1 dX12_init_640) rfl
theorem e1_641 : jv_ev d 1 641 lc (.ref a :: st) h = (jv_gf h a [(0, 9, .array .long)]).bind fun r => jv_ev d 1 644 lc (r :: st) h := jq_get (jv_insR jm_1 dX12_init_641) jo_1 jF_1_34
theorem e1_644 : jv_ev d 1 644 lc st h = jv_ev d 1 646 lc (.int 12 :: st) h := jq_bipush (jv_insR jm_1 dX12_init_644) (by decide)
theorem e1_646 : jv_ev d 1 646 lc st h = jv_ev d 1 648 lc (.int 115 :: st) h := jq_bipush (jv_insR jm_1 dX12_init_646) (by decide)
theorem e1_648 : jv_ev d 1 648 lc st h = jv_ev d 1 650 lc (.int 104 :: st) h := jq_bipush (jv_insR jm_1 dX12_init_648) (by decide)
theorem e1_650 : jv_ev d 1 650 lc st h = jv_ev d 1 652 lc (.int 101 :: st) h := jq_bipush (jv_insR jm_1 dX12_init_650) (by decide)
theorem e1_652 : jv_ev d 1 652 lc st h = jv_ev d 1 654 lc (.int 100 :: st) h := jq_bipush (jv_insR jm_1 dX12_init_652) (by decide)
theorem e1_654 : jv_ev d 1 654 lc st h = jv_ev d 1 655 lc (.int 0 :: st) h := jq_iconst (jv_insR jm_1 dX12_init_654) (by decide)
theorem e1_655 : jv_ev d 1 655 lc st h = jv_ev d 1 656 lc (.int 0 :: st) h := jq_iconst (jv_insR jm_1 dX12_init_655) (by decide)
theorem e1_656 : jv_ev d 1 656 lc st h = jv_ev d 1 657 lc (.int 0 :: st) h := jq_iconst (jv_insR jm_1 dX12_init_656) (by decide)
theorem e1_657 : jv_ev d 1 657 lc [z6, z5, z4, z3, z2, z1, z0, y0, y1] h = (jv_cd d 3 [z0, z1, z2, z3, z4, z5, z6] h).bind fun r => jv_on r (fun v h => jv_ev d 1 660 lc (v.toList ++ [y0, y1]) h) (fun q h => some (.inr q, h)) := jq_S (as := [z0, z1, z2, z3, z4, z5, z6]) (rest := [y0, y1]) (jv_insR jm_1 dX12_init_657) jo_1 jT_1_162 rfl rfl rfl rfl
theorem e1_660 : jv_ev d 1 660 lc (.long lw :: .int v :: .ref a :: st) h = (jv_lp h a v lw).bind fun h => jv_ev d 1 661 lc st h := jq_last (jv_insR jm_1 dX12_init_660)
theorem e1_661 : jv_ev d 1 661 [some (.ref a)] st h = jv_ev d 1 662 [some (.ref a)] (.ref a :: st) h := jq_nx (jv_insR jm_1 dX12_init_661) rfl
theorem e1_662 : jv_ev d 1 662 lc (.ref a :: st) h = (jv_gf h a [(0, 9, .array .long)]).bind fun r => jv_ev d 1 665 lc (r :: st) h := jq_get (jv_insR jm_1 dX12_init_662) jo_1 jF_1_34
theorem e1_665 : jv_ev d 1 665 lc st h = jv_ev d 1 667 lc (.int 13 :: st) h := jq_bipush (jv_insR jm_1 dX12_init_665) (by decide)
theorem e1_667 : jv_ev d 1 667 lc st h = jv_ev d 1 669 lc (.int 119 :: st) h := jq_bipush (jv_insR jm_1 dX12_init_667) (by decide)
theorem e1_669 : jv_ev d 1 669 lc st h = jv_ev d 1 671 lc (.int 97 :: st) h := jq_bipush (jv_insR jm_1 dX12_init_669) (by decide)
theorem e1_671 : jv_ev d 1 671 lc st h = jv_ev d 1 673 lc (.int 114 :: st) h := jq_bipush (jv_insR jm_1 dX12_init_671) (by decide)
theorem e1_673 : jv_ev d 1 673 lc st h = jv_ev d 1 675 lc (.int 112 :: st) h := jq_bipush (jv_insR jm_1 dX12_init_673) (by decide)
theorem e1_675 : jv_ev d 1 675 lc st h = jv_ev d 1 676 lc (.int 0 :: st) h := jq_iconst (jv_insR jm_1 dX12_init_675) (by decide)
theorem e1_676 : jv_ev d 1 676 lc st h = jv_ev d 1 677 lc (.int 0 :: st) h := jq_iconst (jv_insR jm_1 dX12_init_676) (by decide)
theorem e1_677 : jv_ev d 1 677 lc st h = jv_ev d 1 678 lc (.int 0 :: st) h := jq_iconst (jv_insR jm_1 dX12_init_677) (by decide)
theorem e1_678 : jv_ev d 1 678 lc [z6, z5, z4, z3, z2, z1, z0, y0, y1] h = (jv_cd d 3 [z0, z1, z2, z3, z4, z5, z6] h).bind fun r => jv_on r (fun v h => jv_ev d 1 681 lc (v.toList ++ [y0, y1]) h) (fun q h => some (.inr q, h)) := jq_S (as := [z0, z1, z2, z3, z4, z5, z6]) (rest := [y0, y1]) (jv_insR jm_1 dX12_init_678) jo_1 jT_1_162 rfl rfl rfl rfl
theorem e1_681 : jv_ev d 1 681 lc (.long lw :: .int v :: .ref a :: st) h = (jv_lp h a v lw).bind fun h => jv_ev d 1 682 lc st h := jq_last (jv_insR jm_1 dX12_init_681)
theorem e1_682 : jv_ev d 1 682 [some (.ref a)] st h = jv_ev d 1 683 [some (.ref a)] (.ref a :: st) h := jq_nx (jv_insR jm_1 dX12_init_682) rfl
theorem e1_683 : jv_ev d 1 683 lc (.ref a :: st) h = (jv_gf h a [(0, 9, .array .long)]).bind fun r => jv_ev d 1 686 lc (r :: st) h := jq_get (jv_insR jm_1 dX12_init_683) jo_1 jF_1_34
theorem e1_686 : jv_ev d 1 686 lc st h = jv_ev d 1 688 lc (.int 14 :: st) h := jq_bipush (jv_insR jm_1 dX12_init_686) (by decide)
theorem e1_688 : jv_ev d 1 688 lc st h = jv_ev d 1 690 lc (.int 112 :: st) h := jq_bipush (jv_insR jm_1 dX12_init_688) (by decide)
theorem e1_690 : jv_ev d 1 690 lc st h = jv_ev d 1 692 lc (.int 105 :: st) h := jq_bipush (jv_insR jm_1 dX12_init_690) (by decide)
theorem e1_692 : jv_ev d 1 692 lc st h = jv_ev d 1 694 lc (.int 99 :: st) h := jq_bipush (jv_insR jm_1 dX12_init_692) (by decide)
theorem e1_694 : jv_ev d 1 694 lc st h = jv_ev d 1 696 lc (.int 107 :: st) h := jq_bipush (jv_insR jm_1 dX12_init_694) (by decide)
theorem e1_696 : jv_ev d 1 696 lc st h = jv_ev d 1 697 lc (.int 0 :: st) h := jq_iconst (jv_insR jm_1 dX12_init_696) (by decide)
theorem e1_697 : jv_ev d 1 697 lc st h = jv_ev d 1 698 lc (.int 0 :: st) h := jq_iconst (jv_insR jm_1 dX12_init_697) (by decide)
theorem e1_698 : jv_ev d 1 698 lc st h = jv_ev d 1 699 lc (.int 0 :: st) h := jq_iconst (jv_insR jm_1 dX12_init_698) (by decide)
theorem e1_699 : jv_ev d 1 699 lc [z6, z5, z4, z3, z2, z1, z0, y0, y1] h = (jv_cd d 3 [z0, z1, z2, z3, z4, z5, z6] h).bind fun r => jv_on r (fun v h => jv_ev d 1 702 lc (v.toList ++ [y0, y1]) h) (fun q h => some (.inr q, h)) := jq_S (as := [z0, z1, z2, z3, z4, z5, z6]) (rest := [y0, y1]) (jv_insR jm_1 dX12_init_699) jo_1 jT_1_162 rfl rfl rfl rfl
theorem e1_702 : jv_ev d 1 702 lc (.long lw :: .int v :: .ref a :: st) h = (jv_lp h a v lw).bind fun h => jv_ev d 1 703 lc st h := jq_last (jv_insR jm_1 dX12_init_702)
theorem e1_703 : jv_ev d 1 703 [some (.ref a)] st h = jv_ev d 1 704 [some (.ref a)] (.ref a :: st) h := jq_nx (jv_insR jm_1 dX12_init_703) rfl
theorem e1_704 : jv_ev d 1 704 lc (.ref a :: st) h = (jv_gf h a [(0, 9, .array .long)]).bind fun r => jv_ev d 1 707 lc (r :: st) h := jq_get (jv_insR jm_1 dX12_init_704) jo_1 jF_1_34
theorem e1_707 : jv_ev d 1 707 lc st h = jv_ev d 1 709 lc (.int 15 :: st) h := jq_bipush (jv_insR jm_1 dX12_init_707) (by decide)
theorem e1_709 : jv_ev d 1 709 lc st h = jv_ev d 1 711 lc (.int 119 :: st) h := jq_bipush (jv_insR jm_1 dX12_init_709) (by decide)
theorem e1_711 : jv_ev d 1 711 lc st h = jv_ev d 1 713 lc (.int 97 :: st) h := jq_bipush (jv_insR jm_1 dX12_init_711) (by decide)
theorem e1_713 : jv_ev d 1 713 lc st h = jv_ev d 1 715 lc (.int 116 :: st) h := jq_bipush (jv_insR jm_1 dX12_init_713) (by decide)
theorem e1_715 : jv_ev d 1 715 lc st h = jv_ev d 1 717 lc (.int 101 :: st) h := jq_bipush (jv_insR jm_1 dX12_init_715) (by decide)
theorem e1_717 : jv_ev d 1 717 lc st h = jv_ev d 1 719 lc (.int 114 :: st) h := jq_bipush (jv_insR jm_1 dX12_init_717) (by decide)
theorem e1_719 : jv_ev d 1 719 lc st h = jv_ev d 1 720 lc (.int 0 :: st) h := jq_iconst (jv_insR jm_1 dX12_init_719) (by decide)
theorem e1_720 : jv_ev d 1 720 lc st h = jv_ev d 1 721 lc (.int 0 :: st) h := jq_iconst (jv_insR jm_1 dX12_init_720) (by decide)
theorem e1_721 : jv_ev d 1 721 lc [z6, z5, z4, z3, z2, z1, z0, y0, y1] h = (jv_cd d 3 [z0, z1, z2, z3, z4, z5, z6] h).bind fun r => jv_on r (fun v h => jv_ev d 1 724 lc (v.toList ++ [y0, y1]) h) (fun q h => some (.inr q, h)) := jq_S (as := [z0, z1, z2, z3, z4, z5, z6]) (rest := [y0, y1]) (jv_insR jm_1 dX12_init_721) jo_1 jT_1_162 rfl rfl rfl rfl
theorem e1_724 : jv_ev d 1 724 lc (.long lw :: .int v :: .ref a :: st) h = (jv_lp h a v lw).bind fun h => jv_ev d 1 725 lc st h := jq_last (jv_insR jm_1 dX12_init_724)
theorem e1_725 : jv_ev d 1 725 [some (.ref a)] st h = jv_ev d 1 726 [some (.ref a)] (.ref a :: st) h := jq_nx (jv_insR jm_1 dX12_init_725) rfl
theorem e1_726 : jv_ev d 1 726 lc (.ref a :: st) h = (jv_gf h a [(0, 9, .array .long)]).bind fun r => jv_ev d 1 729 lc (r :: st) h := jq_get (jv_insR jm_1 dX12_init_726) jo_1 jF_1_34
theorem e1_729 : jv_ev d 1 729 lc st h = jv_ev d 1 731 lc (.int 16 :: st) h := jq_bipush (jv_insR jm_1 dX12_init_729) (by decide)
theorem e1_731 : jv_ev d 1 731 lc st h = jv_ev d 1 733 lc (.int 110 :: st) h := jq_bipush (jv_insR jm_1 dX12_init_731) (by decide)
theorem e1_733 : jv_ev d 1 733 lc st h = jv_ev d 1 735 lc (.int 101 :: st) h := jq_bipush (jv_insR jm_1 dX12_init_733) (by decide)
theorem e1_735 : jv_ev d 1 735 lc st h = jv_ev d 1 737 lc (.int 101 :: st) h := jq_bipush (jv_insR jm_1 dX12_init_735) (by decide)
theorem e1_737 : jv_ev d 1 737 lc st h = jv_ev d 1 739 lc (.int 100 :: st) h := jq_bipush (jv_insR jm_1 dX12_init_737) (by decide)
theorem e1_739 : jv_ev d 1 739 lc st h = jv_ev d 1 741 lc (.int 115 :: st) h := jq_bipush (jv_insR jm_1 dX12_init_739) (by decide)
theorem e1_741 : jv_ev d 1 741 lc st h = jv_ev d 1 742 lc (.int 0 :: st) h := jq_iconst (jv_insR jm_1 dX12_init_741) (by decide)
theorem e1_742 : jv_ev d 1 742 lc st h = jv_ev d 1 743 lc (.int 0 :: st) h := jq_iconst (jv_insR jm_1 dX12_init_742) (by decide)
theorem e1_743 : jv_ev d 1 743 lc [z6, z5, z4, z3, z2, z1, z0, y0, y1] h = (jv_cd d 3 [z0, z1, z2, z3, z4, z5, z6] h).bind fun r => jv_on r (fun v h => jv_ev d 1 746 lc (v.toList ++ [y0, y1]) h) (fun q h => some (.inr q, h)) := jq_S (as := [z0, z1, z2, z3, z4, z5, z6]) (rest := [y0, y1]) (jv_insR jm_1 dX12_init_743) jo_1 jT_1_162 rfl rfl rfl rfl
theorem e1_746 : jv_ev d 1 746 lc (.long lw :: .int v :: .ref a :: st) h = (jv_lp h a v lw).bind fun h => jv_ev d 1 747 lc st h := jq_last (jv_insR jm_1 dX12_init_746)
theorem e1_747 : jv_ev d 1 747 [some (.ref a)] st h = jv_ev d 1 748 [some (.ref a)] (.ref a :: st) h := jq_nx (jv_insR jm_1 dX12_init_747) rfl
theorem e1_748 : jv_ev d 1 748 lc (.ref a :: st) h = (jv_gf h a [(0, 9, .array .long)]).bind fun r => jv_ev d 1 751 lc (r :: st) h := jq_get (jv_insR jm_1 dX12_init_748) jo_1 jF_1_34
theorem e1_751 : jv_ev d 1 751 lc st h = jv_ev d 1 753 lc (.int 17 :: st) h := jq_bipush (jv_insR jm_1 dX12_init_751) (by decide)
theorem e1_753 : jv_ev d 1 753 lc st h = jv_ev d 1 755 lc (.int 100 :: st) h := jq_bipush (jv_insR jm_1 dX12_init_753) (by decide)
theorem e1_755 : jv_ev d 1 755 lc st h = jv_ev d 1 757 lc (.int 114 :: st) h := jq_bipush (jv_insR jm_1 dX12_init_755) (by decide)
theorem e1_757 : jv_ev d 1 757 lc st h = jv_ev d 1 759 lc (.int 111 :: st) h := jq_bipush (jv_insR jm_1 dX12_init_757) (by decide)
theorem e1_759 : jv_ev d 1 759 lc st h = jv_ev d 1 761 lc (.int 119 :: st) h := jq_bipush (jv_insR jm_1 dX12_init_759) (by decide)
theorem e1_761 : jv_ev d 1 761 lc st h = jv_ev d 1 763 lc (.int 110 :: st) h := jq_bipush (jv_insR jm_1 dX12_init_761) (by decide)
theorem e1_763 : jv_ev d 1 763 lc st h = jv_ev d 1 765 lc (.int 115 :: st) h := jq_bipush (jv_insR jm_1 dX12_init_763) (by decide)
theorem e1_765 : jv_ev d 1 765 lc st h = jv_ev d 1 766 lc (.int 0 :: st) h := jq_iconst (jv_insR jm_1 dX12_init_765) (by decide)
theorem e1_766 : jv_ev d 1 766 lc [z6, z5, z4, z3, z2, z1, z0, y0, y1] h = (jv_cd d 3 [z0, z1, z2, z3, z4, z5, z6] h).bind fun r => jv_on r (fun v h => jv_ev d 1 769 lc (v.toList ++ [y0, y1]) h) (fun q h => some (.inr q, h)) := jq_S (as := [z0, z1, z2, z3, z4, z5, z6]) (rest := [y0, y1]) (jv_insR jm_1 dX12_init_766) jo_1 jT_1_162 rfl rfl rfl rfl
theorem e1_769 : jv_ev d 1 769 lc (.long lw :: .int v :: .ref a :: st) h = (jv_lp h a v lw).bind fun h => jv_ev d 1 770 lc st h := jq_last (jv_insR jm_1 dX12_init_769)
theorem e1_770 : jv_ev d 1 770 [some (.ref a)] st h = jv_ev d 1 771 [some (.ref a)] (.ref a :: st) h := jq_nx (jv_insR jm_1 dX12_init_770) rfl
theorem e1_771 : jv_ev d 1 771 lc (.ref a :: st) h = (jv_gf h a [(0, 9, .array .long)]).bind fun r => jv_ev d 1 774 lc (r :: st) h := jq_get (jv_insR jm_1 dX12_init_771) jo_1 jF_1_34
theorem e1_774 : jv_ev d 1 774 lc st h = jv_ev d 1 776 lc (.int 18 :: st) h := jq_bipush (jv_insR jm_1 dX12_init_774) (by decide)
theorem e1_776 : jv_ev d 1 776 lc st h = jv_ev d 1 778 lc (.int 100 :: st) h := jq_bipush (jv_insR jm_1 dX12_init_776) (by decide)
theorem e1_778 : jv_ev d 1 778 lc st h = jv_ev d 1 780 lc (.int 97 :: st) h := jq_bipush (jv_insR jm_1 dX12_init_778) (by decide)
theorem e1_780 : jv_ev d 1 780 lc st h = jv_ev d 1 782 lc (.int 121 :: st) h := jq_bipush (jv_insR jm_1 dX12_init_780) (by decide)
theorem e1_782 : jv_ev d 1 782 lc st h = jv_ev d 1 783 lc (.int 0 :: st) h := jq_iconst (jv_insR jm_1 dX12_init_782) (by decide)
theorem e1_783 : jv_ev d 1 783 lc st h = jv_ev d 1 784 lc (.int 0 :: st) h := jq_iconst (jv_insR jm_1 dX12_init_783) (by decide)
theorem e1_784 : jv_ev d 1 784 lc st h = jv_ev d 1 785 lc (.int 0 :: st) h := jq_iconst (jv_insR jm_1 dX12_init_784) (by decide)
theorem e1_785 : jv_ev d 1 785 lc st h = jv_ev d 1 786 lc (.int 0 :: st) h := jq_iconst (jv_insR jm_1 dX12_init_785) (by decide)
theorem e1_786 : jv_ev d 1 786 lc [z6, z5, z4, z3, z2, z1, z0, y0, y1] h = (jv_cd d 3 [z0, z1, z2, z3, z4, z5, z6] h).bind fun r => jv_on r (fun v h => jv_ev d 1 789 lc (v.toList ++ [y0, y1]) h) (fun q h => some (.inr q, h)) := jq_S (as := [z0, z1, z2, z3, z4, z5, z6]) (rest := [y0, y1]) (jv_insR jm_1 dX12_init_786) jo_1 jT_1_162 rfl rfl rfl rfl
theorem e1_789 : jv_ev d 1 789 lc (.long lw :: .int v :: .ref a :: st) h = (jv_lp h a v lw).bind fun h => jv_ev d 1 790 lc st h := jq_last (jv_insR jm_1 dX12_init_789)
theorem e1_790 : jv_ev d 1 790 [some (.ref a)] st h = jv_ev d 1 791 [some (.ref a)] (.ref a :: st) h := jq_nx (jv_insR jm_1 dX12_init_790) rfl
theorem e1_791 : jv_ev d 1 791 lc (.ref a :: st) h = (jv_gf h a [(0, 9, .array .long)]).bind fun r => jv_ev d 1 794 lc (r :: st) h := jq_get (jv_insR jm_1 dX12_init_791) jo_1 jF_1_34
theorem e1_794 : jv_ev d 1 794 lc st h = jv_ev d 1 796 lc (.int 19 :: st) h := jq_bipush (jv_insR jm_1 dX12_init_794) (by decide)
theorem e1_796 : jv_ev d 1 796 lc st h = jv_ev d 1 798 lc (.int 119 :: st) h := jq_bipush (jv_insR jm_1 dX12_init_796) (by decide)
theorem e1_798 : jv_ev d 1 798 lc st h = jv_ev d 1 800 lc (.int 104 :: st) h := jq_bipush (jv_insR jm_1 dX12_init_798) (by decide)
theorem e1_800 : jv_ev d 1 800 lc st h = jv_ev d 1 802 lc (.int 105 :: st) h := jq_bipush (jv_insR jm_1 dX12_init_800) (by decide)
theorem e1_802 : jv_ev d 1 802 lc st h = jv_ev d 1 804 lc (.int 99 :: st) h := jq_bipush (jv_insR jm_1 dX12_init_802) (by decide)
theorem e1_804 : jv_ev d 1 804 lc st h = jv_ev d 1 806 lc (.int 104 :: st) h := jq_bipush (jv_insR jm_1 dX12_init_804) (by decide)
theorem e1_806 : jv_ev d 1 806 lc st h = jv_ev d 1 807 lc (.int 0 :: st) h := jq_iconst (jv_insR jm_1 dX12_init_806) (by decide)
theorem e1_807 : jv_ev d 1 807 lc st h = jv_ev d 1 808 lc (.int 0 :: st) h := jq_iconst (jv_insR jm_1 dX12_init_807) (by decide)
theorem e1_808 : jv_ev d 1 808 lc [z6, z5, z4, z3, z2, z1, z0, y0, y1] h = (jv_cd d 3 [z0, z1, z2, z3, z4, z5, z6] h).bind fun r => jv_on r (fun v h => jv_ev d 1 811 lc (v.toList ++ [y0, y1]) h) (fun q h => some (.inr q, h)) := jq_S (as := [z0, z1, z2, z3, z4, z5, z6]) (rest := [y0, y1]) (jv_insR jm_1 dX12_init_808) jo_1 jT_1_162 rfl rfl rfl rfl
theorem e1_811 : jv_ev d 1 811 lc (.long lw :: .int v :: .ref a :: st) h = (jv_lp h a v lw).bind fun h => jv_ev d 1 812 lc st h := jq_last (jv_insR jm_1 dX12_init_811)
theorem e1_812 : jv_ev d 1 812 [some (.ref a)] st h = jv_ev d 1 813 [some (.ref a)] (.ref a :: st) h := jq_nx (jv_insR jm_1 dX12_init_812) rfl
theorem e1_813 : jv_ev d 1 813 lc (.ref a :: st) h = (jv_gf h a [(0, 9, .array .long)]).bind fun r => jv_ev d 1 816 lc (r :: st) h := jq_get (jv_insR jm_1 dX12_init_813) jo_1 jF_1_34
theorem e1_816 : jv_ev d 1 816 lc st h = jv_ev d 1 818 lc (.int 20 :: st) h := jq_bipush (jv_insR jm_1 dX12_init_816) (by decide)
theorem e1_818 : jv_ev d 1 818 lc st h = jv_ev d 1 820 lc (.int 119 :: st) h := jq_bipush (jv_insR jm_1 dX12_init_818) (by decide)
theorem e1_820 : jv_ev d 1 820 lc st h = jv_ev d 1 822 lc (.int 105 :: st) h := jq_bipush (jv_insR jm_1 dX12_init_820) (by decide)
theorem e1_822 : jv_ev d 1 822 lc st h = jv_ev d 1 824 lc (.int 100 :: st) h := jq_bipush (jv_insR jm_1 dX12_init_822) (by decide)
theorem e1_824 : jv_ev d 1 824 lc st h = jv_ev d 1 826 lc (.int 101 :: st) h := jq_bipush (jv_insR jm_1 dX12_init_824) (by decide)
theorem e1_826 : jv_ev d 1 826 lc st h = jv_ev d 1 827 lc (.int 0 :: st) h := jq_iconst (jv_insR jm_1 dX12_init_826) (by decide)
theorem e1_827 : jv_ev d 1 827 lc st h = jv_ev d 1 828 lc (.int 0 :: st) h := jq_iconst (jv_insR jm_1 dX12_init_827) (by decide)
theorem e1_828 : jv_ev d 1 828 lc st h = jv_ev d 1 829 lc (.int 0 :: st) h := jq_iconst (jv_insR jm_1 dX12_init_828) (by decide)
theorem e1_829 : jv_ev d 1 829 lc [z6, z5, z4, z3, z2, z1, z0, y0, y1] h = (jv_cd d 3 [z0, z1, z2, z3, z4, z5, z6] h).bind fun r => jv_on r (fun v h => jv_ev d 1 832 lc (v.toList ++ [y0, y1]) h) (fun q h => some (.inr q, h)) := jq_S (as := [z0, z1, z2, z3, z4, z5, z6]) (rest := [y0, y1]) (jv_insR jm_1 dX12_init_829) jo_1 jT_1_162 rfl rfl rfl rfl
theorem e1_832 : jv_ev d 1 832 lc (.long lw :: .int v :: .ref a :: st) h = (jv_lp h a v lw).bind fun h => jv_ev d 1 833 lc st h := jq_last (jv_insR jm_1 dX12_init_832)
theorem e1_833 : jv_ev d 1 833 [some (.ref a)] st h = jv_ev d 1 834 [some (.ref a)] (.ref a :: st) h := jq_nx (jv_insR jm_1 dX12_init_833) rfl
theorem e1_834 : jv_ev d 1 834 lc [.ref b] h = (jv_rc h b [(0, 5)]).bind fun y => (jv_cd d y [.ref b] h).bind fun r => jv_on r (fun v h => jv_ev d 1 837 lc (v.toList ++ []) h) (fun q h => some (.inr q, h)) := jq_V (as := []) (rest := []) (jv_insR jm_1 dX12_init_834) jo_1 jV_1_166 rfl rfl rfl rfl
theorem e1_837 : jv_ev d 1 837 [some (.ref a)] st h = jv_ev d 1 838 [some (.ref a)] (.ref a :: st) h := jq_nx (jv_insR jm_1 dX12_init_837) rfl
theorem e1_838 : jv_ev d 1 838 lc [.ref b] h = (jv_rc h b [(0, 6)]).bind fun y => (jv_cd d y [.ref b] h).bind fun r => jv_on r (fun v h => jv_ev d 1 841 lc (v.toList ++ []) h) (fun q h => some (.inr q, h)) := jq_V (as := []) (rest := []) (jv_insR jm_1 dX12_init_838) jo_1 jV_1_169 rfl rfl rfl rfl
theorem e1_841 : jv_ev d 1 841 lc [] h = some (.inl none, h) := jq_retv (jv_insR jm_1 dX12_init_841) jr_1
/-! 2: RainLoomModel.plain(I)V -/
theorem n2 : jv_cd (d + 1) 2 [.ref a0, .int i1] h = jv_ev d 2 0 [some (.ref a0), some (.int i1), none] [] h := rfl
theorem e2_0 : jv_ev d 2 0 [some (.ref a), x1, x2] st h = jv_ev d 2 1 [some (.ref a), x1, x2] (.ref a :: st) h := jq_nx (jv_insR jm_2 dX12_plain_0) rfl
theorem e2_1 : jv_ev d 2 1 lc (.ref a :: st) h = (jv_gf h a [(0, 22, .array .int)]).bind fun r => jv_ev d 2 4 lc (r :: st) h := jq_get (jv_insR jm_2 dX12_plain_1) jo_2 jF_1_43
theorem e2_4 : jv_ev d 2 4 [x0, some (.int v), x2] st h = jv_ev d 2 5 [x0, some (.int v), x2] (.int v :: st) h := jq_nx (jv_insR jm_2 dX12_plain_4) rfl
theorem e2_5 : jv_ev d 2 5 lc st h = jv_ev d 2 6 lc (.int 0 :: st) h := jq_iconst (jv_insR jm_2 dX12_plain_5) (by decide)
theorem e2_6 : jv_ev d 2 6 lc (.int w :: .int v :: .ref a :: st) h = (jv_ip h a 0 0 v w).bind fun h => jv_ev d 2 7 lc st h := jq_iast (jv_insR jm_2 dX12_plain_6)
theorem e2_7 : jv_ev d 2 7 [some (.ref a), x1, x2] st h = jv_ev d 2 8 [some (.ref a), x1, x2] (.ref a :: st) h := jq_nx (jv_insR jm_2 dX12_plain_7) rfl
theorem e2_8 : jv_ev d 2 8 lc (.ref a :: st) h = (jv_gf h a [(0, 23, .array .int)]).bind fun r => jv_ev d 2 11 lc (r :: st) h := jq_get (jv_insR jm_2 dX12_plain_8) jo_2 jF_1_46
theorem e2_11 : jv_ev d 2 11 [x0, some (.int v), x2] st h = jv_ev d 2 12 [x0, some (.int v), x2] (.int v :: st) h := jq_nx (jv_insR jm_2 dX12_plain_11) rfl
theorem e2_12 : jv_ev d 2 12 lc st h = jv_ev d 2 13 lc (.int 0 :: st) h := jq_iconst (jv_insR jm_2 dX12_plain_12) (by decide)
theorem e2_13 : jv_ev d 2 13 lc (.int w :: .int v :: .ref a :: st) h = (jv_ip h a 0 0 v w).bind fun h => jv_ev d 2 14 lc st h := jq_iast (jv_insR jm_2 dX12_plain_13)
theorem e2_14 : jv_ev d 2 14 [some (.ref a), x1, x2] st h = jv_ev d 2 15 [some (.ref a), x1, x2] (.ref a :: st) h := jq_nx (jv_insR jm_2 dX12_plain_14) rfl
theorem e2_15 : jv_ev d 2 15 lc (.ref a :: st) h = (jv_gf h a [(0, 25, .array .int)]).bind fun r => jv_ev d 2 18 lc (r :: st) h := jq_get (jv_insR jm_2 dX12_plain_15) jo_2 jF_1_52
theorem e2_18 : jv_ev d 2 18 [x0, some (.int v), x2] st h = jv_ev d 2 19 [x0, some (.int v), x2] (.int v :: st) h := jq_nx (jv_insR jm_2 dX12_plain_18) rfl
theorem e2_19 : jv_ev d 2 19 lc st h = jv_ev d 2 20 lc (.int 0 :: st) h := jq_iconst (jv_insR jm_2 dX12_plain_19) (by decide)
theorem e2_20 : jv_ev d 2 20 lc (.int w :: .int v :: .ref a :: st) h = (jv_ip h a 0 0 v w).bind fun h => jv_ev d 2 21 lc st h := jq_iast (jv_insR jm_2 dX12_plain_20)
theorem e2_21 : jv_ev d 2 21 [some (.ref a), x1, x2] st h = jv_ev d 2 22 [some (.ref a), x1, x2] (.ref a :: st) h := jq_nx (jv_insR jm_2 dX12_plain_21) rfl
theorem e2_22 : jv_ev d 2 22 lc (.ref a :: st) h = (jv_gf h a [(0, 28, .array .int)]).bind fun r => jv_ev d 2 25 lc (r :: st) h := jq_get (jv_insR jm_2 dX12_plain_22) jo_2 jF_1_61
theorem e2_25 : jv_ev d 2 25 [x0, some (.int v), x2] st h = jv_ev d 2 26 [x0, some (.int v), x2] (.int v :: st) h := jq_nx (jv_insR jm_2 dX12_plain_25) rfl
theorem e2_26 : jv_ev d 2 26 lc st h = jv_ev d 2 27 lc (.int 0 :: st) h := jq_iconst (jv_insR jm_2 dX12_plain_26) (by decide)
theorem e2_27 : jv_ev d 2 27 lc (.int w :: .int v :: .ref a :: st) h = (jv_ip h a 0 0 v w).bind fun h => jv_ev d 2 28 lc st h := jq_iast (jv_insR jm_2 dX12_plain_27)
theorem e2_28 : jv_ev d 2 28 [some (.ref a), x1, x2] st h = jv_ev d 2 29 [some (.ref a), x1, x2] (.ref a :: st) h := jq_nx (jv_insR jm_2 dX12_plain_28) rfl
theorem e2_29 : jv_ev d 2 29 lc (.ref a :: st) h = (jv_gf h a [(0, 31, .array .int)]).bind fun r => jv_ev d 2 32 lc (r :: st) h := jq_get (jv_insR jm_2 dX12_plain_29) jo_2 jF_1_70
theorem e2_32 : jv_ev d 2 32 [x0, some (.int v), x2] st h = jv_ev d 2 33 [x0, some (.int v), x2] (.int v :: st) h := jq_nx (jv_insR jm_2 dX12_plain_32) rfl
theorem e2_33 : jv_ev d 2 33 lc st h = jv_ev d 2 35 lc (.int 100 :: st) h := jq_bipush (jv_insR jm_2 dX12_plain_33) (by decide)
theorem e2_35 : jv_ev d 2 35 lc (.int w :: .int v :: .ref a :: st) h = (jv_ip h a 0 0 v w).bind fun h => jv_ev d 2 36 lc st h := jq_iast (jv_insR jm_2 dX12_plain_35)
theorem e2_36 : jv_ev d 2 36 [some (.ref a), x1, x2] st h = jv_ev d 2 37 [some (.ref a), x1, x2] (.ref a :: st) h := jq_nx (jv_insR jm_2 dX12_plain_36) rfl
theorem e2_37 : jv_ev d 2 37 lc (.ref a :: st) h = (jv_gf h a [(0, 32, .array .int)]).bind fun r => jv_ev d 2 40 lc (r :: st) h := jq_get (jv_insR jm_2 dX12_plain_37) jo_2 jF_1_73
theorem e2_40 : jv_ev d 2 40 [x0, some (.int v), x2] st h = jv_ev d 2 41 [x0, some (.int v), x2] (.int v :: st) h := jq_nx (jv_insR jm_2 dX12_plain_40) rfl
theorem e2_41 : jv_ev d 2 41 lc st h = jv_ev d 2 42 lc (.int 0 :: st) h := jq_iconst (jv_insR jm_2 dX12_plain_41) (by decide)
theorem e2_42 : jv_ev d 2 42 lc (.int w :: .int v :: .ref a :: st) h = (jv_ip h a 0 0 v w).bind fun h => jv_ev d 2 43 lc st h := jq_iast (jv_insR jm_2 dX12_plain_42)
theorem e2_43 : jv_ev d 2 43 [some (.ref a), x1, x2] st h = jv_ev d 2 44 [some (.ref a), x1, x2] (.ref a :: st) h := jq_nx (jv_insR jm_2 dX12_plain_43) rfl
theorem e2_44 : jv_ev d 2 44 lc (.ref a :: st) h = (jv_gf h a [(0, 33, .array .int)]).bind fun r => jv_ev d 2 47 lc (r :: st) h := jq_get (jv_insR jm_2 dX12_plain_44) jo_2 jF_1_76
theorem e2_47 : jv_ev d 2 47 [x0, some (.int v), x2] st h = jv_ev d 2 48 [x0, some (.int v), x2] (.int v :: st) h := jq_nx (jv_insR jm_2 dX12_plain_47) rfl
theorem e2_48 : jv_ev d 2 48 lc st h = jv_ev d 2 49 lc (.int 0 :: st) h := jq_iconst (jv_insR jm_2 dX12_plain_48) (by decide)
theorem e2_49 : jv_ev d 2 49 lc (.int w :: .int v :: .ref a :: st) h = (jv_ip h a 0 0 v w).bind fun h => jv_ev d 2 50 lc st h := jq_iast (jv_insR jm_2 dX12_plain_49)
theorem e2_50 : jv_ev d 2 50 lc st h = jv_ev d 2 51 lc (.int 0 :: st) h := jq_iconst (jv_insR jm_2 dX12_plain_50) (by decide)
theorem e2_51 : jv_ev d 2 51 [x0, x1, x2] (.int v :: st) h = jv_ev d 2 52 [x0, x1, some (.int v)] st h := jq_nx (jv_insR jm_2 dX12_plain_51) rfl
theorem e2_52 : jv_ev d 2 52 [x0, x1, some (.int v)] st h = jv_ev d 2 53 [x0, x1, some (.int v)] (.int v :: st) h := jq_nx (jv_insR jm_2 dX12_plain_52) rfl
theorem e2_53 : jv_ev d 2 53 lc st h = jv_ev d 2 54 lc (.int 3 :: st) h := jq_iconst (jv_insR jm_2 dX12_plain_53) (by decide)
theorem e2_54 : jv_ev d 2 54 lc (.int w :: .int v :: st) h = if w ≤ v then jv_ev d 2 85 lc st h else jv_ev d 2 57 lc st h := jq_if (jv_insR jm_2 dX12_plain_54) rfl (by decide)
theorem e2_57 : jv_ev d 2 57 [some (.ref a), x1, x2] st h = jv_ev d 2 58 [some (.ref a), x1, x2] (.ref a :: st) h := jq_nx (jv_insR jm_2 dX12_plain_57) rfl
theorem e2_58 : jv_ev d 2 58 lc (.ref a :: st) h = (jv_gf h a [(0, 34, .array .int)]).bind fun r => jv_ev d 2 61 lc (r :: st) h := jq_get (jv_insR jm_2 dX12_plain_58) jo_2 jF_1_79
theorem e2_61 : jv_ev d 2 61 lc st h = jv_ev d 2 62 lc (.int 3 :: st) h := jq_iconst (jv_insR jm_2 dX12_plain_61) (by decide)
theorem e2_62 : jv_ev d 2 62 [x0, some (.int v), x2] st h = jv_ev d 2 63 [x0, some (.int v), x2] (.int v :: st) h := jq_nx (jv_insR jm_2 dX12_plain_62) rfl
theorem e2_63 : jv_ev d 2 63 lc (.int w :: .int v :: st) h = jv_ev d 2 64 lc (.int (v * w) :: st) h := jq_nx (jv_insR jm_2 dX12_plain_63) rfl
theorem e2_64 : jv_ev d 2 64 [x0, x1, some (.int v)] st h = jv_ev d 2 65 [x0, x1, some (.int v)] (.int v :: st) h := jq_nx (jv_insR jm_2 dX12_plain_64) rfl
theorem e2_65 : jv_ev d 2 65 lc (.int w :: .int v :: st) h = jv_ev d 2 66 lc (.int (v + w) :: st) h := jq_nx (jv_insR jm_2 dX12_plain_65) rfl
theorem e2_66 : jv_ev d 2 66 lc st h = jv_ev d 2 67 lc (.int 0 :: st) h := jq_iconst (jv_insR jm_2 dX12_plain_66) (by decide)
theorem e2_67 : jv_ev d 2 67 lc (.int w :: .int v :: .ref a :: st) h = (jv_ip h a 0 0 v w).bind fun h => jv_ev d 2 68 lc st h := jq_iast (jv_insR jm_2 dX12_plain_67)
theorem e2_68 : jv_ev d 2 68 [some (.ref a), x1, x2] st h = jv_ev d 2 69 [some (.ref a), x1, x2] (.ref a :: st) h := jq_nx (jv_insR jm_2 dX12_plain_68) rfl
theorem e2_69 : jv_ev d 2 69 lc (.ref a :: st) h = (jv_gf h a [(0, 35, .array .int)]).bind fun r => jv_ev d 2 72 lc (r :: st) h := jq_get (jv_insR jm_2 dX12_plain_69) jo_2 jF_1_82
theorem e2_72 : jv_ev d 2 72 lc st h = jv_ev d 2 73 lc (.int 3 :: st) h := jq_iconst (jv_insR jm_2 dX12_plain_72) (by decide)
theorem e2_73 : jv_ev d 2 73 [x0, some (.int v), x2] st h = jv_ev d 2 74 [x0, some (.int v), x2] (.int v :: st) h := jq_nx (jv_insR jm_2 dX12_plain_73) rfl
theorem e2_74 : jv_ev d 2 74 lc (.int w :: .int v :: st) h = jv_ev d 2 75 lc (.int (v * w) :: st) h := jq_nx (jv_insR jm_2 dX12_plain_74) rfl
theorem e2_75 : jv_ev d 2 75 [x0, x1, some (.int v)] st h = jv_ev d 2 76 [x0, x1, some (.int v)] (.int v :: st) h := jq_nx (jv_insR jm_2 dX12_plain_75) rfl
theorem e2_76 : jv_ev d 2 76 lc (.int w :: .int v :: st) h = jv_ev d 2 77 lc (.int (v + w) :: st) h := jq_nx (jv_insR jm_2 dX12_plain_76) rfl
theorem e2_77 : jv_ev d 2 77 lc st h = jv_ev d 2 78 lc (.int 0 :: st) h := jq_iconst (jv_insR jm_2 dX12_plain_77) (by decide)
theorem e2_78 : jv_ev d 2 78 lc (.int w :: .int v :: .ref a :: st) h = (jv_ip h a 0 0 v w).bind fun h => jv_ev d 2 79 lc st h := jq_iast (jv_insR jm_2 dX12_plain_78)
theorem e2_79 : jv_ev d 2 79 [x0, x1, some (.int v)] st h = jv_ev d 2 82 [x0, x1, some (.int (v + 1))] st h := jq_nx (jv_insR jm_2 dX12_plain_79) rfl
theorem e2_82 : jv_ev d 2 82 lc st h = jv_ev d 2 52 lc st h := jq_go (jv_insR jm_2 dX12_plain_82) (by decide)
theorem e2_85 : jv_ev d 2 85 lc [] h = some (.inl none, h) := jq_retv (jv_insR jm_2 dX12_plain_85) jr_2
/-! 3: RainLoomModel.word(IIIIIII)J -/
theorem n3 : jv_cd (d + 1) 3 [.int i0, .int i1, .int i2, .int i3, .int i4, .int i5, .int i6] h = jv_ev d 3 0 [some (.int i0), some (.int i1), some (.int i2), some (.int i3), some (.int i4), some (.int i5), some (.int i6)] [] h := rfl
theorem e3_0 : jv_ev d 3 0 lc st h = jv_ev d 3 1 lc (.long 0 :: st) h := jq_lconst (jv_insR jm_3 dX12_word_0) (by decide)
theorem e3_1 : jv_ev d 3 1 [some (.int v), x1, x2, x3, x4, x5, x6] st h = jv_ev d 3 2 [some (.int v), x1, x2, x3, x4, x5, x6] (.int v :: st) h := jq_nx (jv_insR jm_3 dX12_word_1) rfl
theorem e3_2 : jv_ev d 3 2 lc [z1, z0] h = (jv_cd d 4 [z0, z1] h).bind fun r => jv_on r (fun v h => jv_ev d 3 5 lc (v.toList ++ []) h) (fun q h => some (.inr q, h)) := jq_S (as := [z0, z1]) (rest := []) (jv_insR jm_3 dX12_word_2) jo_3 jT_1_183 rfl rfl rfl rfl
theorem e3_5 : jv_ev d 3 5 [x0, some (.int v), x2, x3, x4, x5, x6] st h = jv_ev d 3 6 [x0, some (.int v), x2, x3, x4, x5, x6] (.int v :: st) h := jq_nx (jv_insR jm_3 dX12_word_5) rfl
theorem e3_6 : jv_ev d 3 6 lc [z1, z0] h = (jv_cd d 4 [z0, z1] h).bind fun r => jv_on r (fun v h => jv_ev d 3 9 lc (v.toList ++ []) h) (fun q h => some (.inr q, h)) := jq_S (as := [z0, z1]) (rest := []) (jv_insR jm_3 dX12_word_6) jo_3 jT_1_183 rfl rfl rfl rfl
theorem e3_9 : jv_ev d 3 9 [x0, x1, some (.int v), x3, x4, x5, x6] st h = jv_ev d 3 10 [x0, x1, some (.int v), x3, x4, x5, x6] (.int v :: st) h := jq_nx (jv_insR jm_3 dX12_word_9) rfl
theorem e3_10 : jv_ev d 3 10 lc [z1, z0] h = (jv_cd d 4 [z0, z1] h).bind fun r => jv_on r (fun v h => jv_ev d 3 13 lc (v.toList ++ []) h) (fun q h => some (.inr q, h)) := jq_S (as := [z0, z1]) (rest := []) (jv_insR jm_3 dX12_word_10) jo_3 jT_1_183 rfl rfl rfl rfl
theorem e3_13 : jv_ev d 3 13 [x0, x1, x2, some (.int v), x4, x5, x6] st h = jv_ev d 3 14 [x0, x1, x2, some (.int v), x4, x5, x6] (.int v :: st) h := jq_nx (jv_insR jm_3 dX12_word_13) rfl
theorem e3_14 : jv_ev d 3 14 lc [z1, z0] h = (jv_cd d 4 [z0, z1] h).bind fun r => jv_on r (fun v h => jv_ev d 3 17 lc (v.toList ++ []) h) (fun q h => some (.inr q, h)) := jq_S (as := [z0, z1]) (rest := []) (jv_insR jm_3 dX12_word_14) jo_3 jT_1_183 rfl rfl rfl rfl
theorem e3_17 : jv_ev d 3 17 [x0, x1, x2, x3, some (.int v), x5, x6] st h = jv_ev d 3 19 [x0, x1, x2, x3, some (.int v), x5, x6] (.int v :: st) h := jq_nx (jv_insR jm_3 dX12_word_17) rfl
theorem e3_19 : jv_ev d 3 19 lc [z1, z0] h = (jv_cd d 4 [z0, z1] h).bind fun r => jv_on r (fun v h => jv_ev d 3 22 lc (v.toList ++ []) h) (fun q h => some (.inr q, h)) := jq_S (as := [z0, z1]) (rest := []) (jv_insR jm_3 dX12_word_19) jo_3 jT_1_183 rfl rfl rfl rfl
theorem e3_22 : jv_ev d 3 22 [x0, x1, x2, x3, x4, some (.int v), x6] st h = jv_ev d 3 24 [x0, x1, x2, x3, x4, some (.int v), x6] (.int v :: st) h := jq_nx (jv_insR jm_3 dX12_word_22) rfl
theorem e3_24 : jv_ev d 3 24 lc [z1, z0] h = (jv_cd d 4 [z0, z1] h).bind fun r => jv_on r (fun v h => jv_ev d 3 27 lc (v.toList ++ []) h) (fun q h => some (.inr q, h)) := jq_S (as := [z0, z1]) (rest := []) (jv_insR jm_3 dX12_word_24) jo_3 jT_1_183 rfl rfl rfl rfl
theorem e3_27 : jv_ev d 3 27 [x0, x1, x2, x3, x4, x5, some (.int v)] st h = jv_ev d 3 29 [x0, x1, x2, x3, x4, x5, some (.int v)] (.int v :: st) h := jq_nx (jv_insR jm_3 dX12_word_27) rfl
theorem e3_29 : jv_ev d 3 29 lc [z1, z0] h = (jv_cd d 4 [z0, z1] h).bind fun r => jv_on r (fun v h => jv_ev d 3 32 lc (v.toList ++ []) h) (fun q h => some (.inr q, h)) := jq_S (as := [z0, z1]) (rest := []) (jv_insR jm_3 dX12_word_29) jo_3 jT_1_183 rfl rfl rfl rfl
theorem e3_32 : jv_ev d 3 32 lc [.long lv] h = some (.inl (some (.long lv)), h) := jq_retl (jv_insR jm_3 dX12_word_32) jr_3
/-! 4: RainLoomModel.appends(JI)J -/
theorem n4 : jv_cd (d + 1) 4 [.long l0, .int i1] h = jv_ev d 4 0 [some (.long l0), none, some (.int i1)] [] h := rfl
theorem e4_0 : jv_ev d 4 0 [x0, x1, some (.int v)] st h = jv_ev d 4 1 [x0, x1, some (.int v)] (.int v :: st) h := jq_nx (jv_insR jm_4 dX12_appends_0) rfl
theorem e4_1 : jv_ev d 4 1 lc (.int v :: st) h = if ¬ v = 0 then jv_ev d 4 8 lc st h else jv_ev d 4 4 lc st h := jq_if (jv_insR jm_4 dX12_appends_1) rfl (by decide)
theorem e4_4 : jv_ev d 4 4 [some (.long lv), none, x2] st h = jv_ev d 4 5 [some (.long lv), none, x2] (.long lv :: st) h := jq_nx (jv_insR jm_4 dX12_appends_4) rfl
theorem e4_5 : jv_ev d 4 5 lc st h = jv_ev d 4 21 lc st h := jq_go (jv_insR jm_4 dX12_appends_5) (by decide)
theorem e4_8 : jv_ev d 4 8 lc st h = jv_ev d 4 11 lc (.long (27) :: st) h := jq_ldc2 (jv_insR jm_4 dX12_appends_8) jo_4 jK_1_181
theorem e4_11 : jv_ev d 4 11 [some (.long lv), none, x2] st h = jv_ev d 4 12 [some (.long lv), none, x2] (.long lv :: st) h := jq_nx (jv_insR jm_4 dX12_appends_11) rfl
theorem e4_12 : jv_ev d 4 12 lc (.long lw :: .long lv :: st) h = jv_ev d 4 13 lc (.long (lv * lw) :: st) h := jq_nx (jv_insR jm_4 dX12_appends_12) rfl
theorem e4_13 : jv_ev d 4 13 [x0, x1, some (.int v)] st h = jv_ev d 4 14 [x0, x1, some (.int v)] (.int v :: st) h := jq_nx (jv_insR jm_4 dX12_appends_13) rfl
theorem e4_14 : jv_ev d 4 14 lc st h = jv_ev d 4 16 lc (.int 97 :: st) h := jq_bipush (jv_insR jm_4 dX12_appends_14) (by decide)
theorem e4_16 : jv_ev d 4 16 lc (.int w :: .int v :: st) h = jv_ev d 4 17 lc (.int (v - w) :: st) h := jq_nx (jv_insR jm_4 dX12_appends_16) rfl
theorem e4_17 : jv_ev d 4 17 lc st h = jv_ev d 4 18 lc (.int 1 :: st) h := jq_iconst (jv_insR jm_4 dX12_appends_17) (by decide)
theorem e4_18 : jv_ev d 4 18 lc (.int w :: .int v :: st) h = jv_ev d 4 19 lc (.int (v + w) :: st) h := jq_nx (jv_insR jm_4 dX12_appends_18) rfl
theorem e4_19 : jv_ev d 4 19 lc (.int v :: st) h = jv_ev d 4 20 lc (.long v.toInt64 :: st) h := jq_nx (jv_insR jm_4 dX12_appends_19) rfl
theorem e4_20 : jv_ev d 4 20 lc (.long lw :: .long lv :: st) h = jv_ev d 4 21 lc (.long (lv + lw) :: st) h := jq_nx (jv_insR jm_4 dX12_appends_20) rfl
theorem e4_21 : jv_ev d 4 21 lc [.long lv] h = some (.inl (some (.long lv)), h) := jq_retl (jv_insR jm_4 dX12_appends_21) jr_4
/-! 5: RainLoomModel.begins()V -/
theorem n5 : jv_cd (d + 1) 5 [.ref a0] h = jv_ev d 5 0 [some (.ref a0), none] [] h := rfl
theorem e5_0 : jv_ev d 5 0 lc st h = jv_ev d 5 1 lc (.int 0 :: st) h := jq_iconst (jv_insR jm_5 dX12_begins_0) (by decide)
theorem e5_1 : jv_ev d 5 1 [x0, x1] (.int v :: st) h = jv_ev d 5 2 [x0, some (.int v)] st h := jq_nx (jv_insR jm_5 dX12_begins_1) rfl
theorem e5_2 : jv_ev d 5 2 [x0, some (.int v)] st h = jv_ev d 5 3 [x0, some (.int v)] (.int v :: st) h := jq_nx (jv_insR jm_5 dX12_begins_2) rfl
theorem e5_3 : jv_ev d 5 3 lc st h = jv_ev d 5 5 lc (.int 92 :: st) h := jq_bipush (jv_insR jm_5 dX12_begins_3) (by decide)
theorem e5_5 : jv_ev d 5 5 lc (.int w :: .int v :: st) h = if w ≤ v then jv_ev d 5 21 lc st h else jv_ev d 5 8 lc st h := jq_if (jv_insR jm_5 dX12_begins_5) rfl (by decide)
theorem e5_8 : jv_ev d 5 8 [some (.ref a), x1] st h = jv_ev d 5 9 [some (.ref a), x1] (.ref a :: st) h := jq_nx (jv_insR jm_5 dX12_begins_8) rfl
theorem e5_9 : jv_ev d 5 9 lc (.ref a :: st) h = (jv_gf h a [(0, 51, .array .int)]).bind fun r => jv_ev d 5 12 lc (r :: st) h := jq_get (jv_insR jm_5 dX12_begins_9) jo_5 jF_1_119
theorem e5_12 : jv_ev d 5 12 [x0, some (.int v)] st h = jv_ev d 5 13 [x0, some (.int v)] (.int v :: st) h := jq_nx (jv_insR jm_5 dX12_begins_12) rfl
theorem e5_13 : jv_ev d 5 13 lc st h = jv_ev d 5 14 lc (.int 0 :: st) h := jq_iconst (jv_insR jm_5 dX12_begins_13) (by decide)
theorem e5_14 : jv_ev d 5 14 lc (.int w :: .int v :: .ref a :: st) h = (jv_ip h a 0 0 v w).bind fun h => jv_ev d 5 15 lc st h := jq_iast (jv_insR jm_5 dX12_begins_14)
theorem e5_15 : jv_ev d 5 15 [x0, some (.int v)] st h = jv_ev d 5 18 [x0, some (.int (v + 1))] st h := jq_nx (jv_insR jm_5 dX12_begins_15) rfl
theorem e5_18 : jv_ev d 5 18 lc st h = jv_ev d 5 2 lc st h := jq_go (jv_insR jm_5 dX12_begins_18) (by decide)
theorem e5_21 : jv_ev d 5 21 lc st h = jv_ev d 5 22 lc (.int 0 :: st) h := jq_iconst (jv_insR jm_5 dX12_begins_21) (by decide)
theorem e5_22 : jv_ev d 5 22 [x0, x1] (.int v :: st) h = jv_ev d 5 23 [x0, some (.int v)] st h := jq_nx (jv_insR jm_5 dX12_begins_22) rfl
theorem e5_23 : jv_ev d 5 23 [x0, some (.int v)] st h = jv_ev d 5 24 [x0, some (.int v)] (.int v :: st) h := jq_nx (jv_insR jm_5 dX12_begins_23) rfl
theorem e5_24 : jv_ev d 5 24 [some (.ref a), x1] st h = jv_ev d 5 25 [some (.ref a), x1] (.ref a :: st) h := jq_nx (jv_insR jm_5 dX12_begins_24) rfl
theorem e5_25 : jv_ev d 5 25 lc (.ref a :: st) h = (jv_gf h a [(0, 28, .array .int)]).bind fun r => jv_ev d 5 28 lc (r :: st) h := jq_get (jv_insR jm_5 dX12_begins_25) jo_5 jF_1_61
theorem e5_28 : jv_ev d 5 28 [some (.ref a), x1] st h = jv_ev d 5 29 [some (.ref a), x1] (.ref a :: st) h := jq_nx (jv_insR jm_5 dX12_begins_28) rfl
theorem e5_29 : jv_ev d 5 29 lc (.ref a :: st) h = (jv_gf h a [(0, 18, .int)]).bind fun r => jv_ev d 5 32 lc (r :: st) h := jq_get (jv_insR jm_5 dX12_begins_29) jo_5 jF_1_239
theorem e5_32 : jv_ev d 5 32 lc (.int v :: .ref a :: st) h = (jv_ig h a 0 0 v).bind fun w => jv_ev d 5 33 lc (.int w :: st) h := jq_iald (jv_insR jm_5 dX12_begins_32)
theorem e5_33 : jv_ev d 5 33 lc (.int w :: .int v :: st) h = if w ≤ v then jv_ev d 5 64 lc st h else jv_ev d 5 36 lc st h := jq_if (jv_insR jm_5 dX12_begins_33) rfl (by decide)
theorem e5_36 : jv_ev d 5 36 [some (.ref a), x1] st h = jv_ev d 5 37 [some (.ref a), x1] (.ref a :: st) h := jq_nx (jv_insR jm_5 dX12_begins_36) rfl
theorem e5_37 : jv_ev d 5 37 lc (.ref a :: st) h = (jv_gf h a [(0, 51, .array .int)]).bind fun r => jv_ev d 5 40 lc (r :: st) h := jq_get (jv_insR jm_5 dX12_begins_37) jo_5 jF_1_119
theorem e5_40 : jv_ev d 5 40 lc st h = jv_ev d 5 42 lc (.int 48 :: st) h := jq_bipush (jv_insR jm_5 dX12_begins_40) (by decide)
theorem e5_42 : jv_ev d 5 42 [x0, some (.int v)] st h = jv_ev d 5 43 [x0, some (.int v)] (.int v :: st) h := jq_nx (jv_insR jm_5 dX12_begins_42) rfl
theorem e5_43 : jv_ev d 5 43 lc (.int w :: .int v :: st) h = jv_ev d 5 44 lc (.int (v + w) :: st) h := jq_nx (jv_insR jm_5 dX12_begins_43) rfl
theorem e5_44 : jv_ev d 5 44 [some (.ref a), x1] st h = jv_ev d 5 45 [some (.ref a), x1] (.ref a :: st) h := jq_nx (jv_insR jm_5 dX12_begins_44) rfl
theorem e5_45 : jv_ev d 5 45 lc (.ref a :: st) h = (jv_gf h a [(0, 30, .array .int)]).bind fun r => jv_ev d 5 48 lc (r :: st) h := jq_get (jv_insR jm_5 dX12_begins_45) jo_5 jF_1_67
theorem e5_48 : jv_ev d 5 48 lc st h = jv_ev d 5 49 lc (.int 4 :: st) h := jq_iconst (jv_insR jm_5 dX12_begins_48) (by decide)
theorem e5_49 : jv_ev d 5 49 [some (.ref a), x1] st h = jv_ev d 5 50 [some (.ref a), x1] (.ref a :: st) h := jq_nx (jv_insR jm_5 dX12_begins_49) rfl
theorem e5_50 : jv_ev d 5 50 lc (.ref a :: st) h = (jv_gf h a [(0, 18, .int)]).bind fun r => jv_ev d 5 53 lc (r :: st) h := jq_get (jv_insR jm_5 dX12_begins_50) jo_5 jF_1_239
theorem e5_53 : jv_ev d 5 53 lc (.int w :: .int v :: st) h = jv_ev d 5 54 lc (.int (v * w) :: st) h := jq_nx (jv_insR jm_5 dX12_begins_53) rfl
theorem e5_54 : jv_ev d 5 54 [x0, some (.int v)] st h = jv_ev d 5 55 [x0, some (.int v)] (.int v :: st) h := jq_nx (jv_insR jm_5 dX12_begins_54) rfl
theorem e5_55 : jv_ev d 5 55 lc (.int w :: .int v :: st) h = jv_ev d 5 56 lc (.int (v + w) :: st) h := jq_nx (jv_insR jm_5 dX12_begins_55) rfl
theorem e5_56 : jv_ev d 5 56 lc (.int v :: .ref a :: st) h = (jv_ig h a 0 0 v).bind fun w => jv_ev d 5 57 lc (.int w :: st) h := jq_iald (jv_insR jm_5 dX12_begins_56)
theorem e5_57 : jv_ev d 5 57 lc (.int w :: .int v :: .ref a :: st) h = (jv_ip h a 0 0 v w).bind fun h => jv_ev d 5 58 lc st h := jq_iast (jv_insR jm_5 dX12_begins_57)
theorem e5_58 : jv_ev d 5 58 [x0, some (.int v)] st h = jv_ev d 5 61 [x0, some (.int (v + 1))] st h := jq_nx (jv_insR jm_5 dX12_begins_58) rfl
theorem e5_61 : jv_ev d 5 61 lc st h = jv_ev d 5 23 lc st h := jq_go (jv_insR jm_5 dX12_begins_61) (by decide)
theorem e5_64 : jv_ev d 5 64 [some (.ref a), x1] st h = jv_ev d 5 65 [some (.ref a), x1] (.ref a :: st) h := jq_nx (jv_insR jm_5 dX12_begins_64) rfl
theorem e5_65 : jv_ev d 5 65 lc (.ref a :: st) h = (jv_gf h a [(0, 51, .array .int)]).bind fun r => jv_ev d 5 68 lc (r :: st) h := jq_get (jv_insR jm_5 dX12_begins_65) jo_5 jF_1_119
theorem e5_68 : jv_ev d 5 68 lc st h = jv_ev d 5 70 lc (.int 88 :: st) h := jq_bipush (jv_insR jm_5 dX12_begins_68) (by decide)
theorem e5_70 : jv_ev d 5 70 [some (.ref a), x1] st h = jv_ev d 5 71 [some (.ref a), x1] (.ref a :: st) h := jq_nx (jv_insR jm_5 dX12_begins_70) rfl
theorem e5_71 : jv_ev d 5 71 lc (.ref a :: st) h = (jv_gf h a [(0, 31, .array .int)]).bind fun r => jv_ev d 5 74 lc (r :: st) h := jq_get (jv_insR jm_5 dX12_begins_71) jo_5 jF_1_70
theorem e5_74 : jv_ev d 5 74 [some (.ref a), x1] st h = jv_ev d 5 75 [some (.ref a), x1] (.ref a :: st) h := jq_nx (jv_insR jm_5 dX12_begins_74) rfl
theorem e5_75 : jv_ev d 5 75 lc (.ref a :: st) h = (jv_gf h a [(0, 18, .int)]).bind fun r => jv_ev d 5 78 lc (r :: st) h := jq_get (jv_insR jm_5 dX12_begins_75) jo_5 jF_1_239
theorem e5_78 : jv_ev d 5 78 lc (.int v :: .ref a :: st) h = (jv_ig h a 0 0 v).bind fun w => jv_ev d 5 79 lc (.int w :: st) h := jq_iald (jv_insR jm_5 dX12_begins_78)
theorem e5_79 : jv_ev d 5 79 lc (.int w :: .int v :: .ref a :: st) h = (jv_ip h a 0 0 v w).bind fun h => jv_ev d 5 80 lc st h := jq_iast (jv_insR jm_5 dX12_begins_79)
theorem e5_80 : jv_ev d 5 80 [some (.ref a), x1] st h = jv_ev d 5 81 [some (.ref a), x1] (.ref a :: st) h := jq_nx (jv_insR jm_5 dX12_begins_80) rfl
theorem e5_81 : jv_ev d 5 81 [some (.ref a), x1] st h = jv_ev d 5 82 [some (.ref a), x1] (.ref a :: st) h := jq_nx (jv_insR jm_5 dX12_begins_81) rfl
theorem e5_82 : jv_ev d 5 82 lc (.ref a :: st) h = (jv_gf h a [(0, 33, .array .int)]).bind fun r => jv_ev d 5 85 lc (r :: st) h := jq_get (jv_insR jm_5 dX12_begins_82) jo_5 jF_1_76
theorem e5_85 : jv_ev d 5 85 [some (.ref a), x1] st h = jv_ev d 5 86 [some (.ref a), x1] (.ref a :: st) h := jq_nx (jv_insR jm_5 dX12_begins_85) rfl
theorem e5_86 : jv_ev d 5 86 lc (.ref a :: st) h = (jv_gf h a [(0, 18, .int)]).bind fun r => jv_ev d 5 89 lc (r :: st) h := jq_get (jv_insR jm_5 dX12_begins_86) jo_5 jF_1_239
theorem e5_89 : jv_ev d 5 89 lc (.int v :: .ref a :: st) h = (jv_ig h a 0 0 v).bind fun w => jv_ev d 5 90 lc (.int w :: st) h := jq_iald (jv_insR jm_5 dX12_begins_89)
theorem e5_90 : jv_ev d 5 90 lc (r :: .ref a :: st) h = (jv_pf h a [(0, 52, .int)] r).bind fun h => jv_ev d 5 93 lc st h := jq_put (jv_insR jm_5 dX12_begins_90) jo_5 ji_5 jG_1_327
theorem e5_93 : jv_ev d 5 93 lc [] h = some (.inl none, h) := jq_retv (jv_insR jm_5 dX12_begins_93) jr_5
/-! 6: RainLoomModel.keepsRow()V -/
theorem n6 : jv_cd (d + 1) 6 [.ref a0] h = jv_ev d 6 0 [some (.ref a0), none] [] h := rfl
theorem e6_0 : jv_ev d 6 0 lc st h = jv_ev d 6 1 lc (.int 0 :: st) h := jq_iconst (jv_insR jm_6 dX12_keepsRow_0) (by decide)
theorem e6_1 : jv_ev d 6 1 [x0, x1] (.int v :: st) h = jv_ev d 6 2 [x0, some (.int v)] st h := jq_nx (jv_insR jm_6 dX12_keepsRow_1) rfl
theorem e6_2 : jv_ev d 6 2 [x0, some (.int v)] st h = jv_ev d 6 3 [x0, some (.int v)] (.int v :: st) h := jq_nx (jv_insR jm_6 dX12_keepsRow_2) rfl
theorem e6_3 : jv_ev d 6 3 lc st h = jv_ev d 6 5 lc (.int 92 :: st) h := jq_bipush (jv_insR jm_6 dX12_keepsRow_3) (by decide)
theorem e6_5 : jv_ev d 6 5 lc (.int w :: .int v :: st) h = if w ≤ v then jv_ev d 6 26 lc st h else jv_ev d 6 8 lc st h := jq_if (jv_insR jm_6 dX12_keepsRow_5) rfl (by decide)
theorem e6_8 : jv_ev d 6 8 [some (.ref a), x1] st h = jv_ev d 6 9 [some (.ref a), x1] (.ref a :: st) h := jq_nx (jv_insR jm_6 dX12_keepsRow_8) rfl
theorem e6_9 : jv_ev d 6 9 lc (.ref a :: st) h = (jv_gf h a [(0, 50, .array .int)]).bind fun r => jv_ev d 6 12 lc (r :: st) h := jq_get (jv_insR jm_6 dX12_keepsRow_9) jo_6 jF_1_116
theorem e6_12 : jv_ev d 6 12 [x0, some (.int v)] st h = jv_ev d 6 13 [x0, some (.int v)] (.int v :: st) h := jq_nx (jv_insR jm_6 dX12_keepsRow_12) rfl
theorem e6_13 : jv_ev d 6 13 [some (.ref a), x1] st h = jv_ev d 6 14 [some (.ref a), x1] (.ref a :: st) h := jq_nx (jv_insR jm_6 dX12_keepsRow_13) rfl
theorem e6_14 : jv_ev d 6 14 lc (.ref a :: st) h = (jv_gf h a [(0, 51, .array .int)]).bind fun r => jv_ev d 6 17 lc (r :: st) h := jq_get (jv_insR jm_6 dX12_keepsRow_14) jo_6 jF_1_119
theorem e6_17 : jv_ev d 6 17 [x0, some (.int v)] st h = jv_ev d 6 18 [x0, some (.int v)] (.int v :: st) h := jq_nx (jv_insR jm_6 dX12_keepsRow_17) rfl
theorem e6_18 : jv_ev d 6 18 lc (.int v :: .ref a :: st) h = (jv_ig h a 0 0 v).bind fun w => jv_ev d 6 19 lc (.int w :: st) h := jq_iald (jv_insR jm_6 dX12_keepsRow_18)
theorem e6_19 : jv_ev d 6 19 lc (.int w :: .int v :: .ref a :: st) h = (jv_ip h a 0 0 v w).bind fun h => jv_ev d 6 20 lc st h := jq_iast (jv_insR jm_6 dX12_keepsRow_19)
theorem e6_20 : jv_ev d 6 20 [x0, some (.int v)] st h = jv_ev d 6 23 [x0, some (.int (v + 1))] st h := jq_nx (jv_insR jm_6 dX12_keepsRow_20) rfl
theorem e6_23 : jv_ev d 6 23 lc st h = jv_ev d 6 2 lc st h := jq_go (jv_insR jm_6 dX12_keepsRow_23) (by decide)
theorem e6_26 : jv_ev d 6 26 lc [] h = some (.inl none, h) := jq_retv (jv_insR jm_6 dX12_keepsRow_26) jr_6
/-! 7: RainLoomModel.feed(IIIII)I -/
theorem n7 : jv_cd (d + 1) 7 [.ref a0, .int i1, .int i2, .int i3, .int i4, .int i5] h = jv_ev d 7 0 [some (.ref a0), some (.int i1), some (.int i2), some (.int i3), some (.int i4), some (.int i5)] [] h := rfl
theorem e7_0 : jv_ev d 7 0 [some (.ref a), x1, x2, x3, x4, x5] st h = jv_ev d 7 1 [some (.ref a), x1, x2, x3, x4, x5] (.ref a :: st) h := jq_nx (jv_insR jm_7 dX12_feed_0) rfl
theorem e7_1 : jv_ev d 7 1 lc (.ref a :: st) h = (jv_gf h a [(0, 2, .int)]).bind fun r => jv_ev d 7 4 lc (r :: st) h := jq_get (jv_insR jm_7 dX12_feed_1) jo_7 jF_1_172
theorem e7_4 : jv_ev d 7 4 lc st h = jv_ev d 7 6 lc (.int 20 :: st) h := jq_bipush (jv_insR jm_7 dX12_feed_4) (by decide)
theorem e7_6 : jv_ev d 7 6 lc (.int w :: .int v :: st) h = jv_ev d 7 7 lc (.int (v + w) :: st) h := jq_nx (jv_insR jm_7 dX12_feed_6) rfl
theorem e7_7 : jv_ev d 7 7 lc st h = jv_ev d 7 10 lc (.int 2000 :: st) h := jq_sipush (jv_insR jm_7 dX12_feed_7) (by decide)
theorem e7_10 : jv_ev d 7 10 lc (.int w :: .int v :: st) h = if v ≤ w then jv_ev d 7 15 lc st h else jv_ev d 7 13 lc st h := jq_if (jv_insR jm_7 dX12_feed_10) rfl (by decide)
theorem e7_13 : jv_ev d 7 13 lc st h = jv_ev d 7 14 lc (.int (-1) :: st) h := jq_iconst (jv_insR jm_7 dX12_feed_13) (by decide)
theorem e7_14 : jv_ev d 7 14 lc [.int v] h = some (.inl (some (.int v)), h) := jq_reti (jv_insR jm_7 dX12_feed_14) jr_7
theorem e7_15 : jv_ev d 7 15 [some (.ref a), x1, x2, x3, x4, x5] st h = jv_ev d 7 16 [some (.ref a), x1, x2, x3, x4, x5] (.ref a :: st) h := jq_nx (jv_insR jm_7 dX12_feed_15) rfl
theorem e7_16 : jv_ev d 7 16 [x0, some (.int v), x2, x3, x4, x5] st h = jv_ev d 7 17 [x0, some (.int v), x2, x3, x4, x5] (.int v :: st) h := jq_nx (jv_insR jm_7 dX12_feed_16) rfl
theorem e7_17 : jv_ev d 7 17 lc [z0, .ref b] h = (jv_rc h b [(0, 8)]).bind fun y => (jv_cd d y [.ref b, z0] h).bind fun r => jv_on r (fun v h => jv_ev d 7 20 lc (v.toList ++ []) h) (fun q h => some (.inr q, h)) := jq_V (as := [z0]) (rest := []) (jv_insR jm_7 dX12_feed_17) jo_7 jV_1_175 rfl rfl rfl rfl
theorem e7_20 : jv_ev d 7 20 [some (.ref a), x1, x2, x3, x4, x5] st h = jv_ev d 7 21 [some (.ref a), x1, x2, x3, x4, x5] (.ref a :: st) h := jq_nx (jv_insR jm_7 dX12_feed_20) rfl
theorem e7_21 : jv_ev d 7 21 [x0, x1, some (.int v), x3, x4, x5] st h = jv_ev d 7 22 [x0, x1, some (.int v), x3, x4, x5] (.int v :: st) h := jq_nx (jv_insR jm_7 dX12_feed_21) rfl
theorem e7_22 : jv_ev d 7 22 lc [z0, .ref b] h = (jv_rc h b [(0, 8)]).bind fun y => (jv_cd d y [.ref b, z0] h).bind fun r => jv_on r (fun v h => jv_ev d 7 25 lc (v.toList ++ []) h) (fun q h => some (.inr q, h)) := jq_V (as := [z0]) (rest := []) (jv_insR jm_7 dX12_feed_22) jo_7 jV_1_175 rfl rfl rfl rfl
theorem e7_25 : jv_ev d 7 25 [some (.ref a), x1, x2, x3, x4, x5] st h = jv_ev d 7 26 [some (.ref a), x1, x2, x3, x4, x5] (.ref a :: st) h := jq_nx (jv_insR jm_7 dX12_feed_25) rfl
theorem e7_26 : jv_ev d 7 26 [x0, x1, x2, some (.int v), x4, x5] st h = jv_ev d 7 27 [x0, x1, x2, some (.int v), x4, x5] (.int v :: st) h := jq_nx (jv_insR jm_7 dX12_feed_26) rfl
theorem e7_27 : jv_ev d 7 27 lc [z0, .ref b] h = (jv_rc h b [(0, 8)]).bind fun y => (jv_cd d y [.ref b, z0] h).bind fun r => jv_on r (fun v h => jv_ev d 7 30 lc (v.toList ++ []) h) (fun q h => some (.inr q, h)) := jq_V (as := [z0]) (rest := []) (jv_insR jm_7 dX12_feed_27) jo_7 jV_1_175 rfl rfl rfl rfl
theorem e7_30 : jv_ev d 7 30 [some (.ref a), x1, x2, x3, x4, x5] st h = jv_ev d 7 31 [some (.ref a), x1, x2, x3, x4, x5] (.ref a :: st) h := jq_nx (jv_insR jm_7 dX12_feed_30) rfl
theorem e7_31 : jv_ev d 7 31 [x0, x1, x2, x3, some (.int v), x5] st h = jv_ev d 7 33 [x0, x1, x2, x3, some (.int v), x5] (.int v :: st) h := jq_nx (jv_insR jm_7 dX12_feed_31) rfl
theorem e7_33 : jv_ev d 7 33 lc [z0, .ref b] h = (jv_rc h b [(0, 8)]).bind fun y => (jv_cd d y [.ref b, z0] h).bind fun r => jv_on r (fun v h => jv_ev d 7 36 lc (v.toList ++ []) h) (fun q h => some (.inr q, h)) := jq_V (as := [z0]) (rest := []) (jv_insR jm_7 dX12_feed_33) jo_7 jV_1_175 rfl rfl rfl rfl
theorem e7_36 : jv_ev d 7 36 [some (.ref a), x1, x2, x3, x4, x5] st h = jv_ev d 7 37 [some (.ref a), x1, x2, x3, x4, x5] (.ref a :: st) h := jq_nx (jv_insR jm_7 dX12_feed_36) rfl
theorem e7_37 : jv_ev d 7 37 [x0, x1, x2, x3, x4, some (.int v)] st h = jv_ev d 7 39 [x0, x1, x2, x3, x4, some (.int v)] (.int v :: st) h := jq_nx (jv_insR jm_7 dX12_feed_37) rfl
theorem e7_39 : jv_ev d 7 39 lc [z0, .ref b] h = (jv_rc h b [(0, 8)]).bind fun y => (jv_cd d y [.ref b, z0] h).bind fun r => jv_on r (fun v h => jv_ev d 7 42 lc (v.toList ++ []) h) (fun q h => some (.inr q, h)) := jq_V (as := [z0]) (rest := []) (jv_insR jm_7 dX12_feed_39) jo_7 jV_1_175 rfl rfl rfl rfl
theorem e7_42 : jv_ev d 7 42 [some (.ref a), x1, x2, x3, x4, x5] st h = jv_ev d 7 43 [some (.ref a), x1, x2, x3, x4, x5] (.ref a :: st) h := jq_nx (jv_insR jm_7 dX12_feed_42) rfl
theorem e7_43 : jv_ev d 7 43 lc (.ref a :: st) h = (jv_gf h a [(0, 2, .int)]).bind fun r => jv_ev d 7 46 lc (r :: st) h := jq_get (jv_insR jm_7 dX12_feed_43) jo_7 jF_1_172
theorem e7_46 : jv_ev d 7 46 lc [.int v] h = some (.inl (some (.int v)), h) := jq_reti (jv_insR jm_7 dX12_feed_46) jr_7
/-! 8: RainLoomModel.put(I)V -/
theorem n8 : jv_cd (d + 1) 8 [.ref a0, .int i1] h = jv_ev d 8 0 [some (.ref a0), some (.int i1), none] [] h := rfl
theorem e8_0 : jv_ev d 8 0 lc st h = jv_ev d 8 2 lc (.int 24 :: st) h := jq_bipush (jv_insR jm_8 dX12_put_0) (by decide)
theorem e8_2 : jv_ev d 8 2 [x0, x1, x2] (.int v :: st) h = jv_ev d 8 3 [x0, x1, some (.int v)] st h := jq_nx (jv_insR jm_8 dX12_put_2) rfl
theorem e8_3 : jv_ev d 8 3 [x0, x1, some (.int v)] st h = jv_ev d 8 4 [x0, x1, some (.int v)] (.int v :: st) h := jq_nx (jv_insR jm_8 dX12_put_3) rfl
theorem e8_4 : jv_ev d 8 4 lc (.int v :: st) h = if v < 0 then jv_ev d 8 36 lc st h else jv_ev d 8 7 lc st h := jq_if (jv_insR jm_8 dX12_put_4) rfl (by decide)
theorem e8_7 : jv_ev d 8 7 [some (.ref a), x1, x2] st h = jv_ev d 8 8 [some (.ref a), x1, x2] (.ref a :: st) h := jq_nx (jv_insR jm_8 dX12_put_7) rfl
theorem e8_8 : jv_ev d 8 8 lc (.ref a :: st) h = (jv_gf h a [(0, 1, .array .byte)]).bind fun r => jv_ev d 8 11 lc (r :: st) h := jq_get (jv_insR jm_8 dX12_put_8) jo_8 jF_1_13
theorem e8_11 : jv_ev d 8 11 [some (.ref a), x1, x2] st h = jv_ev d 8 12 [some (.ref a), x1, x2] (.ref a :: st) h := jq_nx (jv_insR jm_8 dX12_put_11) rfl
theorem e8_12 : jv_ev d 8 12 lc (.ref a :: st) h = (jv_gf h a [(0, 2, .int)]).bind fun r => jv_ev d 8 15 lc (r :: st) h := jq_get (jv_insR jm_8 dX12_put_12) jo_8 jF_1_172
theorem e8_15 : jv_ev d 8 15 [x0, some (.int v), x2] st h = jv_ev d 8 16 [x0, some (.int v), x2] (.int v :: st) h := jq_nx (jv_insR jm_8 dX12_put_15) rfl
theorem e8_16 : jv_ev d 8 16 [x0, x1, some (.int v)] st h = jv_ev d 8 17 [x0, x1, some (.int v)] (.int v :: st) h := jq_nx (jv_insR jm_8 dX12_put_16) rfl
theorem e8_17 : jv_ev d 8 17 lc (.int w :: .int v :: st) h = jv_ev d 8 18 lc (.int (v >>> (w &&& 31)) :: st) h := jq_nx (jv_insR jm_8 dX12_put_17) rfl
theorem e8_18 : jv_ev d 8 18 lc (.int v :: st) h = jv_ev d 8 19 lc (.int (v.toInt8.toInt32) :: st) h := jq_nx (jv_insR jm_8 dX12_put_18) rfl
theorem e8_19 : jv_ev d 8 19 lc (.int w :: .int v :: .ref a :: st) h = (jv_ip h a 1 2 v w).bind fun h => jv_ev d 8 20 lc st h := jq_bast (jv_insR jm_8 dX12_put_19)
theorem e8_20 : jv_ev d 8 20 [some (.ref a), x1, x2] st h = jv_ev d 8 21 [some (.ref a), x1, x2] (.ref a :: st) h := jq_nx (jv_insR jm_8 dX12_put_20) rfl
theorem e8_21 : jv_ev d 8 21 lc (.ref a :: st) h = jv_ev d 8 22 lc (.ref a :: .ref a :: st) h := jq_nx (jv_insR jm_8 dX12_put_21) rfl
theorem e8_22 : jv_ev d 8 22 lc (.ref a :: st) h = (jv_gf h a [(0, 2, .int)]).bind fun r => jv_ev d 8 25 lc (r :: st) h := jq_get (jv_insR jm_8 dX12_put_22) jo_8 jF_1_172
theorem e8_25 : jv_ev d 8 25 lc st h = jv_ev d 8 26 lc (.int 1 :: st) h := jq_iconst (jv_insR jm_8 dX12_put_25) (by decide)
theorem e8_26 : jv_ev d 8 26 lc (.int w :: .int v :: st) h = jv_ev d 8 27 lc (.int (v + w) :: st) h := jq_nx (jv_insR jm_8 dX12_put_26) rfl
theorem e8_27 : jv_ev d 8 27 lc (r :: .ref a :: st) h = (jv_pf h a [(0, 2, .int)] r).bind fun h => jv_ev d 8 30 lc st h := jq_put (jv_insR jm_8 dX12_put_27) jo_8 ji_8 jG_1_172
theorem e8_30 : jv_ev d 8 30 [x0, x1, some (.int v)] st h = jv_ev d 8 33 [x0, x1, some (.int (v + (-8)))] st h := jq_nx (jv_insR jm_8 dX12_put_30) rfl
theorem e8_33 : jv_ev d 8 33 lc st h = jv_ev d 8 3 lc st h := jq_go (jv_insR jm_8 dX12_put_33) (by decide)
theorem e8_36 : jv_ev d 8 36 lc [] h = some (.inl none, h) := jq_retv (jv_insR jm_8 dX12_put_36) jr_8
/-! 9: RainLoomModel.back(I)I -/
theorem n9 : jv_cd (d + 1) 9 [.ref a0, .int i1] h = jv_ev d 9 0 [some (.ref a0), some (.int i1)] [] h := rfl
theorem e9_0 : jv_ev d 9 0 [x0, some (.int v)] st h = jv_ev d 9 1 [x0, some (.int v)] (.int v :: st) h := jq_nx (jv_insR jm_9 dX12_back_0) rfl
theorem e9_1 : jv_ev d 9 1 lc (.int v :: st) h = if v < 0 then jv_ev d 9 12 lc st h else jv_ev d 9 4 lc st h := jq_if (jv_insR jm_9 dX12_back_1) rfl (by decide)
theorem e9_4 : jv_ev d 9 4 [x0, some (.int v)] st h = jv_ev d 9 5 [x0, some (.int v)] (.int v :: st) h := jq_nx (jv_insR jm_9 dX12_back_4) rfl
theorem e9_5 : jv_ev d 9 5 [some (.ref a), x1] st h = jv_ev d 9 6 [some (.ref a), x1] (.ref a :: st) h := jq_nx (jv_insR jm_9 dX12_back_5) rfl
theorem e9_6 : jv_ev d 9 6 lc (.ref a :: st) h = (jv_gf h a [(0, 2, .int)]).bind fun r => jv_ev d 9 9 lc (r :: st) h := jq_get (jv_insR jm_9 dX12_back_6) jo_9 jF_1_172
theorem e9_9 : jv_ev d 9 9 lc (.int w :: .int v :: st) h = if v ≤ w then jv_ev d 9 14 lc st h else jv_ev d 9 12 lc st h := jq_if (jv_insR jm_9 dX12_back_9) rfl (by decide)
theorem e9_12 : jv_ev d 9 12 lc st h = jv_ev d 9 13 lc (.int (-1) :: st) h := jq_iconst (jv_insR jm_9 dX12_back_12) (by decide)
theorem e9_13 : jv_ev d 9 13 lc [.int v] h = some (.inl (some (.int v)), h) := jq_reti (jv_insR jm_9 dX12_back_13) jr_9
theorem e9_14 : jv_ev d 9 14 [some (.ref a), x1] st h = jv_ev d 9 15 [some (.ref a), x1] (.ref a :: st) h := jq_nx (jv_insR jm_9 dX12_back_14) rfl
theorem e9_15 : jv_ev d 9 15 lc (.ref a :: st) h = jv_ev d 9 16 lc (.ref a :: .ref a :: st) h := jq_nx (jv_insR jm_9 dX12_back_15) rfl
theorem e9_16 : jv_ev d 9 16 lc (.ref a :: st) h = (jv_gf h a [(0, 2, .int)]).bind fun r => jv_ev d 9 19 lc (r :: st) h := jq_get (jv_insR jm_9 dX12_back_16) jo_9 jF_1_172
theorem e9_19 : jv_ev d 9 19 [x0, some (.int v)] st h = jv_ev d 9 20 [x0, some (.int v)] (.int v :: st) h := jq_nx (jv_insR jm_9 dX12_back_19) rfl
theorem e9_20 : jv_ev d 9 20 lc (.int w :: .int v :: st) h = jv_ev d 9 21 lc (.int (v - w) :: st) h := jq_nx (jv_insR jm_9 dX12_back_20) rfl
theorem e9_21 : jv_ev d 9 21 lc (r :: .ref a :: st) h = (jv_pf h a [(0, 2, .int)] r).bind fun h => jv_ev d 9 24 lc st h := jq_put (jv_insR jm_9 dX12_back_21) jo_9 ji_9 jG_1_172
theorem e9_24 : jv_ev d 9 24 [some (.ref a), x1] st h = jv_ev d 9 25 [some (.ref a), x1] (.ref a :: st) h := jq_nx (jv_insR jm_9 dX12_back_24) rfl
theorem e9_25 : jv_ev d 9 25 lc (.ref a :: st) h = (jv_gf h a [(0, 2, .int)]).bind fun r => jv_ev d 9 28 lc (r :: st) h := jq_get (jv_insR jm_9 dX12_back_25) jo_9 jF_1_172
theorem e9_28 : jv_ev d 9 28 lc [.int v] h = some (.inl (some (.int v)), h) := jq_reti (jv_insR jm_9 dX12_back_28) jr_9
/-! 10: RainLoomModel.read()I -/
theorem n10 : jv_cd (d + 1) 10 [.ref a0] h = jv_ev d 10 0 [some (.ref a0), none] [] h := rfl
theorem e10_0 : jv_ev d 10 0 [some (.ref a), x1] st h = jv_ev d 10 1 [some (.ref a), x1] (.ref a :: st) h := jq_nx (jv_insR jm_10 dX12_read_0) rfl
theorem e10_1 : jv_ev d 10 1 [some (.ref a), x1] st h = jv_ev d 10 2 [some (.ref a), x1] (.ref a :: st) h := jq_nx (jv_insR jm_10 dX12_read_1) rfl
theorem e10_2 : jv_ev d 10 2 lc (.ref a :: st) h = (jv_gf h a [(0, 2, .int)]).bind fun r => jv_ev d 10 5 lc (r :: st) h := jq_get (jv_insR jm_10 dX12_read_2) jo_10 jF_1_172
theorem e10_5 : jv_ev d 10 5 lc (r :: .ref a :: st) h = (jv_pf h a [(0, 4, .int)] r).bind fun h => jv_ev d 10 8 lc st h := jq_put (jv_insR jm_10 dX12_read_5) jo_10 ji_10 jG_1_178
theorem e10_8 : jv_ev d 10 8 lc st h = jv_ev d 10 9 lc (.int 0 :: st) h := jq_iconst (jv_insR jm_10 dX12_read_8) (by decide)
theorem e10_9 : jv_ev d 10 9 [x0, x1] (.int v :: st) h = jv_ev d 10 10 [x0, some (.int v)] st h := jq_nx (jv_insR jm_10 dX12_read_9) rfl
theorem e10_10 : jv_ev d 10 10 [x0, some (.int v)] st h = jv_ev d 10 11 [x0, some (.int v)] (.int v :: st) h := jq_nx (jv_insR jm_10 dX12_read_10) rfl
theorem e10_11 : jv_ev d 10 11 [some (.ref a), x1] st h = jv_ev d 10 12 [some (.ref a), x1] (.ref a :: st) h := jq_nx (jv_insR jm_10 dX12_read_11) rfl
theorem e10_12 : jv_ev d 10 12 lc (.ref a :: st) h = (jv_gf h a [(0, 4, .int)]).bind fun r => jv_ev d 10 15 lc (r :: st) h := jq_get (jv_insR jm_10 dX12_read_12) jo_10 jF_1_178
theorem e10_15 : jv_ev d 10 15 lc (.int w :: .int v :: st) h = if w ≤ v then jv_ev d 10 36 lc st h else jv_ev d 10 18 lc st h := jq_if (jv_insR jm_10 dX12_read_15) rfl (by decide)
theorem e10_18 : jv_ev d 10 18 [some (.ref a), x1] st h = jv_ev d 10 19 [some (.ref a), x1] (.ref a :: st) h := jq_nx (jv_insR jm_10 dX12_read_18) rfl
theorem e10_19 : jv_ev d 10 19 lc (.ref a :: st) h = (jv_gf h a [(0, 3, .array .byte)]).bind fun r => jv_ev d 10 22 lc (r :: st) h := jq_get (jv_insR jm_10 dX12_read_19) jo_10 jF_1_17
theorem e10_22 : jv_ev d 10 22 [x0, some (.int v)] st h = jv_ev d 10 23 [x0, some (.int v)] (.int v :: st) h := jq_nx (jv_insR jm_10 dX12_read_22) rfl
theorem e10_23 : jv_ev d 10 23 [some (.ref a), x1] st h = jv_ev d 10 24 [some (.ref a), x1] (.ref a :: st) h := jq_nx (jv_insR jm_10 dX12_read_23) rfl
theorem e10_24 : jv_ev d 10 24 lc (.ref a :: st) h = (jv_gf h a [(0, 1, .array .byte)]).bind fun r => jv_ev d 10 27 lc (r :: st) h := jq_get (jv_insR jm_10 dX12_read_24) jo_10 jF_1_13
theorem e10_27 : jv_ev d 10 27 [x0, some (.int v)] st h = jv_ev d 10 28 [x0, some (.int v)] (.int v :: st) h := jq_nx (jv_insR jm_10 dX12_read_27) rfl
theorem e10_28 : jv_ev d 10 28 lc (.int v :: .ref a :: st) h = (jv_ig h a 1 2 v).bind fun w => jv_ev d 10 29 lc (.int w :: st) h := jq_bald (jv_insR jm_10 dX12_read_28)
theorem e10_29 : jv_ev d 10 29 lc (.int w :: .int v :: .ref a :: st) h = (jv_ip h a 1 2 v w).bind fun h => jv_ev d 10 30 lc st h := jq_bast (jv_insR jm_10 dX12_read_29)
theorem e10_30 : jv_ev d 10 30 [x0, some (.int v)] st h = jv_ev d 10 33 [x0, some (.int (v + 1))] st h := jq_nx (jv_insR jm_10 dX12_read_30) rfl
theorem e10_33 : jv_ev d 10 33 lc st h = jv_ev d 10 10 lc st h := jq_go (jv_insR jm_10 dX12_read_33) (by decide)
theorem e10_36 : jv_ev d 10 36 [some (.ref a), x1] st h = jv_ev d 10 37 [some (.ref a), x1] (.ref a :: st) h := jq_nx (jv_insR jm_10 dX12_read_36) rfl
theorem e10_37 : jv_ev d 10 37 lc st h = jv_ev d 10 38 lc (.int 0 :: st) h := jq_iconst (jv_insR jm_10 dX12_read_37) (by decide)
theorem e10_38 : jv_ev d 10 38 lc (r :: .ref a :: st) h = (jv_pf h a [(0, 2, .int)] r).bind fun h => jv_ev d 10 41 lc st h := jq_put (jv_insR jm_10 dX12_read_38) jo_10 ji_10 jG_1_172
theorem e10_41 : jv_ev d 10 41 [some (.ref a), x1] st h = jv_ev d 10 42 [some (.ref a), x1] (.ref a :: st) h := jq_nx (jv_insR jm_10 dX12_read_41) rfl
theorem e10_42 : jv_ev d 10 42 lc [.ref b] h = (jv_rc h b [(0, 11)]).bind fun y => (jv_cd d y [.ref b] h).bind fun r => jv_on r (fun v h => jv_ev d 10 45 lc (v.toList ++ []) h) (fun q h => some (.inr q, h)) := jq_V (as := []) (rest := []) (jv_insR jm_10 dX12_read_42) jo_10 jV_1_233 rfl rfl rfl rfl
theorem e10_45 : jv_ev d 10 45 [some (.ref a), x1] st h = jv_ev d 10 46 [some (.ref a), x1] (.ref a :: st) h := jq_nx (jv_insR jm_10 dX12_read_45) rfl
theorem e10_46 : jv_ev d 10 46 lc st h = jv_ev d 10 47 lc (.int 0 :: st) h := jq_iconst (jv_insR jm_10 dX12_read_46) (by decide)
theorem e10_47 : jv_ev d 10 47 lc (r :: .ref a :: st) h = (jv_pf h a [(0, 11, .int)] r).bind fun h => jv_ev d 10 50 lc st h := jq_put (jv_insR jm_10 dX12_read_47) jo_10 ji_10 jG_1_212
theorem e10_50 : jv_ev d 10 50 [some (.ref a), x1] st h = jv_ev d 10 51 [some (.ref a), x1] (.ref a :: st) h := jq_nx (jv_insR jm_10 dX12_read_50) rfl
theorem e10_51 : jv_ev d 10 51 lc st h = jv_ev d 10 52 lc (.int 0 :: st) h := jq_iconst (jv_insR jm_10 dX12_read_51) (by decide)
theorem e10_52 : jv_ev d 10 52 lc (r :: .ref a :: st) h = (jv_pf h a [(0, 12, .int)] r).bind fun h => jv_ev d 10 55 lc st h := jq_put (jv_insR jm_10 dX12_read_52) jo_10 ji_10 jG_1_236
theorem e10_55 : jv_ev d 10 55 [some (.ref a), x1] st h = jv_ev d 10 56 [some (.ref a), x1] (.ref a :: st) h := jq_nx (jv_insR jm_10 dX12_read_55) rfl
theorem e10_56 : jv_ev d 10 56 lc st h = jv_ev d 10 57 lc (.int 0 :: st) h := jq_iconst (jv_insR jm_10 dX12_read_56) (by decide)
theorem e10_57 : jv_ev d 10 57 lc (r :: .ref a :: st) h = (jv_pf h a [(0, 13, .int)] r).bind fun h => jv_ev d 10 60 lc st h := jq_put (jv_insR jm_10 dX12_read_57) jo_10 ji_10 jG_1_209
theorem e10_60 : jv_ev d 10 60 [some (.ref a), x1] st h = jv_ev d 10 61 [some (.ref a), x1] (.ref a :: st) h := jq_nx (jv_insR jm_10 dX12_read_60) rfl
theorem e10_61 : jv_ev d 10 61 lc st h = jv_ev d 10 62 lc (.int 0 :: st) h := jq_iconst (jv_insR jm_10 dX12_read_61) (by decide)
theorem e10_62 : jv_ev d 10 62 lc (r :: .ref a :: st) h = (jv_pf h a [(0, 15, .int)] r).bind fun h => jv_ev d 10 65 lc st h := jq_put (jv_insR jm_10 dX12_read_62) jo_10 ji_10 jG_1_218
theorem e10_65 : jv_ev d 10 65 [some (.ref a), x1] st h = jv_ev d 10 66 [some (.ref a), x1] (.ref a :: st) h := jq_nx (jv_insR jm_10 dX12_read_65) rfl
theorem e10_66 : jv_ev d 10 66 lc st h = jv_ev d 10 67 lc (.int 1 :: st) h := jq_iconst (jv_insR jm_10 dX12_read_66) (by decide)
theorem e10_67 : jv_ev d 10 67 [some (.ref a), x1] st h = jv_ev d 10 68 [some (.ref a), x1] (.ref a :: st) h := jq_nx (jv_insR jm_10 dX12_read_67) rfl
theorem e10_68 : jv_ev d 10 68 lc (.ref a :: st) h = (jv_gf h a [(0, 18, .int)]).bind fun r => jv_ev d 10 71 lc (r :: st) h := jq_get (jv_insR jm_10 dX12_read_68) jo_10 jF_1_239
theorem e10_71 : jv_ev d 10 71 lc (.int w :: .int v :: st) h = jv_ev d 10 72 lc (.int (v - w) :: st) h := jq_nx (jv_insR jm_10 dX12_read_71) rfl
theorem e10_72 : jv_ev d 10 72 lc (r :: .ref a :: st) h = (jv_pf h a [(0, 19, .int)] r).bind fun h => jv_ev d 10 75 lc st h := jq_put (jv_insR jm_10 dX12_read_72) jo_10 ji_10 jG_1_242
theorem e10_75 : jv_ev d 10 75 [some (.ref a), x1] st h = jv_ev d 10 76 [some (.ref a), x1] (.ref a :: st) h := jq_nx (jv_insR jm_10 dX12_read_75) rfl
theorem e10_76 : jv_ev d 10 76 lc st h = jv_ev d 10 77 lc (.int 0 :: st) h := jq_iconst (jv_insR jm_10 dX12_read_76) (by decide)
theorem e10_77 : jv_ev d 10 77 lc (r :: .ref a :: st) h = (jv_pf h a [(0, 20, .int)] r).bind fun h => jv_ev d 10 80 lc st h := jq_put (jv_insR jm_10 dX12_read_77) jo_10 ji_10 jG_1_245
theorem e10_80 : jv_ev d 10 80 [some (.ref a), x1] st h = jv_ev d 10 81 [some (.ref a), x1] (.ref a :: st) h := jq_nx (jv_insR jm_10 dX12_read_80) rfl
theorem e10_81 : jv_ev d 10 81 [some (.ref a), x1] st h = jv_ev d 10 82 [some (.ref a), x1] (.ref a :: st) h := jq_nx (jv_insR jm_10 dX12_read_81) rfl
theorem e10_82 : jv_ev d 10 82 lc (.ref a :: st) h = (jv_gf h a [(0, 19, .int)]).bind fun r => jv_ev d 10 85 lc (r :: st) h := jq_get (jv_insR jm_10 dX12_read_82) jo_10 jF_1_242
theorem e10_85 : jv_ev d 10 85 lc [z0, .ref b] h = (jv_rc h b [(0, 2)]).bind fun y => (jv_cd d y [.ref b, z0] h).bind fun r => jv_on r (fun v h => jv_ev d 10 88 lc (v.toList ++ []) h) (fun q h => some (.inr q, h)) := jq_V (as := [z0]) (rest := []) (jv_insR jm_10 dX12_read_85) jo_10 jV_1_158 rfl rfl rfl rfl
theorem e10_88 : jv_ev d 10 88 [some (.ref a), x1] st h = jv_ev d 10 89 [some (.ref a), x1] (.ref a :: st) h := jq_nx (jv_insR jm_10 dX12_read_88) rfl
theorem e10_89 : jv_ev d 10 89 lc st h = jv_ev d 10 92 lc (.int 130 :: st) h := jq_sipush (jv_insR jm_10 dX12_read_89) (by decide)
theorem e10_92 : jv_ev d 10 92 [some (.ref a), x1] st h = jv_ev d 10 93 [some (.ref a), x1] (.ref a :: st) h := jq_nx (jv_insR jm_10 dX12_read_92) rfl
theorem e10_93 : jv_ev d 10 93 lc (.ref a :: st) h = (jv_gf h a [(0, 19, .int)]).bind fun r => jv_ev d 10 96 lc (r :: st) h := jq_get (jv_insR jm_10 dX12_read_93) jo_10 jF_1_242
theorem e10_96 : jv_ev d 10 96 lc (.int w :: .int v :: st) h = jv_ev d 10 97 lc (.int (v * w) :: st) h := jq_nx (jv_insR jm_10 dX12_read_96) rfl
theorem e10_97 : jv_ev d 10 97 lc (r :: .ref a :: st) h = (jv_pf h a [(0, 36, .int)] r).bind fun h => jv_ev d 10 100 lc st h := jq_put (jv_insR jm_10 dX12_read_97) jo_10 ji_10 jG_1_248
theorem e10_100 : jv_ev d 10 100 [some (.ref a), x1] st h = jv_ev d 10 101 [some (.ref a), x1] (.ref a :: st) h := jq_nx (jv_insR jm_10 dX12_read_100) rfl
theorem e10_101 : jv_ev d 10 101 lc st h = jv_ev d 10 104 lc (.int 420 :: st) h := jq_sipush (jv_insR jm_10 dX12_read_101) (by decide)
theorem e10_104 : jv_ev d 10 104 [some (.ref a), x1] st h = jv_ev d 10 105 [some (.ref a), x1] (.ref a :: st) h := jq_nx (jv_insR jm_10 dX12_read_104) rfl
theorem e10_105 : jv_ev d 10 105 lc (.ref a :: st) h = (jv_gf h a [(0, 19, .int)]).bind fun r => jv_ev d 10 108 lc (r :: st) h := jq_get (jv_insR jm_10 dX12_read_105) jo_10 jF_1_242
theorem e10_108 : jv_ev d 10 108 lc (.int w :: .int v :: st) h = jv_ev d 10 109 lc (.int (v * w) :: st) h := jq_nx (jv_insR jm_10 dX12_read_108) rfl
theorem e10_109 : jv_ev d 10 109 lc (r :: .ref a :: st) h = (jv_pf h a [(0, 42, .int)] r).bind fun h => jv_ev d 10 112 lc st h := jq_put (jv_insR jm_10 dX12_read_109) jo_10 ji_10 jG_1_251
theorem e10_112 : jv_ev d 10 112 [some (.ref a), x1] st h = jv_ev d 10 113 [some (.ref a), x1] (.ref a :: st) h := jq_nx (jv_insR jm_10 dX12_read_112) rfl
theorem e10_113 : jv_ev d 10 113 lc (.ref a :: st) h = (jv_gf h a [(0, 13, .int)]).bind fun r => jv_ev d 10 116 lc (r :: st) h := jq_get (jv_insR jm_10 dX12_read_113) jo_10 jF_1_209
theorem e10_116 : jv_ev d 10 116 lc (.int v :: st) h = if ¬ v = 0 then jv_ev d 10 134 lc st h else jv_ev d 10 119 lc st h := jq_if (jv_insR jm_10 dX12_read_116) rfl (by decide)
theorem e10_119 : jv_ev d 10 119 [some (.ref a), x1] st h = jv_ev d 10 120 [some (.ref a), x1] (.ref a :: st) h := jq_nx (jv_insR jm_10 dX12_read_119) rfl
theorem e10_120 : jv_ev d 10 120 lc st h = jv_ev d 10 121 lc (.int 0 :: st) h := jq_iconst (jv_insR jm_10 dX12_read_120) (by decide)
theorem e10_121 : jv_ev d 10 121 lc [z0, .ref b] h = (jv_rc h b [(0, 17)]).bind fun y => (jv_cd d y [.ref b, z0] h).bind fun r => jv_on r (fun v h => jv_ev d 10 124 lc (v.toList ++ []) h) (fun q h => some (.inr q, h)) := jq_V (as := [z0]) (rest := []) (jv_insR jm_10 dX12_read_121) jo_10 jV_1_227 rfl rfl rfl rfl
theorem e10_124 : jv_ev d 10 124 lc (.int v :: st) h = if ¬ v = 0 then jv_ev d 10 134 lc st h else jv_ev d 10 127 lc st h := jq_if (jv_insR jm_10 dX12_read_124) rfl (by decide)
theorem e10_127 : jv_ev d 10 127 [some (.ref a), x1] st h = jv_ev d 10 128 [some (.ref a), x1] (.ref a :: st) h := jq_nx (jv_insR jm_10 dX12_read_127) rfl
theorem e10_128 : jv_ev d 10 128 lc [.ref b] h = (jv_rc h b [(0, 18)]).bind fun y => (jv_cd d y [.ref b] h).bind fun r => jv_on r (fun v h => jv_ev d 10 131 lc (v.toList ++ []) h) (fun q h => some (.inr q, h)) := jq_V (as := []) (rest := []) (jv_insR jm_10 dX12_read_128) jo_10 jV_1_254 rfl rfl rfl rfl
theorem e10_131 : jv_ev d 10 131 lc st h = jv_ev d 10 112 lc st h := jq_go (jv_insR jm_10 dX12_read_131) (by decide)
theorem e10_134 : jv_ev d 10 134 [some (.ref a), x1] st h = jv_ev d 10 135 [some (.ref a), x1] (.ref a :: st) h := jq_nx (jv_insR jm_10 dX12_read_134) rfl
theorem e10_135 : jv_ev d 10 135 lc (.ref a :: st) h = (jv_gf h a [(0, 13, .int)]).bind fun r => jv_ev d 10 138 lc (r :: st) h := jq_get (jv_insR jm_10 dX12_read_135) jo_10 jF_1_209
theorem e10_138 : jv_ev d 10 138 lc (.int v :: st) h = if ¬ v = 0 then jv_ev d 10 158 lc st h else jv_ev d 10 141 lc st h := jq_if (jv_insR jm_10 dX12_read_138) rfl (by decide)
theorem e10_141 : jv_ev d 10 141 [some (.ref a), x1] st h = jv_ev d 10 142 [some (.ref a), x1] (.ref a :: st) h := jq_nx (jv_insR jm_10 dX12_read_141) rfl
theorem e10_142 : jv_ev d 10 142 lc [.ref b] h = (jv_rc h b [(0, 36)]).bind fun y => (jv_cd d y [.ref b] h).bind fun r => jv_on r (fun v h => jv_ev d 10 145 lc (v.toList ++ []) h) (fun q h => some (.inr q, h)) := jq_V (as := []) (rest := []) (jv_insR jm_10 dX12_read_142) jo_10 jV_1_257 rfl rfl rfl rfl
theorem e10_145 : jv_ev d 10 145 lc (.int v :: st) h = if ¬ v = 0 then jv_ev d 10 158 lc st h else jv_ev d 10 148 lc st h := jq_if (jv_insR jm_10 dX12_read_145) rfl (by decide)
theorem e10_148 : jv_ev d 10 148 [some (.ref a), x1] st h = jv_ev d 10 149 [some (.ref a), x1] (.ref a :: st) h := jq_nx (jv_insR jm_10 dX12_read_148) rfl
theorem e10_149 : jv_ev d 10 149 lc st h = jv_ev d 10 151 lc (.int 6 :: st) h := jq_bipush (jv_insR jm_10 dX12_read_149) (by decide)
theorem e10_151 : jv_ev d 10 151 [some (.ref a), x1] st h = jv_ev d 10 152 [some (.ref a), x1] (.ref a :: st) h := jq_nx (jv_insR jm_10 dX12_read_151) rfl
theorem e10_152 : jv_ev d 10 152 lc (.ref a :: st) h = (jv_gf h a [(0, 11, .int)]).bind fun r => jv_ev d 10 155 lc (r :: st) h := jq_get (jv_insR jm_10 dX12_read_152) jo_10 jF_1_212
theorem e10_155 : jv_ev d 10 155 lc [z1, z0, .ref b] h = (jv_rc h b [(0, 24)]).bind fun y => (jv_cd d y [.ref b, z0, z1] h).bind fun r => jv_on r (fun v h => jv_ev d 10 158 lc (v.toList ++ []) h) (fun q h => some (.inr q, h)) := jq_V (as := [z0, z1]) (rest := []) (jv_insR jm_10 dX12_read_155) jo_10 jV_1_261 rfl rfl rfl rfl
theorem e10_158 : jv_ev d 10 158 [some (.ref a), x1] st h = jv_ev d 10 159 [some (.ref a), x1] (.ref a :: st) h := jq_nx (jv_insR jm_10 dX12_read_158) rfl
theorem e10_159 : jv_ev d 10 159 [some (.ref a), x1] st h = jv_ev d 10 160 [some (.ref a), x1] (.ref a :: st) h := jq_nx (jv_insR jm_10 dX12_read_159) rfl
theorem e10_160 : jv_ev d 10 160 lc (.ref a :: st) h = (jv_gf h a [(0, 13, .int)]).bind fun r => jv_ev d 10 163 lc (r :: st) h := jq_get (jv_insR jm_10 dX12_read_160) jo_10 jF_1_209
theorem e10_163 : jv_ev d 10 163 lc (.int v :: st) h = if v ≤ 0 then jv_ev d 10 173 lc st h else jv_ev d 10 166 lc st h := jq_if (jv_insR jm_10 dX12_read_163) rfl (by decide)
theorem e10_166 : jv_ev d 10 166 [some (.ref a), x1] st h = jv_ev d 10 167 [some (.ref a), x1] (.ref a :: st) h := jq_nx (jv_insR jm_10 dX12_read_166) rfl
theorem e10_167 : jv_ev d 10 167 lc (.ref a :: st) h = (jv_gf h a [(0, 14, .int)]).bind fun r => jv_ev d 10 170 lc (r :: st) h := jq_get (jv_insR jm_10 dX12_read_167) jo_10 jF_1_215
theorem e10_170 : jv_ev d 10 170 lc st h = jv_ev d 10 188 lc st h := jq_go (jv_insR jm_10 dX12_read_170) (by decide)
theorem e10_173 : jv_ev d 10 173 [some (.ref a), x1] st h = jv_ev d 10 174 [some (.ref a), x1] (.ref a :: st) h := jq_nx (jv_insR jm_10 dX12_read_173) rfl
theorem e10_174 : jv_ev d 10 174 lc (.ref a :: st) h = (jv_gf h a [(0, 15, .int)]).bind fun r => jv_ev d 10 177 lc (r :: st) h := jq_get (jv_insR jm_10 dX12_read_174) jo_10 jF_1_218
theorem e10_177 : jv_ev d 10 177 lc (.int v :: st) h = if v ≤ 0 then jv_ev d 10 187 lc st h else jv_ev d 10 180 lc st h := jq_if (jv_insR jm_10 dX12_read_177) rfl (by decide)
theorem e10_180 : jv_ev d 10 180 [some (.ref a), x1] st h = jv_ev d 10 181 [some (.ref a), x1] (.ref a :: st) h := jq_nx (jv_insR jm_10 dX12_read_180) rfl
theorem e10_181 : jv_ev d 10 181 lc (.ref a :: st) h = (jv_gf h a [(0, 16, .int)]).bind fun r => jv_ev d 10 184 lc (r :: st) h := jq_get (jv_insR jm_10 dX12_read_181) jo_10 jF_1_221
theorem e10_184 : jv_ev d 10 184 lc st h = jv_ev d 10 188 lc st h := jq_go (jv_insR jm_10 dX12_read_184) (by decide)
theorem e10_187 : jv_ev d 10 187 lc st h = jv_ev d 10 188 lc (.int (-1) :: st) h := jq_iconst (jv_insR jm_10 dX12_read_187) (by decide)
theorem e10_188 : jv_ev d 10 188 lc (r :: .ref a :: st) h = (jv_pf h a [(0, 17, .int)] r).bind fun h => jv_ev d 10 191 lc st h := jq_put (jv_insR jm_10 dX12_read_188) jo_10 ji_10 jG_1_37
theorem e10_191 : jv_ev d 10 191 [some (.ref a), x1] st h = jv_ev d 10 192 [some (.ref a), x1] (.ref a :: st) h := jq_nx (jv_insR jm_10 dX12_read_191) rfl
theorem e10_192 : jv_ev d 10 192 lc (.ref a :: st) h = (jv_gf h a [(0, 13, .int)]).bind fun r => jv_ev d 10 195 lc (r :: st) h := jq_get (jv_insR jm_10 dX12_read_192) jo_10 jF_1_209
theorem e10_195 : jv_ev d 10 195 lc (.int v :: st) h = if v ≤ 0 then jv_ev d 10 203 lc st h else jv_ev d 10 198 lc st h := jq_if (jv_insR jm_10 dX12_read_195) rfl (by decide)
theorem e10_198 : jv_ev d 10 198 [some (.ref a), x1] st h = jv_ev d 10 199 [some (.ref a), x1] (.ref a :: st) h := jq_nx (jv_insR jm_10 dX12_read_198) rfl
theorem e10_199 : jv_ev d 10 199 lc (.ref a :: st) h = (jv_gf h a [(0, 13, .int)]).bind fun r => jv_ev d 10 202 lc (r :: st) h := jq_get (jv_insR jm_10 dX12_read_199) jo_10 jF_1_209
theorem e10_202 : jv_ev d 10 202 lc [.int v] h = some (.inl (some (.int v)), h) := jq_reti (jv_insR jm_10 dX12_read_202) jr_10
theorem e10_203 : jv_ev d 10 203 [some (.ref a), x1] st h = jv_ev d 10 204 [some (.ref a), x1] (.ref a :: st) h := jq_nx (jv_insR jm_10 dX12_read_203) rfl
theorem e10_204 : jv_ev d 10 204 lc (.ref a :: st) h = (jv_gf h a [(0, 15, .int)]).bind fun r => jv_ev d 10 207 lc (r :: st) h := jq_get (jv_insR jm_10 dX12_read_204) jo_10 jF_1_218
theorem e10_207 : jv_ev d 10 207 lc (.int v :: st) h = if v ≤ 0 then jv_ev d 10 215 lc st h else jv_ev d 10 210 lc st h := jq_if (jv_insR jm_10 dX12_read_207) rfl (by decide)
theorem e10_210 : jv_ev d 10 210 [some (.ref a), x1] st h = jv_ev d 10 211 [some (.ref a), x1] (.ref a :: st) h := jq_nx (jv_insR jm_10 dX12_read_210) rfl
theorem e10_211 : jv_ev d 10 211 lc (.ref a :: st) h = (jv_gf h a [(0, 15, .int)]).bind fun r => jv_ev d 10 214 lc (r :: st) h := jq_get (jv_insR jm_10 dX12_read_211) jo_10 jF_1_218
theorem e10_214 : jv_ev d 10 214 lc [.int v] h = some (.inl (some (.int v)), h) := jq_reti (jv_insR jm_10 dX12_read_214) jr_10
theorem e10_215 : jv_ev d 10 215 [some (.ref a), x1] st h = jv_ev d 10 216 [some (.ref a), x1] (.ref a :: st) h := jq_nx (jv_insR jm_10 dX12_read_215) rfl
theorem e10_216 : jv_ev d 10 216 [some (.ref a), x1] st h = jv_ev d 10 217 [some (.ref a), x1] (.ref a :: st) h := jq_nx (jv_insR jm_10 dX12_read_216) rfl
theorem e10_217 : jv_ev d 10 217 lc (.ref a :: st) h = (jv_gf h a [(0, 19, .int)]).bind fun r => jv_ev d 10 220 lc (r :: st) h := jq_get (jv_insR jm_10 dX12_read_217) jo_10 jF_1_242
theorem e10_220 : jv_ev d 10 220 lc (r :: .ref a :: st) h = (jv_pf h a [(0, 18, .int)] r).bind fun h => jv_ev d 10 223 lc st h := jq_put (jv_insR jm_10 dX12_read_220) jo_10 ji_10 jG_1_239
theorem e10_223 : jv_ev d 10 223 [some (.ref a), x1] st h = jv_ev d 10 224 [some (.ref a), x1] (.ref a :: st) h := jq_nx (jv_insR jm_10 dX12_read_223) rfl
theorem e10_224 : jv_ev d 10 224 lc [.ref b] h = (jv_rc h b [(0, 5)]).bind fun y => (jv_cd d y [.ref b] h).bind fun r => jv_on r (fun v h => jv_ev d 10 227 lc (v.toList ++ []) h) (fun q h => some (.inr q, h)) := jq_V (as := []) (rest := []) (jv_insR jm_10 dX12_read_224) jo_10 jV_1_166 rfl rfl rfl rfl
theorem e10_227 : jv_ev d 10 227 [some (.ref a), x1] st h = jv_ev d 10 228 [some (.ref a), x1] (.ref a :: st) h := jq_nx (jv_insR jm_10 dX12_read_227) rfl
theorem e10_228 : jv_ev d 10 228 lc [.ref b] h = (jv_rc h b [(0, 6)]).bind fun y => (jv_cd d y [.ref b] h).bind fun r => jv_on r (fun v h => jv_ev d 10 231 lc (v.toList ++ []) h) (fun q h => some (.inr q, h)) := jq_V (as := []) (rest := []) (jv_insR jm_10 dX12_read_228) jo_10 jV_1_169 rfl rfl rfl rfl
theorem e10_231 : jv_ev d 10 231 [some (.ref a), x1] st h = jv_ev d 10 232 [some (.ref a), x1] (.ref a :: st) h := jq_nx (jv_insR jm_10 dX12_read_231) rfl
theorem e10_232 : jv_ev d 10 232 lc st h = jv_ev d 10 233 lc (.int 0 :: st) h := jq_iconst (jv_insR jm_10 dX12_read_232) (by decide)
theorem e10_233 : jv_ev d 10 233 lc (r :: .ref a :: st) h = (jv_pf h a [(0, 53, .int)] r).bind fun h => jv_ev d 10 236 lc st h := jq_put (jv_insR jm_10 dX12_read_233) jo_10 ji_10 jG_1_265
theorem e10_236 : jv_ev d 10 236 [some (.ref a), x1] st h = jv_ev d 10 237 [some (.ref a), x1] (.ref a :: st) h := jq_nx (jv_insR jm_10 dX12_read_236) rfl
theorem e10_237 : jv_ev d 10 237 lc st h = jv_ev d 10 238 lc (.int 0 :: st) h := jq_iconst (jv_insR jm_10 dX12_read_237) (by decide)
theorem e10_238 : jv_ev d 10 238 lc (r :: .ref a :: st) h = (jv_pf h a [(0, 65, .int)] r).bind fun h => jv_ev d 10 241 lc st h := jq_put (jv_insR jm_10 dX12_read_238) jo_10 ji_10 jG_1_268
theorem e10_241 : jv_ev d 10 241 lc st h = jv_ev d 10 242 lc (.int 0 :: st) h := jq_iconst (jv_insR jm_10 dX12_read_241) (by decide)
theorem e10_242 : jv_ev d 10 242 [x0, x1] (.int v :: st) h = jv_ev d 10 243 [x0, some (.int v)] st h := jq_nx (jv_insR jm_10 dX12_read_242) rfl
theorem e10_243 : jv_ev d 10 243 [x0, some (.int v)] st h = jv_ev d 10 244 [x0, some (.int v)] (.int v :: st) h := jq_nx (jv_insR jm_10 dX12_read_243) rfl
theorem e10_244 : jv_ev d 10 244 lc st h = jv_ev d 10 245 lc (.int 3 :: st) h := jq_iconst (jv_insR jm_10 dX12_read_244) (by decide)
theorem e10_245 : jv_ev d 10 245 lc (.int w :: .int v :: st) h = if w ≤ v then jv_ev d 10 261 lc st h else jv_ev d 10 248 lc st h := jq_if (jv_insR jm_10 dX12_read_245) rfl (by decide)
theorem e10_248 : jv_ev d 10 248 [some (.ref a), x1] st h = jv_ev d 10 249 [some (.ref a), x1] (.ref a :: st) h := jq_nx (jv_insR jm_10 dX12_read_248) rfl
theorem e10_249 : jv_ev d 10 249 lc (.ref a :: st) h = (jv_gf h a [(0, 70, .array .boolean)]).bind fun r => jv_ev d 10 252 lc (r :: st) h := jq_get (jv_insR jm_10 dX12_read_249) jo_10 jF_1_152
theorem e10_252 : jv_ev d 10 252 [x0, some (.int v)] st h = jv_ev d 10 253 [x0, some (.int v)] (.int v :: st) h := jq_nx (jv_insR jm_10 dX12_read_252) rfl
theorem e10_253 : jv_ev d 10 253 lc st h = jv_ev d 10 254 lc (.int 0 :: st) h := jq_iconst (jv_insR jm_10 dX12_read_253) (by decide)
theorem e10_254 : jv_ev d 10 254 lc (.int w :: .int v :: .ref a :: st) h = (jv_ip h a 1 2 v w).bind fun h => jv_ev d 10 255 lc st h := jq_bast (jv_insR jm_10 dX12_read_254)
theorem e10_255 : jv_ev d 10 255 [x0, some (.int v)] st h = jv_ev d 10 258 [x0, some (.int (v + 1))] st h := jq_nx (jv_insR jm_10 dX12_read_255) rfl
theorem e10_258 : jv_ev d 10 258 lc st h = jv_ev d 10 243 lc st h := jq_go (jv_insR jm_10 dX12_read_258) (by decide)
theorem e10_261 : jv_ev d 10 261 lc st h = jv_ev d 10 262 lc (.int 0 :: st) h := jq_iconst (jv_insR jm_10 dX12_read_261) (by decide)
theorem e10_262 : jv_ev d 10 262 lc [.int v] h = some (.inl (some (.int v)), h) := jq_reti (jv_insR jm_10 dX12_read_262) jr_10
/-! 11: RainLoomModel.cutsUp()V -/
theorem n11 : jv_cd (d + 1) 11 [.ref a0] h = jv_ev d 11 0 [some (.ref a0), none, none, none, none, none, none, none] [] h := rfl
theorem e11_0 : jv_ev d 11 0 [some (.ref a), x1, x2, x3, x4, x5, x6, x7] st h = jv_ev d 11 1 [some (.ref a), x1, x2, x3, x4, x5, x6, x7] (.ref a :: st) h := jq_nx (jv_insR jm_11 dX12_cutsUp_0) rfl
theorem e11_1 : jv_ev d 11 1 lc st h = jv_ev d 11 2 lc (.int 0 :: st) h := jq_iconst (jv_insR jm_11 dX12_cutsUp_1) (by decide)
theorem e11_2 : jv_ev d 11 2 lc (r :: .ref a :: st) h = (jv_pf h a [(0, 10, .int)] r).bind fun h => jv_ev d 11 5 lc st h := jq_put (jv_insR jm_11 dX12_cutsUp_2) jo_11 ji_11 jG_1_187
theorem e11_5 : jv_ev d 11 5 lc st h = jv_ev d 11 6 lc (.int 0 :: st) h := jq_iconst (jv_insR jm_11 dX12_cutsUp_5) (by decide)
theorem e11_6 : jv_ev d 11 6 [x0, x1, x2, x3, x4, x5, x6, x7] (.int v :: st) h = jv_ev d 11 7 [x0, some (.int v), x2, x3, x4, x5, x6, x7] st h := jq_nx (jv_insR jm_11 dX12_cutsUp_6) rfl
theorem e11_7 : jv_ev d 11 7 [some (.ref a), x1, x2, x3, x4, x5, x6, x7] st h = jv_ev d 11 8 [some (.ref a), x1, x2, x3, x4, x5, x6, x7] (.ref a :: st) h := jq_nx (jv_insR jm_11 dX12_cutsUp_7) rfl
theorem e11_8 : jv_ev d 11 8 lc (.ref a :: st) h = (jv_gf h a [(0, 10, .int)]).bind fun r => jv_ev d 11 11 lc (r :: st) h := jq_get (jv_insR jm_11 dX12_cutsUp_8) jo_11 jF_1_187
theorem e11_11 : jv_ev d 11 11 lc st h = jv_ev d 11 14 lc (.int 400 :: st) h := jq_sipush (jv_insR jm_11 dX12_cutsUp_11) (by decide)
theorem e11_14 : jv_ev d 11 14 lc (.int w :: .int v :: st) h = if w < v then jv_ev d 11 294 lc st h else jv_ev d 11 17 lc st h := jq_if (jv_insR jm_11 dX12_cutsUp_14) rfl (by decide)
theorem e11_17 : jv_ev d 11 17 [some (.ref a), x1, x2, x3, x4, x5, x6, x7] st h = jv_ev d 11 18 [some (.ref a), x1, x2, x3, x4, x5, x6, x7] (.ref a :: st) h := jq_nx (jv_insR jm_11 dX12_cutsUp_17) rfl
theorem e11_18 : jv_ev d 11 18 [x0, some (.int v), x2, x3, x4, x5, x6, x7] st h = jv_ev d 11 19 [x0, some (.int v), x2, x3, x4, x5, x6, x7] (.int v :: st) h := jq_nx (jv_insR jm_11 dX12_cutsUp_18) rfl
theorem e11_19 : jv_ev d 11 19 lc [z0, .ref b] h = (jv_rc h b [(0, 12)]).bind fun y => (jv_cd d y [.ref b, z0] h).bind fun r => jv_on r (fun v h => jv_ev d 11 22 lc (v.toList ++ []) h) (fun q h => some (.inr q, h)) := jq_V (as := [z0]) (rest := []) (jv_insR jm_11 dX12_cutsUp_19) jo_11 jV_1_190 rfl rfl rfl rfl
theorem e11_22 : jv_ev d 11 22 [x0, x1, x2, x3, x4, x5, x6, x7] (.int v :: st) h = jv_ev d 11 23 [x0, x1, some (.int v), x3, x4, x5, x6, x7] st h := jq_nx (jv_insR jm_11 dX12_cutsUp_22) rfl
theorem e11_23 : jv_ev d 11 23 [x0, some (.int v), x2, x3, x4, x5, x6, x7] st h = jv_ev d 11 24 [x0, some (.int v), x2, x3, x4, x5, x6, x7] (.int v :: st) h := jq_nx (jv_insR jm_11 dX12_cutsUp_23) rfl
theorem e11_24 : jv_ev d 11 24 [some (.ref a), x1, x2, x3, x4, x5, x6, x7] st h = jv_ev d 11 25 [some (.ref a), x1, x2, x3, x4, x5, x6, x7] (.ref a :: st) h := jq_nx (jv_insR jm_11 dX12_cutsUp_24) rfl
theorem e11_25 : jv_ev d 11 25 lc (.ref a :: st) h = (jv_gf h a [(0, 4, .int)]).bind fun r => jv_ev d 11 28 lc (r :: st) h := jq_get (jv_insR jm_11 dX12_cutsUp_25) jo_11 jF_1_178
theorem e11_28 : jv_ev d 11 28 lc (.int w :: .int v :: st) h = if v < w then jv_ev d 11 43 lc st h else jv_ev d 11 31 lc st h := jq_if (jv_insR jm_11 dX12_cutsUp_28) rfl (by decide)
theorem e11_31 : jv_ev d 11 31 [some (.ref a), x1, x2, x3, x4, x5, x6, x7] st h = jv_ev d 11 32 [some (.ref a), x1, x2, x3, x4, x5, x6, x7] (.ref a :: st) h := jq_nx (jv_insR jm_11 dX12_cutsUp_31) rfl
theorem e11_32 : jv_ev d 11 32 lc st h = jv_ev d 11 33 lc (.int 0 :: st) h := jq_iconst (jv_insR jm_11 dX12_cutsUp_32) (by decide)
theorem e11_33 : jv_ev d 11 33 [some (.ref a), x1, x2, x3, x4, x5, x6, x7] st h = jv_ev d 11 34 [some (.ref a), x1, x2, x3, x4, x5, x6, x7] (.ref a :: st) h := jq_nx (jv_insR jm_11 dX12_cutsUp_33) rfl
theorem e11_34 : jv_ev d 11 34 lc (.ref a :: st) h = (jv_gf h a [(0, 4, .int)]).bind fun r => jv_ev d 11 37 lc (r :: st) h := jq_get (jv_insR jm_11 dX12_cutsUp_34) jo_11 jF_1_178
theorem e11_37 : jv_ev d 11 37 lc st h = jv_ev d 11 38 lc (.int 0 :: st) h := jq_iconst (jv_insR jm_11 dX12_cutsUp_37) (by decide)
theorem e11_38 : jv_ev d 11 38 lc st h = jv_ev d 11 39 lc (.long 0 :: st) h := jq_lconst (jv_insR jm_11 dX12_cutsUp_38) (by decide)
theorem e11_39 : jv_ev d 11 39 lc [z3, z2, z1, z0, .ref b] h = (jv_rc h b [(0, 13)]).bind fun y => (jv_cd d y [.ref b, z0, z1, z2, z3] h).bind fun r => jv_on r (fun v h => jv_ev d 11 42 lc (v.toList ++ []) h) (fun q h => some (.inr q, h)) := jq_V (as := [z0, z1, z2, z3]) (rest := []) (jv_insR jm_11 dX12_cutsUp_39) jo_11 jV_1_194 rfl rfl rfl rfl
theorem e11_42 : jv_ev d 11 42 lc [] h = some (.inl none, h) := jq_retv (jv_insR jm_11 dX12_cutsUp_42) jr_11
theorem e11_43 : jv_ev d 11 43 [x0, x1, some (.int v), x3, x4, x5, x6, x7] st h = jv_ev d 11 44 [x0, x1, some (.int v), x3, x4, x5, x6, x7] (.int v :: st) h := jq_nx (jv_insR jm_11 dX12_cutsUp_43) rfl
theorem e11_44 : jv_ev d 11 44 lc st h = jv_ev d 11 46 lc (.int 9 :: st) h := jq_bipush (jv_insR jm_11 dX12_cutsUp_44) (by decide)
theorem e11_46 : jv_ev d 11 46 lc (.int w :: .int v :: st) h = if v = w then jv_ev d 11 67 lc st h else jv_ev d 11 49 lc st h := jq_if (jv_insR jm_11 dX12_cutsUp_46) rfl (by decide)
theorem e11_49 : jv_ev d 11 49 [x0, x1, some (.int v), x3, x4, x5, x6, x7] st h = jv_ev d 11 50 [x0, x1, some (.int v), x3, x4, x5, x6, x7] (.int v :: st) h := jq_nx (jv_insR jm_11 dX12_cutsUp_49) rfl
theorem e11_50 : jv_ev d 11 50 lc st h = jv_ev d 11 52 lc (.int 10 :: st) h := jq_bipush (jv_insR jm_11 dX12_cutsUp_50) (by decide)
theorem e11_52 : jv_ev d 11 52 lc (.int w :: .int v :: st) h = if v = w then jv_ev d 11 67 lc st h else jv_ev d 11 55 lc st h := jq_if (jv_insR jm_11 dX12_cutsUp_52) rfl (by decide)
theorem e11_55 : jv_ev d 11 55 [x0, x1, some (.int v), x3, x4, x5, x6, x7] st h = jv_ev d 11 56 [x0, x1, some (.int v), x3, x4, x5, x6, x7] (.int v :: st) h := jq_nx (jv_insR jm_11 dX12_cutsUp_55) rfl
theorem e11_56 : jv_ev d 11 56 lc st h = jv_ev d 11 58 lc (.int 13 :: st) h := jq_bipush (jv_insR jm_11 dX12_cutsUp_56) (by decide)
theorem e11_58 : jv_ev d 11 58 lc (.int w :: .int v :: st) h = if v = w then jv_ev d 11 67 lc st h else jv_ev d 11 61 lc st h := jq_if (jv_insR jm_11 dX12_cutsUp_58) rfl (by decide)
theorem e11_61 : jv_ev d 11 61 [x0, x1, some (.int v), x3, x4, x5, x6, x7] st h = jv_ev d 11 62 [x0, x1, some (.int v), x3, x4, x5, x6, x7] (.int v :: st) h := jq_nx (jv_insR jm_11 dX12_cutsUp_61) rfl
theorem e11_62 : jv_ev d 11 62 lc st h = jv_ev d 11 64 lc (.int 32 :: st) h := jq_bipush (jv_insR jm_11 dX12_cutsUp_62) (by decide)
theorem e11_64 : jv_ev d 11 64 lc (.int w :: .int v :: st) h = if ¬ v = w then jv_ev d 11 73 lc st h else jv_ev d 11 67 lc st h := jq_if (jv_insR jm_11 dX12_cutsUp_64) rfl (by decide)
theorem e11_67 : jv_ev d 11 67 [x0, some (.int v), x2, x3, x4, x5, x6, x7] st h = jv_ev d 11 70 [x0, some (.int (v + 1)), x2, x3, x4, x5, x6, x7] st h := jq_nx (jv_insR jm_11 dX12_cutsUp_67) rfl
theorem e11_70 : jv_ev d 11 70 lc st h = jv_ev d 11 291 lc st h := jq_go (jv_insR jm_11 dX12_cutsUp_70) (by decide)
theorem e11_73 : jv_ev d 11 73 [x0, x1, some (.int v), x3, x4, x5, x6, x7] st h = jv_ev d 11 74 [x0, x1, some (.int v), x3, x4, x5, x6, x7] (.int v :: st) h := jq_nx (jv_insR jm_11 dX12_cutsUp_73) rfl
theorem e11_74 : jv_ev d 11 74 lc [z0] h = (jv_cd d 14 [z0] h).bind fun r => jv_on r (fun v h => jv_ev d 11 77 lc (v.toList ++ []) h) (fun q h => some (.inr q, h)) := jq_S (as := [z0]) (rest := []) (jv_insR jm_11 dX12_cutsUp_74) jo_11 jT_1_198 rfl rfl rfl rfl
theorem e11_77 : jv_ev d 11 77 lc (.int v :: st) h = if v = 0 then jv_ev d 11 196 lc st h else jv_ev d 11 80 lc st h := jq_if (jv_insR jm_11 dX12_cutsUp_77) rfl (by decide)
theorem e11_80 : jv_ev d 11 80 lc st h = jv_ev d 11 81 lc (.int 0 :: st) h := jq_iconst (jv_insR jm_11 dX12_cutsUp_80) (by decide)
theorem e11_81 : jv_ev d 11 81 [x0, x1, x2, x3, x4, x5, x6, x7] (.int v :: st) h = jv_ev d 11 82 [x0, x1, x2, some (.int v), x4, x5, x6, x7] st h := jq_nx (jv_insR jm_11 dX12_cutsUp_81) rfl
theorem e11_82 : jv_ev d 11 82 lc st h = jv_ev d 11 83 lc (.long 0 :: st) h := jq_lconst (jv_insR jm_11 dX12_cutsUp_82) (by decide)
theorem e11_83 : jv_ev d 11 83 [x0, x1, x2, x3, x4, x5, x6, x7] (.long lv :: st) h = jv_ev d 11 85 [x0, x1, x2, x3, some (.long lv), none, x6, x7] st h := jq_nx (jv_insR jm_11 dX12_cutsUp_83) rfl
theorem e11_85 : jv_ev d 11 85 [some (.ref a), x1, x2, x3, x4, x5, x6, x7] st h = jv_ev d 11 86 [some (.ref a), x1, x2, x3, x4, x5, x6, x7] (.ref a :: st) h := jq_nx (jv_insR jm_11 dX12_cutsUp_85) rfl
theorem e11_86 : jv_ev d 11 86 [x0, some (.int v), x2, x3, x4, x5, x6, x7] st h = jv_ev d 11 87 [x0, some (.int v), x2, x3, x4, x5, x6, x7] (.int v :: st) h := jq_nx (jv_insR jm_11 dX12_cutsUp_86) rfl
theorem e11_87 : jv_ev d 11 87 [x0, x1, x2, some (.int v), x4, x5, x6, x7] st h = jv_ev d 11 88 [x0, x1, x2, some (.int v), x4, x5, x6, x7] (.int v :: st) h := jq_nx (jv_insR jm_11 dX12_cutsUp_87) rfl
theorem e11_88 : jv_ev d 11 88 lc (.int w :: .int v :: st) h = jv_ev d 11 89 lc (.int (v + w) :: st) h := jq_nx (jv_insR jm_11 dX12_cutsUp_88) rfl
theorem e11_89 : jv_ev d 11 89 lc [z0, .ref b] h = (jv_rc h b [(0, 12)]).bind fun y => (jv_cd d y [.ref b, z0] h).bind fun r => jv_on r (fun v h => jv_ev d 11 92 lc (v.toList ++ []) h) (fun q h => some (.inr q, h)) := jq_V (as := [z0]) (rest := []) (jv_insR jm_11 dX12_cutsUp_89) jo_11 jV_1_190 rfl rfl rfl rfl
theorem e11_92 : jv_ev d 11 92 lc [z0] h = (jv_cd d 14 [z0] h).bind fun r => jv_on r (fun v h => jv_ev d 11 95 lc (v.toList ++ []) h) (fun q h => some (.inr q, h)) := jq_S (as := [z0]) (rest := []) (jv_insR jm_11 dX12_cutsUp_92) jo_11 jT_1_198 rfl rfl rfl rfl
theorem e11_95 : jv_ev d 11 95 lc (.int v :: st) h = if v = 0 then jv_ev d 11 124 lc st h else jv_ev d 11 98 lc st h := jq_if (jv_insR jm_11 dX12_cutsUp_95) rfl (by decide)
theorem e11_98 : jv_ev d 11 98 [x0, x1, x2, some (.int v), x4, x5, x6, x7] st h = jv_ev d 11 99 [x0, x1, x2, some (.int v), x4, x5, x6, x7] (.int v :: st) h := jq_nx (jv_insR jm_11 dX12_cutsUp_98) rfl
theorem e11_99 : jv_ev d 11 99 lc st h = jv_ev d 11 101 lc (.int 8 :: st) h := jq_bipush (jv_insR jm_11 dX12_cutsUp_99) (by decide)
theorem e11_101 : jv_ev d 11 101 lc (.int w :: .int v :: st) h = if w ≤ v then jv_ev d 11 118 lc st h else jv_ev d 11 104 lc st h := jq_if (jv_insR jm_11 dX12_cutsUp_101) rfl (by decide)
theorem e11_104 : jv_ev d 11 104 [x0, x1, x2, x3, some (.long lv), none, x6, x7] st h = jv_ev d 11 106 [x0, x1, x2, x3, some (.long lv), none, x6, x7] (.long lv :: st) h := jq_nx (jv_insR jm_11 dX12_cutsUp_104) rfl
theorem e11_106 : jv_ev d 11 106 [some (.ref a), x1, x2, x3, x4, x5, x6, x7] st h = jv_ev d 11 107 [some (.ref a), x1, x2, x3, x4, x5, x6, x7] (.ref a :: st) h := jq_nx (jv_insR jm_11 dX12_cutsUp_106) rfl
theorem e11_107 : jv_ev d 11 107 [x0, some (.int v), x2, x3, x4, x5, x6, x7] st h = jv_ev d 11 108 [x0, some (.int v), x2, x3, x4, x5, x6, x7] (.int v :: st) h := jq_nx (jv_insR jm_11 dX12_cutsUp_107) rfl
theorem e11_108 : jv_ev d 11 108 [x0, x1, x2, some (.int v), x4, x5, x6, x7] st h = jv_ev d 11 109 [x0, x1, x2, some (.int v), x4, x5, x6, x7] (.int v :: st) h := jq_nx (jv_insR jm_11 dX12_cutsUp_108) rfl
theorem e11_109 : jv_ev d 11 109 lc (.int w :: .int v :: st) h = jv_ev d 11 110 lc (.int (v + w) :: st) h := jq_nx (jv_insR jm_11 dX12_cutsUp_109) rfl
theorem e11_110 : jv_ev d 11 110 lc [z0, .ref b, y0] h = (jv_rc h b [(0, 12)]).bind fun y => (jv_cd d y [.ref b, z0] h).bind fun r => jv_on r (fun v h => jv_ev d 11 113 lc (v.toList ++ [y0]) h) (fun q h => some (.inr q, h)) := jq_V (as := [z0]) (rest := [y0]) (jv_insR jm_11 dX12_cutsUp_110) jo_11 jV_1_190 rfl rfl rfl rfl
theorem e11_113 : jv_ev d 11 113 lc [z1, z0] h = (jv_cd d 4 [z0, z1] h).bind fun r => jv_on r (fun v h => jv_ev d 11 116 lc (v.toList ++ []) h) (fun q h => some (.inr q, h)) := jq_S (as := [z0, z1]) (rest := []) (jv_insR jm_11 dX12_cutsUp_113) jo_11 jT_1_183 rfl rfl rfl rfl
theorem e11_116 : jv_ev d 11 116 [x0, x1, x2, x3, x4, x5, x6, x7] (.long lv :: st) h = jv_ev d 11 118 [x0, x1, x2, x3, some (.long lv), none, x6, x7] st h := jq_nx (jv_insR jm_11 dX12_cutsUp_116) rfl
theorem e11_118 : jv_ev d 11 118 [x0, x1, x2, some (.int v), x4, x5, x6, x7] st h = jv_ev d 11 121 [x0, x1, x2, some (.int (v + 1)), x4, x5, x6, x7] st h := jq_nx (jv_insR jm_11 dX12_cutsUp_118) rfl
theorem e11_121 : jv_ev d 11 121 lc st h = jv_ev d 11 85 lc st h := jq_go (jv_insR jm_11 dX12_cutsUp_121) (by decide)
theorem e11_124 : jv_ev d 11 124 [x0, x1, x2, some (.int v), x4, x5, x6, x7] st h = jv_ev d 11 125 [x0, x1, x2, some (.int v), x4, x5, x6, x7] (.int v :: st) h := jq_nx (jv_insR jm_11 dX12_cutsUp_124) rfl
theorem e11_125 : jv_ev d 11 125 lc st h = jv_ev d 11 127 lc (.int 8 :: st) h := jq_bipush (jv_insR jm_11 dX12_cutsUp_125) (by decide)
theorem e11_127 : jv_ev d 11 127 lc (.int w :: .int v :: st) h = if v ≤ w then jv_ev d 11 134 lc st h else jv_ev d 11 130 lc st h := jq_if (jv_insR jm_11 dX12_cutsUp_127) rfl (by decide)
theorem e11_130 : jv_ev d 11 130 lc st h = jv_ev d 11 131 lc (.int 3 :: st) h := jq_iconst (jv_insR jm_11 dX12_cutsUp_130) (by decide)
theorem e11_131 : jv_ev d 11 131 lc st h = jv_ev d 11 135 lc st h := jq_go (jv_insR jm_11 dX12_cutsUp_131) (by decide)
theorem e11_134 : jv_ev d 11 134 lc st h = jv_ev d 11 135 lc (.int 1 :: st) h := jq_iconst (jv_insR jm_11 dX12_cutsUp_134) (by decide)
theorem e11_135 : jv_ev d 11 135 [x0, x1, x2, x3, x4, x5, x6, x7] (.int v :: st) h = jv_ev d 11 137 [x0, x1, x2, x3, x4, x5, some (.int v), x7] st h := jq_nx (jv_insR jm_11 dX12_cutsUp_135) rfl
theorem e11_137 : jv_ev d 11 137 [x0, x1, x2, some (.int v), x4, x5, x6, x7] st h = jv_ev d 11 138 [x0, x1, x2, some (.int v), x4, x5, x6, x7] (.int v :: st) h := jq_nx (jv_insR jm_11 dX12_cutsUp_137) rfl
theorem e11_138 : jv_ev d 11 138 lc st h = jv_ev d 11 140 lc (.int 7 :: st) h := jq_bipush (jv_insR jm_11 dX12_cutsUp_138) (by decide)
theorem e11_140 : jv_ev d 11 140 lc (.int w :: .int v :: st) h = if w < v then jv_ev d 11 179 lc st h else jv_ev d 11 143 lc st h := jq_if (jv_insR jm_11 dX12_cutsUp_140) rfl (by decide)
theorem e11_143 : jv_ev d 11 143 lc st h = jv_ev d 11 144 lc (.int 0 :: st) h := jq_iconst (jv_insR jm_11 dX12_cutsUp_143) (by decide)
theorem e11_144 : jv_ev d 11 144 [x0, x1, x2, x3, x4, x5, x6, x7] (.int v :: st) h = jv_ev d 11 146 [x0, x1, x2, x3, x4, x5, x6, some (.int v)] st h := jq_nx (jv_insR jm_11 dX12_cutsUp_144) rfl
theorem e11_146 : jv_ev d 11 146 [x0, x1, x2, x3, x4, x5, x6, some (.int v)] st h = jv_ev d 11 148 [x0, x1, x2, x3, x4, x5, x6, some (.int v)] (.int v :: st) h := jq_nx (jv_insR jm_11 dX12_cutsUp_146) rfl
theorem e11_148 : jv_ev d 11 148 lc st h = jv_ev d 11 150 lc (.int 21 :: st) h := jq_bipush (jv_insR jm_11 dX12_cutsUp_148) (by decide)
theorem e11_150 : jv_ev d 11 150 lc (.int w :: .int v :: st) h = if w ≤ v then jv_ev d 11 179 lc st h else jv_ev d 11 153 lc st h := jq_if (jv_insR jm_11 dX12_cutsUp_150) rfl (by decide)
theorem e11_153 : jv_ev d 11 153 [some (.ref a), x1, x2, x3, x4, x5, x6, x7] st h = jv_ev d 11 154 [some (.ref a), x1, x2, x3, x4, x5, x6, x7] (.ref a :: st) h := jq_nx (jv_insR jm_11 dX12_cutsUp_153) rfl
theorem e11_154 : jv_ev d 11 154 lc (.ref a :: st) h = (jv_gf h a [(0, 9, .array .long)]).bind fun r => jv_ev d 11 157 lc (r :: st) h := jq_get (jv_insR jm_11 dX12_cutsUp_154) jo_11 jF_1_34
theorem e11_157 : jv_ev d 11 157 [x0, x1, x2, x3, x4, x5, x6, some (.int v)] st h = jv_ev d 11 159 [x0, x1, x2, x3, x4, x5, x6, some (.int v)] (.int v :: st) h := jq_nx (jv_insR jm_11 dX12_cutsUp_157) rfl
theorem e11_159 : jv_ev d 11 159 lc (.int v :: .ref a :: st) h = (jv_lg h a v).bind fun w => jv_ev d 11 160 lc (.long w :: st) h := jq_lald (jv_insR jm_11 dX12_cutsUp_159)
theorem e11_160 : jv_ev d 11 160 [x0, x1, x2, x3, some (.long lv), none, x6, x7] st h = jv_ev d 11 162 [x0, x1, x2, x3, some (.long lv), none, x6, x7] (.long lv :: st) h := jq_nx (jv_insR jm_11 dX12_cutsUp_160) rfl
theorem e11_162 : jv_ev d 11 162 lc (.long lw :: .long lv :: st) h = jv_ev d 11 163 lc (.int (lg_cmp lv lw) :: st) h := jq_nx (jv_insR jm_11 dX12_cutsUp_162) rfl
theorem e11_163 : jv_ev d 11 163 lc (.int v :: st) h = if ¬ v = 0 then jv_ev d 11 173 lc st h else jv_ev d 11 166 lc st h := jq_if (jv_insR jm_11 dX12_cutsUp_163) rfl (by decide)
theorem e11_166 : jv_ev d 11 166 lc st h = jv_ev d 11 168 lc (.int 20 :: st) h := jq_bipush (jv_insR jm_11 dX12_cutsUp_166) (by decide)
theorem e11_168 : jv_ev d 11 168 [x0, x1, x2, x3, x4, x5, x6, some (.int v)] st h = jv_ev d 11 170 [x0, x1, x2, x3, x4, x5, x6, some (.int v)] (.int v :: st) h := jq_nx (jv_insR jm_11 dX12_cutsUp_168) rfl
theorem e11_170 : jv_ev d 11 170 lc (.int w :: .int v :: st) h = jv_ev d 11 171 lc (.int (v + w) :: st) h := jq_nx (jv_insR jm_11 dX12_cutsUp_170) rfl
theorem e11_171 : jv_ev d 11 171 [x0, x1, x2, x3, x4, x5, x6, x7] (.int v :: st) h = jv_ev d 11 173 [x0, x1, x2, x3, x4, x5, some (.int v), x7] st h := jq_nx (jv_insR jm_11 dX12_cutsUp_171) rfl
theorem e11_173 : jv_ev d 11 173 [x0, x1, x2, x3, x4, x5, x6, some (.int v)] st h = jv_ev d 11 176 [x0, x1, x2, x3, x4, x5, x6, some (.int (v + 1))] st h := jq_nx (jv_insR jm_11 dX12_cutsUp_173) rfl
theorem e11_176 : jv_ev d 11 176 lc st h = jv_ev d 11 146 lc st h := jq_go (jv_insR jm_11 dX12_cutsUp_176) (by decide)
theorem e11_179 : jv_ev d 11 179 [some (.ref a), x1, x2, x3, x4, x5, x6, x7] st h = jv_ev d 11 180 [some (.ref a), x1, x2, x3, x4, x5, x6, x7] (.ref a :: st) h := jq_nx (jv_insR jm_11 dX12_cutsUp_179) rfl
theorem e11_180 : jv_ev d 11 180 [x0, x1, x2, x3, x4, x5, some (.int v), x7] st h = jv_ev d 11 182 [x0, x1, x2, x3, x4, x5, some (.int v), x7] (.int v :: st) h := jq_nx (jv_insR jm_11 dX12_cutsUp_180) rfl
theorem e11_182 : jv_ev d 11 182 [x0, some (.int v), x2, x3, x4, x5, x6, x7] st h = jv_ev d 11 183 [x0, some (.int v), x2, x3, x4, x5, x6, x7] (.int v :: st) h := jq_nx (jv_insR jm_11 dX12_cutsUp_182) rfl
theorem e11_183 : jv_ev d 11 183 lc st h = jv_ev d 11 184 lc (.int 0 :: st) h := jq_iconst (jv_insR jm_11 dX12_cutsUp_183) (by decide)
theorem e11_184 : jv_ev d 11 184 [x0, x1, x2, x3, some (.long lv), none, x6, x7] st h = jv_ev d 11 186 [x0, x1, x2, x3, some (.long lv), none, x6, x7] (.long lv :: st) h := jq_nx (jv_insR jm_11 dX12_cutsUp_184) rfl
theorem e11_186 : jv_ev d 11 186 lc [z3, z2, z1, z0, .ref b] h = (jv_rc h b [(0, 13)]).bind fun y => (jv_cd d y [.ref b, z0, z1, z2, z3] h).bind fun r => jv_on r (fun v h => jv_ev d 11 189 lc (v.toList ++ []) h) (fun q h => some (.inr q, h)) := jq_V (as := [z0, z1, z2, z3]) (rest := []) (jv_insR jm_11 dX12_cutsUp_186) jo_11 jV_1_194 rfl rfl rfl rfl
theorem e11_189 : jv_ev d 11 189 [x0, some (.int v), x2, x3, x4, x5, x6, x7] st h = jv_ev d 11 190 [x0, some (.int v), x2, x3, x4, x5, x6, x7] (.int v :: st) h := jq_nx (jv_insR jm_11 dX12_cutsUp_189) rfl
theorem e11_190 : jv_ev d 11 190 [x0, x1, x2, some (.int v), x4, x5, x6, x7] st h = jv_ev d 11 191 [x0, x1, x2, some (.int v), x4, x5, x6, x7] (.int v :: st) h := jq_nx (jv_insR jm_11 dX12_cutsUp_190) rfl
theorem e11_191 : jv_ev d 11 191 lc (.int w :: .int v :: st) h = jv_ev d 11 192 lc (.int (v + w) :: st) h := jq_nx (jv_insR jm_11 dX12_cutsUp_191) rfl
theorem e11_192 : jv_ev d 11 192 [x0, x1, x2, x3, x4, x5, x6, x7] (.int v :: st) h = jv_ev d 11 193 [x0, some (.int v), x2, x3, x4, x5, x6, x7] st h := jq_nx (jv_insR jm_11 dX12_cutsUp_192) rfl
theorem e11_193 : jv_ev d 11 193 lc st h = jv_ev d 11 291 lc st h := jq_go (jv_insR jm_11 dX12_cutsUp_193) (by decide)
theorem e11_196 : jv_ev d 11 196 [x0, x1, some (.int v), x3, x4, x5, x6, x7] st h = jv_ev d 11 197 [x0, x1, some (.int v), x3, x4, x5, x6, x7] (.int v :: st) h := jq_nx (jv_insR jm_11 dX12_cutsUp_196) rfl
theorem e11_197 : jv_ev d 11 197 lc [z0] h = (jv_cd d 15 [z0] h).bind fun r => jv_on r (fun v h => jv_ev d 11 200 lc (v.toList ++ []) h) (fun q h => some (.inr q, h)) := jq_S (as := [z0]) (rest := []) (jv_insR jm_11 dX12_cutsUp_197) jo_11 jT_1_202 rfl rfl rfl rfl
theorem e11_200 : jv_ev d 11 200 lc (.int v :: st) h = if v = 0 then jv_ev d 11 275 lc st h else jv_ev d 11 203 lc st h := jq_if (jv_insR jm_11 dX12_cutsUp_200) rfl (by decide)
theorem e11_203 : jv_ev d 11 203 lc st h = jv_ev d 11 204 lc (.int 0 :: st) h := jq_iconst (jv_insR jm_11 dX12_cutsUp_203) (by decide)
theorem e11_204 : jv_ev d 11 204 [x0, x1, x2, x3, x4, x5, x6, x7] (.int v :: st) h = jv_ev d 11 205 [x0, x1, x2, some (.int v), x4, x5, x6, x7] st h := jq_nx (jv_insR jm_11 dX12_cutsUp_204) rfl
theorem e11_205 : jv_ev d 11 205 lc st h = jv_ev d 11 206 lc (.int 0 :: st) h := jq_iconst (jv_insR jm_11 dX12_cutsUp_205) (by decide)
theorem e11_206 : jv_ev d 11 206 [x0, x1, x2, x3, x4, x5, x6, x7] (.int v :: st) h = jv_ev d 11 208 [x0, x1, x2, x3, some (.int v), x5, x6, x7] st h := jq_nx (jv_insR jm_11 dX12_cutsUp_206) rfl
theorem e11_208 : jv_ev d 11 208 [some (.ref a), x1, x2, x3, x4, x5, x6, x7] st h = jv_ev d 11 209 [some (.ref a), x1, x2, x3, x4, x5, x6, x7] (.ref a :: st) h := jq_nx (jv_insR jm_11 dX12_cutsUp_208) rfl
theorem e11_209 : jv_ev d 11 209 [x0, some (.int v), x2, x3, x4, x5, x6, x7] st h = jv_ev d 11 210 [x0, some (.int v), x2, x3, x4, x5, x6, x7] (.int v :: st) h := jq_nx (jv_insR jm_11 dX12_cutsUp_209) rfl
theorem e11_210 : jv_ev d 11 210 [x0, x1, x2, some (.int v), x4, x5, x6, x7] st h = jv_ev d 11 211 [x0, x1, x2, some (.int v), x4, x5, x6, x7] (.int v :: st) h := jq_nx (jv_insR jm_11 dX12_cutsUp_210) rfl
theorem e11_211 : jv_ev d 11 211 lc (.int w :: .int v :: st) h = jv_ev d 11 212 lc (.int (v + w) :: st) h := jq_nx (jv_insR jm_11 dX12_cutsUp_211) rfl
theorem e11_212 : jv_ev d 11 212 lc [z0, .ref b] h = (jv_rc h b [(0, 12)]).bind fun y => (jv_cd d y [.ref b, z0] h).bind fun r => jv_on r (fun v h => jv_ev d 11 215 lc (v.toList ++ []) h) (fun q h => some (.inr q, h)) := jq_V (as := [z0]) (rest := []) (jv_insR jm_11 dX12_cutsUp_212) jo_11 jV_1_190 rfl rfl rfl rfl
theorem e11_215 : jv_ev d 11 215 lc [z0] h = (jv_cd d 15 [z0] h).bind fun r => jv_on r (fun v h => jv_ev d 11 218 lc (v.toList ++ []) h) (fun q h => some (.inr q, h)) := jq_S (as := [z0]) (rest := []) (jv_insR jm_11 dX12_cutsUp_215) jo_11 jT_1_202 rfl rfl rfl rfl
theorem e11_218 : jv_ev d 11 218 lc (.int v :: st) h = if v = 0 then jv_ev d 11 250 lc st h else jv_ev d 11 221 lc st h := jq_if (jv_insR jm_11 dX12_cutsUp_218) rfl (by decide)
theorem e11_221 : jv_ev d 11 221 [x0, x1, x2, some (.int v), x4, x5, x6, x7] st h = jv_ev d 11 222 [x0, x1, x2, some (.int v), x4, x5, x6, x7] (.int v :: st) h := jq_nx (jv_insR jm_11 dX12_cutsUp_221) rfl
theorem e11_222 : jv_ev d 11 222 lc st h = jv_ev d 11 223 lc (.int 4 :: st) h := jq_iconst (jv_insR jm_11 dX12_cutsUp_222) (by decide)
theorem e11_223 : jv_ev d 11 223 lc (.int w :: .int v :: st) h = if w ≤ v then jv_ev d 11 244 lc st h else jv_ev d 11 226 lc st h := jq_if (jv_insR jm_11 dX12_cutsUp_223) rfl (by decide)
theorem e11_226 : jv_ev d 11 226 lc st h = jv_ev d 11 228 lc (.int 10 :: st) h := jq_bipush (jv_insR jm_11 dX12_cutsUp_226) (by decide)
theorem e11_228 : jv_ev d 11 228 [x0, x1, x2, x3, some (.int v), x5, x6, x7] st h = jv_ev d 11 230 [x0, x1, x2, x3, some (.int v), x5, x6, x7] (.int v :: st) h := jq_nx (jv_insR jm_11 dX12_cutsUp_228) rfl
theorem e11_230 : jv_ev d 11 230 lc (.int w :: .int v :: st) h = jv_ev d 11 231 lc (.int (v * w) :: st) h := jq_nx (jv_insR jm_11 dX12_cutsUp_230) rfl
theorem e11_231 : jv_ev d 11 231 [some (.ref a), x1, x2, x3, x4, x5, x6, x7] st h = jv_ev d 11 232 [some (.ref a), x1, x2, x3, x4, x5, x6, x7] (.ref a :: st) h := jq_nx (jv_insR jm_11 dX12_cutsUp_231) rfl
theorem e11_232 : jv_ev d 11 232 [x0, some (.int v), x2, x3, x4, x5, x6, x7] st h = jv_ev d 11 233 [x0, some (.int v), x2, x3, x4, x5, x6, x7] (.int v :: st) h := jq_nx (jv_insR jm_11 dX12_cutsUp_232) rfl
theorem e11_233 : jv_ev d 11 233 [x0, x1, x2, some (.int v), x4, x5, x6, x7] st h = jv_ev d 11 234 [x0, x1, x2, some (.int v), x4, x5, x6, x7] (.int v :: st) h := jq_nx (jv_insR jm_11 dX12_cutsUp_233) rfl
theorem e11_234 : jv_ev d 11 234 lc (.int w :: .int v :: st) h = jv_ev d 11 235 lc (.int (v + w) :: st) h := jq_nx (jv_insR jm_11 dX12_cutsUp_234) rfl
theorem e11_235 : jv_ev d 11 235 lc [z0, .ref b, y0] h = (jv_rc h b [(0, 12)]).bind fun y => (jv_cd d y [.ref b, z0] h).bind fun r => jv_on r (fun v h => jv_ev d 11 238 lc (v.toList ++ [y0]) h) (fun q h => some (.inr q, h)) := jq_V (as := [z0]) (rest := [y0]) (jv_insR jm_11 dX12_cutsUp_235) jo_11 jV_1_190 rfl rfl rfl rfl
theorem e11_238 : jv_ev d 11 238 lc (.int w :: .int v :: st) h = jv_ev d 11 239 lc (.int (v + w) :: st) h := jq_nx (jv_insR jm_11 dX12_cutsUp_238) rfl
theorem e11_239 : jv_ev d 11 239 lc st h = jv_ev d 11 241 lc (.int 48 :: st) h := jq_bipush (jv_insR jm_11 dX12_cutsUp_239) (by decide)
theorem e11_241 : jv_ev d 11 241 lc (.int w :: .int v :: st) h = jv_ev d 11 242 lc (.int (v - w) :: st) h := jq_nx (jv_insR jm_11 dX12_cutsUp_241) rfl
theorem e11_242 : jv_ev d 11 242 [x0, x1, x2, x3, x4, x5, x6, x7] (.int v :: st) h = jv_ev d 11 244 [x0, x1, x2, x3, some (.int v), x5, x6, x7] st h := jq_nx (jv_insR jm_11 dX12_cutsUp_242) rfl
theorem e11_244 : jv_ev d 11 244 [x0, x1, x2, some (.int v), x4, x5, x6, x7] st h = jv_ev d 11 247 [x0, x1, x2, some (.int (v + 1)), x4, x5, x6, x7] st h := jq_nx (jv_insR jm_11 dX12_cutsUp_244) rfl
theorem e11_247 : jv_ev d 11 247 lc st h = jv_ev d 11 208 lc st h := jq_go (jv_insR jm_11 dX12_cutsUp_247) (by decide)
theorem e11_250 : jv_ev d 11 250 [some (.ref a), x1, x2, x3, x4, x5, x6, x7] st h = jv_ev d 11 251 [some (.ref a), x1, x2, x3, x4, x5, x6, x7] (.ref a :: st) h := jq_nx (jv_insR jm_11 dX12_cutsUp_250) rfl
theorem e11_251 : jv_ev d 11 251 [x0, x1, x2, some (.int v), x4, x5, x6, x7] st h = jv_ev d 11 252 [x0, x1, x2, some (.int v), x4, x5, x6, x7] (.int v :: st) h := jq_nx (jv_insR jm_11 dX12_cutsUp_251) rfl
theorem e11_252 : jv_ev d 11 252 lc st h = jv_ev d 11 253 lc (.int 4 :: st) h := jq_iconst (jv_insR jm_11 dX12_cutsUp_252) (by decide)
theorem e11_253 : jv_ev d 11 253 lc (.int w :: .int v :: st) h = if v ≤ w then jv_ev d 11 260 lc st h else jv_ev d 11 256 lc st h := jq_if (jv_insR jm_11 dX12_cutsUp_253) rfl (by decide)
theorem e11_256 : jv_ev d 11 256 lc st h = jv_ev d 11 257 lc (.int 3 :: st) h := jq_iconst (jv_insR jm_11 dX12_cutsUp_256) (by decide)
theorem e11_257 : jv_ev d 11 257 lc st h = jv_ev d 11 261 lc st h := jq_go (jv_insR jm_11 dX12_cutsUp_257) (by decide)
theorem e11_260 : jv_ev d 11 260 lc st h = jv_ev d 11 261 lc (.int 2 :: st) h := jq_iconst (jv_insR jm_11 dX12_cutsUp_260) (by decide)
theorem e11_261 : jv_ev d 11 261 [x0, some (.int v), x2, x3, x4, x5, x6, x7] st h = jv_ev d 11 262 [x0, some (.int v), x2, x3, x4, x5, x6, x7] (.int v :: st) h := jq_nx (jv_insR jm_11 dX12_cutsUp_261) rfl
theorem e11_262 : jv_ev d 11 262 [x0, x1, x2, x3, some (.int v), x5, x6, x7] st h = jv_ev d 11 264 [x0, x1, x2, x3, some (.int v), x5, x6, x7] (.int v :: st) h := jq_nx (jv_insR jm_11 dX12_cutsUp_262) rfl
theorem e11_264 : jv_ev d 11 264 lc st h = jv_ev d 11 265 lc (.long 0 :: st) h := jq_lconst (jv_insR jm_11 dX12_cutsUp_264) (by decide)
theorem e11_265 : jv_ev d 11 265 lc [z3, z2, z1, z0, .ref b] h = (jv_rc h b [(0, 13)]).bind fun y => (jv_cd d y [.ref b, z0, z1, z2, z3] h).bind fun r => jv_on r (fun v h => jv_ev d 11 268 lc (v.toList ++ []) h) (fun q h => some (.inr q, h)) := jq_V (as := [z0, z1, z2, z3]) (rest := []) (jv_insR jm_11 dX12_cutsUp_265) jo_11 jV_1_194 rfl rfl rfl rfl
theorem e11_268 : jv_ev d 11 268 [x0, some (.int v), x2, x3, x4, x5, x6, x7] st h = jv_ev d 11 269 [x0, some (.int v), x2, x3, x4, x5, x6, x7] (.int v :: st) h := jq_nx (jv_insR jm_11 dX12_cutsUp_268) rfl
theorem e11_269 : jv_ev d 11 269 [x0, x1, x2, some (.int v), x4, x5, x6, x7] st h = jv_ev d 11 270 [x0, x1, x2, some (.int v), x4, x5, x6, x7] (.int v :: st) h := jq_nx (jv_insR jm_11 dX12_cutsUp_269) rfl
theorem e11_270 : jv_ev d 11 270 lc (.int w :: .int v :: st) h = jv_ev d 11 271 lc (.int (v + w) :: st) h := jq_nx (jv_insR jm_11 dX12_cutsUp_270) rfl
theorem e11_271 : jv_ev d 11 271 [x0, x1, x2, x3, x4, x5, x6, x7] (.int v :: st) h = jv_ev d 11 272 [x0, some (.int v), x2, x3, x4, x5, x6, x7] st h := jq_nx (jv_insR jm_11 dX12_cutsUp_271) rfl
theorem e11_272 : jv_ev d 11 272 lc st h = jv_ev d 11 291 lc st h := jq_go (jv_insR jm_11 dX12_cutsUp_272) (by decide)
theorem e11_275 : jv_ev d 11 275 [x0, some (.int v), x2, x3, x4, x5, x6, x7] st h = jv_ev d 11 276 [x0, some (.int v), x2, x3, x4, x5, x6, x7] (.int v :: st) h := jq_nx (jv_insR jm_11 dX12_cutsUp_275) rfl
theorem e11_276 : jv_ev d 11 276 [some (.ref a), x1, x2, x3, x4, x5, x6, x7] st h = jv_ev d 11 277 [some (.ref a), x1, x2, x3, x4, x5, x6, x7] (.ref a :: st) h := jq_nx (jv_insR jm_11 dX12_cutsUp_276) rfl
theorem e11_277 : jv_ev d 11 277 [x0, some (.int v), x2, x3, x4, x5, x6, x7] st h = jv_ev d 11 278 [x0, some (.int v), x2, x3, x4, x5, x6, x7] (.int v :: st) h := jq_nx (jv_insR jm_11 dX12_cutsUp_277) rfl
theorem e11_278 : jv_ev d 11 278 [x0, x1, some (.int v), x3, x4, x5, x6, x7] st h = jv_ev d 11 279 [x0, x1, some (.int v), x3, x4, x5, x6, x7] (.int v :: st) h := jq_nx (jv_insR jm_11 dX12_cutsUp_278) rfl
theorem e11_279 : jv_ev d 11 279 [some (.ref a), x1, x2, x3, x4, x5, x6, x7] st h = jv_ev d 11 280 [some (.ref a), x1, x2, x3, x4, x5, x6, x7] (.ref a :: st) h := jq_nx (jv_insR jm_11 dX12_cutsUp_279) rfl
theorem e11_280 : jv_ev d 11 280 [x0, some (.int v), x2, x3, x4, x5, x6, x7] st h = jv_ev d 11 281 [x0, some (.int v), x2, x3, x4, x5, x6, x7] (.int v :: st) h := jq_nx (jv_insR jm_11 dX12_cutsUp_280) rfl
theorem e11_281 : jv_ev d 11 281 lc st h = jv_ev d 11 282 lc (.int 1 :: st) h := jq_iconst (jv_insR jm_11 dX12_cutsUp_281) (by decide)
theorem e11_282 : jv_ev d 11 282 lc (.int w :: .int v :: st) h = jv_ev d 11 283 lc (.int (v + w) :: st) h := jq_nx (jv_insR jm_11 dX12_cutsUp_282) rfl
theorem e11_283 : jv_ev d 11 283 lc [z0, .ref b, y0, y1, y2, y3] h = (jv_rc h b [(0, 12)]).bind fun y => (jv_cd d y [.ref b, z0] h).bind fun r => jv_on r (fun v h => jv_ev d 11 286 lc (v.toList ++ [y0, y1, y2, y3]) h) (fun q h => some (.inr q, h)) := jq_V (as := [z0]) (rest := [y0, y1, y2, y3]) (jv_insR jm_11 dX12_cutsUp_283) jo_11 jV_1_190 rfl rfl rfl rfl
theorem e11_286 : jv_ev d 11 286 lc [z2, z1, z0, .ref b, y0] h = (jv_rc h b [(0, 16)]).bind fun y => (jv_cd d y [.ref b, z0, z1, z2] h).bind fun r => jv_on r (fun v h => jv_ev d 11 289 lc (v.toList ++ [y0]) h) (fun q h => some (.inr q, h)) := jq_V (as := [z0, z1, z2]) (rest := [y0]) (jv_insR jm_11 dX12_cutsUp_286) jo_11 jV_1_205 rfl rfl rfl rfl
theorem e11_289 : jv_ev d 11 289 lc (.int w :: .int v :: st) h = jv_ev d 11 290 lc (.int (v + w) :: st) h := jq_nx (jv_insR jm_11 dX12_cutsUp_289) rfl
theorem e11_290 : jv_ev d 11 290 [x0, x1, x2, x3, x4, x5, x6, x7] (.int v :: st) h = jv_ev d 11 291 [x0, some (.int v), x2, x3, x4, x5, x6, x7] st h := jq_nx (jv_insR jm_11 dX12_cutsUp_290) rfl
theorem e11_291 : jv_ev d 11 291 lc st h = jv_ev d 11 7 lc st h := jq_go (jv_insR jm_11 dX12_cutsUp_291) (by decide)
theorem e11_294 : jv_ev d 11 294 lc [] h = some (.inl none, h) := jq_retv (jv_insR jm_11 dX12_cutsUp_294) jr_11
/-! 12: RainLoomModel.byteAt(I)I -/
theorem n12 : jv_cd (d + 1) 12 [.ref a0, .int i1] h = jv_ev d 12 0 [some (.ref a0), some (.int i1)] [] h := rfl
theorem e12_0 : jv_ev d 12 0 [x0, some (.int v)] st h = jv_ev d 12 1 [x0, some (.int v)] (.int v :: st) h := jq_nx (jv_insR jm_12 dX12_byteAt_0) rfl
theorem e12_1 : jv_ev d 12 1 [some (.ref a), x1] st h = jv_ev d 12 2 [some (.ref a), x1] (.ref a :: st) h := jq_nx (jv_insR jm_12 dX12_byteAt_1) rfl
theorem e12_2 : jv_ev d 12 2 lc (.ref a :: st) h = (jv_gf h a [(0, 4, .int)]).bind fun r => jv_ev d 12 5 lc (r :: st) h := jq_get (jv_insR jm_12 dX12_byteAt_2) jo_12 jF_1_178
theorem e12_5 : jv_ev d 12 5 lc (.int w :: .int v :: st) h = if w ≤ v then jv_ev d 12 21 lc st h else jv_ev d 12 8 lc st h := jq_if (jv_insR jm_12 dX12_byteAt_5) rfl (by decide)
theorem e12_8 : jv_ev d 12 8 [some (.ref a), x1] st h = jv_ev d 12 9 [some (.ref a), x1] (.ref a :: st) h := jq_nx (jv_insR jm_12 dX12_byteAt_8) rfl
theorem e12_9 : jv_ev d 12 9 lc (.ref a :: st) h = (jv_gf h a [(0, 3, .array .byte)]).bind fun r => jv_ev d 12 12 lc (r :: st) h := jq_get (jv_insR jm_12 dX12_byteAt_9) jo_12 jF_1_17
theorem e12_12 : jv_ev d 12 12 [x0, some (.int v)] st h = jv_ev d 12 13 [x0, some (.int v)] (.int v :: st) h := jq_nx (jv_insR jm_12 dX12_byteAt_12) rfl
theorem e12_13 : jv_ev d 12 13 lc (.int v :: .ref a :: st) h = (jv_ig h a 1 2 v).bind fun w => jv_ev d 12 14 lc (.int w :: st) h := jq_bald (jv_insR jm_12 dX12_byteAt_13)
theorem e12_14 : jv_ev d 12 14 lc st h = jv_ev d 12 17 lc (.int 255 :: st) h := jq_sipush (jv_insR jm_12 dX12_byteAt_14) (by decide)
theorem e12_17 : jv_ev d 12 17 lc (.int w :: .int v :: st) h = jv_ev d 12 18 lc (.int (v &&& w) :: st) h := jq_nx (jv_insR jm_12 dX12_byteAt_17) rfl
theorem e12_18 : jv_ev d 12 18 lc st h = jv_ev d 12 22 lc st h := jq_go (jv_insR jm_12 dX12_byteAt_18) (by decide)
theorem e12_21 : jv_ev d 12 21 lc st h = jv_ev d 12 22 lc (.int 0 :: st) h := jq_iconst (jv_insR jm_12 dX12_byteAt_21) (by decide)
theorem e12_22 : jv_ev d 12 22 lc [.int v] h = some (.inl (some (.int v)), h) := jq_reti (jv_insR jm_12 dX12_byteAt_22) jr_12
/-! 13: RainLoomModel.token(IIIJ)V -/
theorem n13 : jv_cd (d + 1) 13 [.ref a0, .int i1, .int i2, .int i3, .long l4] h = jv_ev d 13 0 [some (.ref a0), some (.int i1), some (.int i2), some (.int i3), some (.long l4), none] [] h := rfl
theorem e13_0 : jv_ev d 13 0 [some (.ref a), x1, x2, x3, x4, x5] st h = jv_ev d 13 1 [some (.ref a), x1, x2, x3, x4, x5] (.ref a :: st) h := jq_nx (jv_insR jm_13 dX12_token_0) rfl
theorem e13_1 : jv_ev d 13 1 lc (.ref a :: st) h = (jv_gf h a [(0, 5, .array .int)]).bind fun r => jv_ev d 13 4 lc (r :: st) h := jq_get (jv_insR jm_13 dX12_token_1) jo_13 jF_1_20
theorem e13_4 : jv_ev d 13 4 [some (.ref a), x1, x2, x3, x4, x5] st h = jv_ev d 13 5 [some (.ref a), x1, x2, x3, x4, x5] (.ref a :: st) h := jq_nx (jv_insR jm_13 dX12_token_4) rfl
theorem e13_5 : jv_ev d 13 5 lc (.ref a :: st) h = (jv_gf h a [(0, 10, .int)]).bind fun r => jv_ev d 13 8 lc (r :: st) h := jq_get (jv_insR jm_13 dX12_token_5) jo_13 jF_1_187
theorem e13_8 : jv_ev d 13 8 [x0, some (.int v), x2, x3, x4, x5] st h = jv_ev d 13 9 [x0, some (.int v), x2, x3, x4, x5] (.int v :: st) h := jq_nx (jv_insR jm_13 dX12_token_8) rfl
theorem e13_9 : jv_ev d 13 9 lc (.int w :: .int v :: .ref a :: st) h = (jv_ip h a 0 0 v w).bind fun h => jv_ev d 13 10 lc st h := jq_iast (jv_insR jm_13 dX12_token_9)
theorem e13_10 : jv_ev d 13 10 [some (.ref a), x1, x2, x3, x4, x5] st h = jv_ev d 13 11 [some (.ref a), x1, x2, x3, x4, x5] (.ref a :: st) h := jq_nx (jv_insR jm_13 dX12_token_10) rfl
theorem e13_11 : jv_ev d 13 11 lc (.ref a :: st) h = (jv_gf h a [(0, 6, .array .int)]).bind fun r => jv_ev d 13 14 lc (r :: st) h := jq_get (jv_insR jm_13 dX12_token_11) jo_13 jF_1_24
theorem e13_14 : jv_ev d 13 14 [some (.ref a), x1, x2, x3, x4, x5] st h = jv_ev d 13 15 [some (.ref a), x1, x2, x3, x4, x5] (.ref a :: st) h := jq_nx (jv_insR jm_13 dX12_token_14) rfl
theorem e13_15 : jv_ev d 13 15 lc (.ref a :: st) h = (jv_gf h a [(0, 10, .int)]).bind fun r => jv_ev d 13 18 lc (r :: st) h := jq_get (jv_insR jm_13 dX12_token_15) jo_13 jF_1_187
theorem e13_18 : jv_ev d 13 18 [x0, x1, some (.int v), x3, x4, x5] st h = jv_ev d 13 19 [x0, x1, some (.int v), x3, x4, x5] (.int v :: st) h := jq_nx (jv_insR jm_13 dX12_token_18) rfl
theorem e13_19 : jv_ev d 13 19 lc (.int w :: .int v :: .ref a :: st) h = (jv_ip h a 0 0 v w).bind fun h => jv_ev d 13 20 lc st h := jq_iast (jv_insR jm_13 dX12_token_19)
theorem e13_20 : jv_ev d 13 20 [some (.ref a), x1, x2, x3, x4, x5] st h = jv_ev d 13 21 [some (.ref a), x1, x2, x3, x4, x5] (.ref a :: st) h := jq_nx (jv_insR jm_13 dX12_token_20) rfl
theorem e13_21 : jv_ev d 13 21 lc (.ref a :: st) h = (jv_gf h a [(0, 7, .array .int)]).bind fun r => jv_ev d 13 24 lc (r :: st) h := jq_get (jv_insR jm_13 dX12_token_21) jo_13 jF_1_27
theorem e13_24 : jv_ev d 13 24 [some (.ref a), x1, x2, x3, x4, x5] st h = jv_ev d 13 25 [some (.ref a), x1, x2, x3, x4, x5] (.ref a :: st) h := jq_nx (jv_insR jm_13 dX12_token_24) rfl
theorem e13_25 : jv_ev d 13 25 lc (.ref a :: st) h = (jv_gf h a [(0, 10, .int)]).bind fun r => jv_ev d 13 28 lc (r :: st) h := jq_get (jv_insR jm_13 dX12_token_25) jo_13 jF_1_187
theorem e13_28 : jv_ev d 13 28 [x0, x1, x2, some (.int v), x4, x5] st h = jv_ev d 13 29 [x0, x1, x2, some (.int v), x4, x5] (.int v :: st) h := jq_nx (jv_insR jm_13 dX12_token_28) rfl
theorem e13_29 : jv_ev d 13 29 lc (.int w :: .int v :: .ref a :: st) h = (jv_ip h a 0 0 v w).bind fun h => jv_ev d 13 30 lc st h := jq_iast (jv_insR jm_13 dX12_token_29)
theorem e13_30 : jv_ev d 13 30 [some (.ref a), x1, x2, x3, x4, x5] st h = jv_ev d 13 31 [some (.ref a), x1, x2, x3, x4, x5] (.ref a :: st) h := jq_nx (jv_insR jm_13 dX12_token_30) rfl
theorem e13_31 : jv_ev d 13 31 lc (.ref a :: st) h = (jv_gf h a [(0, 8, .array .long)]).bind fun r => jv_ev d 13 34 lc (r :: st) h := jq_get (jv_insR jm_13 dX12_token_31) jo_13 jF_1_30
theorem e13_34 : jv_ev d 13 34 [some (.ref a), x1, x2, x3, x4, x5] st h = jv_ev d 13 35 [some (.ref a), x1, x2, x3, x4, x5] (.ref a :: st) h := jq_nx (jv_insR jm_13 dX12_token_34) rfl
theorem e13_35 : jv_ev d 13 35 lc (.ref a :: st) h = (jv_gf h a [(0, 10, .int)]).bind fun r => jv_ev d 13 38 lc (r :: st) h := jq_get (jv_insR jm_13 dX12_token_35) jo_13 jF_1_187
theorem e13_38 : jv_ev d 13 38 [x0, x1, x2, x3, some (.long lv), none] st h = jv_ev d 13 40 [x0, x1, x2, x3, some (.long lv), none] (.long lv :: st) h := jq_nx (jv_insR jm_13 dX12_token_38) rfl
theorem e13_40 : jv_ev d 13 40 lc (.long lw :: .int v :: .ref a :: st) h = (jv_lp h a v lw).bind fun h => jv_ev d 13 41 lc st h := jq_last (jv_insR jm_13 dX12_token_40)
theorem e13_41 : jv_ev d 13 41 [some (.ref a), x1, x2, x3, x4, x5] st h = jv_ev d 13 42 [some (.ref a), x1, x2, x3, x4, x5] (.ref a :: st) h := jq_nx (jv_insR jm_13 dX12_token_41) rfl
theorem e13_42 : jv_ev d 13 42 lc (.ref a :: st) h = jv_ev d 13 43 lc (.ref a :: .ref a :: st) h := jq_nx (jv_insR jm_13 dX12_token_42) rfl
theorem e13_43 : jv_ev d 13 43 lc (.ref a :: st) h = (jv_gf h a [(0, 10, .int)]).bind fun r => jv_ev d 13 46 lc (r :: st) h := jq_get (jv_insR jm_13 dX12_token_43) jo_13 jF_1_187
theorem e13_46 : jv_ev d 13 46 lc st h = jv_ev d 13 47 lc (.int 1 :: st) h := jq_iconst (jv_insR jm_13 dX12_token_46) (by decide)
theorem e13_47 : jv_ev d 13 47 lc (.int w :: .int v :: st) h = jv_ev d 13 48 lc (.int (v + w) :: st) h := jq_nx (jv_insR jm_13 dX12_token_47) rfl
theorem e13_48 : jv_ev d 13 48 lc (r :: .ref a :: st) h = (jv_pf h a [(0, 10, .int)] r).bind fun h => jv_ev d 13 51 lc st h := jq_put (jv_insR jm_13 dX12_token_48) jo_13 ji_13 jG_1_187
theorem e13_51 : jv_ev d 13 51 lc [] h = some (.inl none, h) := jq_retv (jv_insR jm_13 dX12_token_51) jr_13
/-! 14: RainLoomModel.isLetter(I)Z -/
theorem n14 : jv_cd (d + 1) 14 [.int i0] h = jv_ev d 14 0 [some (.int i0)] [] h := rfl
theorem e14_0 : jv_ev d 14 0 [some (.int v)] st h = jv_ev d 14 1 [some (.int v)] (.int v :: st) h := jq_nx (jv_insR jm_14 dX12_isLetter_0) rfl
theorem e14_1 : jv_ev d 14 1 lc st h = jv_ev d 14 3 lc (.int 97 :: st) h := jq_bipush (jv_insR jm_14 dX12_isLetter_1) (by decide)
theorem e14_3 : jv_ev d 14 3 lc (.int w :: .int v :: st) h = if v < w then jv_ev d 14 16 lc st h else jv_ev d 14 6 lc st h := jq_if (jv_insR jm_14 dX12_isLetter_3) rfl (by decide)
theorem e14_6 : jv_ev d 14 6 [some (.int v)] st h = jv_ev d 14 7 [some (.int v)] (.int v :: st) h := jq_nx (jv_insR jm_14 dX12_isLetter_6) rfl
theorem e14_7 : jv_ev d 14 7 lc st h = jv_ev d 14 9 lc (.int 122 :: st) h := jq_bipush (jv_insR jm_14 dX12_isLetter_7) (by decide)
theorem e14_9 : jv_ev d 14 9 lc (.int w :: .int v :: st) h = if w < v then jv_ev d 14 16 lc st h else jv_ev d 14 12 lc st h := jq_if (jv_insR jm_14 dX12_isLetter_9) rfl (by decide)
theorem e14_12 : jv_ev d 14 12 lc st h = jv_ev d 14 13 lc (.int 1 :: st) h := jq_iconst (jv_insR jm_14 dX12_isLetter_12) (by decide)
theorem e14_13 : jv_ev d 14 13 lc st h = jv_ev d 14 17 lc st h := jq_go (jv_insR jm_14 dX12_isLetter_13) (by decide)
theorem e14_16 : jv_ev d 14 16 lc st h = jv_ev d 14 17 lc (.int 0 :: st) h := jq_iconst (jv_insR jm_14 dX12_isLetter_16) (by decide)
theorem e14_17 : jv_ev d 14 17 lc [.int v] h = if narrow .boolean (.int v) = .int v then some (.inl (some (.int v)), h) else none := jq_ret (jv_insR jm_14 dX12_isLetter_17) jr_14 (by decide)
/-! 15: RainLoomModel.isDigit(I)Z -/
theorem n15 : jv_cd (d + 1) 15 [.int i0] h = jv_ev d 15 0 [some (.int i0)] [] h := rfl
theorem e15_0 : jv_ev d 15 0 [some (.int v)] st h = jv_ev d 15 1 [some (.int v)] (.int v :: st) h := jq_nx (jv_insR jm_15 dX12_isDigit_0) rfl
theorem e15_1 : jv_ev d 15 1 lc st h = jv_ev d 15 3 lc (.int 48 :: st) h := jq_bipush (jv_insR jm_15 dX12_isDigit_1) (by decide)
theorem e15_3 : jv_ev d 15 3 lc (.int w :: .int v :: st) h = if v < w then jv_ev d 15 16 lc st h else jv_ev d 15 6 lc st h := jq_if (jv_insR jm_15 dX12_isDigit_3) rfl (by decide)
theorem e15_6 : jv_ev d 15 6 [some (.int v)] st h = jv_ev d 15 7 [some (.int v)] (.int v :: st) h := jq_nx (jv_insR jm_15 dX12_isDigit_6) rfl
theorem e15_7 : jv_ev d 15 7 lc st h = jv_ev d 15 9 lc (.int 57 :: st) h := jq_bipush (jv_insR jm_15 dX12_isDigit_7) (by decide)
theorem e15_9 : jv_ev d 15 9 lc (.int w :: .int v :: st) h = if w < v then jv_ev d 15 16 lc st h else jv_ev d 15 12 lc st h := jq_if (jv_insR jm_15 dX12_isDigit_9) rfl (by decide)
theorem e15_12 : jv_ev d 15 12 lc st h = jv_ev d 15 13 lc (.int 1 :: st) h := jq_iconst (jv_insR jm_15 dX12_isDigit_12) (by decide)
theorem e15_13 : jv_ev d 15 13 lc st h = jv_ev d 15 17 lc st h := jq_go (jv_insR jm_15 dX12_isDigit_13) (by decide)
theorem e15_16 : jv_ev d 15 16 lc st h = jv_ev d 15 17 lc (.int 0 :: st) h := jq_iconst (jv_insR jm_15 dX12_isDigit_16) (by decide)
theorem e15_17 : jv_ev d 15 17 lc [.int v] h = if narrow .boolean (.int v) = .int v then some (.inl (some (.int v)), h) else none := jq_ret (jv_insR jm_15 dX12_isDigit_17) jr_15 (by decide)
/-! 16: RainLoomModel.sign(III)I -/
theorem n16 : jv_cd (d + 1) 16 [.ref a0, .int i1, .int i2, .int i3] h = jv_ev d 16 0 [some (.ref a0), some (.int i1), some (.int i2), some (.int i3), none] [] h := rfl
theorem e16_0 : jv_ev d 16 0 [x0, x1, some (.int v), x3, x4] st h = jv_ev d 16 1 [x0, x1, some (.int v), x3, x4] (.int v :: st) h := jq_nx (jv_insR jm_16 dX12_sign_0) rfl
theorem e16_1 : jv_ev d 16 1 lc st h = jv_ev d 16 3 lc (.int 59 :: st) h := jq_bipush (jv_insR jm_16 dX12_sign_1) (by decide)
theorem e16_3 : jv_ev d 16 3 lc (.int w :: .int v :: st) h = if ¬ v = w then jv_ev d 16 10 lc st h else jv_ev d 16 6 lc st h := jq_if (jv_insR jm_16 dX12_sign_3) rfl (by decide)
theorem e16_6 : jv_ev d 16 6 lc st h = jv_ev d 16 7 lc (.int 4 :: st) h := jq_iconst (jv_insR jm_16 dX12_sign_6) (by decide)
theorem e16_7 : jv_ev d 16 7 lc st h = jv_ev d 16 43 lc st h := jq_go (jv_insR jm_16 dX12_sign_7) (by decide)
theorem e16_10 : jv_ev d 16 10 [x0, x1, some (.int v), x3, x4] st h = jv_ev d 16 11 [x0, x1, some (.int v), x3, x4] (.int v :: st) h := jq_nx (jv_insR jm_16 dX12_sign_10) rfl
theorem e16_11 : jv_ev d 16 11 lc st h = jv_ev d 16 13 lc (.int 61 :: st) h := jq_bipush (jv_insR jm_16 dX12_sign_11) (by decide)
theorem e16_13 : jv_ev d 16 13 lc (.int w :: .int v :: st) h = if ¬ v = w then jv_ev d 16 20 lc st h else jv_ev d 16 16 lc st h := jq_if (jv_insR jm_16 dX12_sign_13) rfl (by decide)
theorem e16_16 : jv_ev d 16 16 lc st h = jv_ev d 16 17 lc (.int 5 :: st) h := jq_iconst (jv_insR jm_16 dX12_sign_16) (by decide)
theorem e16_17 : jv_ev d 16 17 lc st h = jv_ev d 16 43 lc st h := jq_go (jv_insR jm_16 dX12_sign_17) (by decide)
theorem e16_20 : jv_ev d 16 20 [x0, x1, some (.int v), x3, x4] st h = jv_ev d 16 21 [x0, x1, some (.int v), x3, x4] (.int v :: st) h := jq_nx (jv_insR jm_16 dX12_sign_20) rfl
theorem e16_21 : jv_ev d 16 21 lc st h = jv_ev d 16 23 lc (.int 40 :: st) h := jq_bipush (jv_insR jm_16 dX12_sign_21) (by decide)
theorem e16_23 : jv_ev d 16 23 lc (.int w :: .int v :: st) h = if ¬ v = w then jv_ev d 16 31 lc st h else jv_ev d 16 26 lc st h := jq_if (jv_insR jm_16 dX12_sign_23) rfl (by decide)
theorem e16_26 : jv_ev d 16 26 lc st h = jv_ev d 16 28 lc (.int 6 :: st) h := jq_bipush (jv_insR jm_16 dX12_sign_26) (by decide)
theorem e16_28 : jv_ev d 16 28 lc st h = jv_ev d 16 43 lc st h := jq_go (jv_insR jm_16 dX12_sign_28) (by decide)
theorem e16_31 : jv_ev d 16 31 [x0, x1, some (.int v), x3, x4] st h = jv_ev d 16 32 [x0, x1, some (.int v), x3, x4] (.int v :: st) h := jq_nx (jv_insR jm_16 dX12_sign_31) rfl
theorem e16_32 : jv_ev d 16 32 lc st h = jv_ev d 16 34 lc (.int 41 :: st) h := jq_bipush (jv_insR jm_16 dX12_sign_32) (by decide)
theorem e16_34 : jv_ev d 16 34 lc (.int w :: .int v :: st) h = if ¬ v = w then jv_ev d 16 42 lc st h else jv_ev d 16 37 lc st h := jq_if (jv_insR jm_16 dX12_sign_34) rfl (by decide)
theorem e16_37 : jv_ev d 16 37 lc st h = jv_ev d 16 39 lc (.int 7 :: st) h := jq_bipush (jv_insR jm_16 dX12_sign_37) (by decide)
theorem e16_39 : jv_ev d 16 39 lc st h = jv_ev d 16 43 lc st h := jq_go (jv_insR jm_16 dX12_sign_39) (by decide)
theorem e16_42 : jv_ev d 16 42 lc st h = jv_ev d 16 43 lc (.int 3 :: st) h := jq_iconst (jv_insR jm_16 dX12_sign_42) (by decide)
theorem e16_43 : jv_ev d 16 43 [x0, x1, x2, x3, x4] (.int v :: st) h = jv_ev d 16 45 [x0, x1, x2, x3, some (.int v)] st h := jq_nx (jv_insR jm_16 dX12_sign_43) rfl
theorem e16_45 : jv_ev d 16 45 [x0, x1, some (.int v), x3, x4] st h = jv_ev d 16 46 [x0, x1, some (.int v), x3, x4] (.int v :: st) h := jq_nx (jv_insR jm_16 dX12_sign_45) rfl
theorem e16_46 : jv_ev d 16 46 lc st h = jv_ev d 16 48 lc (.int 43 :: st) h := jq_bipush (jv_insR jm_16 dX12_sign_46) (by decide)
theorem e16_48 : jv_ev d 16 48 lc (.int w :: .int v :: st) h = if ¬ v = w then jv_ev d 16 55 lc st h else jv_ev d 16 51 lc st h := jq_if (jv_insR jm_16 dX12_sign_48) rfl (by decide)
theorem e16_51 : jv_ev d 16 51 lc st h = jv_ev d 16 53 lc (.int 8 :: st) h := jq_bipush (jv_insR jm_16 dX12_sign_51) (by decide)
theorem e16_53 : jv_ev d 16 53 [x0, x1, x2, x3, x4] (.int v :: st) h = jv_ev d 16 55 [x0, x1, x2, x3, some (.int v)] st h := jq_nx (jv_insR jm_16 dX12_sign_53) rfl
theorem e16_55 : jv_ev d 16 55 [x0, x1, some (.int v), x3, x4] st h = jv_ev d 16 56 [x0, x1, some (.int v), x3, x4] (.int v :: st) h := jq_nx (jv_insR jm_16 dX12_sign_55) rfl
theorem e16_56 : jv_ev d 16 56 lc st h = jv_ev d 16 58 lc (.int 45 :: st) h := jq_bipush (jv_insR jm_16 dX12_sign_56) (by decide)
theorem e16_58 : jv_ev d 16 58 lc (.int w :: .int v :: st) h = if ¬ v = w then jv_ev d 16 65 lc st h else jv_ev d 16 61 lc st h := jq_if (jv_insR jm_16 dX12_sign_58) rfl (by decide)
theorem e16_61 : jv_ev d 16 61 lc st h = jv_ev d 16 63 lc (.int 9 :: st) h := jq_bipush (jv_insR jm_16 dX12_sign_61) (by decide)
theorem e16_63 : jv_ev d 16 63 [x0, x1, x2, x3, x4] (.int v :: st) h = jv_ev d 16 65 [x0, x1, x2, x3, some (.int v)] st h := jq_nx (jv_insR jm_16 dX12_sign_63) rfl
theorem e16_65 : jv_ev d 16 65 [x0, x1, some (.int v), x3, x4] st h = jv_ev d 16 66 [x0, x1, some (.int v), x3, x4] (.int v :: st) h := jq_nx (jv_insR jm_16 dX12_sign_65) rfl
theorem e16_66 : jv_ev d 16 66 lc st h = jv_ev d 16 68 lc (.int 42 :: st) h := jq_bipush (jv_insR jm_16 dX12_sign_66) (by decide)
theorem e16_68 : jv_ev d 16 68 lc (.int w :: .int v :: st) h = if ¬ v = w then jv_ev d 16 75 lc st h else jv_ev d 16 71 lc st h := jq_if (jv_insR jm_16 dX12_sign_68) rfl (by decide)
theorem e16_71 : jv_ev d 16 71 lc st h = jv_ev d 16 73 lc (.int 10 :: st) h := jq_bipush (jv_insR jm_16 dX12_sign_71) (by decide)
theorem e16_73 : jv_ev d 16 73 [x0, x1, x2, x3, x4] (.int v :: st) h = jv_ev d 16 75 [x0, x1, x2, x3, some (.int v)] st h := jq_nx (jv_insR jm_16 dX12_sign_73) rfl
theorem e16_75 : jv_ev d 16 75 [x0, x1, some (.int v), x3, x4] st h = jv_ev d 16 76 [x0, x1, some (.int v), x3, x4] (.int v :: st) h := jq_nx (jv_insR jm_16 dX12_sign_75) rfl
theorem e16_76 : jv_ev d 16 76 lc st h = jv_ev d 16 78 lc (.int 47 :: st) h := jq_bipush (jv_insR jm_16 dX12_sign_76) (by decide)
theorem e16_78 : jv_ev d 16 78 lc (.int w :: .int v :: st) h = if ¬ v = w then jv_ev d 16 85 lc st h else jv_ev d 16 81 lc st h := jq_if (jv_insR jm_16 dX12_sign_78) rfl (by decide)
theorem e16_81 : jv_ev d 16 81 lc st h = jv_ev d 16 83 lc (.int 15 :: st) h := jq_bipush (jv_insR jm_16 dX12_sign_81) (by decide)
theorem e16_83 : jv_ev d 16 83 [x0, x1, x2, x3, x4] (.int v :: st) h = jv_ev d 16 85 [x0, x1, x2, x3, some (.int v)] st h := jq_nx (jv_insR jm_16 dX12_sign_83) rfl
theorem e16_85 : jv_ev d 16 85 [x0, x1, some (.int v), x3, x4] st h = jv_ev d 16 86 [x0, x1, some (.int v), x3, x4] (.int v :: st) h := jq_nx (jv_insR jm_16 dX12_sign_85) rfl
theorem e16_86 : jv_ev d 16 86 lc st h = jv_ev d 16 88 lc (.int 60 :: st) h := jq_bipush (jv_insR jm_16 dX12_sign_86) (by decide)
theorem e16_88 : jv_ev d 16 88 lc (.int w :: .int v :: st) h = if ¬ v = w then jv_ev d 16 95 lc st h else jv_ev d 16 91 lc st h := jq_if (jv_insR jm_16 dX12_sign_88) rfl (by decide)
theorem e16_91 : jv_ev d 16 91 lc st h = jv_ev d 16 93 lc (.int 13 :: st) h := jq_bipush (jv_insR jm_16 dX12_sign_91) (by decide)
theorem e16_93 : jv_ev d 16 93 [x0, x1, x2, x3, x4] (.int v :: st) h = jv_ev d 16 95 [x0, x1, x2, x3, some (.int v)] st h := jq_nx (jv_insR jm_16 dX12_sign_93) rfl
theorem e16_95 : jv_ev d 16 95 [some (.ref a), x1, x2, x3, x4] st h = jv_ev d 16 96 [some (.ref a), x1, x2, x3, x4] (.ref a :: st) h := jq_nx (jv_insR jm_16 dX12_sign_95) rfl
theorem e16_96 : jv_ev d 16 96 [x0, x1, x2, x3, some (.int v)] st h = jv_ev d 16 98 [x0, x1, x2, x3, some (.int v)] (.int v :: st) h := jq_nx (jv_insR jm_16 dX12_sign_96) rfl
theorem e16_98 : jv_ev d 16 98 [x0, some (.int v), x2, x3, x4] st h = jv_ev d 16 99 [x0, some (.int v), x2, x3, x4] (.int v :: st) h := jq_nx (jv_insR jm_16 dX12_sign_98) rfl
theorem e16_99 : jv_ev d 16 99 lc st h = jv_ev d 16 100 lc (.int 0 :: st) h := jq_iconst (jv_insR jm_16 dX12_sign_99) (by decide)
theorem e16_100 : jv_ev d 16 100 lc st h = jv_ev d 16 101 lc (.long 0 :: st) h := jq_lconst (jv_insR jm_16 dX12_sign_100) (by decide)
theorem e16_101 : jv_ev d 16 101 lc [z3, z2, z1, z0, .ref b] h = (jv_rc h b [(0, 13)]).bind fun y => (jv_cd d y [.ref b, z0, z1, z2, z3] h).bind fun r => jv_on r (fun v h => jv_ev d 16 104 lc (v.toList ++ []) h) (fun q h => some (.inr q, h)) := jq_V (as := [z0, z1, z2, z3]) (rest := []) (jv_insR jm_16 dX12_sign_101) jo_16 jV_1_194 rfl rfl rfl rfl
theorem e16_104 : jv_ev d 16 104 lc st h = jv_ev d 16 105 lc (.int 1 :: st) h := jq_iconst (jv_insR jm_16 dX12_sign_104) (by decide)
theorem e16_105 : jv_ev d 16 105 lc [.int v] h = some (.inl (some (.int v)), h) := jq_reti (jv_insR jm_16 dX12_sign_105) jr_16
/-! 17: RainLoomModel.is(I)Z -/
theorem n17 : jv_cd (d + 1) 17 [.ref a0, .int i1] h = jv_ev d 17 0 [some (.ref a0), some (.int i1)] [] h := rfl
theorem e17_0 : jv_ev d 17 0 [some (.ref a), x1] st h = jv_ev d 17 1 [some (.ref a), x1] (.ref a :: st) h := jq_nx (jv_insR jm_17 dX12_is_0) rfl
theorem e17_1 : jv_ev d 17 1 lc (.ref a :: st) h = (jv_gf h a [(0, 13, .int)]).bind fun r => jv_ev d 17 4 lc (r :: st) h := jq_get (jv_insR jm_17 dX12_is_1) jo_17 jF_1_209
theorem e17_4 : jv_ev d 17 4 lc (.int v :: st) h = if ¬ v = 0 then jv_ev d 17 24 lc st h else jv_ev d 17 7 lc st h := jq_if (jv_insR jm_17 dX12_is_4) rfl (by decide)
theorem e17_7 : jv_ev d 17 7 [some (.ref a), x1] st h = jv_ev d 17 8 [some (.ref a), x1] (.ref a :: st) h := jq_nx (jv_insR jm_17 dX12_is_7) rfl
theorem e17_8 : jv_ev d 17 8 lc (.ref a :: st) h = (jv_gf h a [(0, 5, .array .int)]).bind fun r => jv_ev d 17 11 lc (r :: st) h := jq_get (jv_insR jm_17 dX12_is_8) jo_17 jF_1_20
theorem e17_11 : jv_ev d 17 11 [some (.ref a), x1] st h = jv_ev d 17 12 [some (.ref a), x1] (.ref a :: st) h := jq_nx (jv_insR jm_17 dX12_is_11) rfl
theorem e17_12 : jv_ev d 17 12 lc (.ref a :: st) h = (jv_gf h a [(0, 11, .int)]).bind fun r => jv_ev d 17 15 lc (r :: st) h := jq_get (jv_insR jm_17 dX12_is_12) jo_17 jF_1_212
theorem e17_15 : jv_ev d 17 15 lc (.int v :: .ref a :: st) h = (jv_ig h a 0 0 v).bind fun w => jv_ev d 17 16 lc (.int w :: st) h := jq_iald (jv_insR jm_17 dX12_is_15)
theorem e17_16 : jv_ev d 17 16 [x0, some (.int v)] st h = jv_ev d 17 17 [x0, some (.int v)] (.int v :: st) h := jq_nx (jv_insR jm_17 dX12_is_16) rfl
theorem e17_17 : jv_ev d 17 17 lc (.int w :: .int v :: st) h = if ¬ v = w then jv_ev d 17 24 lc st h else jv_ev d 17 20 lc st h := jq_if (jv_insR jm_17 dX12_is_17) rfl (by decide)
theorem e17_20 : jv_ev d 17 20 lc st h = jv_ev d 17 21 lc (.int 1 :: st) h := jq_iconst (jv_insR jm_17 dX12_is_20) (by decide)
theorem e17_21 : jv_ev d 17 21 lc st h = jv_ev d 17 25 lc st h := jq_go (jv_insR jm_17 dX12_is_21) (by decide)
theorem e17_24 : jv_ev d 17 24 lc st h = jv_ev d 17 25 lc (.int 0 :: st) h := jq_iconst (jv_insR jm_17 dX12_is_24) (by decide)
theorem e17_25 : jv_ev d 17 25 lc [.int v] h = if narrow .boolean (.int v) = .int v then some (.inl (some (.int v)), h) else none := jq_ret (jv_insR jm_17 dX12_is_25) jr_17 (by decide)
/-! 18: RainLoomModel.tellOne()V -/
theorem n18 : jv_cd (d + 1) 18 [.ref a0] h = jv_ev d 18 0 [some (.ref a0), none] [] h := rfl
theorem e18_0 : jv_ev d 18 0 [some (.ref a), x1] st h = jv_ev d 18 1 [some (.ref a), x1] (.ref a :: st) h := jq_nx (jv_insR jm_18 dX12_tellOne_0) rfl
theorem e18_1 : jv_ev d 18 1 lc (.ref a :: st) h = (jv_gf h a [(0, 5, .array .int)]).bind fun r => jv_ev d 18 4 lc (r :: st) h := jq_get (jv_insR jm_18 dX12_tellOne_1) jo_18 jF_1_20
theorem e18_4 : jv_ev d 18 4 [some (.ref a), x1] st h = jv_ev d 18 5 [some (.ref a), x1] (.ref a :: st) h := jq_nx (jv_insR jm_18 dX12_tellOne_4) rfl
theorem e18_5 : jv_ev d 18 5 lc (.ref a :: st) h = (jv_gf h a [(0, 11, .int)]).bind fun r => jv_ev d 18 8 lc (r :: st) h := jq_get (jv_insR jm_18 dX12_tellOne_5) jo_18 jF_1_212
theorem e18_8 : jv_ev d 18 8 lc (.int v :: .ref a :: st) h = (jv_ig h a 0 0 v).bind fun w => jv_ev d 18 9 lc (.int w :: st) h := jq_iald (jv_insR jm_18 dX12_tellOne_8)
theorem e18_9 : jv_ev d 18 9 lc (.int v :: st) h = jv_tsl (fun t => jv_ev d 18 t lc st h) v [(20, 60), (21, 89), (22, 118), (23, 232), (24, 232), (25, 232), (26, 146), (27, 175), (28, 203)] 232 := jq_ts (jv_insR jm_18 dX12_tellOne_9) [(20, 60), (21, 89), (22, 118), (23, 232), (24, 232), (25, 232), (26, 146), (27, 175), (28, 203)] 232 (by decide) (by decide) (by decide) (by decide)
theorem e18_60 : jv_ev d 18 60 [some (.ref a), x1] st h = jv_ev d 18 61 [some (.ref a), x1] (.ref a :: st) h := jq_nx (jv_insR jm_18 dX12_tellOne_60) rfl
theorem e18_61 : jv_ev d 18 61 [some (.ref a), x1] st h = jv_ev d 18 62 [some (.ref a), x1] (.ref a :: st) h := jq_nx (jv_insR jm_18 dX12_tellOne_61) rfl
theorem e18_62 : jv_ev d 18 62 lc (.ref a :: st) h = (jv_gf h a [(0, 22, .array .int)]).bind fun r => jv_ev d 18 65 lc (r :: st) h := jq_get (jv_insR jm_18 dX12_tellOne_62) jo_18 jF_1_43
theorem e18_65 : jv_ev d 18 65 [some (.ref a), x1] st h = jv_ev d 18 66 [some (.ref a), x1] (.ref a :: st) h := jq_nx (jv_insR jm_18 dX12_tellOne_65) rfl
theorem e18_66 : jv_ev d 18 66 lc (.ref a :: st) h = (jv_gf h a [(0, 19, .int)]).bind fun r => jv_ev d 18 69 lc (r :: st) h := jq_get (jv_insR jm_18 dX12_tellOne_66) jo_18 jF_1_242
theorem e18_69 : jv_ev d 18 69 lc (.int v :: .ref a :: st) h = (jv_ig h a 0 0 v).bind fun w => jv_ev d 18 70 lc (.int w :: st) h := jq_iald (jv_insR jm_18 dX12_tellOne_69)
theorem e18_70 : jv_ev d 18 70 lc st h = jv_ev d 18 72 lc (.int 6 :: st) h := jq_bipush (jv_insR jm_18 dX12_tellOne_70) (by decide)
theorem e18_72 : jv_ev d 18 72 lc [z1, z0, .ref b] h = (jv_rc h b [(0, 19)]).bind fun y => (jv_cd d y [.ref b, z0, z1] h).bind fun r => jv_on r (fun v h => jv_ev d 18 75 lc (v.toList ++ []) h) (fun q h => some (.inr q, h)) := jq_V (as := [z0, z1]) (rest := []) (jv_insR jm_18 dX12_tellOne_72) jo_18 jV_1_271 rfl rfl rfl rfl
theorem e18_75 : jv_ev d 18 75 [some (.ref a), x1] st h = jv_ev d 18 76 [some (.ref a), x1] (.ref a :: st) h := jq_nx (jv_insR jm_18 dX12_tellOne_75) rfl
theorem e18_76 : jv_ev d 18 76 lc (.ref a :: st) h = (jv_gf h a [(0, 13, .int)]).bind fun r => jv_ev d 18 79 lc (r :: st) h := jq_get (jv_insR jm_18 dX12_tellOne_76) jo_18 jF_1_209
theorem e18_79 : jv_ev d 18 79 lc (.int v :: st) h = if ¬ v = 0 then jv_ev d 18 285 lc st h else jv_ev d 18 82 lc st h := jq_if (jv_insR jm_18 dX12_tellOne_79) rfl (by decide)
theorem e18_82 : jv_ev d 18 82 [some (.ref a), x1] st h = jv_ev d 18 83 [some (.ref a), x1] (.ref a :: st) h := jq_nx (jv_insR jm_18 dX12_tellOne_82) rfl
theorem e18_83 : jv_ev d 18 83 lc [.ref b] h = (jv_rc h b [(0, 22)]).bind fun y => (jv_cd d y [.ref b] h).bind fun r => jv_on r (fun v h => jv_ev d 18 86 lc (v.toList ++ []) h) (fun q h => some (.inr q, h)) := jq_V (as := []) (rest := []) (jv_insR jm_18 dX12_tellOne_83) jo_18 jV_1_274 rfl rfl rfl rfl
theorem e18_86 : jv_ev d 18 86 lc st h = jv_ev d 18 285 lc st h := jq_go (jv_insR jm_18 dX12_tellOne_86) (by decide)
theorem e18_89 : jv_ev d 18 89 [some (.ref a), x1] st h = jv_ev d 18 90 [some (.ref a), x1] (.ref a :: st) h := jq_nx (jv_insR jm_18 dX12_tellOne_89) rfl
theorem e18_90 : jv_ev d 18 90 [some (.ref a), x1] st h = jv_ev d 18 91 [some (.ref a), x1] (.ref a :: st) h := jq_nx (jv_insR jm_18 dX12_tellOne_90) rfl
theorem e18_91 : jv_ev d 18 91 lc (.ref a :: st) h = (jv_gf h a [(0, 25, .array .int)]).bind fun r => jv_ev d 18 94 lc (r :: st) h := jq_get (jv_insR jm_18 dX12_tellOne_91) jo_18 jF_1_52
theorem e18_94 : jv_ev d 18 94 [some (.ref a), x1] st h = jv_ev d 18 95 [some (.ref a), x1] (.ref a :: st) h := jq_nx (jv_insR jm_18 dX12_tellOne_94) rfl
theorem e18_95 : jv_ev d 18 95 lc (.ref a :: st) h = (jv_gf h a [(0, 19, .int)]).bind fun r => jv_ev d 18 98 lc (r :: st) h := jq_get (jv_insR jm_18 dX12_tellOne_95) jo_18 jF_1_242
theorem e18_98 : jv_ev d 18 98 lc (.int v :: .ref a :: st) h = (jv_ig h a 0 0 v).bind fun w => jv_ev d 18 99 lc (.int w :: st) h := jq_iald (jv_insR jm_18 dX12_tellOne_98)
theorem e18_99 : jv_ev d 18 99 lc st h = jv_ev d 18 101 lc (.int 6 :: st) h := jq_bipush (jv_insR jm_18 dX12_tellOne_99) (by decide)
theorem e18_101 : jv_ev d 18 101 lc [z1, z0, .ref b] h = (jv_rc h b [(0, 19)]).bind fun y => (jv_cd d y [.ref b, z0, z1] h).bind fun r => jv_on r (fun v h => jv_ev d 18 104 lc (v.toList ++ []) h) (fun q h => some (.inr q, h)) := jq_V (as := [z0, z1]) (rest := []) (jv_insR jm_18 dX12_tellOne_101) jo_18 jV_1_271 rfl rfl rfl rfl
theorem e18_104 : jv_ev d 18 104 [some (.ref a), x1] st h = jv_ev d 18 105 [some (.ref a), x1] (.ref a :: st) h := jq_nx (jv_insR jm_18 dX12_tellOne_104) rfl
theorem e18_105 : jv_ev d 18 105 lc (.ref a :: st) h = (jv_gf h a [(0, 13, .int)]).bind fun r => jv_ev d 18 108 lc (r :: st) h := jq_get (jv_insR jm_18 dX12_tellOne_105) jo_18 jF_1_209
theorem e18_108 : jv_ev d 18 108 lc (.int v :: st) h = if ¬ v = 0 then jv_ev d 18 285 lc st h else jv_ev d 18 111 lc st h := jq_if (jv_insR jm_18 dX12_tellOne_108) rfl (by decide)
theorem e18_111 : jv_ev d 18 111 [some (.ref a), x1] st h = jv_ev d 18 112 [some (.ref a), x1] (.ref a :: st) h := jq_nx (jv_insR jm_18 dX12_tellOne_111) rfl
theorem e18_112 : jv_ev d 18 112 lc [.ref b] h = (jv_rc h b [(0, 25)]).bind fun y => (jv_cd d y [.ref b] h).bind fun r => jv_on r (fun v h => jv_ev d 18 115 lc (v.toList ++ []) h) (fun q h => some (.inr q, h)) := jq_V (as := []) (rest := []) (jv_insR jm_18 dX12_tellOne_112) jo_18 jV_1_277 rfl rfl rfl rfl
theorem e18_115 : jv_ev d 18 115 lc st h = jv_ev d 18 285 lc st h := jq_go (jv_insR jm_18 dX12_tellOne_115) (by decide)
theorem e18_118 : jv_ev d 18 118 [some (.ref a), x1] st h = jv_ev d 18 119 [some (.ref a), x1] (.ref a :: st) h := jq_nx (jv_insR jm_18 dX12_tellOne_118) rfl
theorem e18_119 : jv_ev d 18 119 [some (.ref a), x1] st h = jv_ev d 18 120 [some (.ref a), x1] (.ref a :: st) h := jq_nx (jv_insR jm_18 dX12_tellOne_119) rfl
theorem e18_120 : jv_ev d 18 120 lc (.ref a :: st) h = (jv_gf h a [(0, 28, .array .int)]).bind fun r => jv_ev d 18 123 lc (r :: st) h := jq_get (jv_insR jm_18 dX12_tellOne_120) jo_18 jF_1_61
theorem e18_123 : jv_ev d 18 123 [some (.ref a), x1] st h = jv_ev d 18 124 [some (.ref a), x1] (.ref a :: st) h := jq_nx (jv_insR jm_18 dX12_tellOne_123) rfl
theorem e18_124 : jv_ev d 18 124 lc (.ref a :: st) h = (jv_gf h a [(0, 19, .int)]).bind fun r => jv_ev d 18 127 lc (r :: st) h := jq_get (jv_insR jm_18 dX12_tellOne_124) jo_18 jF_1_242
theorem e18_127 : jv_ev d 18 127 lc (.int v :: .ref a :: st) h = (jv_ig h a 0 0 v).bind fun w => jv_ev d 18 128 lc (.int w :: st) h := jq_iald (jv_insR jm_18 dX12_tellOne_127)
theorem e18_128 : jv_ev d 18 128 lc st h = jv_ev d 18 129 lc (.int 4 :: st) h := jq_iconst (jv_insR jm_18 dX12_tellOne_128) (by decide)
theorem e18_129 : jv_ev d 18 129 lc [z1, z0, .ref b] h = (jv_rc h b [(0, 19)]).bind fun y => (jv_cd d y [.ref b, z0, z1] h).bind fun r => jv_on r (fun v h => jv_ev d 18 132 lc (v.toList ++ []) h) (fun q h => some (.inr q, h)) := jq_V (as := [z0, z1]) (rest := []) (jv_insR jm_18 dX12_tellOne_129) jo_18 jV_1_271 rfl rfl rfl rfl
theorem e18_132 : jv_ev d 18 132 [some (.ref a), x1] st h = jv_ev d 18 133 [some (.ref a), x1] (.ref a :: st) h := jq_nx (jv_insR jm_18 dX12_tellOne_132) rfl
theorem e18_133 : jv_ev d 18 133 lc (.ref a :: st) h = (jv_gf h a [(0, 13, .int)]).bind fun r => jv_ev d 18 136 lc (r :: st) h := jq_get (jv_insR jm_18 dX12_tellOne_133) jo_18 jF_1_209
theorem e18_136 : jv_ev d 18 136 lc (.int v :: st) h = if ¬ v = 0 then jv_ev d 18 285 lc st h else jv_ev d 18 139 lc st h := jq_if (jv_insR jm_18 dX12_tellOne_136) rfl (by decide)
theorem e18_139 : jv_ev d 18 139 [some (.ref a), x1] st h = jv_ev d 18 140 [some (.ref a), x1] (.ref a :: st) h := jq_nx (jv_insR jm_18 dX12_tellOne_139) rfl
theorem e18_140 : jv_ev d 18 140 lc [.ref b] h = (jv_rc h b [(0, 29)]).bind fun y => (jv_cd d y [.ref b] h).bind fun r => jv_on r (fun v h => jv_ev d 18 143 lc (v.toList ++ []) h) (fun q h => some (.inr q, h)) := jq_V (as := []) (rest := []) (jv_insR jm_18 dX12_tellOne_140) jo_18 jV_1_280 rfl rfl rfl rfl
theorem e18_143 : jv_ev d 18 143 lc st h = jv_ev d 18 285 lc st h := jq_go (jv_insR jm_18 dX12_tellOne_143) (by decide)
theorem e18_146 : jv_ev d 18 146 [some (.ref a), x1] st h = jv_ev d 18 147 [some (.ref a), x1] (.ref a :: st) h := jq_nx (jv_insR jm_18 dX12_tellOne_146) rfl
theorem e18_147 : jv_ev d 18 147 lc [.ref b] h = (jv_rc h b [(0, 21)]).bind fun y => (jv_cd d y [.ref b] h).bind fun r => jv_on r (fun v h => jv_ev d 18 150 lc (v.toList ++ []) h) (fun q h => some (.inr q, h)) := jq_V (as := []) (rest := []) (jv_insR jm_18 dX12_tellOne_147) jo_18 jV_1_230 rfl rfl rfl rfl
theorem e18_150 : jv_ev d 18 150 [some (.ref a), x1] st h = jv_ev d 18 151 [some (.ref a), x1] (.ref a :: st) h := jq_nx (jv_insR jm_18 dX12_tellOne_150) rfl
theorem e18_151 : jv_ev d 18 151 lc (.ref a :: st) h = (jv_gf h a [(0, 31, .array .int)]).bind fun r => jv_ev d 18 154 lc (r :: st) h := jq_get (jv_insR jm_18 dX12_tellOne_151) jo_18 jF_1_70
theorem e18_154 : jv_ev d 18 154 [some (.ref a), x1] st h = jv_ev d 18 155 [some (.ref a), x1] (.ref a :: st) h := jq_nx (jv_insR jm_18 dX12_tellOne_154) rfl
theorem e18_155 : jv_ev d 18 155 lc (.ref a :: st) h = (jv_gf h a [(0, 19, .int)]).bind fun r => jv_ev d 18 158 lc (r :: st) h := jq_get (jv_insR jm_18 dX12_tellOne_155) jo_18 jF_1_242
theorem e18_158 : jv_ev d 18 158 [some (.ref a), x1] st h = jv_ev d 18 159 [some (.ref a), x1] (.ref a :: st) h := jq_nx (jv_insR jm_18 dX12_tellOne_158) rfl
theorem e18_159 : jv_ev d 18 159 lc st h = jv_ev d 18 160 lc (.int 0 :: st) h := jq_iconst (jv_insR jm_18 dX12_tellOne_159) (by decide)
theorem e18_160 : jv_ev d 18 160 lc st h = jv_ev d 18 163 lc (.int 9999 :: st) h := jq_sipush (jv_insR jm_18 dX12_tellOne_160) (by decide)
theorem e18_163 : jv_ev d 18 163 lc [z1, z0, .ref b, y0, y1] h = (jv_rc h b [(0, 27)]).bind fun y => (jv_cd d y [.ref b, z0, z1] h).bind fun r => jv_on r (fun v h => jv_ev d 18 166 lc (v.toList ++ [y0, y1]) h) (fun q h => some (.inr q, h)) := jq_V (as := [z0, z1]) (rest := [y0, y1]) (jv_insR jm_18 dX12_tellOne_163) jo_18 jV_1_283 rfl rfl rfl rfl
theorem e18_166 : jv_ev d 18 166 lc (.int w :: .int v :: .ref a :: st) h = (jv_ip h a 0 0 v w).bind fun h => jv_ev d 18 167 lc st h := jq_iast (jv_insR jm_18 dX12_tellOne_166)
theorem e18_167 : jv_ev d 18 167 [some (.ref a), x1] st h = jv_ev d 18 168 [some (.ref a), x1] (.ref a :: st) h := jq_nx (jv_insR jm_18 dX12_tellOne_167) rfl
theorem e18_168 : jv_ev d 18 168 lc st h = jv_ev d 18 169 lc (.int 4 :: st) h := jq_iconst (jv_insR jm_18 dX12_tellOne_168) (by decide)
theorem e18_169 : jv_ev d 18 169 lc [z0, .ref b] h = (jv_rc h b [(0, 23)]).bind fun y => (jv_cd d y [.ref b, z0] h).bind fun r => jv_on r (fun v h => jv_ev d 18 172 lc (v.toList ++ []) h) (fun q h => some (.inr q, h)) := jq_V (as := [z0]) (rest := []) (jv_insR jm_18 dX12_tellOne_169) jo_18 jV_1_287 rfl rfl rfl rfl
theorem e18_172 : jv_ev d 18 172 lc st h = jv_ev d 18 285 lc st h := jq_go (jv_insR jm_18 dX12_tellOne_172) (by decide)
theorem e18_175 : jv_ev d 18 175 [some (.ref a), x1] st h = jv_ev d 18 176 [some (.ref a), x1] (.ref a :: st) h := jq_nx (jv_insR jm_18 dX12_tellOne_175) rfl
theorem e18_176 : jv_ev d 18 176 lc [.ref b] h = (jv_rc h b [(0, 21)]).bind fun y => (jv_cd d y [.ref b] h).bind fun r => jv_on r (fun v h => jv_ev d 18 179 lc (v.toList ++ []) h) (fun q h => some (.inr q, h)) := jq_V (as := []) (rest := []) (jv_insR jm_18 dX12_tellOne_176) jo_18 jV_1_230 rfl rfl rfl rfl
theorem e18_179 : jv_ev d 18 179 [some (.ref a), x1] st h = jv_ev d 18 180 [some (.ref a), x1] (.ref a :: st) h := jq_nx (jv_insR jm_18 dX12_tellOne_179) rfl
theorem e18_180 : jv_ev d 18 180 lc (.ref a :: st) h = (jv_gf h a [(0, 32, .array .int)]).bind fun r => jv_ev d 18 183 lc (r :: st) h := jq_get (jv_insR jm_18 dX12_tellOne_180) jo_18 jF_1_73
theorem e18_183 : jv_ev d 18 183 [some (.ref a), x1] st h = jv_ev d 18 184 [some (.ref a), x1] (.ref a :: st) h := jq_nx (jv_insR jm_18 dX12_tellOne_183) rfl
theorem e18_184 : jv_ev d 18 184 lc (.ref a :: st) h = (jv_gf h a [(0, 19, .int)]).bind fun r => jv_ev d 18 187 lc (r :: st) h := jq_get (jv_insR jm_18 dX12_tellOne_184) jo_18 jF_1_242
theorem e18_187 : jv_ev d 18 187 [some (.ref a), x1] st h = jv_ev d 18 188 [some (.ref a), x1] (.ref a :: st) h := jq_nx (jv_insR jm_18 dX12_tellOne_187) rfl
theorem e18_188 : jv_ev d 18 188 lc st h = jv_ev d 18 189 lc (.int 0 :: st) h := jq_iconst (jv_insR jm_18 dX12_tellOne_188) (by decide)
theorem e18_189 : jv_ev d 18 189 lc st h = jv_ev d 18 191 lc (.int 100 :: st) h := jq_bipush (jv_insR jm_18 dX12_tellOne_189) (by decide)
theorem e18_191 : jv_ev d 18 191 lc [z1, z0, .ref b, y0, y1] h = (jv_rc h b [(0, 27)]).bind fun y => (jv_cd d y [.ref b, z0, z1] h).bind fun r => jv_on r (fun v h => jv_ev d 18 194 lc (v.toList ++ [y0, y1]) h) (fun q h => some (.inr q, h)) := jq_V (as := [z0, z1]) (rest := [y0, y1]) (jv_insR jm_18 dX12_tellOne_191) jo_18 jV_1_283 rfl rfl rfl rfl
theorem e18_194 : jv_ev d 18 194 lc (.int w :: .int v :: .ref a :: st) h = (jv_ip h a 0 0 v w).bind fun h => jv_ev d 18 195 lc st h := jq_iast (jv_insR jm_18 dX12_tellOne_194)
theorem e18_195 : jv_ev d 18 195 [some (.ref a), x1] st h = jv_ev d 18 196 [some (.ref a), x1] (.ref a :: st) h := jq_nx (jv_insR jm_18 dX12_tellOne_195) rfl
theorem e18_196 : jv_ev d 18 196 lc st h = jv_ev d 18 197 lc (.int 4 :: st) h := jq_iconst (jv_insR jm_18 dX12_tellOne_196) (by decide)
theorem e18_197 : jv_ev d 18 197 lc [z0, .ref b] h = (jv_rc h b [(0, 23)]).bind fun y => (jv_cd d y [.ref b, z0] h).bind fun r => jv_on r (fun v h => jv_ev d 18 200 lc (v.toList ++ []) h) (fun q h => some (.inr q, h)) := jq_V (as := [z0]) (rest := []) (jv_insR jm_18 dX12_tellOne_197) jo_18 jV_1_287 rfl rfl rfl rfl
theorem e18_200 : jv_ev d 18 200 lc st h = jv_ev d 18 285 lc st h := jq_go (jv_insR jm_18 dX12_tellOne_200) (by decide)
theorem e18_203 : jv_ev d 18 203 [some (.ref a), x1] st h = jv_ev d 18 204 [some (.ref a), x1] (.ref a :: st) h := jq_nx (jv_insR jm_18 dX12_tellOne_203) rfl
theorem e18_204 : jv_ev d 18 204 lc [.ref b] h = (jv_rc h b [(0, 21)]).bind fun y => (jv_cd d y [.ref b] h).bind fun r => jv_on r (fun v h => jv_ev d 18 207 lc (v.toList ++ []) h) (fun q h => some (.inr q, h)) := jq_V (as := []) (rest := []) (jv_insR jm_18 dX12_tellOne_204) jo_18 jV_1_230 rfl rfl rfl rfl
theorem e18_207 : jv_ev d 18 207 [some (.ref a), x1] st h = jv_ev d 18 208 [some (.ref a), x1] (.ref a :: st) h := jq_nx (jv_insR jm_18 dX12_tellOne_207) rfl
theorem e18_208 : jv_ev d 18 208 lc (.ref a :: st) h = (jv_gf h a [(0, 33, .array .int)]).bind fun r => jv_ev d 18 211 lc (r :: st) h := jq_get (jv_insR jm_18 dX12_tellOne_208) jo_18 jF_1_76
theorem e18_211 : jv_ev d 18 211 [some (.ref a), x1] st h = jv_ev d 18 212 [some (.ref a), x1] (.ref a :: st) h := jq_nx (jv_insR jm_18 dX12_tellOne_211) rfl
theorem e18_212 : jv_ev d 18 212 lc (.ref a :: st) h = (jv_gf h a [(0, 19, .int)]).bind fun r => jv_ev d 18 215 lc (r :: st) h := jq_get (jv_insR jm_18 dX12_tellOne_212) jo_18 jF_1_242
theorem e18_215 : jv_ev d 18 215 [some (.ref a), x1] st h = jv_ev d 18 216 [some (.ref a), x1] (.ref a :: st) h := jq_nx (jv_insR jm_18 dX12_tellOne_215) rfl
theorem e18_216 : jv_ev d 18 216 lc st h = jv_ev d 18 217 lc (.int 0 :: st) h := jq_iconst (jv_insR jm_18 dX12_tellOne_216) (by decide)
theorem e18_217 : jv_ev d 18 217 lc st h = jv_ev d 18 220 lc (.int 9999 :: st) h := jq_sipush (jv_insR jm_18 dX12_tellOne_217) (by decide)
theorem e18_220 : jv_ev d 18 220 lc [z1, z0, .ref b, y0, y1] h = (jv_rc h b [(0, 27)]).bind fun y => (jv_cd d y [.ref b, z0, z1] h).bind fun r => jv_on r (fun v h => jv_ev d 18 223 lc (v.toList ++ [y0, y1]) h) (fun q h => some (.inr q, h)) := jq_V (as := [z0, z1]) (rest := [y0, y1]) (jv_insR jm_18 dX12_tellOne_220) jo_18 jV_1_283 rfl rfl rfl rfl
theorem e18_223 : jv_ev d 18 223 lc (.int w :: .int v :: .ref a :: st) h = (jv_ip h a 0 0 v w).bind fun h => jv_ev d 18 224 lc st h := jq_iast (jv_insR jm_18 dX12_tellOne_223)
theorem e18_224 : jv_ev d 18 224 [some (.ref a), x1] st h = jv_ev d 18 225 [some (.ref a), x1] (.ref a :: st) h := jq_nx (jv_insR jm_18 dX12_tellOne_224) rfl
theorem e18_225 : jv_ev d 18 225 lc st h = jv_ev d 18 226 lc (.int 4 :: st) h := jq_iconst (jv_insR jm_18 dX12_tellOne_225) (by decide)
theorem e18_226 : jv_ev d 18 226 lc [z0, .ref b] h = (jv_rc h b [(0, 23)]).bind fun y => (jv_cd d y [.ref b, z0] h).bind fun r => jv_on r (fun v h => jv_ev d 18 229 lc (v.toList ++ []) h) (fun q h => some (.inr q, h)) := jq_V (as := [z0]) (rest := []) (jv_insR jm_18 dX12_tellOne_226) jo_18 jV_1_287 rfl rfl rfl rfl
theorem e18_229 : jv_ev d 18 229 lc st h = jv_ev d 18 285 lc st h := jq_go (jv_insR jm_18 dX12_tellOne_229) (by decide)
theorem e18_232 : jv_ev d 18 232 [some (.ref a), x1] st h = jv_ev d 18 233 [some (.ref a), x1] (.ref a :: st) h := jq_nx (jv_insR jm_18 dX12_tellOne_232) rfl
theorem e18_233 : jv_ev d 18 233 lc (.ref a :: st) h = (jv_gf h a [(0, 5, .array .int)]).bind fun r => jv_ev d 18 236 lc (r :: st) h := jq_get (jv_insR jm_18 dX12_tellOne_233) jo_18 jF_1_20
theorem e18_236 : jv_ev d 18 236 [some (.ref a), x1] st h = jv_ev d 18 237 [some (.ref a), x1] (.ref a :: st) h := jq_nx (jv_insR jm_18 dX12_tellOne_236) rfl
theorem e18_237 : jv_ev d 18 237 lc (.ref a :: st) h = (jv_gf h a [(0, 11, .int)]).bind fun r => jv_ev d 18 240 lc (r :: st) h := jq_get (jv_insR jm_18 dX12_tellOne_237) jo_18 jF_1_212
theorem e18_240 : jv_ev d 18 240 lc (.int v :: .ref a :: st) h = (jv_ig h a 0 0 v).bind fun w => jv_ev d 18 241 lc (.int w :: st) h := jq_iald (jv_insR jm_18 dX12_tellOne_240)
theorem e18_241 : jv_ev d 18 241 lc st h = jv_ev d 18 243 lc (.int 23 :: st) h := jq_bipush (jv_insR jm_18 dX12_tellOne_241) (by decide)
theorem e18_243 : jv_ev d 18 243 lc (.int w :: .int v :: st) h = jv_ev d 18 244 lc (.int (v - w) :: st) h := jq_nx (jv_insR jm_18 dX12_tellOne_243) rfl
theorem e18_244 : jv_ev d 18 244 [x0, x1] (.int v :: st) h = jv_ev d 18 245 [x0, some (.int v)] st h := jq_nx (jv_insR jm_18 dX12_tellOne_244) rfl
theorem e18_245 : jv_ev d 18 245 [x0, some (.int v)] st h = jv_ev d 18 246 [x0, some (.int v)] (.int v :: st) h := jq_nx (jv_insR jm_18 dX12_tellOne_245) rfl
theorem e18_246 : jv_ev d 18 246 lc (.int v :: st) h = if v < 0 then jv_ev d 18 263 lc st h else jv_ev d 18 249 lc st h := jq_if (jv_insR jm_18 dX12_tellOne_246) rfl (by decide)
theorem e18_249 : jv_ev d 18 249 [some (.ref a), x1] st h = jv_ev d 18 250 [some (.ref a), x1] (.ref a :: st) h := jq_nx (jv_insR jm_18 dX12_tellOne_249) rfl
theorem e18_250 : jv_ev d 18 250 lc (.ref a :: st) h = (jv_gf h a [(0, 5, .array .int)]).bind fun r => jv_ev d 18 253 lc (r :: st) h := jq_get (jv_insR jm_18 dX12_tellOne_250) jo_18 jF_1_20
theorem e18_253 : jv_ev d 18 253 [some (.ref a), x1] st h = jv_ev d 18 254 [some (.ref a), x1] (.ref a :: st) h := jq_nx (jv_insR jm_18 dX12_tellOne_253) rfl
theorem e18_254 : jv_ev d 18 254 lc (.ref a :: st) h = (jv_gf h a [(0, 11, .int)]).bind fun r => jv_ev d 18 257 lc (r :: st) h := jq_get (jv_insR jm_18 dX12_tellOne_254) jo_18 jF_1_212
theorem e18_257 : jv_ev d 18 257 lc (.int v :: .ref a :: st) h = (jv_ig h a 0 0 v).bind fun w => jv_ev d 18 258 lc (.int w :: st) h := jq_iald (jv_insR jm_18 dX12_tellOne_257)
theorem e18_258 : jv_ev d 18 258 lc st h = jv_ev d 18 260 lc (.int 25 :: st) h := jq_bipush (jv_insR jm_18 dX12_tellOne_258) (by decide)
theorem e18_260 : jv_ev d 18 260 lc (.int w :: .int v :: st) h = if v ≤ w then jv_ev d 18 268 lc st h else jv_ev d 18 263 lc st h := jq_if (jv_insR jm_18 dX12_tellOne_260) rfl (by decide)
theorem e18_263 : jv_ev d 18 263 [some (.ref a), x1] st h = jv_ev d 18 264 [some (.ref a), x1] (.ref a :: st) h := jq_nx (jv_insR jm_18 dX12_tellOne_263) rfl
theorem e18_264 : jv_ev d 18 264 lc st h = jv_ev d 18 265 lc (.int 1 :: st) h := jq_iconst (jv_insR jm_18 dX12_tellOne_264) (by decide)
theorem e18_265 : jv_ev d 18 265 lc [z0, .ref b] h = (jv_rc h b [(0, 20)]).bind fun y => (jv_cd d y [.ref b, z0] h).bind fun r => jv_on r (fun v h => jv_ev d 18 268 lc (v.toList ++ []) h) (fun q h => some (.inr q, h)) := jq_V (as := [z0]) (rest := []) (jv_insR jm_18 dX12_tellOne_265) jo_18 jV_1_224 rfl rfl rfl rfl
theorem e18_268 : jv_ev d 18 268 [some (.ref a), x1] st h = jv_ev d 18 269 [some (.ref a), x1] (.ref a :: st) h := jq_nx (jv_insR jm_18 dX12_tellOne_268) rfl
theorem e18_269 : jv_ev d 18 269 lc (.ref a :: st) h = (jv_gf h a [(0, 13, .int)]).bind fun r => jv_ev d 18 272 lc (r :: st) h := jq_get (jv_insR jm_18 dX12_tellOne_269) jo_18 jF_1_209
theorem e18_272 : jv_ev d 18 272 lc (.int v :: st) h = if v ≤ 0 then jv_ev d 18 276 lc st h else jv_ev d 18 275 lc st h := jq_if (jv_insR jm_18 dX12_tellOne_272) rfl (by decide)
theorem e18_275 : jv_ev d 18 275 lc [] h = some (.inl none, h) := jq_retv (jv_insR jm_18 dX12_tellOne_275) jr_18
theorem e18_276 : jv_ev d 18 276 [some (.ref a), x1] st h = jv_ev d 18 277 [some (.ref a), x1] (.ref a :: st) h := jq_nx (jv_insR jm_18 dX12_tellOne_276) rfl
theorem e18_277 : jv_ev d 18 277 lc [.ref b] h = (jv_rc h b [(0, 21)]).bind fun y => (jv_cd d y [.ref b] h).bind fun r => jv_on r (fun v h => jv_ev d 18 280 lc (v.toList ++ []) h) (fun q h => some (.inr q, h)) := jq_V (as := []) (rest := []) (jv_insR jm_18 dX12_tellOne_277) jo_18 jV_1_230 rfl rfl rfl rfl
theorem e18_280 : jv_ev d 18 280 [some (.ref a), x1] st h = jv_ev d 18 281 [some (.ref a), x1] (.ref a :: st) h := jq_nx (jv_insR jm_18 dX12_tellOne_280) rfl
theorem e18_281 : jv_ev d 18 281 [x0, some (.int v)] st h = jv_ev d 18 282 [x0, some (.int v)] (.int v :: st) h := jq_nx (jv_insR jm_18 dX12_tellOne_281) rfl
theorem e18_282 : jv_ev d 18 282 lc [z0, .ref b] h = (jv_rc h b [(0, 30)]).bind fun y => (jv_cd d y [.ref b, z0] h).bind fun r => jv_on r (fun v h => jv_ev d 18 285 lc (v.toList ++ []) h) (fun q h => some (.inr q, h)) := jq_V (as := [z0]) (rest := []) (jv_insR jm_18 dX12_tellOne_282) jo_18 jV_1_290 rfl rfl rfl rfl
theorem e18_285 : jv_ev d 18 285 lc [] h = some (.inl none, h) := jq_retv (jv_insR jm_18 dX12_tellOne_285) jr_18
/-! 19: RainLoomModel.roomFor(II)V -/
theorem n19 : jv_cd (d + 1) 19 [.ref a0, .int i1, .int i2] h = jv_ev d 19 0 [some (.ref a0), some (.int i1), some (.int i2)] [] h := rfl
theorem e19_0 : jv_ev d 19 0 [x0, some (.int v), x2] st h = jv_ev d 19 1 [x0, some (.int v), x2] (.int v :: st) h := jq_nx (jv_insR jm_19 dX12_roomFor_0) rfl
theorem e19_1 : jv_ev d 19 1 [x0, x1, some (.int v)] st h = jv_ev d 19 2 [x0, x1, some (.int v)] (.int v :: st) h := jq_nx (jv_insR jm_19 dX12_roomFor_1) rfl
theorem e19_2 : jv_ev d 19 2 lc (.int w :: .int v :: st) h = if ¬ v = w then jv_ev d 19 10 lc st h else jv_ev d 19 5 lc st h := jq_if (jv_insR jm_19 dX12_roomFor_2) rfl (by decide)
theorem e19_5 : jv_ev d 19 5 [some (.ref a), x1, x2] st h = jv_ev d 19 6 [some (.ref a), x1, x2] (.ref a :: st) h := jq_nx (jv_insR jm_19 dX12_roomFor_5) rfl
theorem e19_6 : jv_ev d 19 6 lc st h = jv_ev d 19 7 lc (.int 2 :: st) h := jq_iconst (jv_insR jm_19 dX12_roomFor_6) (by decide)
theorem e19_7 : jv_ev d 19 7 lc [z0, .ref b] h = (jv_rc h b [(0, 20)]).bind fun y => (jv_cd d y [.ref b, z0] h).bind fun r => jv_on r (fun v h => jv_ev d 19 10 lc (v.toList ++ []) h) (fun q h => some (.inr q, h)) := jq_V (as := [z0]) (rest := []) (jv_insR jm_19 dX12_roomFor_7) jo_19 jV_1_224 rfl rfl rfl rfl
theorem e19_10 : jv_ev d 19 10 [some (.ref a), x1, x2] st h = jv_ev d 19 11 [some (.ref a), x1, x2] (.ref a :: st) h := jq_nx (jv_insR jm_19 dX12_roomFor_10) rfl
theorem e19_11 : jv_ev d 19 11 lc (.ref a :: st) h = (jv_gf h a [(0, 13, .int)]).bind fun r => jv_ev d 19 14 lc (r :: st) h := jq_get (jv_insR jm_19 dX12_roomFor_11) jo_19 jF_1_209
theorem e19_14 : jv_ev d 19 14 lc (.int v :: st) h = if ¬ v = 0 then jv_ev d 19 21 lc st h else jv_ev d 19 17 lc st h := jq_if (jv_insR jm_19 dX12_roomFor_14) rfl (by decide)
theorem e19_17 : jv_ev d 19 17 [some (.ref a), x1, x2] st h = jv_ev d 19 18 [some (.ref a), x1, x2] (.ref a :: st) h := jq_nx (jv_insR jm_19 dX12_roomFor_17) rfl
theorem e19_18 : jv_ev d 19 18 lc [.ref b] h = (jv_rc h b [(0, 21)]).bind fun y => (jv_cd d y [.ref b] h).bind fun r => jv_on r (fun v h => jv_ev d 19 21 lc (v.toList ++ []) h) (fun q h => some (.inr q, h)) := jq_V (as := []) (rest := []) (jv_insR jm_19 dX12_roomFor_18) jo_19 jV_1_230 rfl rfl rfl rfl
theorem e19_21 : jv_ev d 19 21 lc [] h = some (.inl none, h) := jq_retv (jv_insR jm_19 dX12_roomFor_21) jr_19
/-! 20: RainLoomModel.fail(I)V -/
theorem n20 : jv_cd (d + 1) 20 [.ref a0, .int i1] h = jv_ev d 20 0 [some (.ref a0), some (.int i1)] [] h := rfl
theorem e20_0 : jv_ev d 20 0 [some (.ref a), x1] st h = jv_ev d 20 1 [some (.ref a), x1] (.ref a :: st) h := jq_nx (jv_insR jm_20 dX12_fail_0) rfl
theorem e20_1 : jv_ev d 20 1 lc (.ref a :: st) h = (jv_gf h a [(0, 13, .int)]).bind fun r => jv_ev d 20 4 lc (r :: st) h := jq_get (jv_insR jm_20 dX12_fail_1) jo_20 jF_1_209
theorem e20_4 : jv_ev d 20 4 lc (.int v :: st) h = if v ≤ 0 then jv_ev d 20 8 lc st h else jv_ev d 20 7 lc st h := jq_if (jv_insR jm_20 dX12_fail_4) rfl (by decide)
theorem e20_7 : jv_ev d 20 7 lc [] h = some (.inl none, h) := jq_retv (jv_insR jm_20 dX12_fail_7) jr_20
theorem e20_8 : jv_ev d 20 8 [some (.ref a), x1] st h = jv_ev d 20 9 [some (.ref a), x1] (.ref a :: st) h := jq_nx (jv_insR jm_20 dX12_fail_8) rfl
theorem e20_9 : jv_ev d 20 9 [x0, some (.int v)] st h = jv_ev d 20 10 [x0, some (.int v)] (.int v :: st) h := jq_nx (jv_insR jm_20 dX12_fail_9) rfl
theorem e20_10 : jv_ev d 20 10 lc (r :: .ref a :: st) h = (jv_pf h a [(0, 13, .int)] r).bind fun h => jv_ev d 20 13 lc st h := jq_put (jv_insR jm_20 dX12_fail_10) jo_20 ji_20 jG_1_209
theorem e20_13 : jv_ev d 20 13 [some (.ref a), x1] st h = jv_ev d 20 14 [some (.ref a), x1] (.ref a :: st) h := jq_nx (jv_insR jm_20 dX12_fail_13) rfl
theorem e20_14 : jv_ev d 20 14 [some (.ref a), x1] st h = jv_ev d 20 15 [some (.ref a), x1] (.ref a :: st) h := jq_nx (jv_insR jm_20 dX12_fail_14) rfl
theorem e20_15 : jv_ev d 20 15 lc (.ref a :: st) h = (jv_gf h a [(0, 6, .array .int)]).bind fun r => jv_ev d 20 18 lc (r :: st) h := jq_get (jv_insR jm_20 dX12_fail_15) jo_20 jF_1_24
theorem e20_18 : jv_ev d 20 18 [some (.ref a), x1] st h = jv_ev d 20 19 [some (.ref a), x1] (.ref a :: st) h := jq_nx (jv_insR jm_20 dX12_fail_18) rfl
theorem e20_19 : jv_ev d 20 19 lc (.ref a :: st) h = (jv_gf h a [(0, 11, .int)]).bind fun r => jv_ev d 20 22 lc (r :: st) h := jq_get (jv_insR jm_20 dX12_fail_19) jo_20 jF_1_212
theorem e20_22 : jv_ev d 20 22 lc (.int v :: .ref a :: st) h = (jv_ig h a 0 0 v).bind fun w => jv_ev d 20 23 lc (.int w :: st) h := jq_iald (jv_insR jm_20 dX12_fail_22)
theorem e20_23 : jv_ev d 20 23 lc (r :: .ref a :: st) h = (jv_pf h a [(0, 14, .int)] r).bind fun h => jv_ev d 20 26 lc st h := jq_put (jv_insR jm_20 dX12_fail_23) jo_20 ji_20 jG_1_215
theorem e20_26 : jv_ev d 20 26 lc [] h = some (.inl none, h) := jq_retv (jv_insR jm_20 dX12_fail_26) jr_20
/-! 21: RainLoomModel.goesOn()V -/
theorem n21 : jv_cd (d + 1) 21 [.ref a0] h = jv_ev d 21 0 [some (.ref a0)] [] h := rfl
theorem e21_0 : jv_ev d 21 0 [some (.ref a)] st h = jv_ev d 21 1 [some (.ref a)] (.ref a :: st) h := jq_nx (jv_insR jm_21 dX12_goesOn_0) rfl
theorem e21_1 : jv_ev d 21 1 lc (.ref a :: st) h = (jv_gf h a [(0, 11, .int)]).bind fun r => jv_ev d 21 4 lc (r :: st) h := jq_get (jv_insR jm_21 dX12_goesOn_1) jo_21 jF_1_212
theorem e21_4 : jv_ev d 21 4 lc st h = jv_ev d 21 7 lc (.int 400 :: st) h := jq_sipush (jv_insR jm_21 dX12_goesOn_4) (by decide)
theorem e21_7 : jv_ev d 21 7 lc (.int w :: .int v :: st) h = if ¬ v = w then jv_ev d 21 18 lc st h else jv_ev d 21 10 lc st h := jq_if (jv_insR jm_21 dX12_goesOn_7) rfl (by decide)
theorem e21_10 : jv_ev d 21 10 [some (.ref a)] st h = jv_ev d 21 11 [some (.ref a)] (.ref a :: st) h := jq_nx (jv_insR jm_21 dX12_goesOn_10) rfl
theorem e21_11 : jv_ev d 21 11 lc st h = jv_ev d 21 12 lc (.int 2 :: st) h := jq_iconst (jv_insR jm_21 dX12_goesOn_11) (by decide)
theorem e21_12 : jv_ev d 21 12 lc [z0, .ref b] h = (jv_rc h b [(0, 20)]).bind fun y => (jv_cd d y [.ref b, z0] h).bind fun r => jv_on r (fun v h => jv_ev d 21 15 lc (v.toList ++ []) h) (fun q h => some (.inr q, h)) := jq_V (as := [z0]) (rest := []) (jv_insR jm_21 dX12_goesOn_12) jo_21 jV_1_224 rfl rfl rfl rfl
theorem e21_15 : jv_ev d 21 15 lc st h = jv_ev d 21 28 lc st h := jq_go (jv_insR jm_21 dX12_goesOn_15) (by decide)
theorem e21_18 : jv_ev d 21 18 [some (.ref a)] st h = jv_ev d 21 19 [some (.ref a)] (.ref a :: st) h := jq_nx (jv_insR jm_21 dX12_goesOn_18) rfl
theorem e21_19 : jv_ev d 21 19 lc (.ref a :: st) h = jv_ev d 21 20 lc (.ref a :: .ref a :: st) h := jq_nx (jv_insR jm_21 dX12_goesOn_19) rfl
theorem e21_20 : jv_ev d 21 20 lc (.ref a :: st) h = (jv_gf h a [(0, 11, .int)]).bind fun r => jv_ev d 21 23 lc (r :: st) h := jq_get (jv_insR jm_21 dX12_goesOn_20) jo_21 jF_1_212
theorem e21_23 : jv_ev d 21 23 lc st h = jv_ev d 21 24 lc (.int 1 :: st) h := jq_iconst (jv_insR jm_21 dX12_goesOn_23) (by decide)
theorem e21_24 : jv_ev d 21 24 lc (.int w :: .int v :: st) h = jv_ev d 21 25 lc (.int (v + w) :: st) h := jq_nx (jv_insR jm_21 dX12_goesOn_24) rfl
theorem e21_25 : jv_ev d 21 25 lc (r :: .ref a :: st) h = (jv_pf h a [(0, 11, .int)] r).bind fun h => jv_ev d 21 28 lc st h := jq_put (jv_insR jm_21 dX12_goesOn_25) jo_21 ji_21 jG_1_212
theorem e21_28 : jv_ev d 21 28 lc [] h = some (.inl none, h) := jq_retv (jv_insR jm_21 dX12_goesOn_28) jr_21
/-! 22: RainLoomModel.tellRow()V -/
theorem n22 : jv_cd (d + 1) 22 [.ref a0] h = jv_ev d 22 0 [some (.ref a0), none, none, none, none, none, none] [] h := rfl
theorem e22_0 : jv_ev d 22 0 [some (.ref a), x1, x2, x3, x4, x5, x6] st h = jv_ev d 22 1 [some (.ref a), x1, x2, x3, x4, x5, x6] (.ref a :: st) h := jq_nx (jv_insR jm_22 dX12_tellRow_0) rfl
theorem e22_1 : jv_ev d 22 1 lc (.ref a :: st) h = (jv_gf h a [(0, 11, .int)]).bind fun r => jv_ev d 22 4 lc (r :: st) h := jq_get (jv_insR jm_22 dX12_tellRow_1) jo_22 jF_1_212
theorem e22_4 : jv_ev d 22 4 [x0, x1, x2, x3, x4, x5, x6] (.int v :: st) h = jv_ev d 22 5 [x0, some (.int v), x2, x3, x4, x5, x6] st h := jq_nx (jv_insR jm_22 dX12_tellRow_4) rfl
theorem e22_5 : jv_ev d 22 5 [some (.ref a), x1, x2, x3, x4, x5, x6] st h = jv_ev d 22 6 [some (.ref a), x1, x2, x3, x4, x5, x6] (.ref a :: st) h := jq_nx (jv_insR jm_22 dX12_tellRow_5) rfl
theorem e22_6 : jv_ev d 22 6 lc st h = jv_ev d 22 7 lc (.int 1 :: st) h := jq_iconst (jv_insR jm_22 dX12_tellRow_6) (by decide)
theorem e22_7 : jv_ev d 22 7 lc [z0, .ref b] h = (jv_rc h b [(0, 23)]).bind fun y => (jv_cd d y [.ref b, z0] h).bind fun r => jv_on r (fun v h => jv_ev d 22 10 lc (v.toList ++ []) h) (fun q h => some (.inr q, h)) := jq_V (as := [z0]) (rest := []) (jv_insR jm_22 dX12_tellRow_7) jo_22 jV_1_287 rfl rfl rfl rfl
theorem e22_10 : jv_ev d 22 10 [some (.ref a), x1, x2, x3, x4, x5, x6] st h = jv_ev d 22 11 [some (.ref a), x1, x2, x3, x4, x5, x6] (.ref a :: st) h := jq_nx (jv_insR jm_22 dX12_tellRow_10) rfl
theorem e22_11 : jv_ev d 22 11 lc (.ref a :: st) h = (jv_gf h a [(0, 13, .int)]).bind fun r => jv_ev d 22 14 lc (r :: st) h := jq_get (jv_insR jm_22 dX12_tellRow_11) jo_22 jF_1_209
theorem e22_14 : jv_ev d 22 14 lc (.int v :: st) h = if ¬ v = 0 then jv_ev d 22 195 lc st h else jv_ev d 22 17 lc st h := jq_if (jv_insR jm_22 dX12_tellRow_14) rfl (by decide)
theorem e22_17 : jv_ev d 22 17 [some (.ref a), x1, x2, x3, x4, x5, x6] st h = jv_ev d 22 18 [some (.ref a), x1, x2, x3, x4, x5, x6] (.ref a :: st) h := jq_nx (jv_insR jm_22 dX12_tellRow_17) rfl
theorem e22_18 : jv_ev d 22 18 lc (.ref a :: st) h = (jv_gf h a [(0, 8, .array .long)]).bind fun r => jv_ev d 22 21 lc (r :: st) h := jq_get (jv_insR jm_22 dX12_tellRow_18) jo_22 jF_1_30
theorem e22_21 : jv_ev d 22 21 [x0, some (.int v), x2, x3, x4, x5, x6] st h = jv_ev d 22 22 [x0, some (.int v), x2, x3, x4, x5, x6] (.int v :: st) h := jq_nx (jv_insR jm_22 dX12_tellRow_21) rfl
theorem e22_22 : jv_ev d 22 22 lc (.int v :: .ref a :: st) h = (jv_lg h a v).bind fun w => jv_ev d 22 23 lc (.long w :: st) h := jq_lald (jv_insR jm_22 dX12_tellRow_22)
theorem e22_23 : jv_ev d 22 23 [x0, x1, x2, x3, x4, x5, x6] (.long lv :: st) h = jv_ev d 22 24 [x0, x1, some (.long lv), none, x4, x5, x6] st h := jq_nx (jv_insR jm_22 dX12_tellRow_23) rfl
theorem e22_24 : jv_ev d 22 24 lc st h = jv_ev d 22 25 lc (.int 0 :: st) h := jq_iconst (jv_insR jm_22 dX12_tellRow_24) (by decide)
theorem e22_25 : jv_ev d 22 25 [x0, x1, x2, x3, x4, x5, x6] (.int v :: st) h = jv_ev d 22 27 [x0, x1, x2, x3, some (.int v), x5, x6] st h := jq_nx (jv_insR jm_22 dX12_tellRow_25) rfl
theorem e22_27 : jv_ev d 22 27 [x0, x1, some (.long lv), none, x4, x5, x6] st h = jv_ev d 22 28 [x0, x1, some (.long lv), none, x4, x5, x6] (.long lv :: st) h := jq_nx (jv_insR jm_22 dX12_tellRow_27) rfl
theorem e22_28 : jv_ev d 22 28 [x0, x1, x2, x3, x4, x5, x6] (.long lv :: st) h = jv_ev d 22 30 [x0, x1, x2, x3, x4, some (.long lv), none] st h := jq_nx (jv_insR jm_22 dX12_tellRow_28) rfl
theorem e22_30 : jv_ev d 22 30 [x0, x1, x2, x3, x4, some (.long lv), none] st h = jv_ev d 22 32 [x0, x1, x2, x3, x4, some (.long lv), none] (.long lv :: st) h := jq_nx (jv_insR jm_22 dX12_tellRow_30) rfl
theorem e22_32 : jv_ev d 22 32 lc st h = jv_ev d 22 33 lc (.long 0 :: st) h := jq_lconst (jv_insR jm_22 dX12_tellRow_32) (by decide)
theorem e22_33 : jv_ev d 22 33 lc (.long lw :: .long lv :: st) h = jv_ev d 22 34 lc (.int (lg_cmp lv lw) :: st) h := jq_nx (jv_insR jm_22 dX12_tellRow_33) rfl
theorem e22_34 : jv_ev d 22 34 lc (.int v :: st) h = if v ≤ 0 then jv_ev d 22 51 lc st h else jv_ev d 22 37 lc st h := jq_if (jv_insR jm_22 dX12_tellRow_34) rfl (by decide)
theorem e22_37 : jv_ev d 22 37 [x0, x1, x2, x3, some (.int v), x5, x6] st h = jv_ev d 22 40 [x0, x1, x2, x3, some (.int (v + 1)), x5, x6] st h := jq_nx (jv_insR jm_22 dX12_tellRow_37) rfl
theorem e22_40 : jv_ev d 22 40 [x0, x1, x2, x3, x4, some (.long lv), none] st h = jv_ev d 22 42 [x0, x1, x2, x3, x4, some (.long lv), none] (.long lv :: st) h := jq_nx (jv_insR jm_22 dX12_tellRow_40) rfl
theorem e22_42 : jv_ev d 22 42 lc st h = jv_ev d 22 45 lc (.long (27) :: st) h := jq_ldc2 (jv_insR jm_22 dX12_tellRow_42) jo_22 jK_1_181
theorem e22_45 : jv_ev d 22 45 lc (.long lw :: .long lv :: st) h = if lw = 0 then none else jv_ev d 22 46 lc (.long (lv / lw) :: st) h := jq_ldiv (jv_insR jm_22 dX12_tellRow_45)
theorem e22_46 : jv_ev d 22 46 [x0, x1, x2, x3, x4, x5, x6] (.long lv :: st) h = jv_ev d 22 48 [x0, x1, x2, x3, x4, some (.long lv), none] st h := jq_nx (jv_insR jm_22 dX12_tellRow_46) rfl
theorem e22_48 : jv_ev d 22 48 lc st h = jv_ev d 22 30 lc st h := jq_go (jv_insR jm_22 dX12_tellRow_48) (by decide)
theorem e22_51 : jv_ev d 22 51 [some (.ref a), x1, x2, x3, x4, x5, x6] st h = jv_ev d 22 52 [some (.ref a), x1, x2, x3, x4, x5, x6] (.ref a :: st) h := jq_nx (jv_insR jm_22 dX12_tellRow_51) rfl
theorem e22_52 : jv_ev d 22 52 lc (.ref a :: st) h = (jv_gf h a [(0, 22, .array .int)]).bind fun r => jv_ev d 22 55 lc (r :: st) h := jq_get (jv_insR jm_22 dX12_tellRow_52) jo_22 jF_1_43
theorem e22_55 : jv_ev d 22 55 [some (.ref a), x1, x2, x3, x4, x5, x6] st h = jv_ev d 22 56 [some (.ref a), x1, x2, x3, x4, x5, x6] (.ref a :: st) h := jq_nx (jv_insR jm_22 dX12_tellRow_55) rfl
theorem e22_56 : jv_ev d 22 56 lc (.ref a :: st) h = (jv_gf h a [(0, 19, .int)]).bind fun r => jv_ev d 22 59 lc (r :: st) h := jq_get (jv_insR jm_22 dX12_tellRow_56) jo_22 jF_1_242
theorem e22_59 : jv_ev d 22 59 lc (.int v :: .ref a :: st) h = (jv_ig h a 0 0 v).bind fun w => jv_ev d 22 60 lc (.int w :: st) h := jq_iald (jv_insR jm_22 dX12_tellRow_59)
theorem e22_60 : jv_ev d 22 60 lc (.int v :: st) h = if ¬ v = 0 then jv_ev d 22 74 lc st h else jv_ev d 22 63 lc st h := jq_if (jv_insR jm_22 dX12_tellRow_60) rfl (by decide)
theorem e22_63 : jv_ev d 22 63 [some (.ref a), x1, x2, x3, x4, x5, x6] st h = jv_ev d 22 64 [some (.ref a), x1, x2, x3, x4, x5, x6] (.ref a :: st) h := jq_nx (jv_insR jm_22 dX12_tellRow_63) rfl
theorem e22_64 : jv_ev d 22 64 lc (.ref a :: st) h = (jv_gf h a [(0, 23, .array .int)]).bind fun r => jv_ev d 22 67 lc (r :: st) h := jq_get (jv_insR jm_22 dX12_tellRow_64) jo_22 jF_1_46
theorem e22_67 : jv_ev d 22 67 [some (.ref a), x1, x2, x3, x4, x5, x6] st h = jv_ev d 22 68 [some (.ref a), x1, x2, x3, x4, x5, x6] (.ref a :: st) h := jq_nx (jv_insR jm_22 dX12_tellRow_67) rfl
theorem e22_68 : jv_ev d 22 68 lc (.ref a :: st) h = (jv_gf h a [(0, 19, .int)]).bind fun r => jv_ev d 22 71 lc (r :: st) h := jq_get (jv_insR jm_22 dX12_tellRow_68) jo_22 jF_1_242
theorem e22_71 : jv_ev d 22 71 [x0, x1, x2, x3, some (.int v), x5, x6] st h = jv_ev d 22 73 [x0, x1, x2, x3, some (.int v), x5, x6] (.int v :: st) h := jq_nx (jv_insR jm_22 dX12_tellRow_71) rfl
theorem e22_73 : jv_ev d 22 73 lc (.int w :: .int v :: .ref a :: st) h = (jv_ip h a 0 0 v w).bind fun h => jv_ev d 22 74 lc st h := jq_iast (jv_insR jm_22 dX12_tellRow_73)
theorem e22_74 : jv_ev d 22 74 [x0, x1, x2, x3, some (.int v), x5, x6] st h = jv_ev d 22 76 [x0, x1, x2, x3, some (.int v), x5, x6] (.int v :: st) h := jq_nx (jv_insR jm_22 dX12_tellRow_74) rfl
theorem e22_76 : jv_ev d 22 76 [some (.ref a), x1, x2, x3, x4, x5, x6] st h = jv_ev d 22 77 [some (.ref a), x1, x2, x3, x4, x5, x6] (.ref a :: st) h := jq_nx (jv_insR jm_22 dX12_tellRow_76) rfl
theorem e22_77 : jv_ev d 22 77 lc (.ref a :: st) h = (jv_gf h a [(0, 23, .array .int)]).bind fun r => jv_ev d 22 80 lc (r :: st) h := jq_get (jv_insR jm_22 dX12_tellRow_77) jo_22 jF_1_46
theorem e22_80 : jv_ev d 22 80 [some (.ref a), x1, x2, x3, x4, x5, x6] st h = jv_ev d 22 81 [some (.ref a), x1, x2, x3, x4, x5, x6] (.ref a :: st) h := jq_nx (jv_insR jm_22 dX12_tellRow_80) rfl
theorem e22_81 : jv_ev d 22 81 lc (.ref a :: st) h = (jv_gf h a [(0, 19, .int)]).bind fun r => jv_ev d 22 84 lc (r :: st) h := jq_get (jv_insR jm_22 dX12_tellRow_81) jo_22 jF_1_242
theorem e22_84 : jv_ev d 22 84 lc (.int v :: .ref a :: st) h = (jv_ig h a 0 0 v).bind fun w => jv_ev d 22 85 lc (.int w :: st) h := jq_iald (jv_insR jm_22 dX12_tellRow_84)
theorem e22_85 : jv_ev d 22 85 lc (.int w :: .int v :: st) h = if v = w then jv_ev d 22 95 lc st h else jv_ev d 22 88 lc st h := jq_if (jv_insR jm_22 dX12_tellRow_85) rfl (by decide)
theorem e22_88 : jv_ev d 22 88 [some (.ref a), x1, x2, x3, x4, x5, x6] st h = jv_ev d 22 89 [some (.ref a), x1, x2, x3, x4, x5, x6] (.ref a :: st) h := jq_nx (jv_insR jm_22 dX12_tellRow_88) rfl
theorem e22_89 : jv_ev d 22 89 lc st h = jv_ev d 22 91 lc (.int 6 :: st) h := jq_bipush (jv_insR jm_22 dX12_tellRow_89) (by decide)
theorem e22_91 : jv_ev d 22 91 [x0, some (.int v), x2, x3, x4, x5, x6] st h = jv_ev d 22 92 [x0, some (.int v), x2, x3, x4, x5, x6] (.int v :: st) h := jq_nx (jv_insR jm_22 dX12_tellRow_91) rfl
theorem e22_92 : jv_ev d 22 92 lc [z1, z0, .ref b] h = (jv_rc h b [(0, 24)]).bind fun y => (jv_cd d y [.ref b, z0, z1] h).bind fun r => jv_on r (fun v h => jv_ev d 22 95 lc (v.toList ++ []) h) (fun q h => some (.inr q, h)) := jq_V (as := [z0, z1]) (rest := []) (jv_insR jm_22 dX12_tellRow_92) jo_22 jV_1_261 rfl rfl rfl rfl
theorem e22_95 : jv_ev d 22 95 [x0, x1, x2, x3, some (.int v), x5, x6] st h = jv_ev d 22 97 [x0, x1, x2, x3, some (.int v), x5, x6] (.int v :: st) h := jq_nx (jv_insR jm_22 dX12_tellRow_95) rfl
theorem e22_97 : jv_ev d 22 97 lc st h = jv_ev d 22 98 lc (.int 1 :: st) h := jq_iconst (jv_insR jm_22 dX12_tellRow_97) (by decide)
theorem e22_98 : jv_ev d 22 98 lc (.int w :: .int v :: st) h = jv_ev d 22 99 lc (.int (v - w) :: st) h := jq_nx (jv_insR jm_22 dX12_tellRow_98) rfl
theorem e22_99 : jv_ev d 22 99 [x0, x1, x2, x3, x4, x5, x6] (.int v :: st) h = jv_ev d 22 101 [x0, x1, x2, x3, x4, some (.int v), x6] st h := jq_nx (jv_insR jm_22 dX12_tellRow_99) rfl
theorem e22_101 : jv_ev d 22 101 [x0, x1, x2, x3, x4, some (.int v), x6] st h = jv_ev d 22 103 [x0, x1, x2, x3, x4, some (.int v), x6] (.int v :: st) h := jq_nx (jv_insR jm_22 dX12_tellRow_101) rfl
theorem e22_103 : jv_ev d 22 103 lc (.int v :: st) h = if v < 0 then jv_ev d 22 195 lc st h else jv_ev d 22 106 lc st h := jq_if (jv_insR jm_22 dX12_tellRow_103) rfl (by decide)
theorem e22_106 : jv_ev d 22 106 lc st h = jv_ev d 22 108 lc (.int 96 :: st) h := jq_bipush (jv_insR jm_22 dX12_tellRow_106) (by decide)
theorem e22_108 : jv_ev d 22 108 [x0, x1, some (.long lv), none, x4, x5, x6] st h = jv_ev d 22 109 [x0, x1, some (.long lv), none, x4, x5, x6] (.long lv :: st) h := jq_nx (jv_insR jm_22 dX12_tellRow_108) rfl
theorem e22_109 : jv_ev d 22 109 lc st h = jv_ev d 22 112 lc (.long (27) :: st) h := jq_ldc2 (jv_insR jm_22 dX12_tellRow_109) jo_22 jK_1_181
theorem e22_112 : jv_ev d 22 112 lc (.long lw :: .long lv :: st) h = if lw = 0 then none else jv_ev d 22 113 lc (.long (lv - lv / lw * lw) :: st) h := jq_lrem (jv_insR jm_22 dX12_tellRow_112)
theorem e22_113 : jv_ev d 22 113 lc (.long lv :: st) h = jv_ev d 22 114 lc (.int lv.toInt32 :: st) h := jq_nx (jv_insR jm_22 dX12_tellRow_113) rfl
theorem e22_114 : jv_ev d 22 114 lc (.int w :: .int v :: st) h = jv_ev d 22 115 lc (.int (v + w) :: st) h := jq_nx (jv_insR jm_22 dX12_tellRow_114) rfl
theorem e22_115 : jv_ev d 22 115 [x0, x1, x2, x3, x4, x5, x6] (.int v :: st) h = jv_ev d 22 117 [x0, x1, x2, x3, x4, x5, some (.int v)] st h := jq_nx (jv_insR jm_22 dX12_tellRow_115) rfl
theorem e22_117 : jv_ev d 22 117 [x0, x1, x2, x3, x4, x5, some (.int v)] st h = jv_ev d 22 119 [x0, x1, x2, x3, x4, x5, some (.int v)] (.int v :: st) h := jq_nx (jv_insR jm_22 dX12_tellRow_117) rfl
theorem e22_119 : jv_ev d 22 119 lc st h = jv_ev d 22 121 lc (.int 111 :: st) h := jq_bipush (jv_insR jm_22 dX12_tellRow_119) (by decide)
theorem e22_121 : jv_ev d 22 121 lc (.int w :: .int v :: st) h = if v = w then jv_ev d 22 138 lc st h else jv_ev d 22 124 lc st h := jq_if (jv_insR jm_22 dX12_tellRow_121) rfl (by decide)
theorem e22_124 : jv_ev d 22 124 [x0, x1, x2, x3, x4, x5, some (.int v)] st h = jv_ev d 22 126 [x0, x1, x2, x3, x4, x5, some (.int v)] (.int v :: st) h := jq_nx (jv_insR jm_22 dX12_tellRow_124) rfl
theorem e22_126 : jv_ev d 22 126 lc st h = jv_ev d 22 128 lc (.int 102 :: st) h := jq_bipush (jv_insR jm_22 dX12_tellRow_126) (by decide)
theorem e22_128 : jv_ev d 22 128 lc (.int w :: .int v :: st) h = if v ≤ w then jv_ev d 22 138 lc st h else jv_ev d 22 131 lc st h := jq_if (jv_insR jm_22 dX12_tellRow_128) rfl (by decide)
theorem e22_131 : jv_ev d 22 131 [some (.ref a), x1, x2, x3, x4, x5, x6] st h = jv_ev d 22 132 [some (.ref a), x1, x2, x3, x4, x5, x6] (.ref a :: st) h := jq_nx (jv_insR jm_22 dX12_tellRow_131) rfl
theorem e22_132 : jv_ev d 22 132 lc st h = jv_ev d 22 134 lc (.int 6 :: st) h := jq_bipush (jv_insR jm_22 dX12_tellRow_132) (by decide)
theorem e22_134 : jv_ev d 22 134 [x0, some (.int v), x2, x3, x4, x5, x6] st h = jv_ev d 22 135 [x0, some (.int v), x2, x3, x4, x5, x6] (.int v :: st) h := jq_nx (jv_insR jm_22 dX12_tellRow_134) rfl
theorem e22_135 : jv_ev d 22 135 lc [z1, z0, .ref b] h = (jv_rc h b [(0, 24)]).bind fun y => (jv_cd d y [.ref b, z0, z1] h).bind fun r => jv_on r (fun v h => jv_ev d 22 138 lc (v.toList ++ []) h) (fun q h => some (.inr q, h)) := jq_V (as := [z0, z1]) (rest := []) (jv_insR jm_22 dX12_tellRow_135) jo_22 jV_1_261 rfl rfl rfl rfl
theorem e22_138 : jv_ev d 22 138 [some (.ref a), x1, x2, x3, x4, x5, x6] st h = jv_ev d 22 139 [some (.ref a), x1, x2, x3, x4, x5, x6] (.ref a :: st) h := jq_nx (jv_insR jm_22 dX12_tellRow_138) rfl
theorem e22_139 : jv_ev d 22 139 lc (.ref a :: st) h = (jv_gf h a [(0, 24, .array .int)]).bind fun r => jv_ev d 22 142 lc (r :: st) h := jq_get (jv_insR jm_22 dX12_tellRow_139) jo_22 jF_1_49
theorem e22_142 : jv_ev d 22 142 lc st h = jv_ev d 22 144 lc (.int 48 :: st) h := jq_bipush (jv_insR jm_22 dX12_tellRow_142) (by decide)
theorem e22_144 : jv_ev d 22 144 [some (.ref a), x1, x2, x3, x4, x5, x6] st h = jv_ev d 22 145 [some (.ref a), x1, x2, x3, x4, x5, x6] (.ref a :: st) h := jq_nx (jv_insR jm_22 dX12_tellRow_144) rfl
theorem e22_145 : jv_ev d 22 145 lc (.ref a :: st) h = (jv_gf h a [(0, 19, .int)]).bind fun r => jv_ev d 22 148 lc (r :: st) h := jq_get (jv_insR jm_22 dX12_tellRow_145) jo_22 jF_1_242
theorem e22_148 : jv_ev d 22 148 lc (.int w :: .int v :: st) h = jv_ev d 22 149 lc (.int (v * w) :: st) h := jq_nx (jv_insR jm_22 dX12_tellRow_148) rfl
theorem e22_149 : jv_ev d 22 149 lc st h = jv_ev d 22 151 lc (.int 8 :: st) h := jq_bipush (jv_insR jm_22 dX12_tellRow_149) (by decide)
theorem e22_151 : jv_ev d 22 151 [some (.ref a), x1, x2, x3, x4, x5, x6] st h = jv_ev d 22 152 [some (.ref a), x1, x2, x3, x4, x5, x6] (.ref a :: st) h := jq_nx (jv_insR jm_22 dX12_tellRow_151) rfl
theorem e22_152 : jv_ev d 22 152 lc (.ref a :: st) h = (jv_gf h a [(0, 22, .array .int)]).bind fun r => jv_ev d 22 155 lc (r :: st) h := jq_get (jv_insR jm_22 dX12_tellRow_152) jo_22 jF_1_43
theorem e22_155 : jv_ev d 22 155 [some (.ref a), x1, x2, x3, x4, x5, x6] st h = jv_ev d 22 156 [some (.ref a), x1, x2, x3, x4, x5, x6] (.ref a :: st) h := jq_nx (jv_insR jm_22 dX12_tellRow_155) rfl
theorem e22_156 : jv_ev d 22 156 lc (.ref a :: st) h = (jv_gf h a [(0, 19, .int)]).bind fun r => jv_ev d 22 159 lc (r :: st) h := jq_get (jv_insR jm_22 dX12_tellRow_156) jo_22 jF_1_242
theorem e22_159 : jv_ev d 22 159 lc (.int v :: .ref a :: st) h = (jv_ig h a 0 0 v).bind fun w => jv_ev d 22 160 lc (.int w :: st) h := jq_iald (jv_insR jm_22 dX12_tellRow_159)
theorem e22_160 : jv_ev d 22 160 lc (.int w :: .int v :: st) h = jv_ev d 22 161 lc (.int (v * w) :: st) h := jq_nx (jv_insR jm_22 dX12_tellRow_160) rfl
theorem e22_161 : jv_ev d 22 161 lc (.int w :: .int v :: st) h = jv_ev d 22 162 lc (.int (v + w) :: st) h := jq_nx (jv_insR jm_22 dX12_tellRow_161) rfl
theorem e22_162 : jv_ev d 22 162 [x0, x1, x2, x3, x4, some (.int v), x6] st h = jv_ev d 22 164 [x0, x1, x2, x3, x4, some (.int v), x6] (.int v :: st) h := jq_nx (jv_insR jm_22 dX12_tellRow_162) rfl
theorem e22_164 : jv_ev d 22 164 lc (.int w :: .int v :: st) h = jv_ev d 22 165 lc (.int (v + w) :: st) h := jq_nx (jv_insR jm_22 dX12_tellRow_164) rfl
theorem e22_165 : jv_ev d 22 165 [x0, x1, x2, x3, x4, x5, some (.int v)] st h = jv_ev d 22 167 [x0, x1, x2, x3, x4, x5, some (.int v)] (.int v :: st) h := jq_nx (jv_insR jm_22 dX12_tellRow_165) rfl
theorem e22_167 : jv_ev d 22 167 lc st h = jv_ev d 22 169 lc (.int 111 :: st) h := jq_bipush (jv_insR jm_22 dX12_tellRow_167) (by decide)
theorem e22_169 : jv_ev d 22 169 lc (.int w :: .int v :: st) h = if ¬ v = w then jv_ev d 22 177 lc st h else jv_ev d 22 172 lc st h := jq_if (jv_insR jm_22 dX12_tellRow_169) rfl (by decide)
theorem e22_172 : jv_ev d 22 172 lc st h = jv_ev d 22 174 lc (.int (-2) :: st) h := jq_bipush (jv_insR jm_22 dX12_tellRow_172) (by decide)
theorem e22_174 : jv_ev d 22 174 lc st h = jv_ev d 22 182 lc st h := jq_go (jv_insR jm_22 dX12_tellRow_174) (by decide)
theorem e22_177 : jv_ev d 22 177 [x0, x1, x2, x3, x4, x5, some (.int v)] st h = jv_ev d 22 179 [x0, x1, x2, x3, x4, x5, some (.int v)] (.int v :: st) h := jq_nx (jv_insR jm_22 dX12_tellRow_177) rfl
theorem e22_179 : jv_ev d 22 179 lc st h = jv_ev d 22 181 lc (.int 97 :: st) h := jq_bipush (jv_insR jm_22 dX12_tellRow_179) (by decide)
theorem e22_181 : jv_ev d 22 181 lc (.int w :: .int v :: st) h = jv_ev d 22 182 lc (.int (v - w) :: st) h := jq_nx (jv_insR jm_22 dX12_tellRow_181) rfl
theorem e22_182 : jv_ev d 22 182 lc (.int w :: .int v :: .ref a :: st) h = (jv_ip h a 0 0 v w).bind fun h => jv_ev d 22 183 lc st h := jq_iast (jv_insR jm_22 dX12_tellRow_182)
theorem e22_183 : jv_ev d 22 183 [x0, x1, some (.long lv), none, x4, x5, x6] st h = jv_ev d 22 184 [x0, x1, some (.long lv), none, x4, x5, x6] (.long lv :: st) h := jq_nx (jv_insR jm_22 dX12_tellRow_183) rfl
theorem e22_184 : jv_ev d 22 184 lc st h = jv_ev d 22 187 lc (.long (27) :: st) h := jq_ldc2 (jv_insR jm_22 dX12_tellRow_184) jo_22 jK_1_181
theorem e22_187 : jv_ev d 22 187 lc (.long lw :: .long lv :: st) h = if lw = 0 then none else jv_ev d 22 188 lc (.long (lv / lw) :: st) h := jq_ldiv (jv_insR jm_22 dX12_tellRow_187)
theorem e22_188 : jv_ev d 22 188 [x0, x1, x2, x3, x4, x5, x6] (.long lv :: st) h = jv_ev d 22 189 [x0, x1, some (.long lv), none, x4, x5, x6] st h := jq_nx (jv_insR jm_22 dX12_tellRow_188) rfl
theorem e22_189 : jv_ev d 22 189 [x0, x1, x2, x3, x4, some (.int v), x6] st h = jv_ev d 22 192 [x0, x1, x2, x3, x4, some (.int (v + (-1))), x6] st h := jq_nx (jv_insR jm_22 dX12_tellRow_189) rfl
theorem e22_192 : jv_ev d 22 192 lc st h = jv_ev d 22 101 lc st h := jq_go (jv_insR jm_22 dX12_tellRow_192) (by decide)
theorem e22_195 : jv_ev d 22 195 [some (.ref a), x1, x2, x3, x4, x5, x6] st h = jv_ev d 22 196 [some (.ref a), x1, x2, x3, x4, x5, x6] (.ref a :: st) h := jq_nx (jv_insR jm_22 dX12_tellRow_195) rfl
theorem e22_196 : jv_ev d 22 196 lc st h = jv_ev d 22 197 lc (.int 4 :: st) h := jq_iconst (jv_insR jm_22 dX12_tellRow_196) (by decide)
theorem e22_197 : jv_ev d 22 197 lc [z0, .ref b] h = (jv_rc h b [(0, 23)]).bind fun y => (jv_cd d y [.ref b, z0] h).bind fun r => jv_on r (fun v h => jv_ev d 22 200 lc (v.toList ++ []) h) (fun q h => some (.inr q, h)) := jq_V (as := [z0]) (rest := []) (jv_insR jm_22 dX12_tellRow_197) jo_22 jV_1_287 rfl rfl rfl rfl
theorem e22_200 : jv_ev d 22 200 [some (.ref a), x1, x2, x3, x4, x5, x6] st h = jv_ev d 22 201 [some (.ref a), x1, x2, x3, x4, x5, x6] (.ref a :: st) h := jq_nx (jv_insR jm_22 dX12_tellRow_200) rfl
theorem e22_201 : jv_ev d 22 201 lc (.ref a :: st) h = (jv_gf h a [(0, 13, .int)]).bind fun r => jv_ev d 22 204 lc (r :: st) h := jq_get (jv_insR jm_22 dX12_tellRow_201) jo_22 jF_1_209
theorem e22_204 : jv_ev d 22 204 lc (.int v :: st) h = if ¬ v = 0 then jv_ev d 22 220 lc st h else jv_ev d 22 207 lc st h := jq_if (jv_insR jm_22 dX12_tellRow_204) rfl (by decide)
theorem e22_207 : jv_ev d 22 207 [some (.ref a), x1, x2, x3, x4, x5, x6] st h = jv_ev d 22 208 [some (.ref a), x1, x2, x3, x4, x5, x6] (.ref a :: st) h := jq_nx (jv_insR jm_22 dX12_tellRow_207) rfl
theorem e22_208 : jv_ev d 22 208 lc (.ref a :: st) h = (jv_gf h a [(0, 22, .array .int)]).bind fun r => jv_ev d 22 211 lc (r :: st) h := jq_get (jv_insR jm_22 dX12_tellRow_208) jo_22 jF_1_43
theorem e22_211 : jv_ev d 22 211 [some (.ref a), x1, x2, x3, x4, x5, x6] st h = jv_ev d 22 212 [some (.ref a), x1, x2, x3, x4, x5, x6] (.ref a :: st) h := jq_nx (jv_insR jm_22 dX12_tellRow_211) rfl
theorem e22_212 : jv_ev d 22 212 lc (.ref a :: st) h = (jv_gf h a [(0, 19, .int)]).bind fun r => jv_ev d 22 215 lc (r :: st) h := jq_get (jv_insR jm_22 dX12_tellRow_212) jo_22 jF_1_242
theorem e22_215 : jv_ev d 22 215 lc (.int v :: .ref b :: st) h = jv_ev d 22 216 lc (.int v :: .ref b :: .int v :: .ref b :: st) h := jq_nx (jv_insR jm_22 dX12_tellRow_215) rfl
theorem e22_216 : jv_ev d 22 216 lc (.int v :: .ref a :: st) h = (jv_ig h a 0 0 v).bind fun w => jv_ev d 22 217 lc (.int w :: st) h := jq_iald (jv_insR jm_22 dX12_tellRow_216)
theorem e22_217 : jv_ev d 22 217 lc st h = jv_ev d 22 218 lc (.int 1 :: st) h := jq_iconst (jv_insR jm_22 dX12_tellRow_217) (by decide)
theorem e22_218 : jv_ev d 22 218 lc (.int w :: .int v :: st) h = jv_ev d 22 219 lc (.int (v + w) :: st) h := jq_nx (jv_insR jm_22 dX12_tellRow_218) rfl
theorem e22_219 : jv_ev d 22 219 lc (.int w :: .int v :: .ref a :: st) h = (jv_ip h a 0 0 v w).bind fun h => jv_ev d 22 220 lc st h := jq_iast (jv_insR jm_22 dX12_tellRow_219)
theorem e22_220 : jv_ev d 22 220 lc [] h = some (.inl none, h) := jq_retv (jv_insR jm_22 dX12_tellRow_220) jr_22
/-! 23: RainLoomModel.must(I)V -/
theorem n23 : jv_cd (d + 1) 23 [.ref a0, .int i1] h = jv_ev d 23 0 [some (.ref a0), some (.int i1)] [] h := rfl
theorem e23_0 : jv_ev d 23 0 [some (.ref a), x1] st h = jv_ev d 23 1 [some (.ref a), x1] (.ref a :: st) h := jq_nx (jv_insR jm_23 dX12_must_0) rfl
theorem e23_1 : jv_ev d 23 1 [x0, some (.int v)] st h = jv_ev d 23 2 [x0, some (.int v)] (.int v :: st) h := jq_nx (jv_insR jm_23 dX12_must_1) rfl
theorem e23_2 : jv_ev d 23 2 lc [z0, .ref b] h = (jv_rc h b [(0, 17)]).bind fun y => (jv_cd d y [.ref b, z0] h).bind fun r => jv_on r (fun v h => jv_ev d 23 5 lc (v.toList ++ []) h) (fun q h => some (.inr q, h)) := jq_V (as := [z0]) (rest := []) (jv_insR jm_23 dX12_must_2) jo_23 jV_1_227 rfl rfl rfl rfl
theorem e23_5 : jv_ev d 23 5 lc (.int v :: st) h = if v = 0 then jv_ev d 23 15 lc st h else jv_ev d 23 8 lc st h := jq_if (jv_insR jm_23 dX12_must_5) rfl (by decide)
theorem e23_8 : jv_ev d 23 8 [some (.ref a), x1] st h = jv_ev d 23 9 [some (.ref a), x1] (.ref a :: st) h := jq_nx (jv_insR jm_23 dX12_must_8) rfl
theorem e23_9 : jv_ev d 23 9 lc [.ref b] h = (jv_rc h b [(0, 21)]).bind fun y => (jv_cd d y [.ref b] h).bind fun r => jv_on r (fun v h => jv_ev d 23 12 lc (v.toList ++ []) h) (fun q h => some (.inr q, h)) := jq_V (as := []) (rest := []) (jv_insR jm_23 dX12_must_9) jo_23 jV_1_230 rfl rfl rfl rfl
theorem e23_12 : jv_ev d 23 12 lc st h = jv_ev d 23 20 lc st h := jq_go (jv_insR jm_23 dX12_must_12) (by decide)
theorem e23_15 : jv_ev d 23 15 [some (.ref a), x1] st h = jv_ev d 23 16 [some (.ref a), x1] (.ref a :: st) h := jq_nx (jv_insR jm_23 dX12_must_15) rfl
theorem e23_16 : jv_ev d 23 16 lc st h = jv_ev d 23 17 lc (.int 1 :: st) h := jq_iconst (jv_insR jm_23 dX12_must_16) (by decide)
theorem e23_17 : jv_ev d 23 17 lc [z0, .ref b] h = (jv_rc h b [(0, 20)]).bind fun y => (jv_cd d y [.ref b, z0] h).bind fun r => jv_on r (fun v h => jv_ev d 23 20 lc (v.toList ++ []) h) (fun q h => some (.inr q, h)) := jq_V (as := [z0]) (rest := []) (jv_insR jm_23 dX12_must_17) jo_23 jV_1_224 rfl rfl rfl rfl
theorem e23_20 : jv_ev d 23 20 lc [] h = some (.inl none, h) := jq_retv (jv_insR jm_23 dX12_must_20) jr_23
/-! 24: RainLoomModel.wrong(II)V -/
theorem n24 : jv_cd (d + 1) 24 [.ref a0, .int i1, .int i2] h = jv_ev d 24 0 [some (.ref a0), some (.int i1), some (.int i2), none] [] h := rfl
theorem e24_0 : jv_ev d 24 0 [some (.ref a), x1, x2, x3] st h = jv_ev d 24 1 [some (.ref a), x1, x2, x3] (.ref a :: st) h := jq_nx (jv_insR jm_24 dX12_wrong_0) rfl
theorem e24_1 : jv_ev d 24 1 lc (.ref a :: st) h = (jv_gf h a [(0, 6, .array .int)]).bind fun r => jv_ev d 24 4 lc (r :: st) h := jq_get (jv_insR jm_24 dX12_wrong_1) jo_24 jF_1_24
theorem e24_4 : jv_ev d 24 4 [x0, x1, some (.int v), x3] st h = jv_ev d 24 5 [x0, x1, some (.int v), x3] (.int v :: st) h := jq_nx (jv_insR jm_24 dX12_wrong_4) rfl
theorem e24_5 : jv_ev d 24 5 lc (.int v :: .ref a :: st) h = (jv_ig h a 0 0 v).bind fun w => jv_ev d 24 6 lc (.int w :: st) h := jq_iald (jv_insR jm_24 dX12_wrong_5)
theorem e24_6 : jv_ev d 24 6 [x0, x1, x2, x3] (.int v :: st) h = jv_ev d 24 7 [x0, x1, x2, some (.int v)] st h := jq_nx (jv_insR jm_24 dX12_wrong_6) rfl
theorem e24_7 : jv_ev d 24 7 [some (.ref a), x1, x2, x3] st h = jv_ev d 24 8 [some (.ref a), x1, x2, x3] (.ref a :: st) h := jq_nx (jv_insR jm_24 dX12_wrong_7) rfl
theorem e24_8 : jv_ev d 24 8 lc (.ref a :: st) h = (jv_gf h a [(0, 13, .int)]).bind fun r => jv_ev d 24 11 lc (r :: st) h := jq_get (jv_insR jm_24 dX12_wrong_8) jo_24 jF_1_209
theorem e24_11 : jv_ev d 24 11 lc (.int v :: st) h = if 0 < v then jv_ev d 24 45 lc st h else jv_ev d 24 14 lc st h := jq_if (jv_insR jm_24 dX12_wrong_11) rfl (by decide)
theorem e24_14 : jv_ev d 24 14 [some (.ref a), x1, x2, x3] st h = jv_ev d 24 15 [some (.ref a), x1, x2, x3] (.ref a :: st) h := jq_nx (jv_insR jm_24 dX12_wrong_14) rfl
theorem e24_15 : jv_ev d 24 15 lc (.ref a :: st) h = (jv_gf h a [(0, 15, .int)]).bind fun r => jv_ev d 24 18 lc (r :: st) h := jq_get (jv_insR jm_24 dX12_wrong_15) jo_24 jF_1_218
theorem e24_18 : jv_ev d 24 18 lc (.int v :: st) h = if v = 0 then jv_ev d 24 46 lc st h else jv_ev d 24 21 lc st h := jq_if (jv_insR jm_24 dX12_wrong_18) rfl (by decide)
theorem e24_21 : jv_ev d 24 21 [x0, x1, x2, some (.int v)] st h = jv_ev d 24 22 [x0, x1, x2, some (.int v)] (.int v :: st) h := jq_nx (jv_insR jm_24 dX12_wrong_21) rfl
theorem e24_22 : jv_ev d 24 22 [some (.ref a), x1, x2, x3] st h = jv_ev d 24 23 [some (.ref a), x1, x2, x3] (.ref a :: st) h := jq_nx (jv_insR jm_24 dX12_wrong_22) rfl
theorem e24_23 : jv_ev d 24 23 lc (.ref a :: st) h = (jv_gf h a [(0, 16, .int)]).bind fun r => jv_ev d 24 26 lc (r :: st) h := jq_get (jv_insR jm_24 dX12_wrong_23) jo_24 jF_1_221
theorem e24_26 : jv_ev d 24 26 lc (.int w :: .int v :: st) h = if w < v then jv_ev d 24 45 lc st h else jv_ev d 24 29 lc st h := jq_if (jv_insR jm_24 dX12_wrong_26) rfl (by decide)
theorem e24_29 : jv_ev d 24 29 [x0, x1, x2, some (.int v)] st h = jv_ev d 24 30 [x0, x1, x2, some (.int v)] (.int v :: st) h := jq_nx (jv_insR jm_24 dX12_wrong_29) rfl
theorem e24_30 : jv_ev d 24 30 [some (.ref a), x1, x2, x3] st h = jv_ev d 24 31 [some (.ref a), x1, x2, x3] (.ref a :: st) h := jq_nx (jv_insR jm_24 dX12_wrong_30) rfl
theorem e24_31 : jv_ev d 24 31 lc (.ref a :: st) h = (jv_gf h a [(0, 16, .int)]).bind fun r => jv_ev d 24 34 lc (r :: st) h := jq_get (jv_insR jm_24 dX12_wrong_31) jo_24 jF_1_221
theorem e24_34 : jv_ev d 24 34 lc (.int w :: .int v :: st) h = if ¬ v = w then jv_ev d 24 46 lc st h else jv_ev d 24 37 lc st h := jq_if (jv_insR jm_24 dX12_wrong_34) rfl (by decide)
theorem e24_37 : jv_ev d 24 37 [x0, some (.int v), x2, x3] st h = jv_ev d 24 38 [x0, some (.int v), x2, x3] (.int v :: st) h := jq_nx (jv_insR jm_24 dX12_wrong_37) rfl
theorem e24_38 : jv_ev d 24 38 [some (.ref a), x1, x2, x3] st h = jv_ev d 24 39 [some (.ref a), x1, x2, x3] (.ref a :: st) h := jq_nx (jv_insR jm_24 dX12_wrong_38) rfl
theorem e24_39 : jv_ev d 24 39 lc (.ref a :: st) h = (jv_gf h a [(0, 15, .int)]).bind fun r => jv_ev d 24 42 lc (r :: st) h := jq_get (jv_insR jm_24 dX12_wrong_39) jo_24 jF_1_218
theorem e24_42 : jv_ev d 24 42 lc (.int w :: .int v :: st) h = if v < w then jv_ev d 24 46 lc st h else jv_ev d 24 45 lc st h := jq_if (jv_insR jm_24 dX12_wrong_42) rfl (by decide)
theorem e24_45 : jv_ev d 24 45 lc [] h = some (.inl none, h) := jq_retv (jv_insR jm_24 dX12_wrong_45) jr_24
theorem e24_46 : jv_ev d 24 46 [some (.ref a), x1, x2, x3] st h = jv_ev d 24 47 [some (.ref a), x1, x2, x3] (.ref a :: st) h := jq_nx (jv_insR jm_24 dX12_wrong_46) rfl
theorem e24_47 : jv_ev d 24 47 [x0, some (.int v), x2, x3] st h = jv_ev d 24 48 [x0, some (.int v), x2, x3] (.int v :: st) h := jq_nx (jv_insR jm_24 dX12_wrong_47) rfl
theorem e24_48 : jv_ev d 24 48 lc (r :: .ref a :: st) h = (jv_pf h a [(0, 15, .int)] r).bind fun h => jv_ev d 24 51 lc st h := jq_put (jv_insR jm_24 dX12_wrong_48) jo_24 ji_24 jG_1_218
theorem e24_51 : jv_ev d 24 51 [some (.ref a), x1, x2, x3] st h = jv_ev d 24 52 [some (.ref a), x1, x2, x3] (.ref a :: st) h := jq_nx (jv_insR jm_24 dX12_wrong_51) rfl
theorem e24_52 : jv_ev d 24 52 [x0, x1, x2, some (.int v)] st h = jv_ev d 24 53 [x0, x1, x2, some (.int v)] (.int v :: st) h := jq_nx (jv_insR jm_24 dX12_wrong_52) rfl
theorem e24_53 : jv_ev d 24 53 lc (r :: .ref a :: st) h = (jv_pf h a [(0, 16, .int)] r).bind fun h => jv_ev d 24 56 lc st h := jq_put (jv_insR jm_24 dX12_wrong_53) jo_24 ji_24 jG_1_221
theorem e24_56 : jv_ev d 24 56 lc [] h = some (.inl none, h) := jq_retv (jv_insR jm_24 dX12_wrong_56) jr_24
/-! 25: RainLoomModel.tellField()V -/
theorem n25 : jv_cd (d + 1) 25 [.ref a0] h = jv_ev d 25 0 [some (.ref a0), none, none] [] h := rfl
theorem e25_0 : jv_ev d 25 0 lc st h = jv_ev d 25 2 lc (.int 6 :: st) h := jq_bipush (jv_insR jm_25 dX12_tellField_0) (by decide)
theorem e25_2 : jv_ev d 25 2 [some (.ref a), x1, x2] st h = jv_ev d 25 3 [some (.ref a), x1, x2] (.ref a :: st) h := jq_nx (jv_insR jm_25 dX12_tellField_2) rfl
theorem e25_3 : jv_ev d 25 3 lc (.ref a :: st) h = (jv_gf h a [(0, 19, .int)]).bind fun r => jv_ev d 25 6 lc (r :: st) h := jq_get (jv_insR jm_25 dX12_tellField_3) jo_25 jF_1_242
theorem e25_6 : jv_ev d 25 6 lc (.int w :: .int v :: st) h = jv_ev d 25 7 lc (.int (v * w) :: st) h := jq_nx (jv_insR jm_25 dX12_tellField_6) rfl
theorem e25_7 : jv_ev d 25 7 [some (.ref a), x1, x2] st h = jv_ev d 25 8 [some (.ref a), x1, x2] (.ref a :: st) h := jq_nx (jv_insR jm_25 dX12_tellField_7) rfl
theorem e25_8 : jv_ev d 25 8 lc (.ref a :: st) h = (jv_gf h a [(0, 25, .array .int)]).bind fun r => jv_ev d 25 11 lc (r :: st) h := jq_get (jv_insR jm_25 dX12_tellField_8) jo_25 jF_1_52
theorem e25_11 : jv_ev d 25 11 [some (.ref a), x1, x2] st h = jv_ev d 25 12 [some (.ref a), x1, x2] (.ref a :: st) h := jq_nx (jv_insR jm_25 dX12_tellField_11) rfl
theorem e25_12 : jv_ev d 25 12 lc (.ref a :: st) h = (jv_gf h a [(0, 19, .int)]).bind fun r => jv_ev d 25 15 lc (r :: st) h := jq_get (jv_insR jm_25 dX12_tellField_12) jo_25 jF_1_242
theorem e25_15 : jv_ev d 25 15 lc (.int v :: .ref a :: st) h = (jv_ig h a 0 0 v).bind fun w => jv_ev d 25 16 lc (.int w :: st) h := jq_iald (jv_insR jm_25 dX12_tellField_15)
theorem e25_16 : jv_ev d 25 16 lc (.int w :: .int v :: st) h = jv_ev d 25 17 lc (.int (v + w) :: st) h := jq_nx (jv_insR jm_25 dX12_tellField_16) rfl
theorem e25_17 : jv_ev d 25 17 [x0, x1, x2] (.int v :: st) h = jv_ev d 25 18 [x0, some (.int v), x2] st h := jq_nx (jv_insR jm_25 dX12_tellField_17) rfl
theorem e25_18 : jv_ev d 25 18 [some (.ref a), x1, x2] st h = jv_ev d 25 19 [some (.ref a), x1, x2] (.ref a :: st) h := jq_nx (jv_insR jm_25 dX12_tellField_18) rfl
theorem e25_19 : jv_ev d 25 19 lc [.ref b] h = (jv_rc h b [(0, 26)]).bind fun y => (jv_cd d y [.ref b] h).bind fun r => jv_on r (fun v h => jv_ev d 25 22 lc (v.toList ++ []) h) (fun q h => some (.inr q, h)) := jq_V (as := []) (rest := []) (jv_insR jm_25 dX12_tellField_19) jo_25 jV_1_293 rfl rfl rfl rfl
theorem e25_22 : jv_ev d 25 22 [x0, x1, x2] (.int v :: st) h = jv_ev d 25 23 [x0, x1, some (.int v)] st h := jq_nx (jv_insR jm_25 dX12_tellField_22) rfl
theorem e25_23 : jv_ev d 25 23 [some (.ref a), x1, x2] st h = jv_ev d 25 24 [some (.ref a), x1, x2] (.ref a :: st) h := jq_nx (jv_insR jm_25 dX12_tellField_23) rfl
theorem e25_24 : jv_ev d 25 24 lc (.ref a :: st) h = (jv_gf h a [(0, 26, .array .int)]).bind fun r => jv_ev d 25 27 lc (r :: st) h := jq_get (jv_insR jm_25 dX12_tellField_24) jo_25 jF_1_55
theorem e25_27 : jv_ev d 25 27 [x0, some (.int v), x2] st h = jv_ev d 25 28 [x0, some (.int v), x2] (.int v :: st) h := jq_nx (jv_insR jm_25 dX12_tellField_27) rfl
theorem e25_28 : jv_ev d 25 28 [some (.ref a), x1, x2] st h = jv_ev d 25 29 [some (.ref a), x1, x2] (.ref a :: st) h := jq_nx (jv_insR jm_25 dX12_tellField_28) rfl
theorem e25_29 : jv_ev d 25 29 lc st h = jv_ev d 25 30 lc (.int 0 :: st) h := jq_iconst (jv_insR jm_25 dX12_tellField_29) (by decide)
theorem e25_30 : jv_ev d 25 30 lc st h = jv_ev d 25 32 lc (.int 99 :: st) h := jq_bipush (jv_insR jm_25 dX12_tellField_30) (by decide)
theorem e25_32 : jv_ev d 25 32 lc [z1, z0, .ref b, y0, y1] h = (jv_rc h b [(0, 27)]).bind fun y => (jv_cd d y [.ref b, z0, z1] h).bind fun r => jv_on r (fun v h => jv_ev d 25 35 lc (v.toList ++ [y0, y1]) h) (fun q h => some (.inr q, h)) := jq_V (as := [z0, z1]) (rest := [y0, y1]) (jv_insR jm_25 dX12_tellField_32) jo_25 jV_1_283 rfl rfl rfl rfl
theorem e25_35 : jv_ev d 25 35 lc (.int w :: .int v :: .ref a :: st) h = (jv_ip h a 0 0 v w).bind fun h => jv_ev d 25 36 lc st h := jq_iast (jv_insR jm_25 dX12_tellField_35)
theorem e25_36 : jv_ev d 25 36 [some (.ref a), x1, x2] st h = jv_ev d 25 37 [some (.ref a), x1, x2] (.ref a :: st) h := jq_nx (jv_insR jm_25 dX12_tellField_36) rfl
theorem e25_37 : jv_ev d 25 37 lc (.ref a :: st) h = (jv_gf h a [(0, 27, .array .int)]).bind fun r => jv_ev d 25 40 lc (r :: st) h := jq_get (jv_insR jm_25 dX12_tellField_37) jo_25 jF_1_58
theorem e25_40 : jv_ev d 25 40 [x0, some (.int v), x2] st h = jv_ev d 25 41 [x0, some (.int v), x2] (.int v :: st) h := jq_nx (jv_insR jm_25 dX12_tellField_40) rfl
theorem e25_41 : jv_ev d 25 41 [some (.ref a), x1, x2] st h = jv_ev d 25 42 [some (.ref a), x1, x2] (.ref a :: st) h := jq_nx (jv_insR jm_25 dX12_tellField_41) rfl
theorem e25_42 : jv_ev d 25 42 lc st h = jv_ev d 25 43 lc (.int 0 :: st) h := jq_iconst (jv_insR jm_25 dX12_tellField_42) (by decide)
theorem e25_43 : jv_ev d 25 43 lc st h = jv_ev d 25 46 lc (.int 999 :: st) h := jq_sipush (jv_insR jm_25 dX12_tellField_43) (by decide)
theorem e25_46 : jv_ev d 25 46 lc [z1, z0, .ref b, y0, y1] h = (jv_rc h b [(0, 27)]).bind fun y => (jv_cd d y [.ref b, z0, z1] h).bind fun r => jv_on r (fun v h => jv_ev d 25 49 lc (v.toList ++ [y0, y1]) h) (fun q h => some (.inr q, h)) := jq_V (as := [z0, z1]) (rest := [y0, y1]) (jv_insR jm_25 dX12_tellField_46) jo_25 jV_1_283 rfl rfl rfl rfl
theorem e25_49 : jv_ev d 25 49 lc (.int w :: .int v :: .ref a :: st) h = (jv_ip h a 0 0 v w).bind fun h => jv_ev d 25 50 lc st h := jq_iast (jv_insR jm_25 dX12_tellField_49)
theorem e25_50 : jv_ev d 25 50 [some (.ref a), x1, x2] st h = jv_ev d 25 51 [some (.ref a), x1, x2] (.ref a :: st) h := jq_nx (jv_insR jm_25 dX12_tellField_50) rfl
theorem e25_51 : jv_ev d 25 51 [x0, x1, some (.int v)] st h = jv_ev d 25 52 [x0, x1, some (.int v)] (.int v :: st) h := jq_nx (jv_insR jm_25 dX12_tellField_51) rfl
theorem e25_52 : jv_ev d 25 52 lc [z0, .ref b] h = (jv_rc h b [(0, 28)]).bind fun y => (jv_cd d y [.ref b, z0] h).bind fun r => jv_on r (fun v h => jv_ev d 25 55 lc (v.toList ++ []) h) (fun q h => some (.inr q, h)) := jq_V (as := [z0]) (rest := []) (jv_insR jm_25 dX12_tellField_52) jo_25 jV_1_297 rfl rfl rfl rfl
theorem e25_55 : jv_ev d 25 55 [some (.ref a), x1, x2] st h = jv_ev d 25 56 [some (.ref a), x1, x2] (.ref a :: st) h := jq_nx (jv_insR jm_25 dX12_tellField_55) rfl
theorem e25_56 : jv_ev d 25 56 lc (.ref a :: st) h = (jv_gf h a [(0, 13, .int)]).bind fun r => jv_ev d 25 59 lc (r :: st) h := jq_get (jv_insR jm_25 dX12_tellField_56) jo_25 jF_1_209
theorem e25_59 : jv_ev d 25 59 lc (.int v :: st) h = if ¬ v = 0 then jv_ev d 25 75 lc st h else jv_ev d 25 62 lc st h := jq_if (jv_insR jm_25 dX12_tellField_59) rfl (by decide)
theorem e25_62 : jv_ev d 25 62 [some (.ref a), x1, x2] st h = jv_ev d 25 63 [some (.ref a), x1, x2] (.ref a :: st) h := jq_nx (jv_insR jm_25 dX12_tellField_62) rfl
theorem e25_63 : jv_ev d 25 63 lc (.ref a :: st) h = (jv_gf h a [(0, 25, .array .int)]).bind fun r => jv_ev d 25 66 lc (r :: st) h := jq_get (jv_insR jm_25 dX12_tellField_63) jo_25 jF_1_52
theorem e25_66 : jv_ev d 25 66 [some (.ref a), x1, x2] st h = jv_ev d 25 67 [some (.ref a), x1, x2] (.ref a :: st) h := jq_nx (jv_insR jm_25 dX12_tellField_66) rfl
theorem e25_67 : jv_ev d 25 67 lc (.ref a :: st) h = (jv_gf h a [(0, 19, .int)]).bind fun r => jv_ev d 25 70 lc (r :: st) h := jq_get (jv_insR jm_25 dX12_tellField_67) jo_25 jF_1_242
theorem e25_70 : jv_ev d 25 70 lc (.int v :: .ref b :: st) h = jv_ev d 25 71 lc (.int v :: .ref b :: .int v :: .ref b :: st) h := jq_nx (jv_insR jm_25 dX12_tellField_70) rfl
theorem e25_71 : jv_ev d 25 71 lc (.int v :: .ref a :: st) h = (jv_ig h a 0 0 v).bind fun w => jv_ev d 25 72 lc (.int w :: st) h := jq_iald (jv_insR jm_25 dX12_tellField_71)
theorem e25_72 : jv_ev d 25 72 lc st h = jv_ev d 25 73 lc (.int 1 :: st) h := jq_iconst (jv_insR jm_25 dX12_tellField_72) (by decide)
theorem e25_73 : jv_ev d 25 73 lc (.int w :: .int v :: st) h = jv_ev d 25 74 lc (.int (v + w) :: st) h := jq_nx (jv_insR jm_25 dX12_tellField_73) rfl
theorem e25_74 : jv_ev d 25 74 lc (.int w :: .int v :: .ref a :: st) h = (jv_ip h a 0 0 v w).bind fun h => jv_ev d 25 75 lc st h := jq_iast (jv_insR jm_25 dX12_tellField_74)
theorem e25_75 : jv_ev d 25 75 lc [] h = some (.inl none, h) := jq_retv (jv_insR jm_25 dX12_tellField_75) jr_25
/-! 26: RainLoomModel.named()I -/
theorem n26 : jv_cd (d + 1) 26 [.ref a0] h = jv_ev d 26 0 [some (.ref a0), none, none] [] h := rfl
theorem e26_0 : jv_ev d 26 0 [some (.ref a), x1, x2] st h = jv_ev d 26 1 [some (.ref a), x1, x2] (.ref a :: st) h := jq_nx (jv_insR jm_26 dX12_named_0) rfl
theorem e26_1 : jv_ev d 26 1 lc (.ref a :: st) h = (jv_gf h a [(0, 11, .int)]).bind fun r => jv_ev d 26 4 lc (r :: st) h := jq_get (jv_insR jm_26 dX12_named_1) jo_26 jF_1_212
theorem e26_4 : jv_ev d 26 4 [x0, x1, x2] (.int v :: st) h = jv_ev d 26 5 [x0, some (.int v), x2] st h := jq_nx (jv_insR jm_26 dX12_named_4) rfl
theorem e26_5 : jv_ev d 26 5 [some (.ref a), x1, x2] st h = jv_ev d 26 6 [some (.ref a), x1, x2] (.ref a :: st) h := jq_nx (jv_insR jm_26 dX12_named_5) rfl
theorem e26_6 : jv_ev d 26 6 lc st h = jv_ev d 26 7 lc (.int 1 :: st) h := jq_iconst (jv_insR jm_26 dX12_named_6) (by decide)
theorem e26_7 : jv_ev d 26 7 lc [z0, .ref b] h = (jv_rc h b [(0, 23)]).bind fun y => (jv_cd d y [.ref b, z0] h).bind fun r => jv_on r (fun v h => jv_ev d 26 10 lc (v.toList ++ []) h) (fun q h => some (.inr q, h)) := jq_V (as := [z0]) (rest := []) (jv_insR jm_26 dX12_named_7) jo_26 jV_1_287 rfl rfl rfl rfl
theorem e26_10 : jv_ev d 26 10 lc st h = jv_ev d 26 11 lc (.int 0 :: st) h := jq_iconst (jv_insR jm_26 dX12_named_10) (by decide)
theorem e26_11 : jv_ev d 26 11 [x0, x1, x2] (.int v :: st) h = jv_ev d 26 12 [x0, x1, some (.int v)] st h := jq_nx (jv_insR jm_26 dX12_named_11) rfl
theorem e26_12 : jv_ev d 26 12 [x0, x1, some (.int v)] st h = jv_ev d 26 13 [x0, x1, some (.int v)] (.int v :: st) h := jq_nx (jv_insR jm_26 dX12_named_12) rfl
theorem e26_13 : jv_ev d 26 13 [some (.ref a), x1, x2] st h = jv_ev d 26 14 [some (.ref a), x1, x2] (.ref a :: st) h := jq_nx (jv_insR jm_26 dX12_named_13) rfl
theorem e26_14 : jv_ev d 26 14 lc (.ref a :: st) h = (jv_gf h a [(0, 20, .int)]).bind fun r => jv_ev d 26 17 lc (r :: st) h := jq_get (jv_insR jm_26 dX12_named_14) jo_26 jF_1_245
theorem e26_17 : jv_ev d 26 17 lc (.int w :: .int v :: st) h = if w ≤ v then jv_ev d 26 55 lc st h else jv_ev d 26 20 lc st h := jq_if (jv_insR jm_26 dX12_named_17) rfl (by decide)
theorem e26_20 : jv_ev d 26 20 [some (.ref a), x1, x2] st h = jv_ev d 26 21 [some (.ref a), x1, x2] (.ref a :: st) h := jq_nx (jv_insR jm_26 dX12_named_20) rfl
theorem e26_21 : jv_ev d 26 21 lc (.ref a :: st) h = (jv_gf h a [(0, 13, .int)]).bind fun r => jv_ev d 26 24 lc (r :: st) h := jq_get (jv_insR jm_26 dX12_named_21) jo_26 jF_1_209
theorem e26_24 : jv_ev d 26 24 lc (.int v :: st) h = if ¬ v = 0 then jv_ev d 26 55 lc st h else jv_ev d 26 27 lc st h := jq_if (jv_insR jm_26 dX12_named_24) rfl (by decide)
theorem e26_27 : jv_ev d 26 27 [some (.ref a), x1, x2] st h = jv_ev d 26 28 [some (.ref a), x1, x2] (.ref a :: st) h := jq_nx (jv_insR jm_26 dX12_named_27) rfl
theorem e26_28 : jv_ev d 26 28 lc (.ref a :: st) h = (jv_gf h a [(0, 21, .array .long)]).bind fun r => jv_ev d 26 31 lc (r :: st) h := jq_get (jv_insR jm_26 dX12_named_28) jo_26 jF_1_40
theorem e26_31 : jv_ev d 26 31 [x0, x1, some (.int v)] st h = jv_ev d 26 32 [x0, x1, some (.int v)] (.int v :: st) h := jq_nx (jv_insR jm_26 dX12_named_31) rfl
theorem e26_32 : jv_ev d 26 32 lc (.int v :: .ref a :: st) h = (jv_lg h a v).bind fun w => jv_ev d 26 33 lc (.long w :: st) h := jq_lald (jv_insR jm_26 dX12_named_32)
theorem e26_33 : jv_ev d 26 33 [some (.ref a), x1, x2] st h = jv_ev d 26 34 [some (.ref a), x1, x2] (.ref a :: st) h := jq_nx (jv_insR jm_26 dX12_named_33) rfl
theorem e26_34 : jv_ev d 26 34 lc (.ref a :: st) h = (jv_gf h a [(0, 8, .array .long)]).bind fun r => jv_ev d 26 37 lc (r :: st) h := jq_get (jv_insR jm_26 dX12_named_34) jo_26 jF_1_30
theorem e26_37 : jv_ev d 26 37 [x0, some (.int v), x2] st h = jv_ev d 26 38 [x0, some (.int v), x2] (.int v :: st) h := jq_nx (jv_insR jm_26 dX12_named_37) rfl
theorem e26_38 : jv_ev d 26 38 lc (.int v :: .ref a :: st) h = (jv_lg h a v).bind fun w => jv_ev d 26 39 lc (.long w :: st) h := jq_lald (jv_insR jm_26 dX12_named_38)
theorem e26_39 : jv_ev d 26 39 lc (.long lw :: .long lv :: st) h = jv_ev d 26 40 lc (.int (lg_cmp lv lw) :: st) h := jq_nx (jv_insR jm_26 dX12_named_39) rfl
theorem e26_40 : jv_ev d 26 40 lc (.int v :: st) h = if ¬ v = 0 then jv_ev d 26 49 lc st h else jv_ev d 26 43 lc st h := jq_if (jv_insR jm_26 dX12_named_40) rfl (by decide)
theorem e26_43 : jv_ev d 26 43 [some (.ref a), x1, x2] st h = jv_ev d 26 44 [some (.ref a), x1, x2] (.ref a :: st) h := jq_nx (jv_insR jm_26 dX12_named_43) rfl
theorem e26_44 : jv_ev d 26 44 lc st h = jv_ev d 26 45 lc (.int 3 :: st) h := jq_iconst (jv_insR jm_26 dX12_named_44) (by decide)
theorem e26_45 : jv_ev d 26 45 [x0, some (.int v), x2] st h = jv_ev d 26 46 [x0, some (.int v), x2] (.int v :: st) h := jq_nx (jv_insR jm_26 dX12_named_45) rfl
theorem e26_46 : jv_ev d 26 46 lc [z1, z0, .ref b] h = (jv_rc h b [(0, 24)]).bind fun y => (jv_cd d y [.ref b, z0, z1] h).bind fun r => jv_on r (fun v h => jv_ev d 26 49 lc (v.toList ++ []) h) (fun q h => some (.inr q, h)) := jq_V (as := [z0, z1]) (rest := []) (jv_insR jm_26 dX12_named_46) jo_26 jV_1_261 rfl rfl rfl rfl
theorem e26_49 : jv_ev d 26 49 [x0, x1, some (.int v)] st h = jv_ev d 26 52 [x0, x1, some (.int (v + 1))] st h := jq_nx (jv_insR jm_26 dX12_named_49) rfl
theorem e26_52 : jv_ev d 26 52 lc st h = jv_ev d 26 12 lc st h := jq_go (jv_insR jm_26 dX12_named_52) (by decide)
theorem e26_55 : jv_ev d 26 55 [x0, some (.int v), x2] st h = jv_ev d 26 56 [x0, some (.int v), x2] (.int v :: st) h := jq_nx (jv_insR jm_26 dX12_named_55) rfl
theorem e26_56 : jv_ev d 26 56 lc [.int v] h = some (.inl (some (.int v)), h) := jq_reti (jv_insR jm_26 dX12_named_56) jr_26
/-! 27: RainLoomModel.bounded(II)I -/
theorem n27 : jv_cd (d + 1) 27 [.ref a0, .int i1, .int i2] h = jv_ev d 27 0 [some (.ref a0), some (.int i1), some (.int i2), none] [] h := rfl
theorem e27_0 : jv_ev d 27 0 [some (.ref a), x1, x2, x3] st h = jv_ev d 27 1 [some (.ref a), x1, x2, x3] (.ref a :: st) h := jq_nx (jv_insR jm_27 dX12_bounded_0) rfl
theorem e27_1 : jv_ev d 27 1 lc (.ref a :: st) h = (jv_gf h a [(0, 13, .int)]).bind fun r => jv_ev d 27 4 lc (r :: st) h := jq_get (jv_insR jm_27 dX12_bounded_1) jo_27 jF_1_209
theorem e27_4 : jv_ev d 27 4 lc (.int v :: st) h = if 0 < v then jv_ev d 27 15 lc st h else jv_ev d 27 7 lc st h := jq_if (jv_insR jm_27 dX12_bounded_4) rfl (by decide)
theorem e27_7 : jv_ev d 27 7 [some (.ref a), x1, x2, x3] st h = jv_ev d 27 8 [some (.ref a), x1, x2, x3] (.ref a :: st) h := jq_nx (jv_insR jm_27 dX12_bounded_7) rfl
theorem e27_8 : jv_ev d 27 8 lc st h = jv_ev d 27 9 lc (.int 2 :: st) h := jq_iconst (jv_insR jm_27 dX12_bounded_8) (by decide)
theorem e27_9 : jv_ev d 27 9 lc [z0, .ref b] h = (jv_rc h b [(0, 17)]).bind fun y => (jv_cd d y [.ref b, z0] h).bind fun r => jv_on r (fun v h => jv_ev d 27 12 lc (v.toList ++ []) h) (fun q h => some (.inr q, h)) := jq_V (as := [z0]) (rest := []) (jv_insR jm_27 dX12_bounded_9) jo_27 jV_1_227 rfl rfl rfl rfl
theorem e27_12 : jv_ev d 27 12 lc (.int v :: st) h = if ¬ v = 0 then jv_ev d 27 22 lc st h else jv_ev d 27 15 lc st h := jq_if (jv_insR jm_27 dX12_bounded_12) rfl (by decide)
theorem e27_15 : jv_ev d 27 15 [some (.ref a), x1, x2, x3] st h = jv_ev d 27 16 [some (.ref a), x1, x2, x3] (.ref a :: st) h := jq_nx (jv_insR jm_27 dX12_bounded_15) rfl
theorem e27_16 : jv_ev d 27 16 lc st h = jv_ev d 27 17 lc (.int 1 :: st) h := jq_iconst (jv_insR jm_27 dX12_bounded_16) (by decide)
theorem e27_17 : jv_ev d 27 17 lc [z0, .ref b] h = (jv_rc h b [(0, 20)]).bind fun y => (jv_cd d y [.ref b, z0] h).bind fun r => jv_on r (fun v h => jv_ev d 27 20 lc (v.toList ++ []) h) (fun q h => some (.inr q, h)) := jq_V (as := [z0]) (rest := []) (jv_insR jm_27 dX12_bounded_17) jo_27 jV_1_224 rfl rfl rfl rfl
theorem e27_20 : jv_ev d 27 20 [x0, some (.int v), x2, x3] st h = jv_ev d 27 21 [x0, some (.int v), x2, x3] (.int v :: st) h := jq_nx (jv_insR jm_27 dX12_bounded_20) rfl
theorem e27_21 : jv_ev d 27 21 lc [.int v] h = some (.inl (some (.int v)), h) := jq_reti (jv_insR jm_27 dX12_bounded_21) jr_27
theorem e27_22 : jv_ev d 27 22 [some (.ref a), x1, x2, x3] st h = jv_ev d 27 23 [some (.ref a), x1, x2, x3] (.ref a :: st) h := jq_nx (jv_insR jm_27 dX12_bounded_22) rfl
theorem e27_23 : jv_ev d 27 23 lc (.ref a :: st) h = (jv_gf h a [(0, 7, .array .int)]).bind fun r => jv_ev d 27 26 lc (r :: st) h := jq_get (jv_insR jm_27 dX12_bounded_23) jo_27 jF_1_27
theorem e27_26 : jv_ev d 27 26 [some (.ref a), x1, x2, x3] st h = jv_ev d 27 27 [some (.ref a), x1, x2, x3] (.ref a :: st) h := jq_nx (jv_insR jm_27 dX12_bounded_26) rfl
theorem e27_27 : jv_ev d 27 27 lc (.ref a :: st) h = (jv_gf h a [(0, 11, .int)]).bind fun r => jv_ev d 27 30 lc (r :: st) h := jq_get (jv_insR jm_27 dX12_bounded_27) jo_27 jF_1_212
theorem e27_30 : jv_ev d 27 30 lc (.int v :: .ref a :: st) h = (jv_ig h a 0 0 v).bind fun w => jv_ev d 27 31 lc (.int w :: st) h := jq_iald (jv_insR jm_27 dX12_bounded_30)
theorem e27_31 : jv_ev d 27 31 [x0, x1, x2, x3] (.int v :: st) h = jv_ev d 27 32 [x0, x1, x2, some (.int v)] st h := jq_nx (jv_insR jm_27 dX12_bounded_31) rfl
theorem e27_32 : jv_ev d 27 32 [x0, x1, x2, some (.int v)] st h = jv_ev d 27 33 [x0, x1, x2, some (.int v)] (.int v :: st) h := jq_nx (jv_insR jm_27 dX12_bounded_32) rfl
theorem e27_33 : jv_ev d 27 33 [x0, some (.int v), x2, x3] st h = jv_ev d 27 34 [x0, some (.int v), x2, x3] (.int v :: st) h := jq_nx (jv_insR jm_27 dX12_bounded_33) rfl
theorem e27_34 : jv_ev d 27 34 lc (.int w :: .int v :: st) h = if v < w then jv_ev d 27 42 lc st h else jv_ev d 27 37 lc st h := jq_if (jv_insR jm_27 dX12_bounded_34) rfl (by decide)
theorem e27_37 : jv_ev d 27 37 [x0, x1, x2, some (.int v)] st h = jv_ev d 27 38 [x0, x1, x2, some (.int v)] (.int v :: st) h := jq_nx (jv_insR jm_27 dX12_bounded_37) rfl
theorem e27_38 : jv_ev d 27 38 [x0, x1, some (.int v), x3] st h = jv_ev d 27 39 [x0, x1, some (.int v), x3] (.int v :: st) h := jq_nx (jv_insR jm_27 dX12_bounded_38) rfl
theorem e27_39 : jv_ev d 27 39 lc (.int w :: .int v :: st) h = if v ≤ w then jv_ev d 27 51 lc st h else jv_ev d 27 42 lc st h := jq_if (jv_insR jm_27 dX12_bounded_39) rfl (by decide)
theorem e27_42 : jv_ev d 27 42 [some (.ref a), x1, x2, x3] st h = jv_ev d 27 43 [some (.ref a), x1, x2, x3] (.ref a :: st) h := jq_nx (jv_insR jm_27 dX12_bounded_42) rfl
theorem e27_43 : jv_ev d 27 43 lc st h = jv_ev d 27 44 lc (.int 5 :: st) h := jq_iconst (jv_insR jm_27 dX12_bounded_43) (by decide)
theorem e27_44 : jv_ev d 27 44 [some (.ref a), x1, x2, x3] st h = jv_ev d 27 45 [some (.ref a), x1, x2, x3] (.ref a :: st) h := jq_nx (jv_insR jm_27 dX12_bounded_44) rfl
theorem e27_45 : jv_ev d 27 45 lc (.ref a :: st) h = (jv_gf h a [(0, 11, .int)]).bind fun r => jv_ev d 27 48 lc (r :: st) h := jq_get (jv_insR jm_27 dX12_bounded_45) jo_27 jF_1_212
theorem e27_48 : jv_ev d 27 48 lc [z1, z0, .ref b] h = (jv_rc h b [(0, 24)]).bind fun y => (jv_cd d y [.ref b, z0, z1] h).bind fun r => jv_on r (fun v h => jv_ev d 27 51 lc (v.toList ++ []) h) (fun q h => some (.inr q, h)) := jq_V (as := [z0, z1]) (rest := []) (jv_insR jm_27 dX12_bounded_48) jo_27 jV_1_261 rfl rfl rfl rfl
theorem e27_51 : jv_ev d 27 51 [some (.ref a), x1, x2, x3] st h = jv_ev d 27 52 [some (.ref a), x1, x2, x3] (.ref a :: st) h := jq_nx (jv_insR jm_27 dX12_bounded_51) rfl
theorem e27_52 : jv_ev d 27 52 lc [.ref b] h = (jv_rc h b [(0, 21)]).bind fun y => (jv_cd d y [.ref b] h).bind fun r => jv_on r (fun v h => jv_ev d 27 55 lc (v.toList ++ []) h) (fun q h => some (.inr q, h)) := jq_V (as := []) (rest := []) (jv_insR jm_27 dX12_bounded_52) jo_27 jV_1_230 rfl rfl rfl rfl
theorem e27_55 : jv_ev d 27 55 [x0, x1, x2, some (.int v)] st h = jv_ev d 27 56 [x0, x1, x2, some (.int v)] (.int v :: st) h := jq_nx (jv_insR jm_27 dX12_bounded_55) rfl
theorem e27_56 : jv_ev d 27 56 lc [.int v] h = some (.inl (some (.int v)), h) := jq_reti (jv_insR jm_27 dX12_bounded_56) jr_27
/-! 28: RainLoomModel.ends(I)V -/
theorem n28 : jv_cd (d + 1) 28 [.ref a0, .int i1] h = jv_ev d 28 0 [some (.ref a0), some (.int i1)] [] h := rfl
theorem e28_0 : jv_ev d 28 0 [some (.ref a), x1] st h = jv_ev d 28 1 [some (.ref a), x1] (.ref a :: st) h := jq_nx (jv_insR jm_28 dX12_ends_0) rfl
theorem e28_1 : jv_ev d 28 1 lc st h = jv_ev d 28 2 lc (.int 4 :: st) h := jq_iconst (jv_insR jm_28 dX12_ends_1) (by decide)
theorem e28_2 : jv_ev d 28 2 lc [z0, .ref b] h = (jv_rc h b [(0, 23)]).bind fun y => (jv_cd d y [.ref b, z0] h).bind fun r => jv_on r (fun v h => jv_ev d 28 5 lc (v.toList ++ []) h) (fun q h => some (.inr q, h)) := jq_V (as := [z0]) (rest := []) (jv_insR jm_28 dX12_ends_2) jo_28 jV_1_287 rfl rfl rfl rfl
theorem e28_5 : jv_ev d 28 5 [some (.ref a), x1] st h = jv_ev d 28 6 [some (.ref a), x1] (.ref a :: st) h := jq_nx (jv_insR jm_28 dX12_ends_5) rfl
theorem e28_6 : jv_ev d 28 6 lc (.ref a :: st) h = (jv_gf h a [(0, 13, .int)]).bind fun r => jv_ev d 28 9 lc (r :: st) h := jq_get (jv_insR jm_28 dX12_ends_6) jo_28 jF_1_209
theorem e28_9 : jv_ev d 28 9 lc (.int v :: st) h = if v ≤ 0 then jv_ev d 28 13 lc st h else jv_ev d 28 12 lc st h := jq_if (jv_insR jm_28 dX12_ends_9) rfl (by decide)
theorem e28_12 : jv_ev d 28 12 lc [] h = some (.inl none, h) := jq_retv (jv_insR jm_28 dX12_ends_12) jr_28
theorem e28_13 : jv_ev d 28 13 [some (.ref a), x1] st h = jv_ev d 28 14 [some (.ref a), x1] (.ref a :: st) h := jq_nx (jv_insR jm_28 dX12_ends_13) rfl
theorem e28_14 : jv_ev d 28 14 lc (.ref a :: st) h = (jv_gf h a [(0, 21, .array .long)]).bind fun r => jv_ev d 28 17 lc (r :: st) h := jq_get (jv_insR jm_28 dX12_ends_14) jo_28 jF_1_40
theorem e28_17 : jv_ev d 28 17 [some (.ref a), x1] st h = jv_ev d 28 18 [some (.ref a), x1] (.ref a :: st) h := jq_nx (jv_insR jm_28 dX12_ends_17) rfl
theorem e28_18 : jv_ev d 28 18 lc (.ref a :: st) h = (jv_gf h a [(0, 20, .int)]).bind fun r => jv_ev d 28 21 lc (r :: st) h := jq_get (jv_insR jm_28 dX12_ends_18) jo_28 jF_1_245
theorem e28_21 : jv_ev d 28 21 [some (.ref a), x1] st h = jv_ev d 28 22 [some (.ref a), x1] (.ref a :: st) h := jq_nx (jv_insR jm_28 dX12_ends_21) rfl
theorem e28_22 : jv_ev d 28 22 lc (.ref a :: st) h = (jv_gf h a [(0, 8, .array .long)]).bind fun r => jv_ev d 28 25 lc (r :: st) h := jq_get (jv_insR jm_28 dX12_ends_22) jo_28 jF_1_30
theorem e28_25 : jv_ev d 28 25 [x0, some (.int v)] st h = jv_ev d 28 26 [x0, some (.int v)] (.int v :: st) h := jq_nx (jv_insR jm_28 dX12_ends_25) rfl
theorem e28_26 : jv_ev d 28 26 lc (.int v :: .ref a :: st) h = (jv_lg h a v).bind fun w => jv_ev d 28 27 lc (.long w :: st) h := jq_lald (jv_insR jm_28 dX12_ends_26)
theorem e28_27 : jv_ev d 28 27 lc (.long lw :: .int v :: .ref a :: st) h = (jv_lp h a v lw).bind fun h => jv_ev d 28 28 lc st h := jq_last (jv_insR jm_28 dX12_ends_27)
theorem e28_28 : jv_ev d 28 28 [some (.ref a), x1] st h = jv_ev d 28 29 [some (.ref a), x1] (.ref a :: st) h := jq_nx (jv_insR jm_28 dX12_ends_28) rfl
theorem e28_29 : jv_ev d 28 29 lc (.ref a :: st) h = jv_ev d 28 30 lc (.ref a :: .ref a :: st) h := jq_nx (jv_insR jm_28 dX12_ends_29) rfl
theorem e28_30 : jv_ev d 28 30 lc (.ref a :: st) h = (jv_gf h a [(0, 20, .int)]).bind fun r => jv_ev d 28 33 lc (r :: st) h := jq_get (jv_insR jm_28 dX12_ends_30) jo_28 jF_1_245
theorem e28_33 : jv_ev d 28 33 lc st h = jv_ev d 28 34 lc (.int 1 :: st) h := jq_iconst (jv_insR jm_28 dX12_ends_33) (by decide)
theorem e28_34 : jv_ev d 28 34 lc (.int w :: .int v :: st) h = jv_ev d 28 35 lc (.int (v + w) :: st) h := jq_nx (jv_insR jm_28 dX12_ends_34) rfl
theorem e28_35 : jv_ev d 28 35 lc (r :: .ref a :: st) h = (jv_pf h a [(0, 20, .int)] r).bind fun h => jv_ev d 28 38 lc st h := jq_put (jv_insR jm_28 dX12_ends_35) jo_28 ji_28 jG_1_245
theorem e28_38 : jv_ev d 28 38 lc [] h = some (.inl none, h) := jq_retv (jv_insR jm_28 dX12_ends_38) jr_28
/-! 29: RainLoomModel.tellLoom()V -/
theorem n29 : jv_cd (d + 1) 29 [.ref a0] h = jv_ev d 29 0 [some (.ref a0), none, none] [] h := rfl
theorem e29_0 : jv_ev d 29 0 lc st h = jv_ev d 29 1 lc (.int 4 :: st) h := jq_iconst (jv_insR jm_29 dX12_tellLoom_0) (by decide)
theorem e29_1 : jv_ev d 29 1 [some (.ref a), x1, x2] st h = jv_ev d 29 2 [some (.ref a), x1, x2] (.ref a :: st) h := jq_nx (jv_insR jm_29 dX12_tellLoom_1) rfl
theorem e29_2 : jv_ev d 29 2 lc (.ref a :: st) h = (jv_gf h a [(0, 19, .int)]).bind fun r => jv_ev d 29 5 lc (r :: st) h := jq_get (jv_insR jm_29 dX12_tellLoom_2) jo_29 jF_1_242
theorem e29_5 : jv_ev d 29 5 lc (.int w :: .int v :: st) h = jv_ev d 29 6 lc (.int (v * w) :: st) h := jq_nx (jv_insR jm_29 dX12_tellLoom_5) rfl
theorem e29_6 : jv_ev d 29 6 [some (.ref a), x1, x2] st h = jv_ev d 29 7 [some (.ref a), x1, x2] (.ref a :: st) h := jq_nx (jv_insR jm_29 dX12_tellLoom_6) rfl
theorem e29_7 : jv_ev d 29 7 lc (.ref a :: st) h = (jv_gf h a [(0, 28, .array .int)]).bind fun r => jv_ev d 29 10 lc (r :: st) h := jq_get (jv_insR jm_29 dX12_tellLoom_7) jo_29 jF_1_61
theorem e29_10 : jv_ev d 29 10 [some (.ref a), x1, x2] st h = jv_ev d 29 11 [some (.ref a), x1, x2] (.ref a :: st) h := jq_nx (jv_insR jm_29 dX12_tellLoom_10) rfl
theorem e29_11 : jv_ev d 29 11 lc (.ref a :: st) h = (jv_gf h a [(0, 19, .int)]).bind fun r => jv_ev d 29 14 lc (r :: st) h := jq_get (jv_insR jm_29 dX12_tellLoom_11) jo_29 jF_1_242
theorem e29_14 : jv_ev d 29 14 lc (.int v :: .ref a :: st) h = (jv_ig h a 0 0 v).bind fun w => jv_ev d 29 15 lc (.int w :: st) h := jq_iald (jv_insR jm_29 dX12_tellLoom_14)
theorem e29_15 : jv_ev d 29 15 lc (.int w :: .int v :: st) h = jv_ev d 29 16 lc (.int (v + w) :: st) h := jq_nx (jv_insR jm_29 dX12_tellLoom_15) rfl
theorem e29_16 : jv_ev d 29 16 [x0, x1, x2] (.int v :: st) h = jv_ev d 29 17 [x0, some (.int v), x2] st h := jq_nx (jv_insR jm_29 dX12_tellLoom_16) rfl
theorem e29_17 : jv_ev d 29 17 [some (.ref a), x1, x2] st h = jv_ev d 29 18 [some (.ref a), x1, x2] (.ref a :: st) h := jq_nx (jv_insR jm_29 dX12_tellLoom_17) rfl
theorem e29_18 : jv_ev d 29 18 lc [.ref b] h = (jv_rc h b [(0, 26)]).bind fun y => (jv_cd d y [.ref b] h).bind fun r => jv_on r (fun v h => jv_ev d 29 21 lc (v.toList ++ []) h) (fun q h => some (.inr q, h)) := jq_V (as := []) (rest := []) (jv_insR jm_29 dX12_tellLoom_18) jo_29 jV_1_293 rfl rfl rfl rfl
theorem e29_21 : jv_ev d 29 21 [x0, x1, x2] (.int v :: st) h = jv_ev d 29 22 [x0, x1, some (.int v)] st h := jq_nx (jv_insR jm_29 dX12_tellLoom_21) rfl
theorem e29_22 : jv_ev d 29 22 [some (.ref a), x1, x2] st h = jv_ev d 29 23 [some (.ref a), x1, x2] (.ref a :: st) h := jq_nx (jv_insR jm_29 dX12_tellLoom_22) rfl
theorem e29_23 : jv_ev d 29 23 lc (.ref a :: st) h = (jv_gf h a [(0, 29, .array .int)]).bind fun r => jv_ev d 29 26 lc (r :: st) h := jq_get (jv_insR jm_29 dX12_tellLoom_23) jo_29 jF_1_64
theorem e29_26 : jv_ev d 29 26 [x0, some (.int v), x2] st h = jv_ev d 29 27 [x0, some (.int v), x2] (.int v :: st) h := jq_nx (jv_insR jm_29 dX12_tellLoom_26) rfl
theorem e29_27 : jv_ev d 29 27 [some (.ref a), x1, x2] st h = jv_ev d 29 28 [some (.ref a), x1, x2] (.ref a :: st) h := jq_nx (jv_insR jm_29 dX12_tellLoom_27) rfl
theorem e29_28 : jv_ev d 29 28 lc st h = jv_ev d 29 29 lc (.int 1 :: st) h := jq_iconst (jv_insR jm_29 dX12_tellLoom_28) (by decide)
theorem e29_29 : jv_ev d 29 29 lc st h = jv_ev d 29 31 lc (.int 8 :: st) h := jq_bipush (jv_insR jm_29 dX12_tellLoom_29) (by decide)
theorem e29_31 : jv_ev d 29 31 lc [z1, z0, .ref b, y0, y1] h = (jv_rc h b [(0, 27)]).bind fun y => (jv_cd d y [.ref b, z0, z1] h).bind fun r => jv_on r (fun v h => jv_ev d 29 34 lc (v.toList ++ [y0, y1]) h) (fun q h => some (.inr q, h)) := jq_V (as := [z0, z1]) (rest := [y0, y1]) (jv_insR jm_29 dX12_tellLoom_31) jo_29 jV_1_283 rfl rfl rfl rfl
theorem e29_34 : jv_ev d 29 34 lc (.int w :: .int v :: .ref a :: st) h = (jv_ip h a 0 0 v w).bind fun h => jv_ev d 29 35 lc st h := jq_iast (jv_insR jm_29 dX12_tellLoom_34)
theorem e29_35 : jv_ev d 29 35 [some (.ref a), x1, x2] st h = jv_ev d 29 36 [some (.ref a), x1, x2] (.ref a :: st) h := jq_nx (jv_insR jm_29 dX12_tellLoom_35) rfl
theorem e29_36 : jv_ev d 29 36 lc (.ref a :: st) h = (jv_gf h a [(0, 30, .array .int)]).bind fun r => jv_ev d 29 39 lc (r :: st) h := jq_get (jv_insR jm_29 dX12_tellLoom_36) jo_29 jF_1_67
theorem e29_39 : jv_ev d 29 39 [x0, some (.int v), x2] st h = jv_ev d 29 40 [x0, some (.int v), x2] (.int v :: st) h := jq_nx (jv_insR jm_29 dX12_tellLoom_39) rfl
theorem e29_40 : jv_ev d 29 40 [some (.ref a), x1, x2] st h = jv_ev d 29 41 [some (.ref a), x1, x2] (.ref a :: st) h := jq_nx (jv_insR jm_29 dX12_tellLoom_40) rfl
theorem e29_41 : jv_ev d 29 41 lc st h = jv_ev d 29 42 lc (.int 0 :: st) h := jq_iconst (jv_insR jm_29 dX12_tellLoom_41) (by decide)
theorem e29_42 : jv_ev d 29 42 lc st h = jv_ev d 29 44 lc (.int 99 :: st) h := jq_bipush (jv_insR jm_29 dX12_tellLoom_42) (by decide)
theorem e29_44 : jv_ev d 29 44 lc [z1, z0, .ref b, y0, y1] h = (jv_rc h b [(0, 27)]).bind fun y => (jv_cd d y [.ref b, z0, z1] h).bind fun r => jv_on r (fun v h => jv_ev d 29 47 lc (v.toList ++ [y0, y1]) h) (fun q h => some (.inr q, h)) := jq_V (as := [z0, z1]) (rest := [y0, y1]) (jv_insR jm_29 dX12_tellLoom_44) jo_29 jV_1_283 rfl rfl rfl rfl
theorem e29_47 : jv_ev d 29 47 lc (.int w :: .int v :: .ref a :: st) h = (jv_ip h a 0 0 v w).bind fun h => jv_ev d 29 48 lc st h := jq_iast (jv_insR jm_29 dX12_tellLoom_47)
theorem e29_48 : jv_ev d 29 48 [some (.ref a), x1, x2] st h = jv_ev d 29 49 [some (.ref a), x1, x2] (.ref a :: st) h := jq_nx (jv_insR jm_29 dX12_tellLoom_48) rfl
theorem e29_49 : jv_ev d 29 49 [x0, x1, some (.int v)] st h = jv_ev d 29 50 [x0, x1, some (.int v)] (.int v :: st) h := jq_nx (jv_insR jm_29 dX12_tellLoom_49) rfl
theorem e29_50 : jv_ev d 29 50 lc [z0, .ref b] h = (jv_rc h b [(0, 28)]).bind fun y => (jv_cd d y [.ref b, z0] h).bind fun r => jv_on r (fun v h => jv_ev d 29 53 lc (v.toList ++ []) h) (fun q h => some (.inr q, h)) := jq_V (as := [z0]) (rest := []) (jv_insR jm_29 dX12_tellLoom_50) jo_29 jV_1_297 rfl rfl rfl rfl
theorem e29_53 : jv_ev d 29 53 [some (.ref a), x1, x2] st h = jv_ev d 29 54 [some (.ref a), x1, x2] (.ref a :: st) h := jq_nx (jv_insR jm_29 dX12_tellLoom_53) rfl
theorem e29_54 : jv_ev d 29 54 lc (.ref a :: st) h = (jv_gf h a [(0, 13, .int)]).bind fun r => jv_ev d 29 57 lc (r :: st) h := jq_get (jv_insR jm_29 dX12_tellLoom_54) jo_29 jF_1_209
theorem e29_57 : jv_ev d 29 57 lc (.int v :: st) h = if ¬ v = 0 then jv_ev d 29 73 lc st h else jv_ev d 29 60 lc st h := jq_if (jv_insR jm_29 dX12_tellLoom_57) rfl (by decide)
theorem e29_60 : jv_ev d 29 60 [some (.ref a), x1, x2] st h = jv_ev d 29 61 [some (.ref a), x1, x2] (.ref a :: st) h := jq_nx (jv_insR jm_29 dX12_tellLoom_60) rfl
theorem e29_61 : jv_ev d 29 61 lc (.ref a :: st) h = (jv_gf h a [(0, 28, .array .int)]).bind fun r => jv_ev d 29 64 lc (r :: st) h := jq_get (jv_insR jm_29 dX12_tellLoom_61) jo_29 jF_1_61
theorem e29_64 : jv_ev d 29 64 [some (.ref a), x1, x2] st h = jv_ev d 29 65 [some (.ref a), x1, x2] (.ref a :: st) h := jq_nx (jv_insR jm_29 dX12_tellLoom_64) rfl
theorem e29_65 : jv_ev d 29 65 lc (.ref a :: st) h = (jv_gf h a [(0, 19, .int)]).bind fun r => jv_ev d 29 68 lc (r :: st) h := jq_get (jv_insR jm_29 dX12_tellLoom_65) jo_29 jF_1_242
theorem e29_68 : jv_ev d 29 68 lc (.int v :: .ref b :: st) h = jv_ev d 29 69 lc (.int v :: .ref b :: .int v :: .ref b :: st) h := jq_nx (jv_insR jm_29 dX12_tellLoom_68) rfl
theorem e29_69 : jv_ev d 29 69 lc (.int v :: .ref a :: st) h = (jv_ig h a 0 0 v).bind fun w => jv_ev d 29 70 lc (.int w :: st) h := jq_iald (jv_insR jm_29 dX12_tellLoom_69)
theorem e29_70 : jv_ev d 29 70 lc st h = jv_ev d 29 71 lc (.int 1 :: st) h := jq_iconst (jv_insR jm_29 dX12_tellLoom_70) (by decide)
theorem e29_71 : jv_ev d 29 71 lc (.int w :: .int v :: st) h = jv_ev d 29 72 lc (.int (v + w) :: st) h := jq_nx (jv_insR jm_29 dX12_tellLoom_71) rfl
theorem e29_72 : jv_ev d 29 72 lc (.int w :: .int v :: .ref a :: st) h = (jv_ip h a 0 0 v w).bind fun h => jv_ev d 29 73 lc st h := jq_iast (jv_insR jm_29 dX12_tellLoom_72)
theorem e29_73 : jv_ev d 29 73 lc [] h = some (.inl none, h) := jq_retv (jv_insR jm_29 dX12_tellLoom_73) jr_29
/-! 30: RainLoomModel.tellLaw(I)V -/
theorem n30 : jv_cd (d + 1) 30 [.ref a0, .int i1] h = jv_ev d 30 0 [some (.ref a0), some (.int i1), none, none] [] h := rfl
theorem e30_0 : jv_ev d 30 0 [some (.ref a), x1, x2, x3] st h = jv_ev d 30 1 [some (.ref a), x1, x2, x3] (.ref a :: st) h := jq_nx (jv_insR jm_30 dX12_tellLaw_0) rfl
theorem e30_1 : jv_ev d 30 1 lc st h = jv_ev d 30 2 lc (.int 5 :: st) h := jq_iconst (jv_insR jm_30 dX12_tellLaw_1) (by decide)
theorem e30_2 : jv_ev d 30 2 lc [z0, .ref b] h = (jv_rc h b [(0, 23)]).bind fun y => (jv_cd d y [.ref b, z0] h).bind fun r => jv_on r (fun v h => jv_ev d 30 5 lc (v.toList ++ []) h) (fun q h => some (.inr q, h)) := jq_V (as := [z0]) (rest := []) (jv_insR jm_30 dX12_tellLaw_2) jo_30 jV_1_287 rfl rfl rfl rfl
theorem e30_5 : jv_ev d 30 5 [some (.ref a), x1, x2, x3] st h = jv_ev d 30 6 [some (.ref a), x1, x2, x3] (.ref a :: st) h := jq_nx (jv_insR jm_30 dX12_tellLaw_5) rfl
theorem e30_6 : jv_ev d 30 6 lc (.ref a :: st) h = (jv_gf h a [(0, 36, .int)]).bind fun r => jv_ev d 30 9 lc (r :: st) h := jq_get (jv_insR jm_30 dX12_tellLaw_6) jo_30 jF_1_248
theorem e30_9 : jv_ev d 30 9 [x0, x1, x2, x3] (.int v :: st) h = jv_ev d 30 10 [x0, x1, some (.int v), x3] st h := jq_nx (jv_insR jm_30 dX12_tellLaw_9) rfl
theorem e30_10 : jv_ev d 30 10 lc st h = jv_ev d 30 11 lc (.int 0 :: st) h := jq_iconst (jv_insR jm_30 dX12_tellLaw_10) (by decide)
theorem e30_11 : jv_ev d 30 11 [x0, x1, x2, x3] (.int v :: st) h = jv_ev d 30 12 [x0, x1, x2, some (.int v)] st h := jq_nx (jv_insR jm_30 dX12_tellLaw_11) rfl
theorem e30_12 : jv_ev d 30 12 [some (.ref a), x1, x2, x3] st h = jv_ev d 30 13 [some (.ref a), x1, x2, x3] (.ref a :: st) h := jq_nx (jv_insR jm_30 dX12_tellLaw_12) rfl
theorem e30_13 : jv_ev d 30 13 lc (.ref a :: st) h = (jv_gf h a [(0, 13, .int)]).bind fun r => jv_ev d 30 16 lc (r :: st) h := jq_get (jv_insR jm_30 dX12_tellLaw_13) jo_30 jF_1_209
theorem e30_16 : jv_ev d 30 16 lc (.int v :: st) h = if ¬ v = 0 then jv_ev d 30 129 lc st h else jv_ev d 30 19 lc st h := jq_if (jv_insR jm_30 dX12_tellLaw_16) rfl (by decide)
theorem e30_19 : jv_ev d 30 19 [some (.ref a), x1, x2, x3] st h = jv_ev d 30 20 [some (.ref a), x1, x2, x3] (.ref a :: st) h := jq_nx (jv_insR jm_30 dX12_tellLaw_19) rfl
theorem e30_20 : jv_ev d 30 20 lc st h = jv_ev d 30 22 lc (.int 29 :: st) h := jq_bipush (jv_insR jm_30 dX12_tellLaw_20) (by decide)
theorem e30_22 : jv_ev d 30 22 lc [z0, .ref b] h = (jv_rc h b [(0, 17)]).bind fun y => (jv_cd d y [.ref b, z0] h).bind fun r => jv_on r (fun v h => jv_ev d 30 25 lc (v.toList ++ []) h) (fun q h => some (.inr q, h)) := jq_V (as := [z0]) (rest := []) (jv_insR jm_30 dX12_tellLaw_22) jo_30 jV_1_227 rfl rfl rfl rfl
theorem e30_25 : jv_ev d 30 25 lc (.int v :: st) h = if v = 0 then jv_ev d 30 129 lc st h else jv_ev d 30 28 lc st h := jq_if (jv_insR jm_30 dX12_tellLaw_25) rfl (by decide)
theorem e30_28 : jv_ev d 30 28 [x0, x1, x2, some (.int v)] st h = jv_ev d 30 29 [x0, x1, x2, some (.int v)] (.int v :: st) h := jq_nx (jv_insR jm_30 dX12_tellLaw_28) rfl
theorem e30_29 : jv_ev d 30 29 lc st h = jv_ev d 30 30 lc (.int 4 :: st) h := jq_iconst (jv_insR jm_30 dX12_tellLaw_29) (by decide)
theorem e30_30 : jv_ev d 30 30 lc (.int w :: .int v :: st) h = if ¬ v = w then jv_ev d 30 38 lc st h else jv_ev d 30 33 lc st h := jq_if (jv_insR jm_30 dX12_tellLaw_30) rfl (by decide)
theorem e30_33 : jv_ev d 30 33 [some (.ref a), x1, x2, x3] st h = jv_ev d 30 34 [some (.ref a), x1, x2, x3] (.ref a :: st) h := jq_nx (jv_insR jm_30 dX12_tellLaw_33) rfl
theorem e30_34 : jv_ev d 30 34 lc st h = jv_ev d 30 35 lc (.int 2 :: st) h := jq_iconst (jv_insR jm_30 dX12_tellLaw_34) (by decide)
theorem e30_35 : jv_ev d 30 35 lc [z0, .ref b] h = (jv_rc h b [(0, 20)]).bind fun y => (jv_cd d y [.ref b, z0] h).bind fun r => jv_on r (fun v h => jv_ev d 30 38 lc (v.toList ++ []) h) (fun q h => some (.inr q, h)) := jq_V (as := [z0]) (rest := []) (jv_insR jm_30 dX12_tellLaw_35) jo_30 jV_1_224 rfl rfl rfl rfl
theorem e30_38 : jv_ev d 30 38 [some (.ref a), x1, x2, x3] st h = jv_ev d 30 39 [some (.ref a), x1, x2, x3] (.ref a :: st) h := jq_nx (jv_insR jm_30 dX12_tellLaw_38) rfl
theorem e30_39 : jv_ev d 30 39 lc (.ref a :: st) h = (jv_gf h a [(0, 13, .int)]).bind fun r => jv_ev d 30 42 lc (r :: st) h := jq_get (jv_insR jm_30 dX12_tellLaw_39) jo_30 jF_1_209
theorem e30_42 : jv_ev d 30 42 lc (.int v :: st) h = if v ≤ 0 then jv_ev d 30 46 lc st h else jv_ev d 30 45 lc st h := jq_if (jv_insR jm_30 dX12_tellLaw_42) rfl (by decide)
theorem e30_45 : jv_ev d 30 45 lc [] h = some (.inl none, h) := jq_retv (jv_insR jm_30 dX12_tellLaw_45) jr_30
theorem e30_46 : jv_ev d 30 46 [x0, x1, x2, some (.int v)] st h = jv_ev d 30 49 [x0, x1, x2, some (.int (v + 1))] st h := jq_nx (jv_insR jm_30 dX12_tellLaw_46) rfl
theorem e30_49 : jv_ev d 30 49 [some (.ref a), x1, x2, x3] st h = jv_ev d 30 50 [some (.ref a), x1, x2, x3] (.ref a :: st) h := jq_nx (jv_insR jm_30 dX12_tellLaw_49) rfl
theorem e30_50 : jv_ev d 30 50 lc [.ref b] h = (jv_rc h b [(0, 21)]).bind fun y => (jv_cd d y [.ref b] h).bind fun r => jv_on r (fun v h => jv_ev d 30 53 lc (v.toList ++ []) h) (fun q h => some (.inr q, h)) := jq_V (as := []) (rest := []) (jv_insR jm_30 dX12_tellLaw_50) jo_30 jV_1_230 rfl rfl rfl rfl
theorem e30_53 : jv_ev d 30 53 [some (.ref a), x1, x2, x3] st h = jv_ev d 30 54 [some (.ref a), x1, x2, x3] (.ref a :: st) h := jq_nx (jv_insR jm_30 dX12_tellLaw_53) rfl
theorem e30_54 : jv_ev d 30 54 lc (.ref a :: st) h = (jv_gf h a [(0, 37, .array .boolean)]).bind fun r => jv_ev d 30 57 lc (r :: st) h := jq_get (jv_insR jm_30 dX12_tellLaw_54) jo_30 jF_1_85
theorem e30_57 : jv_ev d 30 57 [some (.ref a), x1, x2, x3] st h = jv_ev d 30 58 [some (.ref a), x1, x2, x3] (.ref a :: st) h := jq_nx (jv_insR jm_30 dX12_tellLaw_57) rfl
theorem e30_58 : jv_ev d 30 58 lc (.ref a :: st) h = (jv_gf h a [(0, 36, .int)]).bind fun r => jv_ev d 30 61 lc (r :: st) h := jq_get (jv_insR jm_30 dX12_tellLaw_58) jo_30 jF_1_248
theorem e30_61 : jv_ev d 30 61 lc st h = jv_ev d 30 62 lc (.int 1 :: st) h := jq_iconst (jv_insR jm_30 dX12_tellLaw_61) (by decide)
theorem e30_62 : jv_ev d 30 62 lc (.int w :: .int v :: .ref a :: st) h = (jv_ip h a 1 2 v w).bind fun h => jv_ev d 30 63 lc st h := jq_bast (jv_insR jm_30 dX12_tellLaw_62)
theorem e30_63 : jv_ev d 30 63 [some (.ref a), x1, x2, x3] st h = jv_ev d 30 64 [some (.ref a), x1, x2, x3] (.ref a :: st) h := jq_nx (jv_insR jm_30 dX12_tellLaw_63) rfl
theorem e30_64 : jv_ev d 30 64 lc (.ref a :: st) h = (jv_gf h a [(0, 38, .array .int)]).bind fun r => jv_ev d 30 67 lc (r :: st) h := jq_get (jv_insR jm_30 dX12_tellLaw_64) jo_30 jF_1_89
theorem e30_67 : jv_ev d 30 67 [some (.ref a), x1, x2, x3] st h = jv_ev d 30 68 [some (.ref a), x1, x2, x3] (.ref a :: st) h := jq_nx (jv_insR jm_30 dX12_tellLaw_67) rfl
theorem e30_68 : jv_ev d 30 68 lc (.ref a :: st) h = (jv_gf h a [(0, 36, .int)]).bind fun r => jv_ev d 30 71 lc (r :: st) h := jq_get (jv_insR jm_30 dX12_tellLaw_68) jo_30 jF_1_248
theorem e30_71 : jv_ev d 30 71 [some (.ref a), x1, x2, x3] st h = jv_ev d 30 72 [some (.ref a), x1, x2, x3] (.ref a :: st) h := jq_nx (jv_insR jm_30 dX12_tellLaw_71) rfl
theorem e30_72 : jv_ev d 30 72 lc (.ref a :: st) h = (jv_gf h a [(0, 42, .int)]).bind fun r => jv_ev d 30 75 lc (r :: st) h := jq_get (jv_insR jm_30 dX12_tellLaw_72) jo_30 jF_1_251
theorem e30_75 : jv_ev d 30 75 lc (.int w :: .int v :: .ref a :: st) h = (jv_ip h a 0 0 v w).bind fun h => jv_ev d 30 76 lc st h := jq_iast (jv_insR jm_30 dX12_tellLaw_75)
theorem e30_76 : jv_ev d 30 76 [some (.ref a), x1, x2, x3] st h = jv_ev d 30 77 [some (.ref a), x1, x2, x3] (.ref a :: st) h := jq_nx (jv_insR jm_30 dX12_tellLaw_76) rfl
theorem e30_77 : jv_ev d 30 77 lc [.ref b] h = (jv_rc h b [(0, 31)]).bind fun y => (jv_cd d y [.ref b] h).bind fun r => jv_on r (fun v h => jv_ev d 30 80 lc (v.toList ++ []) h) (fun q h => some (.inr q, h)) := jq_V (as := []) (rest := []) (jv_insR jm_30 dX12_tellLaw_77) jo_30 jV_1_300 rfl rfl rfl rfl
theorem e30_80 : jv_ev d 30 80 [some (.ref a), x1, x2, x3] st h = jv_ev d 30 81 [some (.ref a), x1, x2, x3] (.ref a :: st) h := jq_nx (jv_insR jm_30 dX12_tellLaw_80) rfl
theorem e30_81 : jv_ev d 30 81 lc st h = jv_ev d 30 83 lc (.int 13 :: st) h := jq_bipush (jv_insR jm_30 dX12_tellLaw_81) (by decide)
theorem e30_83 : jv_ev d 30 83 lc [z0, .ref b] h = (jv_rc h b [(0, 23)]).bind fun y => (jv_cd d y [.ref b, z0] h).bind fun r => jv_on r (fun v h => jv_ev d 30 86 lc (v.toList ++ []) h) (fun q h => some (.inr q, h)) := jq_V (as := [z0]) (rest := []) (jv_insR jm_30 dX12_tellLaw_83) jo_30 jV_1_287 rfl rfl rfl rfl
theorem e30_86 : jv_ev d 30 86 [some (.ref a), x1, x2, x3] st h = jv_ev d 30 87 [some (.ref a), x1, x2, x3] (.ref a :: st) h := jq_nx (jv_insR jm_30 dX12_tellLaw_86) rfl
theorem e30_87 : jv_ev d 30 87 lc (.ref a :: st) h = (jv_gf h a [(0, 39, .array .int)]).bind fun r => jv_ev d 30 90 lc (r :: st) h := jq_get (jv_insR jm_30 dX12_tellLaw_87) jo_30 jF_1_92
theorem e30_90 : jv_ev d 30 90 [some (.ref a), x1, x2, x3] st h = jv_ev d 30 91 [some (.ref a), x1, x2, x3] (.ref a :: st) h := jq_nx (jv_insR jm_30 dX12_tellLaw_90) rfl
theorem e30_91 : jv_ev d 30 91 lc (.ref a :: st) h = (jv_gf h a [(0, 36, .int)]).bind fun r => jv_ev d 30 94 lc (r :: st) h := jq_get (jv_insR jm_30 dX12_tellLaw_91) jo_30 jF_1_248
theorem e30_94 : jv_ev d 30 94 [some (.ref a), x1, x2, x3] st h = jv_ev d 30 95 [some (.ref a), x1, x2, x3] (.ref a :: st) h := jq_nx (jv_insR jm_30 dX12_tellLaw_94) rfl
theorem e30_95 : jv_ev d 30 95 lc (.ref a :: st) h = (jv_gf h a [(0, 42, .int)]).bind fun r => jv_ev d 30 98 lc (r :: st) h := jq_get (jv_insR jm_30 dX12_tellLaw_95) jo_30 jF_1_251
theorem e30_98 : jv_ev d 30 98 lc (.int w :: .int v :: .ref a :: st) h = (jv_ip h a 0 0 v w).bind fun h => jv_ev d 30 99 lc st h := jq_iast (jv_insR jm_30 dX12_tellLaw_98)
theorem e30_99 : jv_ev d 30 99 [some (.ref a), x1, x2, x3] st h = jv_ev d 30 100 [some (.ref a), x1, x2, x3] (.ref a :: st) h := jq_nx (jv_insR jm_30 dX12_tellLaw_99) rfl
theorem e30_100 : jv_ev d 30 100 lc (.ref a :: st) h = (jv_gf h a [(0, 13, .int)]).bind fun r => jv_ev d 30 103 lc (r :: st) h := jq_get (jv_insR jm_30 dX12_tellLaw_100) jo_30 jF_1_209
theorem e30_103 : jv_ev d 30 103 lc (.int v :: st) h = if ¬ v = 0 then jv_ev d 30 110 lc st h else jv_ev d 30 106 lc st h := jq_if (jv_insR jm_30 dX12_tellLaw_103) rfl (by decide)
theorem e30_106 : jv_ev d 30 106 [some (.ref a), x1, x2, x3] st h = jv_ev d 30 107 [some (.ref a), x1, x2, x3] (.ref a :: st) h := jq_nx (jv_insR jm_30 dX12_tellLaw_106) rfl
theorem e30_107 : jv_ev d 30 107 lc [.ref b] h = (jv_rc h b [(0, 31)]).bind fun y => (jv_cd d y [.ref b] h).bind fun r => jv_on r (fun v h => jv_ev d 30 110 lc (v.toList ++ []) h) (fun q h => some (.inr q, h)) := jq_V (as := []) (rest := []) (jv_insR jm_30 dX12_tellLaw_107) jo_30 jV_1_300 rfl rfl rfl rfl
theorem e30_110 : jv_ev d 30 110 [some (.ref a), x1, x2, x3] st h = jv_ev d 30 111 [some (.ref a), x1, x2, x3] (.ref a :: st) h := jq_nx (jv_insR jm_30 dX12_tellLaw_110) rfl
theorem e30_111 : jv_ev d 30 111 lc st h = jv_ev d 30 113 lc (.int 30 :: st) h := jq_bipush (jv_insR jm_30 dX12_tellLaw_111) (by decide)
theorem e30_113 : jv_ev d 30 113 lc [z0, .ref b] h = (jv_rc h b [(0, 23)]).bind fun y => (jv_cd d y [.ref b, z0] h).bind fun r => jv_on r (fun v h => jv_ev d 30 116 lc (v.toList ++ []) h) (fun q h => some (.inr q, h)) := jq_V (as := [z0]) (rest := []) (jv_insR jm_30 dX12_tellLaw_113) jo_30 jV_1_287 rfl rfl rfl rfl
theorem e30_116 : jv_ev d 30 116 [some (.ref a), x1, x2, x3] st h = jv_ev d 30 117 [some (.ref a), x1, x2, x3] (.ref a :: st) h := jq_nx (jv_insR jm_30 dX12_tellLaw_116) rfl
theorem e30_117 : jv_ev d 30 117 lc [.ref b] h = (jv_rc h b [(0, 35)]).bind fun y => (jv_cd d y [.ref b] h).bind fun r => jv_on r (fun v h => jv_ev d 30 120 lc (v.toList ++ []) h) (fun q h => some (.inr q, h)) := jq_V (as := []) (rest := []) (jv_insR jm_30 dX12_tellLaw_117) jo_30 jV_1_303 rfl rfl rfl rfl
theorem e30_120 : jv_ev d 30 120 [some (.ref a), x1, x2, x3] st h = jv_ev d 30 121 [some (.ref a), x1, x2, x3] (.ref a :: st) h := jq_nx (jv_insR jm_30 dX12_tellLaw_120) rfl
theorem e30_121 : jv_ev d 30 121 lc st h = jv_ev d 30 123 lc (.int 31 :: st) h := jq_bipush (jv_insR jm_30 dX12_tellLaw_121) (by decide)
theorem e30_123 : jv_ev d 30 123 lc [z0, .ref b] h = (jv_rc h b [(0, 23)]).bind fun y => (jv_cd d y [.ref b, z0] h).bind fun r => jv_on r (fun v h => jv_ev d 30 126 lc (v.toList ++ []) h) (fun q h => some (.inr q, h)) := jq_V (as := [z0]) (rest := []) (jv_insR jm_30 dX12_tellLaw_123) jo_30 jV_1_287 rfl rfl rfl rfl
theorem e30_126 : jv_ev d 30 126 lc st h = jv_ev d 30 12 lc st h := jq_go (jv_insR jm_30 dX12_tellLaw_126) (by decide)
theorem e30_129 : jv_ev d 30 129 [some (.ref a), x1, x2, x3] st h = jv_ev d 30 130 [some (.ref a), x1, x2, x3] (.ref a :: st) h := jq_nx (jv_insR jm_30 dX12_tellLaw_129) rfl
theorem e30_130 : jv_ev d 30 130 lc (.ref a :: st) h = (jv_gf h a [(0, 37, .array .boolean)]).bind fun r => jv_ev d 30 133 lc (r :: st) h := jq_get (jv_insR jm_30 dX12_tellLaw_130) jo_30 jF_1_85
theorem e30_133 : jv_ev d 30 133 [some (.ref a), x1, x2, x3] st h = jv_ev d 30 134 [some (.ref a), x1, x2, x3] (.ref a :: st) h := jq_nx (jv_insR jm_30 dX12_tellLaw_133) rfl
theorem e30_134 : jv_ev d 30 134 lc (.ref a :: st) h = (jv_gf h a [(0, 36, .int)]).bind fun r => jv_ev d 30 137 lc (r :: st) h := jq_get (jv_insR jm_30 dX12_tellLaw_134) jo_30 jF_1_248
theorem e30_137 : jv_ev d 30 137 lc st h = jv_ev d 30 138 lc (.int 0 :: st) h := jq_iconst (jv_insR jm_30 dX12_tellLaw_137) (by decide)
theorem e30_138 : jv_ev d 30 138 lc (.int w :: .int v :: .ref a :: st) h = (jv_ip h a 1 2 v w).bind fun h => jv_ev d 30 139 lc st h := jq_bast (jv_insR jm_30 dX12_tellLaw_138)
theorem e30_139 : jv_ev d 30 139 [some (.ref a), x1, x2, x3] st h = jv_ev d 30 140 [some (.ref a), x1, x2, x3] (.ref a :: st) h := jq_nx (jv_insR jm_30 dX12_tellLaw_139) rfl
theorem e30_140 : jv_ev d 30 140 lc [.ref b] h = (jv_rc h b [(0, 35)]).bind fun y => (jv_cd d y [.ref b] h).bind fun r => jv_on r (fun v h => jv_ev d 30 143 lc (v.toList ++ []) h) (fun q h => some (.inr q, h)) := jq_V (as := []) (rest := []) (jv_insR jm_30 dX12_tellLaw_140) jo_30 jV_1_303 rfl rfl rfl rfl
theorem e30_143 : jv_ev d 30 143 [some (.ref a), x1, x2, x3] st h = jv_ev d 30 144 [some (.ref a), x1, x2, x3] (.ref a :: st) h := jq_nx (jv_insR jm_30 dX12_tellLaw_143) rfl
theorem e30_144 : jv_ev d 30 144 lc st h = jv_ev d 30 145 lc (.int 4 :: st) h := jq_iconst (jv_insR jm_30 dX12_tellLaw_144) (by decide)
theorem e30_145 : jv_ev d 30 145 lc [z0, .ref b] h = (jv_rc h b [(0, 23)]).bind fun y => (jv_cd d y [.ref b, z0] h).bind fun r => jv_on r (fun v h => jv_ev d 30 148 lc (v.toList ++ []) h) (fun q h => some (.inr q, h)) := jq_V (as := [z0]) (rest := []) (jv_insR jm_30 dX12_tellLaw_145) jo_30 jV_1_287 rfl rfl rfl rfl
theorem e30_148 : jv_ev d 30 148 [some (.ref a), x1, x2, x3] st h = jv_ev d 30 149 [some (.ref a), x1, x2, x3] (.ref a :: st) h := jq_nx (jv_insR jm_30 dX12_tellLaw_148) rfl
theorem e30_149 : jv_ev d 30 149 lc (.ref a :: st) h = (jv_gf h a [(0, 13, .int)]).bind fun r => jv_ev d 30 152 lc (r :: st) h := jq_get (jv_insR jm_30 dX12_tellLaw_149) jo_30 jF_1_209
theorem e30_152 : jv_ev d 30 152 lc (.int v :: st) h = if v ≤ 0 then jv_ev d 30 156 lc st h else jv_ev d 30 155 lc st h := jq_if (jv_insR jm_30 dX12_tellLaw_152) rfl (by decide)
theorem e30_155 : jv_ev d 30 155 lc [] h = some (.inl none, h) := jq_retv (jv_insR jm_30 dX12_tellLaw_155) jr_30
theorem e30_156 : jv_ev d 30 156 [some (.ref a), x1, x2, x3] st h = jv_ev d 30 157 [some (.ref a), x1, x2, x3] (.ref a :: st) h := jq_nx (jv_insR jm_30 dX12_tellLaw_156) rfl
theorem e30_157 : jv_ev d 30 157 lc (.ref a :: st) h = (jv_gf h a [(0, 34, .array .int)]).bind fun r => jv_ev d 30 160 lc (r :: st) h := jq_get (jv_insR jm_30 dX12_tellLaw_157) jo_30 jF_1_79
theorem e30_160 : jv_ev d 30 160 lc st h = jv_ev d 30 161 lc (.int 3 :: st) h := jq_iconst (jv_insR jm_30 dX12_tellLaw_160) (by decide)
theorem e30_161 : jv_ev d 30 161 [some (.ref a), x1, x2, x3] st h = jv_ev d 30 162 [some (.ref a), x1, x2, x3] (.ref a :: st) h := jq_nx (jv_insR jm_30 dX12_tellLaw_161) rfl
theorem e30_162 : jv_ev d 30 162 lc (.ref a :: st) h = (jv_gf h a [(0, 19, .int)]).bind fun r => jv_ev d 30 165 lc (r :: st) h := jq_get (jv_insR jm_30 dX12_tellLaw_162) jo_30 jF_1_242
theorem e30_165 : jv_ev d 30 165 lc (.int w :: .int v :: st) h = jv_ev d 30 166 lc (.int (v * w) :: st) h := jq_nx (jv_insR jm_30 dX12_tellLaw_165) rfl
theorem e30_166 : jv_ev d 30 166 [x0, some (.int v), x2, x3] st h = jv_ev d 30 167 [x0, some (.int v), x2, x3] (.int v :: st) h := jq_nx (jv_insR jm_30 dX12_tellLaw_166) rfl
theorem e30_167 : jv_ev d 30 167 lc (.int w :: .int v :: st) h = jv_ev d 30 168 lc (.int (v + w) :: st) h := jq_nx (jv_insR jm_30 dX12_tellLaw_167) rfl
theorem e30_168 : jv_ev d 30 168 [x0, x1, some (.int v), x3] st h = jv_ev d 30 169 [x0, x1, some (.int v), x3] (.int v :: st) h := jq_nx (jv_insR jm_30 dX12_tellLaw_168) rfl
theorem e30_169 : jv_ev d 30 169 lc (.int w :: .int v :: .ref a :: st) h = (jv_ip h a 0 0 v w).bind fun h => jv_ev d 30 170 lc st h := jq_iast (jv_insR jm_30 dX12_tellLaw_169)
theorem e30_170 : jv_ev d 30 170 [some (.ref a), x1, x2, x3] st h = jv_ev d 30 171 [some (.ref a), x1, x2, x3] (.ref a :: st) h := jq_nx (jv_insR jm_30 dX12_tellLaw_170) rfl
theorem e30_171 : jv_ev d 30 171 lc (.ref a :: st) h = (jv_gf h a [(0, 35, .array .int)]).bind fun r => jv_ev d 30 174 lc (r :: st) h := jq_get (jv_insR jm_30 dX12_tellLaw_171) jo_30 jF_1_82
theorem e30_174 : jv_ev d 30 174 lc st h = jv_ev d 30 175 lc (.int 3 :: st) h := jq_iconst (jv_insR jm_30 dX12_tellLaw_174) (by decide)
theorem e30_175 : jv_ev d 30 175 [some (.ref a), x1, x2, x3] st h = jv_ev d 30 176 [some (.ref a), x1, x2, x3] (.ref a :: st) h := jq_nx (jv_insR jm_30 dX12_tellLaw_175) rfl
theorem e30_176 : jv_ev d 30 176 lc (.ref a :: st) h = (jv_gf h a [(0, 19, .int)]).bind fun r => jv_ev d 30 179 lc (r :: st) h := jq_get (jv_insR jm_30 dX12_tellLaw_176) jo_30 jF_1_242
theorem e30_179 : jv_ev d 30 179 lc (.int w :: .int v :: st) h = jv_ev d 30 180 lc (.int (v * w) :: st) h := jq_nx (jv_insR jm_30 dX12_tellLaw_179) rfl
theorem e30_180 : jv_ev d 30 180 [x0, some (.int v), x2, x3] st h = jv_ev d 30 181 [x0, some (.int v), x2, x3] (.int v :: st) h := jq_nx (jv_insR jm_30 dX12_tellLaw_180) rfl
theorem e30_181 : jv_ev d 30 181 lc (.int w :: .int v :: st) h = jv_ev d 30 182 lc (.int (v + w) :: st) h := jq_nx (jv_insR jm_30 dX12_tellLaw_181) rfl
theorem e30_182 : jv_ev d 30 182 [some (.ref a), x1, x2, x3] st h = jv_ev d 30 183 [some (.ref a), x1, x2, x3] (.ref a :: st) h := jq_nx (jv_insR jm_30 dX12_tellLaw_182) rfl
theorem e30_183 : jv_ev d 30 183 lc (.ref a :: st) h = (jv_gf h a [(0, 36, .int)]).bind fun r => jv_ev d 30 186 lc (r :: st) h := jq_get (jv_insR jm_30 dX12_tellLaw_183) jo_30 jF_1_248
theorem e30_186 : jv_ev d 30 186 lc (.int w :: .int v :: .ref a :: st) h = (jv_ip h a 0 0 v w).bind fun h => jv_ev d 30 187 lc st h := jq_iast (jv_insR jm_30 dX12_tellLaw_186)
theorem e30_187 : jv_ev d 30 187 lc [] h = some (.inl none, h) := jq_retv (jv_insR jm_30 dX12_tellLaw_187) jr_30
/-! 31: RainLoomModel.expression()V -/
theorem n31 : jv_cd (d + 1) 31 [.ref a0] h = jv_ev d 31 0 [some (.ref a0), none, none] [] h := rfl
theorem e31_0 : jv_ev d 31 0 [some (.ref a), x1, x2] st h = jv_ev d 31 1 [some (.ref a), x1, x2] (.ref a :: st) h := jq_nx (jv_insR jm_31 dX12_expression_0) rfl
theorem e31_1 : jv_ev d 31 1 lc st h = jv_ev d 31 2 lc (.int 0 :: st) h := jq_iconst (jv_insR jm_31 dX12_expression_1) (by decide)
theorem e31_2 : jv_ev d 31 2 lc (r :: .ref a :: st) h = (jv_pf h a [(0, 46, .int)] r).bind fun h => jv_ev d 31 5 lc st h := jq_put (jv_insR jm_31 dX12_expression_2) jo_31 ji_31 jG_1_306
theorem e31_5 : jv_ev d 31 5 [some (.ref a), x1, x2] st h = jv_ev d 31 6 [some (.ref a), x1, x2] (.ref a :: st) h := jq_nx (jv_insR jm_31 dX12_expression_5) rfl
theorem e31_6 : jv_ev d 31 6 lc (.ref a :: st) h = (jv_gf h a [(0, 12, .int)]).bind fun r => jv_ev d 31 9 lc (r :: st) h := jq_get (jv_insR jm_31 dX12_expression_6) jo_31 jF_1_236
theorem e31_9 : jv_ev d 31 9 [x0, x1, x2] (.int v :: st) h = jv_ev d 31 10 [x0, some (.int v), x2] st h := jq_nx (jv_insR jm_31 dX12_expression_9) rfl
theorem e31_10 : jv_ev d 31 10 lc st h = jv_ev d 31 11 lc (.int 1 :: st) h := jq_iconst (jv_insR jm_31 dX12_expression_10) (by decide)
theorem e31_11 : jv_ev d 31 11 [x0, x1, x2] (.int v :: st) h = jv_ev d 31 12 [x0, x1, some (.int v)] st h := jq_nx (jv_insR jm_31 dX12_expression_11) rfl
theorem e31_12 : jv_ev d 31 12 [x0, x1, some (.int v)] st h = jv_ev d 31 13 [x0, x1, some (.int v)] (.int v :: st) h := jq_nx (jv_insR jm_31 dX12_expression_12) rfl
theorem e31_13 : jv_ev d 31 13 lc (.int v :: st) h = if v = 0 then jv_ev d 31 272 lc st h else jv_ev d 31 16 lc st h := jq_if (jv_insR jm_31 dX12_expression_13) rfl (by decide)
theorem e31_16 : jv_ev d 31 16 [some (.ref a), x1, x2] st h = jv_ev d 31 17 [some (.ref a), x1, x2] (.ref a :: st) h := jq_nx (jv_insR jm_31 dX12_expression_16) rfl
theorem e31_17 : jv_ev d 31 17 lc (.ref a :: st) h = (jv_gf h a [(0, 13, .int)]).bind fun r => jv_ev d 31 20 lc (r :: st) h := jq_get (jv_insR jm_31 dX12_expression_17) jo_31 jF_1_209
theorem e31_20 : jv_ev d 31 20 lc (.int v :: st) h = if ¬ v = 0 then jv_ev d 31 272 lc st h else jv_ev d 31 23 lc st h := jq_if (jv_insR jm_31 dX12_expression_20) rfl (by decide)
theorem e31_23 : jv_ev d 31 23 [some (.ref a), x1, x2] st h = jv_ev d 31 24 [some (.ref a), x1, x2] (.ref a :: st) h := jq_nx (jv_insR jm_31 dX12_expression_23) rfl
theorem e31_24 : jv_ev d 31 24 lc st h = jv_ev d 31 26 lc (.int 6 :: st) h := jq_bipush (jv_insR jm_31 dX12_expression_24) (by decide)
theorem e31_26 : jv_ev d 31 26 lc [z0, .ref b] h = (jv_rc h b [(0, 17)]).bind fun y => (jv_cd d y [.ref b, z0] h).bind fun r => jv_on r (fun v h => jv_ev d 31 29 lc (v.toList ++ []) h) (fun q h => some (.inr q, h)) := jq_V (as := [z0]) (rest := []) (jv_insR jm_31 dX12_expression_26) jo_31 jV_1_227 rfl rfl rfl rfl
theorem e31_29 : jv_ev d 31 29 lc (.int v :: st) h = if v = 0 then jv_ev d 31 84 lc st h else jv_ev d 31 32 lc st h := jq_if (jv_insR jm_31 dX12_expression_29) rfl (by decide)
theorem e31_32 : jv_ev d 31 32 [some (.ref a), x1, x2] st h = jv_ev d 31 33 [some (.ref a), x1, x2] (.ref a :: st) h := jq_nx (jv_insR jm_31 dX12_expression_32) rfl
theorem e31_33 : jv_ev d 31 33 lc (.ref a :: st) h = (jv_gf h a [(0, 12, .int)]).bind fun r => jv_ev d 31 36 lc (r :: st) h := jq_get (jv_insR jm_31 dX12_expression_33) jo_31 jF_1_236
theorem e31_36 : jv_ev d 31 36 lc st h = jv_ev d 31 38 lc (.int 6 :: st) h := jq_bipush (jv_insR jm_31 dX12_expression_36) (by decide)
theorem e31_38 : jv_ev d 31 38 lc (.int w :: .int v :: st) h = if ¬ v = w then jv_ev d 31 46 lc st h else jv_ev d 31 41 lc st h := jq_if (jv_insR jm_31 dX12_expression_38) rfl (by decide)
theorem e31_41 : jv_ev d 31 41 [some (.ref a), x1, x2] st h = jv_ev d 31 42 [some (.ref a), x1, x2] (.ref a :: st) h := jq_nx (jv_insR jm_31 dX12_expression_41) rfl
theorem e31_42 : jv_ev d 31 42 lc st h = jv_ev d 31 43 lc (.int 2 :: st) h := jq_iconst (jv_insR jm_31 dX12_expression_42) (by decide)
theorem e31_43 : jv_ev d 31 43 lc [z0, .ref b] h = (jv_rc h b [(0, 20)]).bind fun y => (jv_cd d y [.ref b, z0] h).bind fun r => jv_on r (fun v h => jv_ev d 31 46 lc (v.toList ++ []) h) (fun q h => some (.inr q, h)) := jq_V (as := [z0]) (rest := []) (jv_insR jm_31 dX12_expression_43) jo_31 jV_1_224 rfl rfl rfl rfl
theorem e31_46 : jv_ev d 31 46 [some (.ref a), x1, x2] st h = jv_ev d 31 47 [some (.ref a), x1, x2] (.ref a :: st) h := jq_nx (jv_insR jm_31 dX12_expression_46) rfl
theorem e31_47 : jv_ev d 31 47 lc (.ref a :: st) h = jv_ev d 31 48 lc (.ref a :: .ref a :: st) h := jq_nx (jv_insR jm_31 dX12_expression_47) rfl
theorem e31_48 : jv_ev d 31 48 lc (.ref a :: st) h = (jv_gf h a [(0, 12, .int)]).bind fun r => jv_ev d 31 51 lc (r :: st) h := jq_get (jv_insR jm_31 dX12_expression_48) jo_31 jF_1_236
theorem e31_51 : jv_ev d 31 51 lc st h = jv_ev d 31 52 lc (.int 1 :: st) h := jq_iconst (jv_insR jm_31 dX12_expression_51) (by decide)
theorem e31_52 : jv_ev d 31 52 lc (.int w :: .int v :: st) h = jv_ev d 31 53 lc (.int (v + w) :: st) h := jq_nx (jv_insR jm_31 dX12_expression_52) rfl
theorem e31_53 : jv_ev d 31 53 lc (r :: .ref a :: st) h = (jv_pf h a [(0, 12, .int)] r).bind fun h => jv_ev d 31 56 lc st h := jq_put (jv_insR jm_31 dX12_expression_53) jo_31 ji_31 jG_1_236
theorem e31_56 : jv_ev d 31 56 [some (.ref a), x1, x2] st h = jv_ev d 31 57 [some (.ref a), x1, x2] (.ref a :: st) h := jq_nx (jv_insR jm_31 dX12_expression_56) rfl
theorem e31_57 : jv_ev d 31 57 lc [.ref b] h = (jv_rc h b [(0, 21)]).bind fun y => (jv_cd d y [.ref b] h).bind fun r => jv_on r (fun v h => jv_ev d 31 60 lc (v.toList ++ []) h) (fun q h => some (.inr q, h)) := jq_V (as := []) (rest := []) (jv_insR jm_31 dX12_expression_57) jo_31 jV_1_230 rfl rfl rfl rfl
theorem e31_60 : jv_ev d 31 60 [some (.ref a), x1, x2] st h = jv_ev d 31 61 [some (.ref a), x1, x2] (.ref a :: st) h := jq_nx (jv_insR jm_31 dX12_expression_60) rfl
theorem e31_61 : jv_ev d 31 61 lc (.ref a :: st) h = (jv_gf h a [(0, 45, .array .int)]).bind fun r => jv_ev d 31 64 lc (r :: st) h := jq_get (jv_insR jm_31 dX12_expression_61) jo_31 jF_1_107
theorem e31_64 : jv_ev d 31 64 [some (.ref a), x1, x2] st h = jv_ev d 31 65 [some (.ref a), x1, x2] (.ref a :: st) h := jq_nx (jv_insR jm_31 dX12_expression_64) rfl
theorem e31_65 : jv_ev d 31 65 lc (.ref a :: st) h = (jv_gf h a [(0, 46, .int)]).bind fun r => jv_ev d 31 68 lc (r :: st) h := jq_get (jv_insR jm_31 dX12_expression_65) jo_31 jF_1_306
theorem e31_68 : jv_ev d 31 68 lc st h = jv_ev d 31 70 lc (.int 6 :: st) h := jq_bipush (jv_insR jm_31 dX12_expression_68) (by decide)
theorem e31_70 : jv_ev d 31 70 lc (.int w :: .int v :: .ref a :: st) h = (jv_ip h a 0 0 v w).bind fun h => jv_ev d 31 71 lc st h := jq_iast (jv_insR jm_31 dX12_expression_70)
theorem e31_71 : jv_ev d 31 71 [some (.ref a), x1, x2] st h = jv_ev d 31 72 [some (.ref a), x1, x2] (.ref a :: st) h := jq_nx (jv_insR jm_31 dX12_expression_71) rfl
theorem e31_72 : jv_ev d 31 72 lc (.ref a :: st) h = jv_ev d 31 73 lc (.ref a :: .ref a :: st) h := jq_nx (jv_insR jm_31 dX12_expression_72) rfl
theorem e31_73 : jv_ev d 31 73 lc (.ref a :: st) h = (jv_gf h a [(0, 46, .int)]).bind fun r => jv_ev d 31 76 lc (r :: st) h := jq_get (jv_insR jm_31 dX12_expression_73) jo_31 jF_1_306
theorem e31_76 : jv_ev d 31 76 lc st h = jv_ev d 31 77 lc (.int 1 :: st) h := jq_iconst (jv_insR jm_31 dX12_expression_76) (by decide)
theorem e31_77 : jv_ev d 31 77 lc (.int w :: .int v :: st) h = jv_ev d 31 78 lc (.int (v + w) :: st) h := jq_nx (jv_insR jm_31 dX12_expression_77) rfl
theorem e31_78 : jv_ev d 31 78 lc (r :: .ref a :: st) h = (jv_pf h a [(0, 46, .int)] r).bind fun h => jv_ev d 31 81 lc st h := jq_put (jv_insR jm_31 dX12_expression_78) jo_31 ji_31 jG_1_306
theorem e31_81 : jv_ev d 31 81 lc st h = jv_ev d 31 23 lc st h := jq_go (jv_insR jm_31 dX12_expression_81) (by decide)
theorem e31_84 : jv_ev d 31 84 [some (.ref a), x1, x2] st h = jv_ev d 31 85 [some (.ref a), x1, x2] (.ref a :: st) h := jq_nx (jv_insR jm_31 dX12_expression_84) rfl
theorem e31_85 : jv_ev d 31 85 lc [.ref b] h = (jv_rc h b [(0, 32)]).bind fun y => (jv_cd d y [.ref b] h).bind fun r => jv_on r (fun v h => jv_ev d 31 88 lc (v.toList ++ []) h) (fun q h => some (.inr q, h)) := jq_V (as := []) (rest := []) (jv_insR jm_31 dX12_expression_85) jo_31 jV_1_312 rfl rfl rfl rfl
theorem e31_88 : jv_ev d 31 88 [some (.ref a), x1, x2] st h = jv_ev d 31 89 [some (.ref a), x1, x2] (.ref a :: st) h := jq_nx (jv_insR jm_31 dX12_expression_88) rfl
theorem e31_89 : jv_ev d 31 89 lc (.ref a :: st) h = (jv_gf h a [(0, 13, .int)]).bind fun r => jv_ev d 31 92 lc (r :: st) h := jq_get (jv_insR jm_31 dX12_expression_89) jo_31 jF_1_209
theorem e31_92 : jv_ev d 31 92 lc (.int v :: st) h = if v ≤ 0 then jv_ev d 31 96 lc st h else jv_ev d 31 95 lc st h := jq_if (jv_insR jm_31 dX12_expression_92) rfl (by decide)
theorem e31_95 : jv_ev d 31 95 lc [] h = some (.inl none, h) := jq_retv (jv_insR jm_31 dX12_expression_95) jr_31
theorem e31_96 : jv_ev d 31 96 [some (.ref a), x1, x2] st h = jv_ev d 31 97 [some (.ref a), x1, x2] (.ref a :: st) h := jq_nx (jv_insR jm_31 dX12_expression_96) rfl
theorem e31_97 : jv_ev d 31 97 lc st h = jv_ev d 31 99 lc (.int 7 :: st) h := jq_bipush (jv_insR jm_31 dX12_expression_97) (by decide)
theorem e31_99 : jv_ev d 31 99 lc [z0, .ref b] h = (jv_rc h b [(0, 17)]).bind fun y => (jv_cd d y [.ref b, z0] h).bind fun r => jv_on r (fun v h => jv_ev d 31 102 lc (v.toList ++ []) h) (fun q h => some (.inr q, h)) := jq_V (as := [z0]) (rest := []) (jv_insR jm_31 dX12_expression_99) jo_31 jV_1_227 rfl rfl rfl rfl
theorem e31_102 : jv_ev d 31 102 lc (.int v :: st) h = if v = 0 then jv_ev d 31 145 lc st h else jv_ev d 31 105 lc st h := jq_if (jv_insR jm_31 dX12_expression_102) rfl (by decide)
theorem e31_105 : jv_ev d 31 105 [some (.ref a), x1, x2] st h = jv_ev d 31 106 [some (.ref a), x1, x2] (.ref a :: st) h := jq_nx (jv_insR jm_31 dX12_expression_105) rfl
theorem e31_106 : jv_ev d 31 106 lc (.ref a :: st) h = (jv_gf h a [(0, 12, .int)]).bind fun r => jv_ev d 31 109 lc (r :: st) h := jq_get (jv_insR jm_31 dX12_expression_106) jo_31 jF_1_236
theorem e31_109 : jv_ev d 31 109 [x0, some (.int v), x2] st h = jv_ev d 31 110 [x0, some (.int v), x2] (.int v :: st) h := jq_nx (jv_insR jm_31 dX12_expression_109) rfl
theorem e31_110 : jv_ev d 31 110 lc (.int w :: .int v :: st) h = if v ≤ w then jv_ev d 31 145 lc st h else jv_ev d 31 113 lc st h := jq_if (jv_insR jm_31 dX12_expression_110) rfl (by decide)
theorem e31_113 : jv_ev d 31 113 [some (.ref a), x1, x2] st h = jv_ev d 31 114 [some (.ref a), x1, x2] (.ref a :: st) h := jq_nx (jv_insR jm_31 dX12_expression_113) rfl
theorem e31_114 : jv_ev d 31 114 lc st h = jv_ev d 31 115 lc (.int 0 :: st) h := jq_iconst (jv_insR jm_31 dX12_expression_114) (by decide)
theorem e31_115 : jv_ev d 31 115 lc [z0, .ref b] h = (jv_rc h b [(0, 34)]).bind fun y => (jv_cd d y [.ref b, z0] h).bind fun r => jv_on r (fun v h => jv_ev d 31 118 lc (v.toList ++ []) h) (fun q h => some (.inr q, h)) := jq_V (as := [z0]) (rest := []) (jv_insR jm_31 dX12_expression_115) jo_31 jV_1_315 rfl rfl rfl rfl
theorem e31_118 : jv_ev d 31 118 [some (.ref a), x1, x2] st h = jv_ev d 31 119 [some (.ref a), x1, x2] (.ref a :: st) h := jq_nx (jv_insR jm_31 dX12_expression_118) rfl
theorem e31_119 : jv_ev d 31 119 lc (.ref a :: st) h = jv_ev d 31 120 lc (.ref a :: .ref a :: st) h := jq_nx (jv_insR jm_31 dX12_expression_119) rfl
theorem e31_120 : jv_ev d 31 120 lc (.ref a :: st) h = (jv_gf h a [(0, 46, .int)]).bind fun r => jv_ev d 31 123 lc (r :: st) h := jq_get (jv_insR jm_31 dX12_expression_120) jo_31 jF_1_306
theorem e31_123 : jv_ev d 31 123 lc st h = jv_ev d 31 124 lc (.int 1 :: st) h := jq_iconst (jv_insR jm_31 dX12_expression_123) (by decide)
theorem e31_124 : jv_ev d 31 124 lc (.int w :: .int v :: st) h = jv_ev d 31 125 lc (.int (v - w) :: st) h := jq_nx (jv_insR jm_31 dX12_expression_124) rfl
theorem e31_125 : jv_ev d 31 125 lc (r :: .ref a :: st) h = (jv_pf h a [(0, 46, .int)] r).bind fun h => jv_ev d 31 128 lc st h := jq_put (jv_insR jm_31 dX12_expression_125) jo_31 ji_31 jG_1_306
theorem e31_128 : jv_ev d 31 128 [some (.ref a), x1, x2] st h = jv_ev d 31 129 [some (.ref a), x1, x2] (.ref a :: st) h := jq_nx (jv_insR jm_31 dX12_expression_128) rfl
theorem e31_129 : jv_ev d 31 129 lc (.ref a :: st) h = jv_ev d 31 130 lc (.ref a :: .ref a :: st) h := jq_nx (jv_insR jm_31 dX12_expression_129) rfl
theorem e31_130 : jv_ev d 31 130 lc (.ref a :: st) h = (jv_gf h a [(0, 12, .int)]).bind fun r => jv_ev d 31 133 lc (r :: st) h := jq_get (jv_insR jm_31 dX12_expression_130) jo_31 jF_1_236
theorem e31_133 : jv_ev d 31 133 lc st h = jv_ev d 31 134 lc (.int 1 :: st) h := jq_iconst (jv_insR jm_31 dX12_expression_133) (by decide)
theorem e31_134 : jv_ev d 31 134 lc (.int w :: .int v :: st) h = jv_ev d 31 135 lc (.int (v - w) :: st) h := jq_nx (jv_insR jm_31 dX12_expression_134) rfl
theorem e31_135 : jv_ev d 31 135 lc (r :: .ref a :: st) h = (jv_pf h a [(0, 12, .int)] r).bind fun h => jv_ev d 31 138 lc st h := jq_put (jv_insR jm_31 dX12_expression_135) jo_31 ji_31 jG_1_236
theorem e31_138 : jv_ev d 31 138 [some (.ref a), x1, x2] st h = jv_ev d 31 139 [some (.ref a), x1, x2] (.ref a :: st) h := jq_nx (jv_insR jm_31 dX12_expression_138) rfl
theorem e31_139 : jv_ev d 31 139 lc [.ref b] h = (jv_rc h b [(0, 21)]).bind fun y => (jv_cd d y [.ref b] h).bind fun r => jv_on r (fun v h => jv_ev d 31 142 lc (v.toList ++ []) h) (fun q h => some (.inr q, h)) := jq_V (as := []) (rest := []) (jv_insR jm_31 dX12_expression_139) jo_31 jV_1_230 rfl rfl rfl rfl
theorem e31_142 : jv_ev d 31 142 lc st h = jv_ev d 31 96 lc st h := jq_go (jv_insR jm_31 dX12_expression_142) (by decide)
theorem e31_145 : jv_ev d 31 145 [some (.ref a), x1, x2] st h = jv_ev d 31 146 [some (.ref a), x1, x2] (.ref a :: st) h := jq_nx (jv_insR jm_31 dX12_expression_145) rfl
theorem e31_146 : jv_ev d 31 146 lc st h = jv_ev d 31 148 lc (.int 8 :: st) h := jq_bipush (jv_insR jm_31 dX12_expression_146) (by decide)
theorem e31_148 : jv_ev d 31 148 lc [z0, .ref b] h = (jv_rc h b [(0, 17)]).bind fun y => (jv_cd d y [.ref b, z0] h).bind fun r => jv_on r (fun v h => jv_ev d 31 151 lc (v.toList ++ []) h) (fun q h => some (.inr q, h)) := jq_V (as := [z0]) (rest := []) (jv_insR jm_31 dX12_expression_148) jo_31 jV_1_227 rfl rfl rfl rfl
theorem e31_151 : jv_ev d 31 151 lc (.int v :: st) h = if ¬ v = 0 then jv_ev d 31 181 lc st h else jv_ev d 31 154 lc st h := jq_if (jv_insR jm_31 dX12_expression_151) rfl (by decide)
theorem e31_154 : jv_ev d 31 154 [some (.ref a), x1, x2] st h = jv_ev d 31 155 [some (.ref a), x1, x2] (.ref a :: st) h := jq_nx (jv_insR jm_31 dX12_expression_154) rfl
theorem e31_155 : jv_ev d 31 155 lc st h = jv_ev d 31 157 lc (.int 9 :: st) h := jq_bipush (jv_insR jm_31 dX12_expression_155) (by decide)
theorem e31_157 : jv_ev d 31 157 lc [z0, .ref b] h = (jv_rc h b [(0, 17)]).bind fun y => (jv_cd d y [.ref b, z0] h).bind fun r => jv_on r (fun v h => jv_ev d 31 160 lc (v.toList ++ []) h) (fun q h => some (.inr q, h)) := jq_V (as := [z0]) (rest := []) (jv_insR jm_31 dX12_expression_157) jo_31 jV_1_227 rfl rfl rfl rfl
theorem e31_160 : jv_ev d 31 160 lc (.int v :: st) h = if ¬ v = 0 then jv_ev d 31 181 lc st h else jv_ev d 31 163 lc st h := jq_if (jv_insR jm_31 dX12_expression_160) rfl (by decide)
theorem e31_163 : jv_ev d 31 163 [some (.ref a), x1, x2] st h = jv_ev d 31 164 [some (.ref a), x1, x2] (.ref a :: st) h := jq_nx (jv_insR jm_31 dX12_expression_163) rfl
theorem e31_164 : jv_ev d 31 164 lc st h = jv_ev d 31 166 lc (.int 10 :: st) h := jq_bipush (jv_insR jm_31 dX12_expression_164) (by decide)
theorem e31_166 : jv_ev d 31 166 lc [z0, .ref b] h = (jv_rc h b [(0, 17)]).bind fun y => (jv_cd d y [.ref b, z0] h).bind fun r => jv_on r (fun v h => jv_ev d 31 169 lc (v.toList ++ []) h) (fun q h => some (.inr q, h)) := jq_V (as := [z0]) (rest := []) (jv_insR jm_31 dX12_expression_166) jo_31 jV_1_227 rfl rfl rfl rfl
theorem e31_169 : jv_ev d 31 169 lc (.int v :: st) h = if ¬ v = 0 then jv_ev d 31 181 lc st h else jv_ev d 31 172 lc st h := jq_if (jv_insR jm_31 dX12_expression_169) rfl (by decide)
theorem e31_172 : jv_ev d 31 172 [some (.ref a), x1, x2] st h = jv_ev d 31 173 [some (.ref a), x1, x2] (.ref a :: st) h := jq_nx (jv_insR jm_31 dX12_expression_172) rfl
theorem e31_173 : jv_ev d 31 173 lc st h = jv_ev d 31 175 lc (.int 15 :: st) h := jq_bipush (jv_insR jm_31 dX12_expression_173) (by decide)
theorem e31_175 : jv_ev d 31 175 lc [z0, .ref b] h = (jv_rc h b [(0, 17)]).bind fun y => (jv_cd d y [.ref b, z0] h).bind fun r => jv_on r (fun v h => jv_ev d 31 178 lc (v.toList ++ []) h) (fun q h => some (.inr q, h)) := jq_V (as := [z0]) (rest := []) (jv_insR jm_31 dX12_expression_175) jo_31 jV_1_227 rfl rfl rfl rfl
theorem e31_178 : jv_ev d 31 178 lc (.int v :: st) h = if v = 0 then jv_ev d 31 185 lc st h else jv_ev d 31 181 lc st h := jq_if (jv_insR jm_31 dX12_expression_178) rfl (by decide)
theorem e31_181 : jv_ev d 31 181 lc st h = jv_ev d 31 182 lc (.int 1 :: st) h := jq_iconst (jv_insR jm_31 dX12_expression_181) (by decide)
theorem e31_182 : jv_ev d 31 182 lc st h = jv_ev d 31 186 lc st h := jq_go (jv_insR jm_31 dX12_expression_182) (by decide)
theorem e31_185 : jv_ev d 31 185 lc st h = jv_ev d 31 186 lc (.int 0 :: st) h := jq_iconst (jv_insR jm_31 dX12_expression_185) (by decide)
theorem e31_186 : jv_ev d 31 186 [x0, x1, x2] (.int v :: st) h = jv_ev d 31 187 [x0, x1, some (.int v)] st h := jq_nx (jv_insR jm_31 dX12_expression_186) rfl
theorem e31_187 : jv_ev d 31 187 [x0, x1, some (.int v)] st h = jv_ev d 31 188 [x0, x1, some (.int v)] (.int v :: st) h := jq_nx (jv_insR jm_31 dX12_expression_187) rfl
theorem e31_188 : jv_ev d 31 188 lc (.int v :: st) h = if ¬ v = 0 then jv_ev d 31 210 lc st h else jv_ev d 31 191 lc st h := jq_if (jv_insR jm_31 dX12_expression_188) rfl (by decide)
theorem e31_191 : jv_ev d 31 191 [some (.ref a), x1, x2] st h = jv_ev d 31 192 [some (.ref a), x1, x2] (.ref a :: st) h := jq_nx (jv_insR jm_31 dX12_expression_191) rfl
theorem e31_192 : jv_ev d 31 192 lc (.ref a :: st) h = (jv_gf h a [(0, 12, .int)]).bind fun r => jv_ev d 31 195 lc (r :: st) h := jq_get (jv_insR jm_31 dX12_expression_192) jo_31 jF_1_236
theorem e31_195 : jv_ev d 31 195 [x0, some (.int v), x2] st h = jv_ev d 31 196 [x0, some (.int v), x2] (.int v :: st) h := jq_nx (jv_insR jm_31 dX12_expression_195) rfl
theorem e31_196 : jv_ev d 31 196 lc (.int w :: .int v :: st) h = if v ≤ w then jv_ev d 31 204 lc st h else jv_ev d 31 199 lc st h := jq_if (jv_insR jm_31 dX12_expression_196) rfl (by decide)
theorem e31_199 : jv_ev d 31 199 [some (.ref a), x1, x2] st h = jv_ev d 31 200 [some (.ref a), x1, x2] (.ref a :: st) h := jq_nx (jv_insR jm_31 dX12_expression_199) rfl
theorem e31_200 : jv_ev d 31 200 lc st h = jv_ev d 31 201 lc (.int 1 :: st) h := jq_iconst (jv_insR jm_31 dX12_expression_200) (by decide)
theorem e31_201 : jv_ev d 31 201 lc [z0, .ref b] h = (jv_rc h b [(0, 20)]).bind fun y => (jv_cd d y [.ref b, z0] h).bind fun r => jv_on r (fun v h => jv_ev d 31 204 lc (v.toList ++ []) h) (fun q h => some (.inr q, h)) := jq_V (as := [z0]) (rest := []) (jv_insR jm_31 dX12_expression_201) jo_31 jV_1_224 rfl rfl rfl rfl
theorem e31_204 : jv_ev d 31 204 [some (.ref a), x1, x2] st h = jv_ev d 31 205 [some (.ref a), x1, x2] (.ref a :: st) h := jq_nx (jv_insR jm_31 dX12_expression_204) rfl
theorem e31_205 : jv_ev d 31 205 lc st h = jv_ev d 31 206 lc (.int 0 :: st) h := jq_iconst (jv_insR jm_31 dX12_expression_205) (by decide)
theorem e31_206 : jv_ev d 31 206 lc [z0, .ref b] h = (jv_rc h b [(0, 34)]).bind fun y => (jv_cd d y [.ref b, z0] h).bind fun r => jv_on r (fun v h => jv_ev d 31 209 lc (v.toList ++ []) h) (fun q h => some (.inr q, h)) := jq_V (as := [z0]) (rest := []) (jv_insR jm_31 dX12_expression_206) jo_31 jV_1_315 rfl rfl rfl rfl
theorem e31_209 : jv_ev d 31 209 lc [] h = some (.inl none, h) := jq_retv (jv_insR jm_31 dX12_expression_209) jr_31
theorem e31_210 : jv_ev d 31 210 [some (.ref a), x1, x2] st h = jv_ev d 31 211 [some (.ref a), x1, x2] (.ref a :: st) h := jq_nx (jv_insR jm_31 dX12_expression_210) rfl
theorem e31_211 : jv_ev d 31 211 [some (.ref a), x1, x2] st h = jv_ev d 31 212 [some (.ref a), x1, x2] (.ref a :: st) h := jq_nx (jv_insR jm_31 dX12_expression_211) rfl
theorem e31_212 : jv_ev d 31 212 lc st h = jv_ev d 31 214 lc (.int 10 :: st) h := jq_bipush (jv_insR jm_31 dX12_expression_212) (by decide)
theorem e31_214 : jv_ev d 31 214 lc [z0, .ref b, y0] h = (jv_rc h b [(0, 17)]).bind fun y => (jv_cd d y [.ref b, z0] h).bind fun r => jv_on r (fun v h => jv_ev d 31 217 lc (v.toList ++ [y0]) h) (fun q h => some (.inr q, h)) := jq_V (as := [z0]) (rest := [y0]) (jv_insR jm_31 dX12_expression_214) jo_31 jV_1_227 rfl rfl rfl rfl
theorem e31_217 : jv_ev d 31 217 lc (.int v :: st) h = if ¬ v = 0 then jv_ev d 31 229 lc st h else jv_ev d 31 220 lc st h := jq_if (jv_insR jm_31 dX12_expression_217) rfl (by decide)
theorem e31_220 : jv_ev d 31 220 [some (.ref a), x1, x2] st h = jv_ev d 31 221 [some (.ref a), x1, x2] (.ref a :: st) h := jq_nx (jv_insR jm_31 dX12_expression_220) rfl
theorem e31_221 : jv_ev d 31 221 lc st h = jv_ev d 31 223 lc (.int 15 :: st) h := jq_bipush (jv_insR jm_31 dX12_expression_221) (by decide)
theorem e31_223 : jv_ev d 31 223 lc [z0, .ref b, y0] h = (jv_rc h b [(0, 17)]).bind fun y => (jv_cd d y [.ref b, z0] h).bind fun r => jv_on r (fun v h => jv_ev d 31 226 lc (v.toList ++ [y0]) h) (fun q h => some (.inr q, h)) := jq_V (as := [z0]) (rest := [y0]) (jv_insR jm_31 dX12_expression_223) jo_31 jV_1_227 rfl rfl rfl rfl
theorem e31_226 : jv_ev d 31 226 lc (.int v :: st) h = if v = 0 then jv_ev d 31 233 lc st h else jv_ev d 31 229 lc st h := jq_if (jv_insR jm_31 dX12_expression_226) rfl (by decide)
theorem e31_229 : jv_ev d 31 229 lc st h = jv_ev d 31 230 lc (.int 1 :: st) h := jq_iconst (jv_insR jm_31 dX12_expression_229) (by decide)
theorem e31_230 : jv_ev d 31 230 lc st h = jv_ev d 31 234 lc st h := jq_go (jv_insR jm_31 dX12_expression_230) (by decide)
theorem e31_233 : jv_ev d 31 233 lc st h = jv_ev d 31 234 lc (.int 0 :: st) h := jq_iconst (jv_insR jm_31 dX12_expression_233) (by decide)
theorem e31_234 : jv_ev d 31 234 lc [z0, .ref b] h = (jv_rc h b [(0, 34)]).bind fun y => (jv_cd d y [.ref b, z0] h).bind fun r => jv_on r (fun v h => jv_ev d 31 237 lc (v.toList ++ []) h) (fun q h => some (.inr q, h)) := jq_V (as := [z0]) (rest := []) (jv_insR jm_31 dX12_expression_234) jo_31 jV_1_315 rfl rfl rfl rfl
theorem e31_237 : jv_ev d 31 237 [some (.ref a), x1, x2] st h = jv_ev d 31 238 [some (.ref a), x1, x2] (.ref a :: st) h := jq_nx (jv_insR jm_31 dX12_expression_237) rfl
theorem e31_238 : jv_ev d 31 238 lc (.ref a :: st) h = (jv_gf h a [(0, 45, .array .int)]).bind fun r => jv_ev d 31 241 lc (r :: st) h := jq_get (jv_insR jm_31 dX12_expression_238) jo_31 jF_1_107
theorem e31_241 : jv_ev d 31 241 [some (.ref a), x1, x2] st h = jv_ev d 31 242 [some (.ref a), x1, x2] (.ref a :: st) h := jq_nx (jv_insR jm_31 dX12_expression_241) rfl
theorem e31_242 : jv_ev d 31 242 lc (.ref a :: st) h = (jv_gf h a [(0, 46, .int)]).bind fun r => jv_ev d 31 245 lc (r :: st) h := jq_get (jv_insR jm_31 dX12_expression_242) jo_31 jF_1_306
theorem e31_245 : jv_ev d 31 245 [some (.ref a), x1, x2] st h = jv_ev d 31 246 [some (.ref a), x1, x2] (.ref a :: st) h := jq_nx (jv_insR jm_31 dX12_expression_245) rfl
theorem e31_246 : jv_ev d 31 246 lc (.ref a :: st) h = (jv_gf h a [(0, 5, .array .int)]).bind fun r => jv_ev d 31 249 lc (r :: st) h := jq_get (jv_insR jm_31 dX12_expression_246) jo_31 jF_1_20
theorem e31_249 : jv_ev d 31 249 [some (.ref a), x1, x2] st h = jv_ev d 31 250 [some (.ref a), x1, x2] (.ref a :: st) h := jq_nx (jv_insR jm_31 dX12_expression_249) rfl
theorem e31_250 : jv_ev d 31 250 lc (.ref a :: st) h = (jv_gf h a [(0, 11, .int)]).bind fun r => jv_ev d 31 253 lc (r :: st) h := jq_get (jv_insR jm_31 dX12_expression_250) jo_31 jF_1_212
theorem e31_253 : jv_ev d 31 253 lc (.int v :: .ref a :: st) h = (jv_ig h a 0 0 v).bind fun w => jv_ev d 31 254 lc (.int w :: st) h := jq_iald (jv_insR jm_31 dX12_expression_253)
theorem e31_254 : jv_ev d 31 254 lc (.int w :: .int v :: .ref a :: st) h = (jv_ip h a 0 0 v w).bind fun h => jv_ev d 31 255 lc st h := jq_iast (jv_insR jm_31 dX12_expression_254)
theorem e31_255 : jv_ev d 31 255 [some (.ref a), x1, x2] st h = jv_ev d 31 256 [some (.ref a), x1, x2] (.ref a :: st) h := jq_nx (jv_insR jm_31 dX12_expression_255) rfl
theorem e31_256 : jv_ev d 31 256 lc (.ref a :: st) h = jv_ev d 31 257 lc (.ref a :: .ref a :: st) h := jq_nx (jv_insR jm_31 dX12_expression_256) rfl
theorem e31_257 : jv_ev d 31 257 lc (.ref a :: st) h = (jv_gf h a [(0, 46, .int)]).bind fun r => jv_ev d 31 260 lc (r :: st) h := jq_get (jv_insR jm_31 dX12_expression_257) jo_31 jF_1_306
theorem e31_260 : jv_ev d 31 260 lc st h = jv_ev d 31 261 lc (.int 1 :: st) h := jq_iconst (jv_insR jm_31 dX12_expression_260) (by decide)
theorem e31_261 : jv_ev d 31 261 lc (.int w :: .int v :: st) h = jv_ev d 31 262 lc (.int (v + w) :: st) h := jq_nx (jv_insR jm_31 dX12_expression_261) rfl
theorem e31_262 : jv_ev d 31 262 lc (r :: .ref a :: st) h = (jv_pf h a [(0, 46, .int)] r).bind fun h => jv_ev d 31 265 lc st h := jq_put (jv_insR jm_31 dX12_expression_262) jo_31 ji_31 jG_1_306
theorem e31_265 : jv_ev d 31 265 [some (.ref a), x1, x2] st h = jv_ev d 31 266 [some (.ref a), x1, x2] (.ref a :: st) h := jq_nx (jv_insR jm_31 dX12_expression_265) rfl
theorem e31_266 : jv_ev d 31 266 lc [.ref b] h = (jv_rc h b [(0, 21)]).bind fun y => (jv_cd d y [.ref b] h).bind fun r => jv_on r (fun v h => jv_ev d 31 269 lc (v.toList ++ []) h) (fun q h => some (.inr q, h)) := jq_V (as := []) (rest := []) (jv_insR jm_31 dX12_expression_266) jo_31 jV_1_230 rfl rfl rfl rfl
theorem e31_269 : jv_ev d 31 269 lc st h = jv_ev d 31 12 lc st h := jq_go (jv_insR jm_31 dX12_expression_269) (by decide)
theorem e31_272 : jv_ev d 31 272 lc [] h = some (.inl none, h) := jq_retv (jv_insR jm_31 dX12_expression_272) jr_31
/-! 32: RainLoomModel.unit()V -/
theorem n32 : jv_cd (d + 1) 32 [.ref a0] h = jv_ev d 32 0 [some (.ref a0)] [] h := rfl
theorem e32_0 : jv_ev d 32 0 [some (.ref a)] st h = jv_ev d 32 1 [some (.ref a)] (.ref a :: st) h := jq_nx (jv_insR jm_32 dX12_unit_0) rfl
theorem e32_1 : jv_ev d 32 1 lc st h = jv_ev d 32 2 lc (.int 2 :: st) h := jq_iconst (jv_insR jm_32 dX12_unit_1) (by decide)
theorem e32_2 : jv_ev d 32 2 lc [z0, .ref b] h = (jv_rc h b [(0, 17)]).bind fun y => (jv_cd d y [.ref b, z0] h).bind fun r => jv_on r (fun v h => jv_ev d 32 5 lc (v.toList ++ []) h) (fun q h => some (.inr q, h)) := jq_V (as := [z0]) (rest := []) (jv_insR jm_32 dX12_unit_2) jo_32 jV_1_227 rfl rfl rfl rfl
theorem e32_5 : jv_ev d 32 5 lc (.int v :: st) h = if v = 0 then jv_ev d 32 29 lc st h else jv_ev d 32 8 lc st h := jq_if (jv_insR jm_32 dX12_unit_5) rfl (by decide)
theorem e32_8 : jv_ev d 32 8 [some (.ref a)] st h = jv_ev d 32 9 [some (.ref a)] (.ref a :: st) h := jq_nx (jv_insR jm_32 dX12_unit_8) rfl
theorem e32_9 : jv_ev d 32 9 lc st h = jv_ev d 32 10 lc (.int 0 :: st) h := jq_iconst (jv_insR jm_32 dX12_unit_9) (by decide)
theorem e32_10 : jv_ev d 32 10 [some (.ref a)] st h = jv_ev d 32 11 [some (.ref a)] (.ref a :: st) h := jq_nx (jv_insR jm_32 dX12_unit_10) rfl
theorem e32_11 : jv_ev d 32 11 lc (.ref a :: st) h = (jv_gf h a [(0, 7, .array .int)]).bind fun r => jv_ev d 32 14 lc (r :: st) h := jq_get (jv_insR jm_32 dX12_unit_11) jo_32 jF_1_27
theorem e32_14 : jv_ev d 32 14 [some (.ref a)] st h = jv_ev d 32 15 [some (.ref a)] (.ref a :: st) h := jq_nx (jv_insR jm_32 dX12_unit_14) rfl
theorem e32_15 : jv_ev d 32 15 lc (.ref a :: st) h = (jv_gf h a [(0, 11, .int)]).bind fun r => jv_ev d 32 18 lc (r :: st) h := jq_get (jv_insR jm_32 dX12_unit_15) jo_32 jF_1_212
theorem e32_18 : jv_ev d 32 18 lc (.int v :: .ref a :: st) h = (jv_ig h a 0 0 v).bind fun w => jv_ev d 32 19 lc (.int w :: st) h := jq_iald (jv_insR jm_32 dX12_unit_18)
theorem e32_19 : jv_ev d 32 19 lc [z1, z0, .ref b] h = (jv_rc h b [(0, 33)]).bind fun y => (jv_cd d y [.ref b, z0, z1] h).bind fun r => jv_on r (fun v h => jv_ev d 32 22 lc (v.toList ++ []) h) (fun q h => some (.inr q, h)) := jq_V (as := [z0, z1]) (rest := []) (jv_insR jm_32 dX12_unit_19) jo_32 jV_1_309 rfl rfl rfl rfl
theorem e32_22 : jv_ev d 32 22 [some (.ref a)] st h = jv_ev d 32 23 [some (.ref a)] (.ref a :: st) h := jq_nx (jv_insR jm_32 dX12_unit_22) rfl
theorem e32_23 : jv_ev d 32 23 lc [.ref b] h = (jv_rc h b [(0, 21)]).bind fun y => (jv_cd d y [.ref b] h).bind fun r => jv_on r (fun v h => jv_ev d 32 26 lc (v.toList ++ []) h) (fun q h => some (.inr q, h)) := jq_V (as := []) (rest := []) (jv_insR jm_32 dX12_unit_23) jo_32 jV_1_230 rfl rfl rfl rfl
theorem e32_26 : jv_ev d 32 26 lc st h = jv_ev d 32 93 lc st h := jq_go (jv_insR jm_32 dX12_unit_26) (by decide)
theorem e32_29 : jv_ev d 32 29 [some (.ref a)] st h = jv_ev d 32 30 [some (.ref a)] (.ref a :: st) h := jq_nx (jv_insR jm_32 dX12_unit_29) rfl
theorem e32_30 : jv_ev d 32 30 lc (.ref a :: st) h = (jv_gf h a [(0, 13, .int)]).bind fun r => jv_ev d 32 33 lc (r :: st) h := jq_get (jv_insR jm_32 dX12_unit_30) jo_32 jF_1_209
theorem e32_33 : jv_ev d 32 33 lc (.int v :: st) h = if ¬ v = 0 then jv_ev d 32 88 lc st h else jv_ev d 32 36 lc st h := jq_if (jv_insR jm_32 dX12_unit_33) rfl (by decide)
theorem e32_36 : jv_ev d 32 36 [some (.ref a)] st h = jv_ev d 32 37 [some (.ref a)] (.ref a :: st) h := jq_nx (jv_insR jm_32 dX12_unit_36) rfl
theorem e32_37 : jv_ev d 32 37 lc (.ref a :: st) h = (jv_gf h a [(0, 5, .array .int)]).bind fun r => jv_ev d 32 40 lc (r :: st) h := jq_get (jv_insR jm_32 dX12_unit_37) jo_32 jF_1_20
theorem e32_40 : jv_ev d 32 40 [some (.ref a)] st h = jv_ev d 32 41 [some (.ref a)] (.ref a :: st) h := jq_nx (jv_insR jm_32 dX12_unit_40) rfl
theorem e32_41 : jv_ev d 32 41 lc (.ref a :: st) h = (jv_gf h a [(0, 11, .int)]).bind fun r => jv_ev d 32 44 lc (r :: st) h := jq_get (jv_insR jm_32 dX12_unit_41) jo_32 jF_1_212
theorem e32_44 : jv_ev d 32 44 lc (.int v :: .ref a :: st) h = (jv_ig h a 0 0 v).bind fun w => jv_ev d 32 45 lc (.int w :: st) h := jq_iald (jv_insR jm_32 dX12_unit_44)
theorem e32_45 : jv_ev d 32 45 lc st h = jv_ev d 32 47 lc (.int 32 :: st) h := jq_bipush (jv_insR jm_32 dX12_unit_45) (by decide)
theorem e32_47 : jv_ev d 32 47 lc (.int w :: .int v :: st) h = if v < w then jv_ev d 32 88 lc st h else jv_ev d 32 50 lc st h := jq_if (jv_insR jm_32 dX12_unit_47) rfl (by decide)
theorem e32_50 : jv_ev d 32 50 [some (.ref a)] st h = jv_ev d 32 51 [some (.ref a)] (.ref a :: st) h := jq_nx (jv_insR jm_32 dX12_unit_50) rfl
theorem e32_51 : jv_ev d 32 51 lc (.ref a :: st) h = (jv_gf h a [(0, 5, .array .int)]).bind fun r => jv_ev d 32 54 lc (r :: st) h := jq_get (jv_insR jm_32 dX12_unit_51) jo_32 jF_1_20
theorem e32_54 : jv_ev d 32 54 [some (.ref a)] st h = jv_ev d 32 55 [some (.ref a)] (.ref a :: st) h := jq_nx (jv_insR jm_32 dX12_unit_54) rfl
theorem e32_55 : jv_ev d 32 55 lc (.ref a :: st) h = (jv_gf h a [(0, 11, .int)]).bind fun r => jv_ev d 32 58 lc (r :: st) h := jq_get (jv_insR jm_32 dX12_unit_55) jo_32 jF_1_212
theorem e32_58 : jv_ev d 32 58 lc (.int v :: .ref a :: st) h = (jv_ig h a 0 0 v).bind fun w => jv_ev d 32 59 lc (.int w :: st) h := jq_iald (jv_insR jm_32 dX12_unit_58)
theorem e32_59 : jv_ev d 32 59 lc st h = jv_ev d 32 61 lc (.int 40 :: st) h := jq_bipush (jv_insR jm_32 dX12_unit_59) (by decide)
theorem e32_61 : jv_ev d 32 61 lc (.int w :: .int v :: st) h = if w < v then jv_ev d 32 88 lc st h else jv_ev d 32 64 lc st h := jq_if (jv_insR jm_32 dX12_unit_61) rfl (by decide)
theorem e32_64 : jv_ev d 32 64 [some (.ref a)] st h = jv_ev d 32 65 [some (.ref a)] (.ref a :: st) h := jq_nx (jv_insR jm_32 dX12_unit_64) rfl
theorem e32_65 : jv_ev d 32 65 lc st h = jv_ev d 32 66 lc (.int 1 :: st) h := jq_iconst (jv_insR jm_32 dX12_unit_65) (by decide)
theorem e32_66 : jv_ev d 32 66 [some (.ref a)] st h = jv_ev d 32 67 [some (.ref a)] (.ref a :: st) h := jq_nx (jv_insR jm_32 dX12_unit_66) rfl
theorem e32_67 : jv_ev d 32 67 lc (.ref a :: st) h = (jv_gf h a [(0, 5, .array .int)]).bind fun r => jv_ev d 32 70 lc (r :: st) h := jq_get (jv_insR jm_32 dX12_unit_67) jo_32 jF_1_20
theorem e32_70 : jv_ev d 32 70 [some (.ref a)] st h = jv_ev d 32 71 [some (.ref a)] (.ref a :: st) h := jq_nx (jv_insR jm_32 dX12_unit_70) rfl
theorem e32_71 : jv_ev d 32 71 lc (.ref a :: st) h = (jv_gf h a [(0, 11, .int)]).bind fun r => jv_ev d 32 74 lc (r :: st) h := jq_get (jv_insR jm_32 dX12_unit_71) jo_32 jF_1_212
theorem e32_74 : jv_ev d 32 74 lc (.int v :: .ref a :: st) h = (jv_ig h a 0 0 v).bind fun w => jv_ev d 32 75 lc (.int w :: st) h := jq_iald (jv_insR jm_32 dX12_unit_74)
theorem e32_75 : jv_ev d 32 75 lc st h = jv_ev d 32 77 lc (.int 32 :: st) h := jq_bipush (jv_insR jm_32 dX12_unit_75) (by decide)
theorem e32_77 : jv_ev d 32 77 lc (.int w :: .int v :: st) h = jv_ev d 32 78 lc (.int (v - w) :: st) h := jq_nx (jv_insR jm_32 dX12_unit_77) rfl
theorem e32_78 : jv_ev d 32 78 lc [z1, z0, .ref b] h = (jv_rc h b [(0, 33)]).bind fun y => (jv_cd d y [.ref b, z0, z1] h).bind fun r => jv_on r (fun v h => jv_ev d 32 81 lc (v.toList ++ []) h) (fun q h => some (.inr q, h)) := jq_V (as := [z0, z1]) (rest := []) (jv_insR jm_32 dX12_unit_78) jo_32 jV_1_309 rfl rfl rfl rfl
theorem e32_81 : jv_ev d 32 81 [some (.ref a)] st h = jv_ev d 32 82 [some (.ref a)] (.ref a :: st) h := jq_nx (jv_insR jm_32 dX12_unit_81) rfl
theorem e32_82 : jv_ev d 32 82 lc [.ref b] h = (jv_rc h b [(0, 21)]).bind fun y => (jv_cd d y [.ref b] h).bind fun r => jv_on r (fun v h => jv_ev d 32 85 lc (v.toList ++ []) h) (fun q h => some (.inr q, h)) := jq_V (as := []) (rest := []) (jv_insR jm_32 dX12_unit_82) jo_32 jV_1_230 rfl rfl rfl rfl
theorem e32_85 : jv_ev d 32 85 lc st h = jv_ev d 32 93 lc st h := jq_go (jv_insR jm_32 dX12_unit_85) (by decide)
theorem e32_88 : jv_ev d 32 88 [some (.ref a)] st h = jv_ev d 32 89 [some (.ref a)] (.ref a :: st) h := jq_nx (jv_insR jm_32 dX12_unit_88) rfl
theorem e32_89 : jv_ev d 32 89 lc st h = jv_ev d 32 90 lc (.int 1 :: st) h := jq_iconst (jv_insR jm_32 dX12_unit_89) (by decide)
theorem e32_90 : jv_ev d 32 90 lc [z0, .ref b] h = (jv_rc h b [(0, 20)]).bind fun y => (jv_cd d y [.ref b, z0] h).bind fun r => jv_on r (fun v h => jv_ev d 32 93 lc (v.toList ++ []) h) (fun q h => some (.inr q, h)) := jq_V (as := [z0]) (rest := []) (jv_insR jm_32 dX12_unit_90) jo_32 jV_1_224 rfl rfl rfl rfl
theorem e32_93 : jv_ev d 32 93 lc [] h = some (.inl none, h) := jq_retv (jv_insR jm_32 dX12_unit_93) jr_32
/-! 33: RainLoomModel.emit(II)V -/
theorem n33 : jv_cd (d + 1) 33 [.ref a0, .int i1, .int i2] h = jv_ev d 33 0 [some (.ref a0), some (.int i1), some (.int i2)] [] h := rfl
theorem e33_0 : jv_ev d 33 0 [some (.ref a), x1, x2] st h = jv_ev d 33 1 [some (.ref a), x1, x2] (.ref a :: st) h := jq_nx (jv_insR jm_33 dX12_emit_0) rfl
theorem e33_1 : jv_ev d 33 1 lc (.ref a :: st) h = (jv_gf h a [(0, 43, .array .int)]).bind fun r => jv_ev d 33 4 lc (r :: st) h := jq_get (jv_insR jm_33 dX12_emit_1) jo_33 jF_1_101
theorem e33_4 : jv_ev d 33 4 [some (.ref a), x1, x2] st h = jv_ev d 33 5 [some (.ref a), x1, x2] (.ref a :: st) h := jq_nx (jv_insR jm_33 dX12_emit_4) rfl
theorem e33_5 : jv_ev d 33 5 lc (.ref a :: st) h = (jv_gf h a [(0, 42, .int)]).bind fun r => jv_ev d 33 8 lc (r :: st) h := jq_get (jv_insR jm_33 dX12_emit_5) jo_33 jF_1_251
theorem e33_8 : jv_ev d 33 8 [x0, some (.int v), x2] st h = jv_ev d 33 9 [x0, some (.int v), x2] (.int v :: st) h := jq_nx (jv_insR jm_33 dX12_emit_8) rfl
theorem e33_9 : jv_ev d 33 9 lc (.int w :: .int v :: .ref a :: st) h = (jv_ip h a 0 0 v w).bind fun h => jv_ev d 33 10 lc st h := jq_iast (jv_insR jm_33 dX12_emit_9)
theorem e33_10 : jv_ev d 33 10 [some (.ref a), x1, x2] st h = jv_ev d 33 11 [some (.ref a), x1, x2] (.ref a :: st) h := jq_nx (jv_insR jm_33 dX12_emit_10) rfl
theorem e33_11 : jv_ev d 33 11 lc (.ref a :: st) h = (jv_gf h a [(0, 44, .array .int)]).bind fun r => jv_ev d 33 14 lc (r :: st) h := jq_get (jv_insR jm_33 dX12_emit_11) jo_33 jF_1_104
theorem e33_14 : jv_ev d 33 14 [some (.ref a), x1, x2] st h = jv_ev d 33 15 [some (.ref a), x1, x2] (.ref a :: st) h := jq_nx (jv_insR jm_33 dX12_emit_14) rfl
theorem e33_15 : jv_ev d 33 15 lc (.ref a :: st) h = (jv_gf h a [(0, 42, .int)]).bind fun r => jv_ev d 33 18 lc (r :: st) h := jq_get (jv_insR jm_33 dX12_emit_15) jo_33 jF_1_251
theorem e33_18 : jv_ev d 33 18 [x0, x1, some (.int v)] st h = jv_ev d 33 19 [x0, x1, some (.int v)] (.int v :: st) h := jq_nx (jv_insR jm_33 dX12_emit_18) rfl
theorem e33_19 : jv_ev d 33 19 lc (.int w :: .int v :: .ref a :: st) h = (jv_ip h a 0 0 v w).bind fun h => jv_ev d 33 20 lc st h := jq_iast (jv_insR jm_33 dX12_emit_19)
theorem e33_20 : jv_ev d 33 20 [some (.ref a), x1, x2] st h = jv_ev d 33 21 [some (.ref a), x1, x2] (.ref a :: st) h := jq_nx (jv_insR jm_33 dX12_emit_20) rfl
theorem e33_21 : jv_ev d 33 21 lc (.ref a :: st) h = jv_ev d 33 22 lc (.ref a :: .ref a :: st) h := jq_nx (jv_insR jm_33 dX12_emit_21) rfl
theorem e33_22 : jv_ev d 33 22 lc (.ref a :: st) h = (jv_gf h a [(0, 42, .int)]).bind fun r => jv_ev d 33 25 lc (r :: st) h := jq_get (jv_insR jm_33 dX12_emit_22) jo_33 jF_1_251
theorem e33_25 : jv_ev d 33 25 lc st h = jv_ev d 33 26 lc (.int 1 :: st) h := jq_iconst (jv_insR jm_33 dX12_emit_25) (by decide)
theorem e33_26 : jv_ev d 33 26 lc (.int w :: .int v :: st) h = jv_ev d 33 27 lc (.int (v + w) :: st) h := jq_nx (jv_insR jm_33 dX12_emit_26) rfl
theorem e33_27 : jv_ev d 33 27 lc (r :: .ref a :: st) h = (jv_pf h a [(0, 42, .int)] r).bind fun h => jv_ev d 33 30 lc st h := jq_put (jv_insR jm_33 dX12_emit_27) jo_33 ji_33 jG_1_251
theorem e33_30 : jv_ev d 33 30 lc [] h = some (.inl none, h) := jq_retv (jv_insR jm_33 dX12_emit_30) jr_33
/-! 34: RainLoomModel.comesOut(Z)V -/
theorem n34 : jv_cd (d + 1) 34 [.ref a0, .int i1] h = jv_ev d 34 0 [some (.ref a0), some (.int i1), none] [] h := rfl
theorem e34_0 : jv_ev d 34 0 [some (.ref a), x1, x2] st h = jv_ev d 34 1 [some (.ref a), x1, x2] (.ref a :: st) h := jq_nx (jv_insR jm_34 dX12_comesOut_0) rfl
theorem e34_1 : jv_ev d 34 1 lc (.ref a :: st) h = (jv_gf h a [(0, 46, .int)]).bind fun r => jv_ev d 34 4 lc (r :: st) h := jq_get (jv_insR jm_34 dX12_comesOut_1) jo_34 jF_1_306
theorem e34_4 : jv_ev d 34 4 lc (.int v :: st) h = if v ≤ 0 then jv_ev d 34 91 lc st h else jv_ev d 34 7 lc st h := jq_if (jv_insR jm_34 dX12_comesOut_4) rfl (by decide)
theorem e34_7 : jv_ev d 34 7 [some (.ref a), x1, x2] st h = jv_ev d 34 8 [some (.ref a), x1, x2] (.ref a :: st) h := jq_nx (jv_insR jm_34 dX12_comesOut_7) rfl
theorem e34_8 : jv_ev d 34 8 lc (.ref a :: st) h = (jv_gf h a [(0, 45, .array .int)]).bind fun r => jv_ev d 34 11 lc (r :: st) h := jq_get (jv_insR jm_34 dX12_comesOut_8) jo_34 jF_1_107
theorem e34_11 : jv_ev d 34 11 [some (.ref a), x1, x2] st h = jv_ev d 34 12 [some (.ref a), x1, x2] (.ref a :: st) h := jq_nx (jv_insR jm_34 dX12_comesOut_11) rfl
theorem e34_12 : jv_ev d 34 12 lc (.ref a :: st) h = (jv_gf h a [(0, 46, .int)]).bind fun r => jv_ev d 34 15 lc (r :: st) h := jq_get (jv_insR jm_34 dX12_comesOut_12) jo_34 jF_1_306
theorem e34_15 : jv_ev d 34 15 lc st h = jv_ev d 34 16 lc (.int 1 :: st) h := jq_iconst (jv_insR jm_34 dX12_comesOut_15) (by decide)
theorem e34_16 : jv_ev d 34 16 lc (.int w :: .int v :: st) h = jv_ev d 34 17 lc (.int (v - w) :: st) h := jq_nx (jv_insR jm_34 dX12_comesOut_16) rfl
theorem e34_17 : jv_ev d 34 17 lc (.int v :: .ref a :: st) h = (jv_ig h a 0 0 v).bind fun w => jv_ev d 34 18 lc (.int w :: st) h := jq_iald (jv_insR jm_34 dX12_comesOut_17)
theorem e34_18 : jv_ev d 34 18 [x0, x1, x2] (.int v :: st) h = jv_ev d 34 19 [x0, x1, some (.int v)] st h := jq_nx (jv_insR jm_34 dX12_comesOut_18) rfl
theorem e34_19 : jv_ev d 34 19 [x0, x1, some (.int v)] st h = jv_ev d 34 20 [x0, x1, some (.int v)] (.int v :: st) h := jq_nx (jv_insR jm_34 dX12_comesOut_19) rfl
theorem e34_20 : jv_ev d 34 20 lc st h = jv_ev d 34 22 lc (.int 6 :: st) h := jq_bipush (jv_insR jm_34 dX12_comesOut_20) (by decide)
theorem e34_22 : jv_ev d 34 22 lc (.int w :: .int v :: st) h = if v = w then jv_ev d 34 41 lc st h else jv_ev d 34 25 lc st h := jq_if (jv_insR jm_34 dX12_comesOut_22) rfl (by decide)
theorem e34_25 : jv_ev d 34 25 [x0, some (.int v), x2] st h = jv_ev d 34 26 [x0, some (.int v), x2] (.int v :: st) h := jq_nx (jv_insR jm_34 dX12_comesOut_25) rfl
theorem e34_26 : jv_ev d 34 26 lc (.int v :: st) h = if v = 0 then jv_ev d 34 42 lc st h else jv_ev d 34 29 lc st h := jq_if (jv_insR jm_34 dX12_comesOut_26) rfl (by decide)
theorem e34_29 : jv_ev d 34 29 [x0, x1, some (.int v)] st h = jv_ev d 34 30 [x0, x1, some (.int v)] (.int v :: st) h := jq_nx (jv_insR jm_34 dX12_comesOut_29) rfl
theorem e34_30 : jv_ev d 34 30 lc st h = jv_ev d 34 32 lc (.int 8 :: st) h := jq_bipush (jv_insR jm_34 dX12_comesOut_30) (by decide)
theorem e34_32 : jv_ev d 34 32 lc (.int w :: .int v :: st) h = if v = w then jv_ev d 34 41 lc st h else jv_ev d 34 35 lc st h := jq_if (jv_insR jm_34 dX12_comesOut_32) rfl (by decide)
theorem e34_35 : jv_ev d 34 35 [x0, x1, some (.int v)] st h = jv_ev d 34 36 [x0, x1, some (.int v)] (.int v :: st) h := jq_nx (jv_insR jm_34 dX12_comesOut_35) rfl
theorem e34_36 : jv_ev d 34 36 lc st h = jv_ev d 34 38 lc (.int 9 :: st) h := jq_bipush (jv_insR jm_34 dX12_comesOut_36) (by decide)
theorem e34_38 : jv_ev d 34 38 lc (.int w :: .int v :: st) h = if ¬ v = w then jv_ev d 34 42 lc st h else jv_ev d 34 41 lc st h := jq_if (jv_insR jm_34 dX12_comesOut_38) rfl (by decide)
theorem e34_41 : jv_ev d 34 41 lc [] h = some (.inl none, h) := jq_retv (jv_insR jm_34 dX12_comesOut_41) jr_34
theorem e34_42 : jv_ev d 34 42 [some (.ref a), x1, x2] st h = jv_ev d 34 43 [some (.ref a), x1, x2] (.ref a :: st) h := jq_nx (jv_insR jm_34 dX12_comesOut_42) rfl
theorem e34_43 : jv_ev d 34 43 lc (.ref a :: st) h = jv_ev d 34 44 lc (.ref a :: .ref a :: st) h := jq_nx (jv_insR jm_34 dX12_comesOut_43) rfl
theorem e34_44 : jv_ev d 34 44 lc (.ref a :: st) h = (jv_gf h a [(0, 46, .int)]).bind fun r => jv_ev d 34 47 lc (r :: st) h := jq_get (jv_insR jm_34 dX12_comesOut_44) jo_34 jF_1_306
theorem e34_47 : jv_ev d 34 47 lc st h = jv_ev d 34 48 lc (.int 1 :: st) h := jq_iconst (jv_insR jm_34 dX12_comesOut_47) (by decide)
theorem e34_48 : jv_ev d 34 48 lc (.int w :: .int v :: st) h = jv_ev d 34 49 lc (.int (v - w) :: st) h := jq_nx (jv_insR jm_34 dX12_comesOut_48) rfl
theorem e34_49 : jv_ev d 34 49 lc (r :: .ref a :: st) h = (jv_pf h a [(0, 46, .int)] r).bind fun h => jv_ev d 34 52 lc st h := jq_put (jv_insR jm_34 dX12_comesOut_49) jo_34 ji_34 jG_1_306
theorem e34_52 : jv_ev d 34 52 [some (.ref a), x1, x2] st h = jv_ev d 34 53 [some (.ref a), x1, x2] (.ref a :: st) h := jq_nx (jv_insR jm_34 dX12_comesOut_52) rfl
theorem e34_53 : jv_ev d 34 53 [x0, x1, some (.int v)] st h = jv_ev d 34 54 [x0, x1, some (.int v)] (.int v :: st) h := jq_nx (jv_insR jm_34 dX12_comesOut_53) rfl
theorem e34_54 : jv_ev d 34 54 lc st h = jv_ev d 34 56 lc (.int 8 :: st) h := jq_bipush (jv_insR jm_34 dX12_comesOut_54) (by decide)
theorem e34_56 : jv_ev d 34 56 lc (.int w :: .int v :: st) h = if ¬ v = w then jv_ev d 34 63 lc st h else jv_ev d 34 59 lc st h := jq_if (jv_insR jm_34 dX12_comesOut_56) rfl (by decide)
theorem e34_59 : jv_ev d 34 59 lc st h = jv_ev d 34 60 lc (.int 2 :: st) h := jq_iconst (jv_insR jm_34 dX12_comesOut_59) (by decide)
theorem e34_60 : jv_ev d 34 60 lc st h = jv_ev d 34 84 lc st h := jq_go (jv_insR jm_34 dX12_comesOut_60) (by decide)
theorem e34_63 : jv_ev d 34 63 [x0, x1, some (.int v)] st h = jv_ev d 34 64 [x0, x1, some (.int v)] (.int v :: st) h := jq_nx (jv_insR jm_34 dX12_comesOut_63) rfl
theorem e34_64 : jv_ev d 34 64 lc st h = jv_ev d 34 66 lc (.int 9 :: st) h := jq_bipush (jv_insR jm_34 dX12_comesOut_64) (by decide)
theorem e34_66 : jv_ev d 34 66 lc (.int w :: .int v :: st) h = if ¬ v = w then jv_ev d 34 73 lc st h else jv_ev d 34 69 lc st h := jq_if (jv_insR jm_34 dX12_comesOut_66) rfl (by decide)
theorem e34_69 : jv_ev d 34 69 lc st h = jv_ev d 34 70 lc (.int 3 :: st) h := jq_iconst (jv_insR jm_34 dX12_comesOut_69) (by decide)
theorem e34_70 : jv_ev d 34 70 lc st h = jv_ev d 34 84 lc st h := jq_go (jv_insR jm_34 dX12_comesOut_70) (by decide)
theorem e34_73 : jv_ev d 34 73 [x0, x1, some (.int v)] st h = jv_ev d 34 74 [x0, x1, some (.int v)] (.int v :: st) h := jq_nx (jv_insR jm_34 dX12_comesOut_73) rfl
theorem e34_74 : jv_ev d 34 74 lc st h = jv_ev d 34 76 lc (.int 10 :: st) h := jq_bipush (jv_insR jm_34 dX12_comesOut_74) (by decide)
theorem e34_76 : jv_ev d 34 76 lc (.int w :: .int v :: st) h = if ¬ v = w then jv_ev d 34 83 lc st h else jv_ev d 34 79 lc st h := jq_if (jv_insR jm_34 dX12_comesOut_76) rfl (by decide)
theorem e34_79 : jv_ev d 34 79 lc st h = jv_ev d 34 80 lc (.int 4 :: st) h := jq_iconst (jv_insR jm_34 dX12_comesOut_79) (by decide)
theorem e34_80 : jv_ev d 34 80 lc st h = jv_ev d 34 84 lc st h := jq_go (jv_insR jm_34 dX12_comesOut_80) (by decide)
theorem e34_83 : jv_ev d 34 83 lc st h = jv_ev d 34 84 lc (.int 5 :: st) h := jq_iconst (jv_insR jm_34 dX12_comesOut_83) (by decide)
theorem e34_84 : jv_ev d 34 84 lc st h = jv_ev d 34 85 lc (.int 0 :: st) h := jq_iconst (jv_insR jm_34 dX12_comesOut_84) (by decide)
theorem e34_85 : jv_ev d 34 85 lc [z1, z0, .ref b] h = (jv_rc h b [(0, 33)]).bind fun y => (jv_cd d y [.ref b, z0, z1] h).bind fun r => jv_on r (fun v h => jv_ev d 34 88 lc (v.toList ++ []) h) (fun q h => some (.inr q, h)) := jq_V (as := [z0, z1]) (rest := []) (jv_insR jm_34 dX12_comesOut_85) jo_34 jV_1_309 rfl rfl rfl rfl
theorem e34_88 : jv_ev d 34 88 lc st h = jv_ev d 34 0 lc st h := jq_go (jv_insR jm_34 dX12_comesOut_88) (by decide)
theorem e34_91 : jv_ev d 34 91 lc [] h = some (.inl none, h) := jq_retv (jv_insR jm_34 dX12_comesOut_91) jr_34
/-! 35: RainLoomModel.term()V -/
theorem n35 : jv_cd (d + 1) 35 [.ref a0] h = jv_ev d 35 0 [some (.ref a0)] [] h := rfl
theorem e35_0 : jv_ev d 35 0 [some (.ref a)] st h = jv_ev d 35 1 [some (.ref a)] (.ref a :: st) h := jq_nx (jv_insR jm_35 dX12_term_0) rfl
theorem e35_1 : jv_ev d 35 1 lc (.ref a :: st) h = (jv_gf h a [(0, 40, .array .int)]).bind fun r => jv_ev d 35 4 lc (r :: st) h := jq_get (jv_insR jm_35 dX12_term_1) jo_35 jF_1_95
theorem e35_4 : jv_ev d 35 4 [some (.ref a)] st h = jv_ev d 35 5 [some (.ref a)] (.ref a :: st) h := jq_nx (jv_insR jm_35 dX12_term_4) rfl
theorem e35_5 : jv_ev d 35 5 lc (.ref a :: st) h = (jv_gf h a [(0, 36, .int)]).bind fun r => jv_ev d 35 8 lc (r :: st) h := jq_get (jv_insR jm_35 dX12_term_5) jo_35 jF_1_248
theorem e35_8 : jv_ev d 35 8 [some (.ref a)] st h = jv_ev d 35 9 [some (.ref a)] (.ref a :: st) h := jq_nx (jv_insR jm_35 dX12_term_8) rfl
theorem e35_9 : jv_ev d 35 9 lc (.ref a :: st) h = (jv_gf h a [(0, 42, .int)]).bind fun r => jv_ev d 35 12 lc (r :: st) h := jq_get (jv_insR jm_35 dX12_term_9) jo_35 jF_1_251
theorem e35_12 : jv_ev d 35 12 lc (.int w :: .int v :: .ref a :: st) h = (jv_ip h a 0 0 v w).bind fun h => jv_ev d 35 13 lc st h := jq_iast (jv_insR jm_35 dX12_term_12)
theorem e35_13 : jv_ev d 35 13 [some (.ref a)] st h = jv_ev d 35 14 [some (.ref a)] (.ref a :: st) h := jq_nx (jv_insR jm_35 dX12_term_13) rfl
theorem e35_14 : jv_ev d 35 14 lc (.ref a :: st) h = (jv_gf h a [(0, 13, .int)]).bind fun r => jv_ev d 35 17 lc (r :: st) h := jq_get (jv_insR jm_35 dX12_term_14) jo_35 jF_1_209
theorem e35_17 : jv_ev d 35 17 lc (.int v :: st) h = if ¬ v = 0 then jv_ev d 35 24 lc st h else jv_ev d 35 20 lc st h := jq_if (jv_insR jm_35 dX12_term_17) rfl (by decide)
theorem e35_20 : jv_ev d 35 20 [some (.ref a)] st h = jv_ev d 35 21 [some (.ref a)] (.ref a :: st) h := jq_nx (jv_insR jm_35 dX12_term_20) rfl
theorem e35_21 : jv_ev d 35 21 lc [.ref b] h = (jv_rc h b [(0, 31)]).bind fun y => (jv_cd d y [.ref b] h).bind fun r => jv_on r (fun v h => jv_ev d 35 24 lc (v.toList ++ []) h) (fun q h => some (.inr q, h)) := jq_V (as := []) (rest := []) (jv_insR jm_35 dX12_term_21) jo_35 jV_1_300 rfl rfl rfl rfl
theorem e35_24 : jv_ev d 35 24 [some (.ref a)] st h = jv_ev d 35 25 [some (.ref a)] (.ref a :: st) h := jq_nx (jv_insR jm_35 dX12_term_24) rfl
theorem e35_25 : jv_ev d 35 25 lc (.ref a :: st) h = (jv_gf h a [(0, 41, .array .int)]).bind fun r => jv_ev d 35 28 lc (r :: st) h := jq_get (jv_insR jm_35 dX12_term_25) jo_35 jF_1_98
theorem e35_28 : jv_ev d 35 28 [some (.ref a)] st h = jv_ev d 35 29 [some (.ref a)] (.ref a :: st) h := jq_nx (jv_insR jm_35 dX12_term_28) rfl
theorem e35_29 : jv_ev d 35 29 lc (.ref a :: st) h = (jv_gf h a [(0, 36, .int)]).bind fun r => jv_ev d 35 32 lc (r :: st) h := jq_get (jv_insR jm_35 dX12_term_29) jo_35 jF_1_248
theorem e35_32 : jv_ev d 35 32 [some (.ref a)] st h = jv_ev d 35 33 [some (.ref a)] (.ref a :: st) h := jq_nx (jv_insR jm_35 dX12_term_32) rfl
theorem e35_33 : jv_ev d 35 33 lc (.ref a :: st) h = (jv_gf h a [(0, 42, .int)]).bind fun r => jv_ev d 35 36 lc (r :: st) h := jq_get (jv_insR jm_35 dX12_term_33) jo_35 jF_1_251
theorem e35_36 : jv_ev d 35 36 lc (.int w :: .int v :: .ref a :: st) h = (jv_ip h a 0 0 v w).bind fun h => jv_ev d 35 37 lc st h := jq_iast (jv_insR jm_35 dX12_term_36)
theorem e35_37 : jv_ev d 35 37 [some (.ref a)] st h = jv_ev d 35 38 [some (.ref a)] (.ref a :: st) h := jq_nx (jv_insR jm_35 dX12_term_37) rfl
theorem e35_38 : jv_ev d 35 38 lc (.ref a :: st) h = jv_ev d 35 39 lc (.ref a :: .ref a :: st) h := jq_nx (jv_insR jm_35 dX12_term_38) rfl
theorem e35_39 : jv_ev d 35 39 lc (.ref a :: st) h = (jv_gf h a [(0, 36, .int)]).bind fun r => jv_ev d 35 42 lc (r :: st) h := jq_get (jv_insR jm_35 dX12_term_39) jo_35 jF_1_248
theorem e35_42 : jv_ev d 35 42 lc st h = jv_ev d 35 43 lc (.int 1 :: st) h := jq_iconst (jv_insR jm_35 dX12_term_42) (by decide)
theorem e35_43 : jv_ev d 35 43 lc (.int w :: .int v :: st) h = jv_ev d 35 44 lc (.int (v + w) :: st) h := jq_nx (jv_insR jm_35 dX12_term_43) rfl
theorem e35_44 : jv_ev d 35 44 lc (r :: .ref a :: st) h = (jv_pf h a [(0, 36, .int)] r).bind fun h => jv_ev d 35 47 lc st h := jq_put (jv_insR jm_35 dX12_term_44) jo_35 ji_35 jG_1_248
theorem e35_47 : jv_ev d 35 47 lc [] h = some (.inl none, h) := jq_retv (jv_insR jm_35 dX12_term_47) jr_35
/-! 36: RainLoomModel.areFields()Z -/
theorem n36 : jv_cd (d + 1) 36 [.ref a0] h = jv_ev d 36 0 [some (.ref a0), none, none] [] h := rfl
theorem e36_0 : jv_ev d 36 0 lc st h = jv_ev d 36 1 lc (.int 0 :: st) h := jq_iconst (jv_insR jm_36 dX12_areFields_0) (by decide)
theorem e36_1 : jv_ev d 36 1 [x0, x1, x2] (.int v :: st) h = jv_ev d 36 2 [x0, some (.int v), x2] st h := jq_nx (jv_insR jm_36 dX12_areFields_1) rfl
theorem e36_2 : jv_ev d 36 2 [x0, some (.int v), x2] st h = jv_ev d 36 3 [x0, some (.int v), x2] (.int v :: st) h := jq_nx (jv_insR jm_36 dX12_areFields_2) rfl
theorem e36_3 : jv_ev d 36 3 [some (.ref a), x1, x2] st h = jv_ev d 36 4 [some (.ref a), x1, x2] (.ref a :: st) h := jq_nx (jv_insR jm_36 dX12_areFields_3) rfl
theorem e36_4 : jv_ev d 36 4 lc (.ref a :: st) h = (jv_gf h a [(0, 22, .array .int)]).bind fun r => jv_ev d 36 7 lc (r :: st) h := jq_get (jv_insR jm_36 dX12_areFields_4) jo_36 jF_1_43
theorem e36_7 : jv_ev d 36 7 [some (.ref a), x1, x2] st h = jv_ev d 36 8 [some (.ref a), x1, x2] (.ref a :: st) h := jq_nx (jv_insR jm_36 dX12_areFields_7) rfl
theorem e36_8 : jv_ev d 36 8 lc (.ref a :: st) h = (jv_gf h a [(0, 19, .int)]).bind fun r => jv_ev d 36 11 lc (r :: st) h := jq_get (jv_insR jm_36 dX12_areFields_8) jo_36 jF_1_242
theorem e36_11 : jv_ev d 36 11 lc (.int v :: .ref a :: st) h = (jv_ig h a 0 0 v).bind fun w => jv_ev d 36 12 lc (.int w :: st) h := jq_iald (jv_insR jm_36 dX12_areFields_11)
theorem e36_12 : jv_ev d 36 12 lc (.int w :: .int v :: st) h = if w ≤ v then jv_ev d 36 75 lc st h else jv_ev d 36 15 lc st h := jq_if (jv_insR jm_36 dX12_areFields_12) rfl (by decide)
theorem e36_15 : jv_ev d 36 15 lc st h = jv_ev d 36 16 lc (.int 0 :: st) h := jq_iconst (jv_insR jm_36 dX12_areFields_15) (by decide)
theorem e36_16 : jv_ev d 36 16 [x0, x1, x2] (.int v :: st) h = jv_ev d 36 17 [x0, x1, some (.int v)] st h := jq_nx (jv_insR jm_36 dX12_areFields_16) rfl
theorem e36_17 : jv_ev d 36 17 [x0, x1, some (.int v)] st h = jv_ev d 36 18 [x0, x1, some (.int v)] (.int v :: st) h := jq_nx (jv_insR jm_36 dX12_areFields_17) rfl
theorem e36_18 : jv_ev d 36 18 [some (.ref a), x1, x2] st h = jv_ev d 36 19 [some (.ref a), x1, x2] (.ref a :: st) h := jq_nx (jv_insR jm_36 dX12_areFields_18) rfl
theorem e36_19 : jv_ev d 36 19 lc (.ref a :: st) h = (jv_gf h a [(0, 23, .array .int)]).bind fun r => jv_ev d 36 22 lc (r :: st) h := jq_get (jv_insR jm_36 dX12_areFields_19) jo_36 jF_1_46
theorem e36_22 : jv_ev d 36 22 [some (.ref a), x1, x2] st h = jv_ev d 36 23 [some (.ref a), x1, x2] (.ref a :: st) h := jq_nx (jv_insR jm_36 dX12_areFields_22) rfl
theorem e36_23 : jv_ev d 36 23 lc (.ref a :: st) h = (jv_gf h a [(0, 19, .int)]).bind fun r => jv_ev d 36 26 lc (r :: st) h := jq_get (jv_insR jm_36 dX12_areFields_23) jo_36 jF_1_242
theorem e36_26 : jv_ev d 36 26 lc (.int v :: .ref a :: st) h = (jv_ig h a 0 0 v).bind fun w => jv_ev d 36 27 lc (.int w :: st) h := jq_iald (jv_insR jm_36 dX12_areFields_26)
theorem e36_27 : jv_ev d 36 27 lc (.int w :: .int v :: st) h = if w ≤ v then jv_ev d 36 69 lc st h else jv_ev d 36 30 lc st h := jq_if (jv_insR jm_36 dX12_areFields_27) rfl (by decide)
theorem e36_30 : jv_ev d 36 30 [some (.ref a), x1, x2] st h = jv_ev d 36 31 [some (.ref a), x1, x2] (.ref a :: st) h := jq_nx (jv_insR jm_36 dX12_areFields_30) rfl
theorem e36_31 : jv_ev d 36 31 lc (.ref a :: st) h = (jv_gf h a [(0, 24, .array .int)]).bind fun r => jv_ev d 36 34 lc (r :: st) h := jq_get (jv_insR jm_36 dX12_areFields_31) jo_36 jF_1_49
theorem e36_34 : jv_ev d 36 34 lc st h = jv_ev d 36 36 lc (.int 48 :: st) h := jq_bipush (jv_insR jm_36 dX12_areFields_34) (by decide)
theorem e36_36 : jv_ev d 36 36 [some (.ref a), x1, x2] st h = jv_ev d 36 37 [some (.ref a), x1, x2] (.ref a :: st) h := jq_nx (jv_insR jm_36 dX12_areFields_36) rfl
theorem e36_37 : jv_ev d 36 37 lc (.ref a :: st) h = (jv_gf h a [(0, 19, .int)]).bind fun r => jv_ev d 36 40 lc (r :: st) h := jq_get (jv_insR jm_36 dX12_areFields_37) jo_36 jF_1_242
theorem e36_40 : jv_ev d 36 40 lc (.int w :: .int v :: st) h = jv_ev d 36 41 lc (.int (v * w) :: st) h := jq_nx (jv_insR jm_36 dX12_areFields_40) rfl
theorem e36_41 : jv_ev d 36 41 lc st h = jv_ev d 36 43 lc (.int 8 :: st) h := jq_bipush (jv_insR jm_36 dX12_areFields_41) (by decide)
theorem e36_43 : jv_ev d 36 43 [x0, some (.int v), x2] st h = jv_ev d 36 44 [x0, some (.int v), x2] (.int v :: st) h := jq_nx (jv_insR jm_36 dX12_areFields_43) rfl
theorem e36_44 : jv_ev d 36 44 lc (.int w :: .int v :: st) h = jv_ev d 36 45 lc (.int (v * w) :: st) h := jq_nx (jv_insR jm_36 dX12_areFields_44) rfl
theorem e36_45 : jv_ev d 36 45 lc (.int w :: .int v :: st) h = jv_ev d 36 46 lc (.int (v + w) :: st) h := jq_nx (jv_insR jm_36 dX12_areFields_45) rfl
theorem e36_46 : jv_ev d 36 46 [x0, x1, some (.int v)] st h = jv_ev d 36 47 [x0, x1, some (.int v)] (.int v :: st) h := jq_nx (jv_insR jm_36 dX12_areFields_46) rfl
theorem e36_47 : jv_ev d 36 47 lc (.int w :: .int v :: st) h = jv_ev d 36 48 lc (.int (v + w) :: st) h := jq_nx (jv_insR jm_36 dX12_areFields_47) rfl
theorem e36_48 : jv_ev d 36 48 lc (.int v :: .ref a :: st) h = (jv_ig h a 0 0 v).bind fun w => jv_ev d 36 49 lc (.int w :: st) h := jq_iald (jv_insR jm_36 dX12_areFields_48)
theorem e36_49 : jv_ev d 36 49 [some (.ref a), x1, x2] st h = jv_ev d 36 50 [some (.ref a), x1, x2] (.ref a :: st) h := jq_nx (jv_insR jm_36 dX12_areFields_49) rfl
theorem e36_50 : jv_ev d 36 50 lc (.ref a :: st) h = (jv_gf h a [(0, 25, .array .int)]).bind fun r => jv_ev d 36 53 lc (r :: st) h := jq_get (jv_insR jm_36 dX12_areFields_50) jo_36 jF_1_52
theorem e36_53 : jv_ev d 36 53 [some (.ref a), x1, x2] st h = jv_ev d 36 54 [some (.ref a), x1, x2] (.ref a :: st) h := jq_nx (jv_insR jm_36 dX12_areFields_53) rfl
theorem e36_54 : jv_ev d 36 54 lc (.ref a :: st) h = (jv_gf h a [(0, 19, .int)]).bind fun r => jv_ev d 36 57 lc (r :: st) h := jq_get (jv_insR jm_36 dX12_areFields_54) jo_36 jF_1_242
theorem e36_57 : jv_ev d 36 57 lc (.int v :: .ref a :: st) h = (jv_ig h a 0 0 v).bind fun w => jv_ev d 36 58 lc (.int w :: st) h := jq_iald (jv_insR jm_36 dX12_areFields_57)
theorem e36_58 : jv_ev d 36 58 lc (.int w :: .int v :: st) h = if v < w then jv_ev d 36 63 lc st h else jv_ev d 36 61 lc st h := jq_if (jv_insR jm_36 dX12_areFields_58) rfl (by decide)
theorem e36_61 : jv_ev d 36 61 lc st h = jv_ev d 36 62 lc (.int 0 :: st) h := jq_iconst (jv_insR jm_36 dX12_areFields_61) (by decide)
theorem e36_62 : jv_ev d 36 62 lc [.int v] h = if narrow .boolean (.int v) = .int v then some (.inl (some (.int v)), h) else none := jq_ret (jv_insR jm_36 dX12_areFields_62) jr_36 (by decide)
theorem e36_63 : jv_ev d 36 63 [x0, x1, some (.int v)] st h = jv_ev d 36 66 [x0, x1, some (.int (v + 1))] st h := jq_nx (jv_insR jm_36 dX12_areFields_63) rfl
theorem e36_66 : jv_ev d 36 66 lc st h = jv_ev d 36 17 lc st h := jq_go (jv_insR jm_36 dX12_areFields_66) (by decide)
theorem e36_69 : jv_ev d 36 69 [x0, some (.int v), x2] st h = jv_ev d 36 72 [x0, some (.int (v + 1)), x2] st h := jq_nx (jv_insR jm_36 dX12_areFields_69) rfl
theorem e36_72 : jv_ev d 36 72 lc st h = jv_ev d 36 2 lc st h := jq_go (jv_insR jm_36 dX12_areFields_72) (by decide)
theorem e36_75 : jv_ev d 36 75 lc st h = jv_ev d 36 76 lc (.int 1 :: st) h := jq_iconst (jv_insR jm_36 dX12_areFields_75) (by decide)
theorem e36_76 : jv_ev d 36 76 lc [.int v] h = if narrow .boolean (.int v) = .int v then some (.inl (some (.int v)), h) else none := jq_ret (jv_insR jm_36 dX12_areFields_76) jr_36 (by decide)
/-! 37: RainLoomModel.place()I -/
theorem n37 : jv_cd (d + 1) 37 [.ref a0] h = jv_ev d 37 0 [some (.ref a0)] [] h := rfl
theorem e37_0 : jv_ev d 37 0 [some (.ref a)] st h = jv_ev d 37 1 [some (.ref a)] (.ref a :: st) h := jq_nx (jv_insR jm_37 dX12_place_0) rfl
theorem e37_1 : jv_ev d 37 1 lc (.ref a :: st) h = (jv_gf h a [(0, 17, .int)]).bind fun r => jv_ev d 37 4 lc (r :: st) h := jq_get (jv_insR jm_37 dX12_place_1) jo_37 jF_1_37
theorem e37_4 : jv_ev d 37 4 lc [.int v] h = some (.inl (some (.int v)), h) := jq_reti (jv_insR jm_37 dX12_place_4) jr_37
/-! 38: RainLoomModel.cell(III)I -/
theorem n38 : jv_cd (d + 1) 38 [.ref a0, .int i1, .int i2, .int i3] h = jv_ev d 38 0 [some (.ref a0), some (.int i1), some (.int i2), some (.int i3), none] [] h := rfl
theorem e38_0 : jv_ev d 38 0 [some (.ref a), x1, x2, x3, x4] st h = jv_ev d 38 1 [some (.ref a), x1, x2, x3, x4] (.ref a :: st) h := jq_nx (jv_insR jm_38 dX12_cell_0) rfl
theorem e38_1 : jv_ev d 38 1 [x0, some (.int v), x2, x3, x4] st h = jv_ev d 38 2 [x0, some (.int v), x2, x3, x4] (.int v :: st) h := jq_nx (jv_insR jm_38 dX12_cell_1) rfl
theorem e38_2 : jv_ev d 38 2 [x0, x1, some (.int v), x3, x4] st h = jv_ev d 38 3 [x0, x1, some (.int v), x3, x4] (.int v :: st) h := jq_nx (jv_insR jm_38 dX12_cell_2) rfl
theorem e38_3 : jv_ev d 38 3 lc [z1, z0, .ref b] h = (jv_rc h b [(0, 39)]).bind fun y => (jv_cd d y [.ref b, z0, z1] h).bind fun r => jv_on r (fun v h => jv_ev d 38 6 lc (v.toList ++ []) h) (fun q h => some (.inr q, h)) := jq_V (as := [z0, z1]) (rest := []) (jv_insR jm_38 dX12_cell_3) jo_38 jV_1_343 rfl rfl rfl rfl
theorem e38_6 : jv_ev d 38 6 lc (.int v :: st) h = if ¬ v = 0 then jv_ev d 38 11 lc st h else jv_ev d 38 9 lc st h := jq_if (jv_insR jm_38 dX12_cell_6) rfl (by decide)
theorem e38_9 : jv_ev d 38 9 lc st h = jv_ev d 38 10 lc (.int (-1) :: st) h := jq_iconst (jv_insR jm_38 dX12_cell_9) (by decide)
theorem e38_10 : jv_ev d 38 10 lc [.int v] h = some (.inl (some (.int v)), h) := jq_reti (jv_insR jm_38 dX12_cell_10) jr_38
theorem e38_11 : jv_ev d 38 11 [some (.ref a), x1, x2, x3, x4] st h = jv_ev d 38 12 [some (.ref a), x1, x2, x3, x4] (.ref a :: st) h := jq_nx (jv_insR jm_38 dX12_cell_11) rfl
theorem e38_12 : jv_ev d 38 12 lc [.ref b] h = (jv_rc h b [(0, 41)]).bind fun y => (jv_cd d y [.ref b] h).bind fun r => jv_on r (fun v h => jv_ev d 38 15 lc (v.toList ++ []) h) (fun q h => some (.inr q, h)) := jq_V (as := []) (rest := []) (jv_insR jm_38 dX12_cell_12) jo_38 jV_1_381 rfl rfl rfl rfl
theorem e38_15 : jv_ev d 38 15 lc st h = jv_ev d 38 17 lc (.int 8 :: st) h := jq_bipush (jv_insR jm_38 dX12_cell_15) (by decide)
theorem e38_17 : jv_ev d 38 17 [x0, x1, some (.int v), x3, x4] st h = jv_ev d 38 18 [x0, x1, some (.int v), x3, x4] (.int v :: st) h := jq_nx (jv_insR jm_38 dX12_cell_17) rfl
theorem e38_18 : jv_ev d 38 18 lc (.int w :: .int v :: st) h = jv_ev d 38 19 lc (.int (v * w) :: st) h := jq_nx (jv_insR jm_38 dX12_cell_18) rfl
theorem e38_19 : jv_ev d 38 19 [x0, some (.int v), x2, x3, x4] st h = jv_ev d 38 20 [x0, some (.int v), x2, x3, x4] (.int v :: st) h := jq_nx (jv_insR jm_38 dX12_cell_19) rfl
theorem e38_20 : jv_ev d 38 20 lc (.int w :: .int v :: st) h = jv_ev d 38 21 lc (.int (v + w) :: st) h := jq_nx (jv_insR jm_38 dX12_cell_20) rfl
theorem e38_21 : jv_ev d 38 21 [x0, x1, x2, x3, x4] (.int v :: st) h = jv_ev d 38 23 [x0, x1, x2, x3, some (.int v)] st h := jq_nx (jv_insR jm_38 dX12_cell_21) rfl
theorem e38_23 : jv_ev d 38 23 [x0, x1, x2, some (.int v), x4] st h = jv_ev d 38 24 [x0, x1, x2, some (.int v), x4] (.int v :: st) h := jq_nx (jv_insR jm_38 dX12_cell_23) rfl
theorem e38_24 : jv_ev d 38 24 lc (.int v :: st) h = jv_tsl (fun t => jv_ev d 38 t lc st h) v [(0, 56), (1, 63), (2, 71), (3, 86)] 101 := jq_ts (jv_insR jm_38 dX12_cell_24) [(0, 56), (1, 63), (2, 71), (3, 86)] 101 (by decide) (by decide) (by decide) (by decide)
theorem e38_56 : jv_ev d 38 56 [some (.ref a), x1, x2, x3, x4] st h = jv_ev d 38 57 [some (.ref a), x1, x2, x3, x4] (.ref a :: st) h := jq_nx (jv_insR jm_38 dX12_cell_56) rfl
theorem e38_57 : jv_ev d 38 57 [x0, x1, x2, x3, some (.int v)] st h = jv_ev d 38 59 [x0, x1, x2, x3, some (.int v)] (.int v :: st) h := jq_nx (jv_insR jm_38 dX12_cell_57) rfl
theorem e38_59 : jv_ev d 38 59 lc [z0, .ref b] h = (jv_rc h b [(0, 42)]).bind fun y => (jv_cd d y [.ref b, z0] h).bind fun r => jv_on r (fun v h => jv_ev d 38 62 lc (v.toList ++ []) h) (fun q h => some (.inr q, h)) := jq_V (as := [z0]) (rest := []) (jv_insR jm_38 dX12_cell_59) jo_38 jV_1_347 rfl rfl rfl rfl
theorem e38_62 : jv_ev d 38 62 lc [.int v] h = some (.inl (some (.int v)), h) := jq_reti (jv_insR jm_38 dX12_cell_62) jr_38
theorem e38_63 : jv_ev d 38 63 [some (.ref a), x1, x2, x3, x4] st h = jv_ev d 38 64 [some (.ref a), x1, x2, x3, x4] (.ref a :: st) h := jq_nx (jv_insR jm_38 dX12_cell_63) rfl
theorem e38_64 : jv_ev d 38 64 lc (.ref a :: st) h = (jv_gf h a [(0, 51, .array .int)]).bind fun r => jv_ev d 38 67 lc (r :: st) h := jq_get (jv_insR jm_38 dX12_cell_64) jo_38 jF_1_119
theorem e38_67 : jv_ev d 38 67 [x0, x1, x2, x3, some (.int v)] st h = jv_ev d 38 69 [x0, x1, x2, x3, some (.int v)] (.int v :: st) h := jq_nx (jv_insR jm_38 dX12_cell_67) rfl
theorem e38_69 : jv_ev d 38 69 lc (.int v :: .ref a :: st) h = (jv_ig h a 0 0 v).bind fun w => jv_ev d 38 70 lc (.int w :: st) h := jq_iald (jv_insR jm_38 dX12_cell_69)
theorem e38_70 : jv_ev d 38 70 lc [.int v] h = some (.inl (some (.int v)), h) := jq_reti (jv_insR jm_38 dX12_cell_70) jr_38
theorem e38_71 : jv_ev d 38 71 [some (.ref a), x1, x2, x3, x4] st h = jv_ev d 38 72 [some (.ref a), x1, x2, x3, x4] (.ref a :: st) h := jq_nx (jv_insR jm_38 dX12_cell_71) rfl
theorem e38_72 : jv_ev d 38 72 [x0, x1, x2, x3, some (.int v)] st h = jv_ev d 38 74 [x0, x1, x2, x3, some (.int v)] (.int v :: st) h := jq_nx (jv_insR jm_38 dX12_cell_72) rfl
theorem e38_74 : jv_ev d 38 74 lc [z0, .ref b] h = (jv_rc h b [(0, 43)]).bind fun y => (jv_cd d y [.ref b, z0] h).bind fun r => jv_on r (fun v h => jv_ev d 38 77 lc (v.toList ++ []) h) (fun q h => some (.inr q, h)) := jq_V (as := [z0]) (rest := []) (jv_insR jm_38 dX12_cell_74) jo_38 jV_1_369 rfl rfl rfl rfl
theorem e38_77 : jv_ev d 38 77 lc (.int v :: st) h = if v = 0 then jv_ev d 38 84 lc st h else jv_ev d 38 80 lc st h := jq_if (jv_insR jm_38 dX12_cell_77) rfl (by decide)
theorem e38_80 : jv_ev d 38 80 lc st h = jv_ev d 38 81 lc (.int 1 :: st) h := jq_iconst (jv_insR jm_38 dX12_cell_80) (by decide)
theorem e38_81 : jv_ev d 38 81 lc st h = jv_ev d 38 85 lc st h := jq_go (jv_insR jm_38 dX12_cell_81) (by decide)
theorem e38_84 : jv_ev d 38 84 lc st h = jv_ev d 38 85 lc (.int 0 :: st) h := jq_iconst (jv_insR jm_38 dX12_cell_84) (by decide)
theorem e38_85 : jv_ev d 38 85 lc [.int v] h = some (.inl (some (.int v)), h) := jq_reti (jv_insR jm_38 dX12_cell_85) jr_38
theorem e38_86 : jv_ev d 38 86 [some (.ref a), x1, x2, x3, x4] st h = jv_ev d 38 87 [some (.ref a), x1, x2, x3, x4] (.ref a :: st) h := jq_nx (jv_insR jm_38 dX12_cell_86) rfl
theorem e38_87 : jv_ev d 38 87 [x0, x1, x2, x3, some (.int v)] st h = jv_ev d 38 89 [x0, x1, x2, x3, some (.int v)] (.int v :: st) h := jq_nx (jv_insR jm_38 dX12_cell_87) rfl
theorem e38_89 : jv_ev d 38 89 lc [z0, .ref b] h = (jv_rc h b [(0, 45)]).bind fun y => (jv_cd d y [.ref b, z0] h).bind fun r => jv_on r (fun v h => jv_ev d 38 92 lc (v.toList ++ []) h) (fun q h => some (.inr q, h)) := jq_V (as := [z0]) (rest := []) (jv_insR jm_38 dX12_cell_89) jo_38 jV_1_372 rfl rfl rfl rfl
theorem e38_92 : jv_ev d 38 92 lc (.int v :: st) h = if v = 0 then jv_ev d 38 99 lc st h else jv_ev d 38 95 lc st h := jq_if (jv_insR jm_38 dX12_cell_92) rfl (by decide)
theorem e38_95 : jv_ev d 38 95 lc st h = jv_ev d 38 96 lc (.int 1 :: st) h := jq_iconst (jv_insR jm_38 dX12_cell_95) (by decide)
theorem e38_96 : jv_ev d 38 96 lc st h = jv_ev d 38 100 lc st h := jq_go (jv_insR jm_38 dX12_cell_96) (by decide)
theorem e38_99 : jv_ev d 38 99 lc st h = jv_ev d 38 100 lc (.int 0 :: st) h := jq_iconst (jv_insR jm_38 dX12_cell_99) (by decide)
theorem e38_100 : jv_ev d 38 100 lc [.int v] h = some (.inl (some (.int v)), h) := jq_reti (jv_insR jm_38 dX12_cell_100) jr_38
theorem e38_101 : jv_ev d 38 101 lc st h = jv_ev d 38 102 lc (.int (-1) :: st) h := jq_iconst (jv_insR jm_38 dX12_cell_101) (by decide)
theorem e38_102 : jv_ev d 38 102 lc [.int v] h = some (.inl (some (.int v)), h) := jq_reti (jv_insR jm_38 dX12_cell_102) jr_38
/-! 39: RainLoomModel.isCell(II)Z -/
theorem n39 : jv_cd (d + 1) 39 [.ref a0, .int i1, .int i2] h = jv_ev d 39 0 [some (.ref a0), some (.int i1), some (.int i2)] [] h := rfl
theorem e39_0 : jv_ev d 39 0 [x0, some (.int v), x2] st h = jv_ev d 39 1 [x0, some (.int v), x2] (.int v :: st) h := jq_nx (jv_insR jm_39 dX12_isCell_0) rfl
theorem e39_1 : jv_ev d 39 1 lc st h = jv_ev d 39 2 lc (.int 0 :: st) h := jq_iconst (jv_insR jm_39 dX12_isCell_1) (by decide)
theorem e39_2 : jv_ev d 39 2 [some (.ref a), x1, x2] st h = jv_ev d 39 3 [some (.ref a), x1, x2] (.ref a :: st) h := jq_nx (jv_insR jm_39 dX12_isCell_2) rfl
theorem e39_3 : jv_ev d 39 3 lc (.ref a :: st) h = (jv_gf h a [(0, 23, .array .int)]).bind fun r => jv_ev d 39 6 lc (r :: st) h := jq_get (jv_insR jm_39 dX12_isCell_3) jo_39 jF_1_46
theorem e39_6 : jv_ev d 39 6 [some (.ref a), x1, x2] st h = jv_ev d 39 7 [some (.ref a), x1, x2] (.ref a :: st) h := jq_nx (jv_insR jm_39 dX12_isCell_6) rfl
theorem e39_7 : jv_ev d 39 7 lc (.ref a :: st) h = (jv_gf h a [(0, 18, .int)]).bind fun r => jv_ev d 39 10 lc (r :: st) h := jq_get (jv_insR jm_39 dX12_isCell_7) jo_39 jF_1_239
theorem e39_10 : jv_ev d 39 10 lc (.int v :: .ref a :: st) h = (jv_ig h a 0 0 v).bind fun w => jv_ev d 39 11 lc (.int w :: st) h := jq_iald (jv_insR jm_39 dX12_isCell_10)
theorem e39_11 : jv_ev d 39 11 lc st h = jv_ev d 39 12 lc (.int 1 :: st) h := jq_iconst (jv_insR jm_39 dX12_isCell_11) (by decide)
theorem e39_12 : jv_ev d 39 12 lc (.int w :: .int v :: st) h = jv_ev d 39 13 lc (.int (v - w) :: st) h := jq_nx (jv_insR jm_39 dX12_isCell_12) rfl
theorem e39_13 : jv_ev d 39 13 lc [z2, z1, z0] h = (jv_cd d 40 [z0, z1, z2] h).bind fun r => jv_on r (fun v h => jv_ev d 39 16 lc (v.toList ++ []) h) (fun q h => some (.inr q, h)) := jq_S (as := [z0, z1, z2]) (rest := []) (jv_insR jm_39 dX12_isCell_13) jo_39 jT_1_323 rfl rfl rfl rfl
theorem e39_16 : jv_ev d 39 16 lc (.int v :: st) h = if v = 0 then jv_ev d 39 42 lc st h else jv_ev d 39 19 lc st h := jq_if (jv_insR jm_39 dX12_isCell_16) rfl (by decide)
theorem e39_19 : jv_ev d 39 19 [x0, x1, some (.int v)] st h = jv_ev d 39 20 [x0, x1, some (.int v)] (.int v :: st) h := jq_nx (jv_insR jm_39 dX12_isCell_19) rfl
theorem e39_20 : jv_ev d 39 20 lc st h = jv_ev d 39 21 lc (.int 0 :: st) h := jq_iconst (jv_insR jm_39 dX12_isCell_20) (by decide)
theorem e39_21 : jv_ev d 39 21 [some (.ref a), x1, x2] st h = jv_ev d 39 22 [some (.ref a), x1, x2] (.ref a :: st) h := jq_nx (jv_insR jm_39 dX12_isCell_21) rfl
theorem e39_22 : jv_ev d 39 22 lc (.ref a :: st) h = (jv_gf h a [(0, 22, .array .int)]).bind fun r => jv_ev d 39 25 lc (r :: st) h := jq_get (jv_insR jm_39 dX12_isCell_22) jo_39 jF_1_43
theorem e39_25 : jv_ev d 39 25 [some (.ref a), x1, x2] st h = jv_ev d 39 26 [some (.ref a), x1, x2] (.ref a :: st) h := jq_nx (jv_insR jm_39 dX12_isCell_25) rfl
theorem e39_26 : jv_ev d 39 26 lc (.ref a :: st) h = (jv_gf h a [(0, 18, .int)]).bind fun r => jv_ev d 39 29 lc (r :: st) h := jq_get (jv_insR jm_39 dX12_isCell_26) jo_39 jF_1_239
theorem e39_29 : jv_ev d 39 29 lc (.int v :: .ref a :: st) h = (jv_ig h a 0 0 v).bind fun w => jv_ev d 39 30 lc (.int w :: st) h := jq_iald (jv_insR jm_39 dX12_isCell_29)
theorem e39_30 : jv_ev d 39 30 lc st h = jv_ev d 39 31 lc (.int 1 :: st) h := jq_iconst (jv_insR jm_39 dX12_isCell_30) (by decide)
theorem e39_31 : jv_ev d 39 31 lc (.int w :: .int v :: st) h = jv_ev d 39 32 lc (.int (v - w) :: st) h := jq_nx (jv_insR jm_39 dX12_isCell_31) rfl
theorem e39_32 : jv_ev d 39 32 lc [z2, z1, z0] h = (jv_cd d 40 [z0, z1, z2] h).bind fun r => jv_on r (fun v h => jv_ev d 39 35 lc (v.toList ++ []) h) (fun q h => some (.inr q, h)) := jq_S (as := [z0, z1, z2]) (rest := []) (jv_insR jm_39 dX12_isCell_32) jo_39 jT_1_323 rfl rfl rfl rfl
theorem e39_35 : jv_ev d 39 35 lc (.int v :: st) h = if v = 0 then jv_ev d 39 42 lc st h else jv_ev d 39 38 lc st h := jq_if (jv_insR jm_39 dX12_isCell_35) rfl (by decide)
theorem e39_38 : jv_ev d 39 38 lc st h = jv_ev d 39 39 lc (.int 1 :: st) h := jq_iconst (jv_insR jm_39 dX12_isCell_38) (by decide)
theorem e39_39 : jv_ev d 39 39 lc st h = jv_ev d 39 43 lc st h := jq_go (jv_insR jm_39 dX12_isCell_39) (by decide)
theorem e39_42 : jv_ev d 39 42 lc st h = jv_ev d 39 43 lc (.int 0 :: st) h := jq_iconst (jv_insR jm_39 dX12_isCell_42) (by decide)
theorem e39_43 : jv_ev d 39 43 lc [.int v] h = if narrow .boolean (.int v) = .int v then some (.inl (some (.int v)), h) else none := jq_ret (jv_insR jm_39 dX12_isCell_43) jr_39 (by decide)
/-! 40: RainLoomModel.in(III)Z -/
theorem n40 : jv_cd (d + 1) 40 [.int i0, .int i1, .int i2] h = jv_ev d 40 0 [some (.int i0), some (.int i1), some (.int i2)] [] h := rfl
theorem e40_0 : jv_ev d 40 0 [some (.int v), x1, x2] st h = jv_ev d 40 1 [some (.int v), x1, x2] (.int v :: st) h := jq_nx (jv_insR jm_40 dX12_in_0) rfl
theorem e40_1 : jv_ev d 40 1 [x0, some (.int v), x2] st h = jv_ev d 40 2 [x0, some (.int v), x2] (.int v :: st) h := jq_nx (jv_insR jm_40 dX12_in_1) rfl
theorem e40_2 : jv_ev d 40 2 lc (.int w :: .int v :: st) h = if v < w then jv_ev d 40 14 lc st h else jv_ev d 40 5 lc st h := jq_if (jv_insR jm_40 dX12_in_2) rfl (by decide)
theorem e40_5 : jv_ev d 40 5 [some (.int v), x1, x2] st h = jv_ev d 40 6 [some (.int v), x1, x2] (.int v :: st) h := jq_nx (jv_insR jm_40 dX12_in_5) rfl
theorem e40_6 : jv_ev d 40 6 [x0, x1, some (.int v)] st h = jv_ev d 40 7 [x0, x1, some (.int v)] (.int v :: st) h := jq_nx (jv_insR jm_40 dX12_in_6) rfl
theorem e40_7 : jv_ev d 40 7 lc (.int w :: .int v :: st) h = if w < v then jv_ev d 40 14 lc st h else jv_ev d 40 10 lc st h := jq_if (jv_insR jm_40 dX12_in_7) rfl (by decide)
theorem e40_10 : jv_ev d 40 10 lc st h = jv_ev d 40 11 lc (.int 1 :: st) h := jq_iconst (jv_insR jm_40 dX12_in_10) (by decide)
theorem e40_11 : jv_ev d 40 11 lc st h = jv_ev d 40 15 lc st h := jq_go (jv_insR jm_40 dX12_in_11) (by decide)
theorem e40_14 : jv_ev d 40 14 lc st h = jv_ev d 40 15 lc (.int 0 :: st) h := jq_iconst (jv_insR jm_40 dX12_in_14) (by decide)
theorem e40_15 : jv_ev d 40 15 lc [.int v] h = if narrow .boolean (.int v) = .int v then some (.inl (some (.int v)), h) else none := jq_ret (jv_insR jm_40 dX12_in_15) jr_40 (by decide)
/-! 41: RainLoomModel.copies()V -/
theorem n41 : jv_cd (d + 1) 41 [.ref a0] h = jv_ev d 41 0 [some (.ref a0), none] [] h := rfl
theorem e41_0 : jv_ev d 41 0 lc st h = jv_ev d 41 1 lc (.int 0 :: st) h := jq_iconst (jv_insR jm_41 dX12_copies_0) (by decide)
theorem e41_1 : jv_ev d 41 1 [x0, x1] (.int v :: st) h = jv_ev d 41 2 [x0, some (.int v)] st h := jq_nx (jv_insR jm_41 dX12_copies_1) rfl
theorem e41_2 : jv_ev d 41 2 [x0, some (.int v)] st h = jv_ev d 41 3 [x0, some (.int v)] (.int v :: st) h := jq_nx (jv_insR jm_41 dX12_copies_2) rfl
theorem e41_3 : jv_ev d 41 3 lc st h = jv_ev d 41 5 lc (.int 92 :: st) h := jq_bipush (jv_insR jm_41 dX12_copies_3) (by decide)
theorem e41_5 : jv_ev d 41 5 lc (.int w :: .int v :: st) h = if w ≤ v then jv_ev d 41 26 lc st h else jv_ev d 41 8 lc st h := jq_if (jv_insR jm_41 dX12_copies_5) rfl (by decide)
theorem e41_8 : jv_ev d 41 8 [some (.ref a), x1] st h = jv_ev d 41 9 [some (.ref a), x1] (.ref a :: st) h := jq_nx (jv_insR jm_41 dX12_copies_8) rfl
theorem e41_9 : jv_ev d 41 9 lc (.ref a :: st) h = (jv_gf h a [(0, 51, .array .int)]).bind fun r => jv_ev d 41 12 lc (r :: st) h := jq_get (jv_insR jm_41 dX12_copies_9) jo_41 jF_1_119
theorem e41_12 : jv_ev d 41 12 [x0, some (.int v)] st h = jv_ev d 41 13 [x0, some (.int v)] (.int v :: st) h := jq_nx (jv_insR jm_41 dX12_copies_12) rfl
theorem e41_13 : jv_ev d 41 13 [some (.ref a), x1] st h = jv_ev d 41 14 [some (.ref a), x1] (.ref a :: st) h := jq_nx (jv_insR jm_41 dX12_copies_13) rfl
theorem e41_14 : jv_ev d 41 14 lc (.ref a :: st) h = (jv_gf h a [(0, 50, .array .int)]).bind fun r => jv_ev d 41 17 lc (r :: st) h := jq_get (jv_insR jm_41 dX12_copies_14) jo_41 jF_1_116
theorem e41_17 : jv_ev d 41 17 [x0, some (.int v)] st h = jv_ev d 41 18 [x0, some (.int v)] (.int v :: st) h := jq_nx (jv_insR jm_41 dX12_copies_17) rfl
theorem e41_18 : jv_ev d 41 18 lc (.int v :: .ref a :: st) h = (jv_ig h a 0 0 v).bind fun w => jv_ev d 41 19 lc (.int w :: st) h := jq_iald (jv_insR jm_41 dX12_copies_18)
theorem e41_19 : jv_ev d 41 19 lc (.int w :: .int v :: .ref a :: st) h = (jv_ip h a 0 0 v w).bind fun h => jv_ev d 41 20 lc st h := jq_iast (jv_insR jm_41 dX12_copies_19)
theorem e41_20 : jv_ev d 41 20 [x0, some (.int v)] st h = jv_ev d 41 23 [x0, some (.int (v + 1))] st h := jq_nx (jv_insR jm_41 dX12_copies_20) rfl
theorem e41_23 : jv_ev d 41 23 lc st h = jv_ev d 41 2 lc st h := jq_go (jv_insR jm_41 dX12_copies_23) (by decide)
theorem e41_26 : jv_ev d 41 26 [some (.ref a), x1] st h = jv_ev d 41 27 [some (.ref a), x1] (.ref a :: st) h := jq_nx (jv_insR jm_41 dX12_copies_26) rfl
theorem e41_27 : jv_ev d 41 27 [some (.ref a), x1] st h = jv_ev d 41 28 [some (.ref a), x1] (.ref a :: st) h := jq_nx (jv_insR jm_41 dX12_copies_27) rfl
theorem e41_28 : jv_ev d 41 28 lc (.ref a :: st) h = (jv_gf h a [(0, 33, .array .int)]).bind fun r => jv_ev d 41 31 lc (r :: st) h := jq_get (jv_insR jm_41 dX12_copies_28) jo_41 jF_1_76
theorem e41_31 : jv_ev d 41 31 [some (.ref a), x1] st h = jv_ev d 41 32 [some (.ref a), x1] (.ref a :: st) h := jq_nx (jv_insR jm_41 dX12_copies_31) rfl
theorem e41_32 : jv_ev d 41 32 lc (.ref a :: st) h = (jv_gf h a [(0, 18, .int)]).bind fun r => jv_ev d 41 35 lc (r :: st) h := jq_get (jv_insR jm_41 dX12_copies_32) jo_41 jF_1_239
theorem e41_35 : jv_ev d 41 35 lc (.int v :: .ref a :: st) h = (jv_ig h a 0 0 v).bind fun w => jv_ev d 41 36 lc (.int w :: st) h := jq_iald (jv_insR jm_41 dX12_copies_35)
theorem e41_36 : jv_ev d 41 36 lc (r :: .ref a :: st) h = (jv_pf h a [(0, 52, .int)] r).bind fun h => jv_ev d 41 39 lc st h := jq_put (jv_insR jm_41 dX12_copies_36) jo_41 ji_41 jG_1_327
theorem e41_39 : jv_ev d 41 39 lc [] h = some (.inl none, h) := jq_retv (jv_insR jm_41 dX12_copies_39) jr_41
/-! 42: RainLoomModel.fieldAt(I)I -/
theorem n42 : jv_cd (d + 1) 42 [.ref a0, .int i1] h = jv_ev d 42 0 [some (.ref a0), some (.int i1)] [] h := rfl
theorem e42_0 : jv_ev d 42 0 [some (.ref a), x1] st h = jv_ev d 42 1 [some (.ref a), x1] (.ref a :: st) h := jq_nx (jv_insR jm_42 dX12_fieldAt_0) rfl
theorem e42_1 : jv_ev d 42 1 lc (.ref a :: st) h = (jv_gf h a [(0, 24, .array .int)]).bind fun r => jv_ev d 42 4 lc (r :: st) h := jq_get (jv_insR jm_42 dX12_fieldAt_1) jo_42 jF_1_49
theorem e42_4 : jv_ev d 42 4 lc st h = jv_ev d 42 6 lc (.int 48 :: st) h := jq_bipush (jv_insR jm_42 dX12_fieldAt_4) (by decide)
theorem e42_6 : jv_ev d 42 6 [some (.ref a), x1] st h = jv_ev d 42 7 [some (.ref a), x1] (.ref a :: st) h := jq_nx (jv_insR jm_42 dX12_fieldAt_6) rfl
theorem e42_7 : jv_ev d 42 7 lc (.ref a :: st) h = (jv_gf h a [(0, 18, .int)]).bind fun r => jv_ev d 42 10 lc (r :: st) h := jq_get (jv_insR jm_42 dX12_fieldAt_7) jo_42 jF_1_239
theorem e42_10 : jv_ev d 42 10 lc (.int w :: .int v :: st) h = jv_ev d 42 11 lc (.int (v * w) :: st) h := jq_nx (jv_insR jm_42 dX12_fieldAt_10) rfl
theorem e42_11 : jv_ev d 42 11 [x0, some (.int v)] st h = jv_ev d 42 12 [x0, some (.int v)] (.int v :: st) h := jq_nx (jv_insR jm_42 dX12_fieldAt_11) rfl
theorem e42_12 : jv_ev d 42 12 lc (.int w :: .int v :: st) h = jv_ev d 42 13 lc (.int (v + w) :: st) h := jq_nx (jv_insR jm_42 dX12_fieldAt_12) rfl
theorem e42_13 : jv_ev d 42 13 lc (.int v :: .ref a :: st) h = (jv_ig h a 0 0 v).bind fun w => jv_ev d 42 14 lc (.int w :: st) h := jq_iald (jv_insR jm_42 dX12_fieldAt_13)
theorem e42_14 : jv_ev d 42 14 lc [.int v] h = some (.inl (some (.int v)), h) := jq_reti (jv_insR jm_42 dX12_fieldAt_14) jr_42
/-! 43: RainLoomModel.isLacking(I)Z -/
theorem n43 : jv_cd (d + 1) 43 [.ref a0, .int i1] h = jv_ev d 43 0 [some (.ref a0), some (.int i1)] [] h := rfl
theorem e43_0 : jv_ev d 43 0 [some (.ref a), x1] st h = jv_ev d 43 1 [some (.ref a), x1] (.ref a :: st) h := jq_nx (jv_insR jm_43 dX12_isLacking_0) rfl
theorem e43_1 : jv_ev d 43 1 [x0, some (.int v)] st h = jv_ev d 43 2 [x0, some (.int v)] (.int v :: st) h := jq_nx (jv_insR jm_43 dX12_isLacking_1) rfl
theorem e43_2 : jv_ev d 43 2 lc [z0, .ref b] h = (jv_rc h b [(0, 42)]).bind fun y => (jv_cd d y [.ref b, z0] h).bind fun r => jv_on r (fun v h => jv_ev d 43 5 lc (v.toList ++ []) h) (fun q h => some (.inr q, h)) := jq_V (as := [z0]) (rest := []) (jv_insR jm_43 dX12_isLacking_2) jo_43 jV_1_347 rfl rfl rfl rfl
theorem e43_5 : jv_ev d 43 5 lc (.int v :: st) h = if v < 0 then jv_ev d 43 26 lc st h else jv_ev d 43 8 lc st h := jq_if (jv_insR jm_43 dX12_isLacking_5) rfl (by decide)
theorem e43_8 : jv_ev d 43 8 [some (.ref a), x1] st h = jv_ev d 43 9 [some (.ref a), x1] (.ref a :: st) h := jq_nx (jv_insR jm_43 dX12_isLacking_8) rfl
theorem e43_9 : jv_ev d 43 9 lc (.ref a :: st) h = (jv_gf h a [(0, 51, .array .int)]).bind fun r => jv_ev d 43 12 lc (r :: st) h := jq_get (jv_insR jm_43 dX12_isLacking_9) jo_43 jF_1_119
theorem e43_12 : jv_ev d 43 12 [x0, some (.int v)] st h = jv_ev d 43 13 [x0, some (.int v)] (.int v :: st) h := jq_nx (jv_insR jm_43 dX12_isLacking_12) rfl
theorem e43_13 : jv_ev d 43 13 lc (.int v :: .ref a :: st) h = (jv_ig h a 0 0 v).bind fun w => jv_ev d 43 14 lc (.int w :: st) h := jq_iald (jv_insR jm_43 dX12_isLacking_13)
theorem e43_14 : jv_ev d 43 14 [some (.ref a), x1] st h = jv_ev d 43 15 [some (.ref a), x1] (.ref a :: st) h := jq_nx (jv_insR jm_43 dX12_isLacking_14) rfl
theorem e43_15 : jv_ev d 43 15 [x0, some (.int v)] st h = jv_ev d 43 16 [x0, some (.int v)] (.int v :: st) h := jq_nx (jv_insR jm_43 dX12_isLacking_15) rfl
theorem e43_16 : jv_ev d 43 16 lc [z0, .ref b, y0] h = (jv_rc h b [(0, 44)]).bind fun y => (jv_cd d y [.ref b, z0] h).bind fun r => jv_on r (fun v h => jv_ev d 43 19 lc (v.toList ++ [y0]) h) (fun q h => some (.inr q, h)) := jq_V (as := [z0]) (rest := [y0]) (jv_insR jm_43 dX12_isLacking_16) jo_43 jV_1_350 rfl rfl rfl rfl
theorem e43_19 : jv_ev d 43 19 lc (.int w :: .int v :: st) h = if w ≤ v then jv_ev d 43 26 lc st h else jv_ev d 43 22 lc st h := jq_if (jv_insR jm_43 dX12_isLacking_19) rfl (by decide)
theorem e43_22 : jv_ev d 43 22 lc st h = jv_ev d 43 23 lc (.int 1 :: st) h := jq_iconst (jv_insR jm_43 dX12_isLacking_22) (by decide)
theorem e43_23 : jv_ev d 43 23 lc st h = jv_ev d 43 27 lc st h := jq_go (jv_insR jm_43 dX12_isLacking_23) (by decide)
theorem e43_26 : jv_ev d 43 26 lc st h = jv_ev d 43 27 lc (.int 0 :: st) h := jq_iconst (jv_insR jm_43 dX12_isLacking_26) (by decide)
theorem e43_27 : jv_ev d 43 27 lc [.int v] h = if narrow .boolean (.int v) = .int v then some (.inl (some (.int v)), h) else none := jq_ret (jv_insR jm_43 dX12_isLacking_27) jr_43 (by decide)
/-! 44: RainLoomModel.needOf(I)I -/
theorem n44 : jv_cd (d + 1) 44 [.ref a0, .int i1] h = jv_ev d 44 0 [some (.ref a0), some (.int i1)] [] h := rfl
theorem e44_0 : jv_ev d 44 0 [some (.ref a), x1] st h = jv_ev d 44 1 [some (.ref a), x1] (.ref a :: st) h := jq_nx (jv_insR jm_44 dX12_needOf_0) rfl
theorem e44_1 : jv_ev d 44 1 [x0, some (.int v)] st h = jv_ev d 44 2 [x0, some (.int v)] (.int v :: st) h := jq_nx (jv_insR jm_44 dX12_needOf_1) rfl
theorem e44_2 : jv_ev d 44 2 lc [z0, .ref b] h = (jv_rc h b [(0, 42)]).bind fun y => (jv_cd d y [.ref b, z0] h).bind fun r => jv_on r (fun v h => jv_ev d 44 5 lc (v.toList ++ []) h) (fun q h => some (.inr q, h)) := jq_V (as := [z0]) (rest := []) (jv_insR jm_44 dX12_needOf_2) jo_44 jV_1_347 rfl rfl rfl rfl
theorem e44_5 : jv_ev d 44 5 lc (.int v :: st) h = if 0 ≤ v then jv_ev d 44 12 lc st h else jv_ev d 44 8 lc st h := jq_if (jv_insR jm_44 dX12_needOf_5) rfl (by decide)
theorem e44_8 : jv_ev d 44 8 lc st h = jv_ev d 44 9 lc (.int 0 :: st) h := jq_iconst (jv_insR jm_44 dX12_needOf_8) (by decide)
theorem e44_9 : jv_ev d 44 9 lc st h = jv_ev d 44 30 lc st h := jq_go (jv_insR jm_44 dX12_needOf_9) (by decide)
theorem e44_12 : jv_ev d 44 12 [some (.ref a), x1] st h = jv_ev d 44 13 [some (.ref a), x1] (.ref a :: st) h := jq_nx (jv_insR jm_44 dX12_needOf_12) rfl
theorem e44_13 : jv_ev d 44 13 lc (.ref a :: st) h = (jv_gf h a [(0, 26, .array .int)]).bind fun r => jv_ev d 44 16 lc (r :: st) h := jq_get (jv_insR jm_44 dX12_needOf_13) jo_44 jF_1_55
theorem e44_16 : jv_ev d 44 16 lc st h = jv_ev d 44 18 lc (.int 6 :: st) h := jq_bipush (jv_insR jm_44 dX12_needOf_16) (by decide)
theorem e44_18 : jv_ev d 44 18 [some (.ref a), x1] st h = jv_ev d 44 19 [some (.ref a), x1] (.ref a :: st) h := jq_nx (jv_insR jm_44 dX12_needOf_18) rfl
theorem e44_19 : jv_ev d 44 19 lc (.ref a :: st) h = (jv_gf h a [(0, 18, .int)]).bind fun r => jv_ev d 44 22 lc (r :: st) h := jq_get (jv_insR jm_44 dX12_needOf_19) jo_44 jF_1_239
theorem e44_22 : jv_ev d 44 22 lc (.int w :: .int v :: st) h = jv_ev d 44 23 lc (.int (v * w) :: st) h := jq_nx (jv_insR jm_44 dX12_needOf_22) rfl
theorem e44_23 : jv_ev d 44 23 [some (.ref a), x1] st h = jv_ev d 44 24 [some (.ref a), x1] (.ref a :: st) h := jq_nx (jv_insR jm_44 dX12_needOf_23) rfl
theorem e44_24 : jv_ev d 44 24 [x0, some (.int v)] st h = jv_ev d 44 25 [x0, some (.int v)] (.int v :: st) h := jq_nx (jv_insR jm_44 dX12_needOf_24) rfl
theorem e44_25 : jv_ev d 44 25 lc [z0, .ref b, y0, y1] h = (jv_rc h b [(0, 42)]).bind fun y => (jv_cd d y [.ref b, z0] h).bind fun r => jv_on r (fun v h => jv_ev d 44 28 lc (v.toList ++ [y0, y1]) h) (fun q h => some (.inr q, h)) := jq_V (as := [z0]) (rest := [y0, y1]) (jv_insR jm_44 dX12_needOf_25) jo_44 jV_1_347 rfl rfl rfl rfl
theorem e44_28 : jv_ev d 44 28 lc (.int w :: .int v :: st) h = jv_ev d 44 29 lc (.int (v + w) :: st) h := jq_nx (jv_insR jm_44 dX12_needOf_28) rfl
theorem e44_29 : jv_ev d 44 29 lc (.int v :: .ref a :: st) h = (jv_ig h a 0 0 v).bind fun w => jv_ev d 44 30 lc (.int w :: st) h := jq_iald (jv_insR jm_44 dX12_needOf_29)
theorem e44_30 : jv_ev d 44 30 lc [.int v] h = some (.inl (some (.int v)), h) := jq_reti (jv_insR jm_44 dX12_needOf_30) jr_44
/-! 45: RainLoomModel.isFlooded(I)Z -/
theorem n45 : jv_cd (d + 1) 45 [.ref a0, .int i1] h = jv_ev d 45 0 [some (.ref a0), some (.int i1)] [] h := rfl
theorem e45_0 : jv_ev d 45 0 [some (.ref a), x1] st h = jv_ev d 45 1 [some (.ref a), x1] (.ref a :: st) h := jq_nx (jv_insR jm_45 dX12_isFlooded_0) rfl
theorem e45_1 : jv_ev d 45 1 [x0, some (.int v)] st h = jv_ev d 45 2 [x0, some (.int v)] (.int v :: st) h := jq_nx (jv_insR jm_45 dX12_isFlooded_1) rfl
theorem e45_2 : jv_ev d 45 2 lc [z0, .ref b] h = (jv_rc h b [(0, 42)]).bind fun y => (jv_cd d y [.ref b, z0] h).bind fun r => jv_on r (fun v h => jv_ev d 45 5 lc (v.toList ++ []) h) (fun q h => some (.inr q, h)) := jq_V (as := [z0]) (rest := []) (jv_insR jm_45 dX12_isFlooded_2) jo_45 jV_1_347 rfl rfl rfl rfl
theorem e45_5 : jv_ev d 45 5 lc (.int v :: st) h = if v < 0 then jv_ev d 45 26 lc st h else jv_ev d 45 8 lc st h := jq_if (jv_insR jm_45 dX12_isFlooded_5) rfl (by decide)
theorem e45_8 : jv_ev d 45 8 [some (.ref a), x1] st h = jv_ev d 45 9 [some (.ref a), x1] (.ref a :: st) h := jq_nx (jv_insR jm_45 dX12_isFlooded_8) rfl
theorem e45_9 : jv_ev d 45 9 lc (.ref a :: st) h = (jv_gf h a [(0, 51, .array .int)]).bind fun r => jv_ev d 45 12 lc (r :: st) h := jq_get (jv_insR jm_45 dX12_isFlooded_9) jo_45 jF_1_119
theorem e45_12 : jv_ev d 45 12 [x0, some (.int v)] st h = jv_ev d 45 13 [x0, some (.int v)] (.int v :: st) h := jq_nx (jv_insR jm_45 dX12_isFlooded_12) rfl
theorem e45_13 : jv_ev d 45 13 lc (.int v :: .ref a :: st) h = (jv_ig h a 0 0 v).bind fun w => jv_ev d 45 14 lc (.int w :: st) h := jq_iald (jv_insR jm_45 dX12_isFlooded_13)
theorem e45_14 : jv_ev d 45 14 [some (.ref a), x1] st h = jv_ev d 45 15 [some (.ref a), x1] (.ref a :: st) h := jq_nx (jv_insR jm_45 dX12_isFlooded_14) rfl
theorem e45_15 : jv_ev d 45 15 [x0, some (.int v)] st h = jv_ev d 45 16 [x0, some (.int v)] (.int v :: st) h := jq_nx (jv_insR jm_45 dX12_isFlooded_15) rfl
theorem e45_16 : jv_ev d 45 16 lc [z0, .ref b, y0] h = (jv_rc h b [(0, 46)]).bind fun y => (jv_cd d y [.ref b, z0] h).bind fun r => jv_on r (fun v h => jv_ev d 45 19 lc (v.toList ++ [y0]) h) (fun q h => some (.inr q, h)) := jq_V (as := [z0]) (rest := [y0]) (jv_insR jm_45 dX12_isFlooded_16) jo_45 jV_1_353 rfl rfl rfl rfl
theorem e45_19 : jv_ev d 45 19 lc (.int w :: .int v :: st) h = if v ≤ w then jv_ev d 45 26 lc st h else jv_ev d 45 22 lc st h := jq_if (jv_insR jm_45 dX12_isFlooded_19) rfl (by decide)
theorem e45_22 : jv_ev d 45 22 lc st h = jv_ev d 45 23 lc (.int 1 :: st) h := jq_iconst (jv_insR jm_45 dX12_isFlooded_22) (by decide)
theorem e45_23 : jv_ev d 45 23 lc st h = jv_ev d 45 27 lc st h := jq_go (jv_insR jm_45 dX12_isFlooded_23) (by decide)
theorem e45_26 : jv_ev d 45 26 lc st h = jv_ev d 45 27 lc (.int 0 :: st) h := jq_iconst (jv_insR jm_45 dX12_isFlooded_26) (by decide)
theorem e45_27 : jv_ev d 45 27 lc [.int v] h = if narrow .boolean (.int v) = .int v then some (.inl (some (.int v)), h) else none := jq_ret (jv_insR jm_45 dX12_isFlooded_27) jr_45 (by decide)
/-! 46: RainLoomModel.drownOf(I)I -/
theorem n46 : jv_cd (d + 1) 46 [.ref a0, .int i1] h = jv_ev d 46 0 [some (.ref a0), some (.int i1)] [] h := rfl
theorem e46_0 : jv_ev d 46 0 [some (.ref a), x1] st h = jv_ev d 46 1 [some (.ref a), x1] (.ref a :: st) h := jq_nx (jv_insR jm_46 dX12_drownOf_0) rfl
theorem e46_1 : jv_ev d 46 1 [x0, some (.int v)] st h = jv_ev d 46 2 [x0, some (.int v)] (.int v :: st) h := jq_nx (jv_insR jm_46 dX12_drownOf_1) rfl
theorem e46_2 : jv_ev d 46 2 lc [z0, .ref b] h = (jv_rc h b [(0, 42)]).bind fun y => (jv_cd d y [.ref b, z0] h).bind fun r => jv_on r (fun v h => jv_ev d 46 5 lc (v.toList ++ []) h) (fun q h => some (.inr q, h)) := jq_V (as := [z0]) (rest := []) (jv_insR jm_46 dX12_drownOf_2) jo_46 jV_1_347 rfl rfl rfl rfl
theorem e46_5 : jv_ev d 46 5 lc (.int v :: st) h = if 0 ≤ v then jv_ev d 46 12 lc st h else jv_ev d 46 8 lc st h := jq_if (jv_insR jm_46 dX12_drownOf_5) rfl (by decide)
theorem e46_8 : jv_ev d 46 8 lc st h = jv_ev d 46 9 lc (.int 0 :: st) h := jq_iconst (jv_insR jm_46 dX12_drownOf_8) (by decide)
theorem e46_9 : jv_ev d 46 9 lc st h = jv_ev d 46 30 lc st h := jq_go (jv_insR jm_46 dX12_drownOf_9) (by decide)
theorem e46_12 : jv_ev d 46 12 [some (.ref a), x1] st h = jv_ev d 46 13 [some (.ref a), x1] (.ref a :: st) h := jq_nx (jv_insR jm_46 dX12_drownOf_12) rfl
theorem e46_13 : jv_ev d 46 13 lc (.ref a :: st) h = (jv_gf h a [(0, 27, .array .int)]).bind fun r => jv_ev d 46 16 lc (r :: st) h := jq_get (jv_insR jm_46 dX12_drownOf_13) jo_46 jF_1_58
theorem e46_16 : jv_ev d 46 16 lc st h = jv_ev d 46 18 lc (.int 6 :: st) h := jq_bipush (jv_insR jm_46 dX12_drownOf_16) (by decide)
theorem e46_18 : jv_ev d 46 18 [some (.ref a), x1] st h = jv_ev d 46 19 [some (.ref a), x1] (.ref a :: st) h := jq_nx (jv_insR jm_46 dX12_drownOf_18) rfl
theorem e46_19 : jv_ev d 46 19 lc (.ref a :: st) h = (jv_gf h a [(0, 18, .int)]).bind fun r => jv_ev d 46 22 lc (r :: st) h := jq_get (jv_insR jm_46 dX12_drownOf_19) jo_46 jF_1_239
theorem e46_22 : jv_ev d 46 22 lc (.int w :: .int v :: st) h = jv_ev d 46 23 lc (.int (v * w) :: st) h := jq_nx (jv_insR jm_46 dX12_drownOf_22) rfl
theorem e46_23 : jv_ev d 46 23 [some (.ref a), x1] st h = jv_ev d 46 24 [some (.ref a), x1] (.ref a :: st) h := jq_nx (jv_insR jm_46 dX12_drownOf_23) rfl
theorem e46_24 : jv_ev d 46 24 [x0, some (.int v)] st h = jv_ev d 46 25 [x0, some (.int v)] (.int v :: st) h := jq_nx (jv_insR jm_46 dX12_drownOf_24) rfl
theorem e46_25 : jv_ev d 46 25 lc [z0, .ref b, y0, y1] h = (jv_rc h b [(0, 42)]).bind fun y => (jv_cd d y [.ref b, z0] h).bind fun r => jv_on r (fun v h => jv_ev d 46 28 lc (v.toList ++ [y0, y1]) h) (fun q h => some (.inr q, h)) := jq_V (as := [z0]) (rest := [y0, y1]) (jv_insR jm_46 dX12_drownOf_25) jo_46 jV_1_347 rfl rfl rfl rfl
theorem e46_28 : jv_ev d 46 28 lc (.int w :: .int v :: st) h = jv_ev d 46 29 lc (.int (v + w) :: st) h := jq_nx (jv_insR jm_46 dX12_drownOf_28) rfl
theorem e46_29 : jv_ev d 46 29 lc (.int v :: .ref a :: st) h = (jv_ig h a 0 0 v).bind fun w => jv_ev d 46 30 lc (.int w :: st) h := jq_iald (jv_insR jm_46 dX12_drownOf_29)
theorem e46_30 : jv_ev d 46 30 lc [.int v] h = some (.inl (some (.int v)), h) := jq_reti (jv_insR jm_46 dX12_drownOf_30) jr_46
/-! 47: RainLoomModel.field(II)I -/
theorem n47 : jv_cd (d + 1) 47 [.ref a0, .int i1, .int i2] h = jv_ev d 47 0 [some (.ref a0), some (.int i1), some (.int i2), none, none] [] h := rfl
theorem e47_0 : jv_ev d 47 0 [some (.ref a), x1, x2, x3, x4] st h = jv_ev d 47 1 [some (.ref a), x1, x2, x3, x4] (.ref a :: st) h := jq_nx (jv_insR jm_47 dX12_field_0) rfl
theorem e47_1 : jv_ev d 47 1 [x0, some (.int v), x2, x3, x4] st h = jv_ev d 47 2 [x0, some (.int v), x2, x3, x4] (.int v :: st) h := jq_nx (jv_insR jm_47 dX12_field_1) rfl
theorem e47_2 : jv_ev d 47 2 lc [z0, .ref b] h = (jv_rc h b [(0, 48)]).bind fun y => (jv_cd d y [.ref b, z0] h).bind fun r => jv_on r (fun v h => jv_ev d 47 5 lc (v.toList ++ []) h) (fun q h => some (.inr q, h)) := jq_V (as := [z0]) (rest := []) (jv_insR jm_47 dX12_field_2) jo_47 jV_1_387 rfl rfl rfl rfl
theorem e47_5 : jv_ev d 47 5 lc (.int v :: st) h = if ¬ v = 0 then jv_ev d 47 10 lc st h else jv_ev d 47 8 lc st h := jq_if (jv_insR jm_47 dX12_field_5) rfl (by decide)
theorem e47_8 : jv_ev d 47 8 lc st h = jv_ev d 47 9 lc (.int (-1) :: st) h := jq_iconst (jv_insR jm_47 dX12_field_8) (by decide)
theorem e47_9 : jv_ev d 47 9 lc [.int v] h = some (.inl (some (.int v)), h) := jq_reti (jv_insR jm_47 dX12_field_9) jr_47
theorem e47_10 : jv_ev d 47 10 [x0, x1, some (.int v), x3, x4] st h = jv_ev d 47 11 [x0, x1, some (.int v), x3, x4] (.int v :: st) h := jq_nx (jv_insR jm_47 dX12_field_10) rfl
theorem e47_11 : jv_ev d 47 11 lc (.int v :: st) h = jv_tsl (fun t => jv_ev d 47 t lc st h) v [(0, 44), (1, 50), (2, 99), (3, 109), (4, 119)] 125 := jq_ts (jv_insR jm_47 dX12_field_11) [(0, 44), (1, 50), (2, 99), (3, 109), (4, 119)] 125 (by decide) (by decide) (by decide) (by decide)
theorem e47_44 : jv_ev d 47 44 [some (.ref a), x1, x2, x3, x4] st h = jv_ev d 47 45 [some (.ref a), x1, x2, x3, x4] (.ref a :: st) h := jq_nx (jv_insR jm_47 dX12_field_44) rfl
theorem e47_45 : jv_ev d 47 45 [x0, some (.int v), x2, x3, x4] st h = jv_ev d 47 46 [x0, some (.int v), x2, x3, x4] (.int v :: st) h := jq_nx (jv_insR jm_47 dX12_field_45) rfl
theorem e47_46 : jv_ev d 47 46 lc [z0, .ref b] h = (jv_rc h b [(0, 49)]).bind fun y => (jv_cd d y [.ref b, z0] h).bind fun r => jv_on r (fun v h => jv_ev d 47 49 lc (v.toList ++ []) h) (fun q h => some (.inr q, h)) := jq_V (as := [z0]) (rest := []) (jv_insR jm_47 dX12_field_46) jo_47 jV_1_384 rfl rfl rfl rfl
theorem e47_49 : jv_ev d 47 49 lc [.int v] h = some (.inl (some (.int v)), h) := jq_reti (jv_insR jm_47 dX12_field_49) jr_47
theorem e47_50 : jv_ev d 47 50 lc st h = jv_ev d 47 51 lc (.int 0 :: st) h := jq_iconst (jv_insR jm_47 dX12_field_50) (by decide)
theorem e47_51 : jv_ev d 47 51 [x0, x1, x2, x3, x4] (.int v :: st) h = jv_ev d 47 52 [x0, x1, x2, some (.int v), x4] st h := jq_nx (jv_insR jm_47 dX12_field_51) rfl
theorem e47_52 : jv_ev d 47 52 lc st h = jv_ev d 47 53 lc (.int 0 :: st) h := jq_iconst (jv_insR jm_47 dX12_field_52) (by decide)
theorem e47_53 : jv_ev d 47 53 [x0, x1, x2, x3, x4] (.int v :: st) h = jv_ev d 47 55 [x0, x1, x2, x3, some (.int v)] st h := jq_nx (jv_insR jm_47 dX12_field_53) rfl
theorem e47_55 : jv_ev d 47 55 [x0, x1, x2, x3, some (.int v)] st h = jv_ev d 47 57 [x0, x1, x2, x3, some (.int v)] (.int v :: st) h := jq_nx (jv_insR jm_47 dX12_field_55) rfl
theorem e47_57 : jv_ev d 47 57 lc st h = jv_ev d 47 59 lc (.int 48 :: st) h := jq_bipush (jv_insR jm_47 dX12_field_57) (by decide)
theorem e47_59 : jv_ev d 47 59 lc (.int w :: .int v :: st) h = if w ≤ v then jv_ev d 47 97 lc st h else jv_ev d 47 62 lc st h := jq_if (jv_insR jm_47 dX12_field_59) rfl (by decide)
theorem e47_62 : jv_ev d 47 62 [some (.ref a), x1, x2, x3, x4] st h = jv_ev d 47 63 [some (.ref a), x1, x2, x3, x4] (.ref a :: st) h := jq_nx (jv_insR jm_47 dX12_field_62) rfl
theorem e47_63 : jv_ev d 47 63 [x0, x1, x2, x3, some (.int v)] st h = jv_ev d 47 65 [x0, x1, x2, x3, some (.int v)] (.int v :: st) h := jq_nx (jv_insR jm_47 dX12_field_63) rfl
theorem e47_65 : jv_ev d 47 65 lc [z0, .ref b] h = (jv_rc h b [(0, 50)]).bind fun y => (jv_cd d y [.ref b, z0] h).bind fun r => jv_on r (fun v h => jv_ev d 47 68 lc (v.toList ++ []) h) (fun q h => some (.inr q, h)) := jq_V (as := [z0]) (rest := []) (jv_insR jm_47 dX12_field_65) jo_47 jV_1_366 rfl rfl rfl rfl
theorem e47_68 : jv_ev d 47 68 lc (.int v :: st) h = if v = 0 then jv_ev d 47 91 lc st h else jv_ev d 47 71 lc st h := jq_if (jv_insR jm_47 dX12_field_68) rfl (by decide)
theorem e47_71 : jv_ev d 47 71 [some (.ref a), x1, x2, x3, x4] st h = jv_ev d 47 72 [some (.ref a), x1, x2, x3, x4] (.ref a :: st) h := jq_nx (jv_insR jm_47 dX12_field_71) rfl
theorem e47_72 : jv_ev d 47 72 [x0, x1, x2, x3, some (.int v)] st h = jv_ev d 47 74 [x0, x1, x2, x3, some (.int v)] (.int v :: st) h := jq_nx (jv_insR jm_47 dX12_field_72) rfl
theorem e47_74 : jv_ev d 47 74 lc [z0, .ref b] h = (jv_rc h b [(0, 42)]).bind fun y => (jv_cd d y [.ref b, z0] h).bind fun r => jv_on r (fun v h => jv_ev d 47 77 lc (v.toList ++ []) h) (fun q h => some (.inr q, h)) := jq_V (as := [z0]) (rest := []) (jv_insR jm_47 dX12_field_74) jo_47 jV_1_347 rfl rfl rfl rfl
theorem e47_77 : jv_ev d 47 77 [x0, some (.int v), x2, x3, x4] st h = jv_ev d 47 78 [x0, some (.int v), x2, x3, x4] (.int v :: st) h := jq_nx (jv_insR jm_47 dX12_field_77) rfl
theorem e47_78 : jv_ev d 47 78 lc (.int w :: .int v :: st) h = if ¬ v = w then jv_ev d 47 91 lc st h else jv_ev d 47 81 lc st h := jq_if (jv_insR jm_47 dX12_field_78) rfl (by decide)
theorem e47_81 : jv_ev d 47 81 [x0, x1, x2, some (.int v), x4] st h = jv_ev d 47 82 [x0, x1, x2, some (.int v), x4] (.int v :: st) h := jq_nx (jv_insR jm_47 dX12_field_81) rfl
theorem e47_82 : jv_ev d 47 82 [some (.ref a), x1, x2, x3, x4] st h = jv_ev d 47 83 [some (.ref a), x1, x2, x3, x4] (.ref a :: st) h := jq_nx (jv_insR jm_47 dX12_field_82) rfl
theorem e47_83 : jv_ev d 47 83 lc (.ref a :: st) h = (jv_gf h a [(0, 50, .array .int)]).bind fun r => jv_ev d 47 86 lc (r :: st) h := jq_get (jv_insR jm_47 dX12_field_83) jo_47 jF_1_116
theorem e47_86 : jv_ev d 47 86 [x0, x1, x2, x3, some (.int v)] st h = jv_ev d 47 88 [x0, x1, x2, x3, some (.int v)] (.int v :: st) h := jq_nx (jv_insR jm_47 dX12_field_86) rfl
theorem e47_88 : jv_ev d 47 88 lc (.int v :: .ref a :: st) h = (jv_ig h a 0 0 v).bind fun w => jv_ev d 47 89 lc (.int w :: st) h := jq_iald (jv_insR jm_47 dX12_field_88)
theorem e47_89 : jv_ev d 47 89 lc (.int w :: .int v :: st) h = jv_ev d 47 90 lc (.int (v + w) :: st) h := jq_nx (jv_insR jm_47 dX12_field_89) rfl
theorem e47_90 : jv_ev d 47 90 [x0, x1, x2, x3, x4] (.int v :: st) h = jv_ev d 47 91 [x0, x1, x2, some (.int v), x4] st h := jq_nx (jv_insR jm_47 dX12_field_90) rfl
theorem e47_91 : jv_ev d 47 91 [x0, x1, x2, x3, some (.int v)] st h = jv_ev d 47 94 [x0, x1, x2, x3, some (.int (v + 1))] st h := jq_nx (jv_insR jm_47 dX12_field_91) rfl
theorem e47_94 : jv_ev d 47 94 lc st h = jv_ev d 47 55 lc st h := jq_go (jv_insR jm_47 dX12_field_94) (by decide)
theorem e47_97 : jv_ev d 47 97 [x0, x1, x2, some (.int v), x4] st h = jv_ev d 47 98 [x0, x1, x2, some (.int v), x4] (.int v :: st) h := jq_nx (jv_insR jm_47 dX12_field_97) rfl
theorem e47_98 : jv_ev d 47 98 lc [.int v] h = some (.inl (some (.int v)), h) := jq_reti (jv_insR jm_47 dX12_field_98) jr_47
theorem e47_99 : jv_ev d 47 99 [some (.ref a), x1, x2, x3, x4] st h = jv_ev d 47 100 [some (.ref a), x1, x2, x3, x4] (.ref a :: st) h := jq_nx (jv_insR jm_47 dX12_field_99) rfl
theorem e47_100 : jv_ev d 47 100 lc (.ref a :: st) h = (jv_gf h a [(0, 50, .array .int)]).bind fun r => jv_ev d 47 103 lc (r :: st) h := jq_get (jv_insR jm_47 dX12_field_100) jo_47 jF_1_116
theorem e47_103 : jv_ev d 47 103 lc st h = jv_ev d 47 105 lc (.int 76 :: st) h := jq_bipush (jv_insR jm_47 dX12_field_103) (by decide)
theorem e47_105 : jv_ev d 47 105 [x0, some (.int v), x2, x3, x4] st h = jv_ev d 47 106 [x0, some (.int v), x2, x3, x4] (.int v :: st) h := jq_nx (jv_insR jm_47 dX12_field_105) rfl
theorem e47_106 : jv_ev d 47 106 lc (.int w :: .int v :: st) h = jv_ev d 47 107 lc (.int (v + w) :: st) h := jq_nx (jv_insR jm_47 dX12_field_106) rfl
theorem e47_107 : jv_ev d 47 107 lc (.int v :: .ref a :: st) h = (jv_ig h a 0 0 v).bind fun w => jv_ev d 47 108 lc (.int w :: st) h := jq_iald (jv_insR jm_47 dX12_field_107)
theorem e47_108 : jv_ev d 47 108 lc [.int v] h = some (.inl (some (.int v)), h) := jq_reti (jv_insR jm_47 dX12_field_108) jr_47
theorem e47_109 : jv_ev d 47 109 [some (.ref a), x1, x2, x3, x4] st h = jv_ev d 47 110 [some (.ref a), x1, x2, x3, x4] (.ref a :: st) h := jq_nx (jv_insR jm_47 dX12_field_109) rfl
theorem e47_110 : jv_ev d 47 110 lc (.ref a :: st) h = (jv_gf h a [(0, 50, .array .int)]).bind fun r => jv_ev d 47 113 lc (r :: st) h := jq_get (jv_insR jm_47 dX12_field_110) jo_47 jF_1_116
theorem e47_113 : jv_ev d 47 113 lc st h = jv_ev d 47 115 lc (.int 82 :: st) h := jq_bipush (jv_insR jm_47 dX12_field_113) (by decide)
theorem e47_115 : jv_ev d 47 115 [x0, some (.int v), x2, x3, x4] st h = jv_ev d 47 116 [x0, some (.int v), x2, x3, x4] (.int v :: st) h := jq_nx (jv_insR jm_47 dX12_field_115) rfl
theorem e47_116 : jv_ev d 47 116 lc (.int w :: .int v :: st) h = jv_ev d 47 117 lc (.int (v + w) :: st) h := jq_nx (jv_insR jm_47 dX12_field_116) rfl
theorem e47_117 : jv_ev d 47 117 lc (.int v :: .ref a :: st) h = (jv_ig h a 0 0 v).bind fun w => jv_ev d 47 118 lc (.int w :: st) h := jq_iald (jv_insR jm_47 dX12_field_117)
theorem e47_118 : jv_ev d 47 118 lc [.int v] h = some (.inl (some (.int v)), h) := jq_reti (jv_insR jm_47 dX12_field_118) jr_47
theorem e47_119 : jv_ev d 47 119 [some (.ref a), x1, x2, x3, x4] st h = jv_ev d 47 120 [some (.ref a), x1, x2, x3, x4] (.ref a :: st) h := jq_nx (jv_insR jm_47 dX12_field_119) rfl
theorem e47_120 : jv_ev d 47 120 [x0, some (.int v), x2, x3, x4] st h = jv_ev d 47 121 [x0, some (.int v), x2, x3, x4] (.int v :: st) h := jq_nx (jv_insR jm_47 dX12_field_120) rfl
theorem e47_121 : jv_ev d 47 121 lc [z0, .ref b] h = (jv_rc h b [(0, 51)]).bind fun y => (jv_cd d y [.ref b, z0] h).bind fun r => jv_on r (fun v h => jv_ev d 47 124 lc (v.toList ++ []) h) (fun q h => some (.inr q, h)) := jq_V (as := [z0]) (rest := []) (jv_insR jm_47 dX12_field_121) jo_47 jV_1_390 rfl rfl rfl rfl
theorem e47_124 : jv_ev d 47 124 lc [.int v] h = some (.inl (some (.int v)), h) := jq_reti (jv_insR jm_47 dX12_field_124) jr_47
theorem e47_125 : jv_ev d 47 125 lc st h = jv_ev d 47 126 lc (.int (-1) :: st) h := jq_iconst (jv_insR jm_47 dX12_field_125) (by decide)
theorem e47_126 : jv_ev d 47 126 lc [.int v] h = some (.inl (some (.int v)), h) := jq_reti (jv_insR jm_47 dX12_field_126) jr_47
/-! 48: RainLoomModel.isField(I)Z -/
theorem n48 : jv_cd (d + 1) 48 [.ref a0, .int i1] h = jv_ev d 48 0 [some (.ref a0), some (.int i1)] [] h := rfl
theorem e48_0 : jv_ev d 48 0 [x0, some (.int v)] st h = jv_ev d 48 1 [x0, some (.int v)] (.int v :: st) h := jq_nx (jv_insR jm_48 dX12_isField_0) rfl
theorem e48_1 : jv_ev d 48 1 lc st h = jv_ev d 48 2 lc (.int 0 :: st) h := jq_iconst (jv_insR jm_48 dX12_isField_1) (by decide)
theorem e48_2 : jv_ev d 48 2 [some (.ref a), x1] st h = jv_ev d 48 3 [some (.ref a), x1] (.ref a :: st) h := jq_nx (jv_insR jm_48 dX12_isField_2) rfl
theorem e48_3 : jv_ev d 48 3 lc (.ref a :: st) h = (jv_gf h a [(0, 25, .array .int)]).bind fun r => jv_ev d 48 6 lc (r :: st) h := jq_get (jv_insR jm_48 dX12_isField_3) jo_48 jF_1_52
theorem e48_6 : jv_ev d 48 6 [some (.ref a), x1] st h = jv_ev d 48 7 [some (.ref a), x1] (.ref a :: st) h := jq_nx (jv_insR jm_48 dX12_isField_6) rfl
theorem e48_7 : jv_ev d 48 7 lc (.ref a :: st) h = (jv_gf h a [(0, 18, .int)]).bind fun r => jv_ev d 48 10 lc (r :: st) h := jq_get (jv_insR jm_48 dX12_isField_7) jo_48 jF_1_239
theorem e48_10 : jv_ev d 48 10 lc (.int v :: .ref a :: st) h = (jv_ig h a 0 0 v).bind fun w => jv_ev d 48 11 lc (.int w :: st) h := jq_iald (jv_insR jm_48 dX12_isField_10)
theorem e48_11 : jv_ev d 48 11 lc st h = jv_ev d 48 12 lc (.int 1 :: st) h := jq_iconst (jv_insR jm_48 dX12_isField_11) (by decide)
theorem e48_12 : jv_ev d 48 12 lc (.int w :: .int v :: st) h = jv_ev d 48 13 lc (.int (v - w) :: st) h := jq_nx (jv_insR jm_48 dX12_isField_12) rfl
theorem e48_13 : jv_ev d 48 13 lc [z2, z1, z0] h = (jv_cd d 40 [z0, z1, z2] h).bind fun r => jv_on r (fun v h => jv_ev d 48 16 lc (v.toList ++ []) h) (fun q h => some (.inr q, h)) := jq_S (as := [z0, z1, z2]) (rest := []) (jv_insR jm_48 dX12_isField_13) jo_48 jT_1_323 rfl rfl rfl rfl
theorem e48_16 : jv_ev d 48 16 lc [.int v] h = if narrow .boolean (.int v) = .int v then some (.inl (some (.int v)), h) else none := jq_ret (jv_insR jm_48 dX12_isField_16) jr_48 (by decide)
/-! 49: RainLoomModel.cellsOf(I)I -/
theorem n49 : jv_cd (d + 1) 49 [.ref a0, .int i1] h = jv_ev d 49 0 [some (.ref a0), some (.int i1), none, none] [] h := rfl
theorem e49_0 : jv_ev d 49 0 lc st h = jv_ev d 49 1 lc (.int 0 :: st) h := jq_iconst (jv_insR jm_49 dX12_cellsOf_0) (by decide)
theorem e49_1 : jv_ev d 49 1 [x0, x1, x2, x3] (.int v :: st) h = jv_ev d 49 2 [x0, x1, some (.int v), x3] st h := jq_nx (jv_insR jm_49 dX12_cellsOf_1) rfl
theorem e49_2 : jv_ev d 49 2 lc st h = jv_ev d 49 3 lc (.int 0 :: st) h := jq_iconst (jv_insR jm_49 dX12_cellsOf_2) (by decide)
theorem e49_3 : jv_ev d 49 3 [x0, x1, x2, x3] (.int v :: st) h = jv_ev d 49 4 [x0, x1, x2, some (.int v)] st h := jq_nx (jv_insR jm_49 dX12_cellsOf_3) rfl
theorem e49_4 : jv_ev d 49 4 [x0, x1, x2, some (.int v)] st h = jv_ev d 49 5 [x0, x1, x2, some (.int v)] (.int v :: st) h := jq_nx (jv_insR jm_49 dX12_cellsOf_4) rfl
theorem e49_5 : jv_ev d 49 5 lc st h = jv_ev d 49 7 lc (.int 48 :: st) h := jq_bipush (jv_insR jm_49 dX12_cellsOf_5) (by decide)
theorem e49_7 : jv_ev d 49 7 lc (.int w :: .int v :: st) h = if w ≤ v then jv_ev d 49 36 lc st h else jv_ev d 49 10 lc st h := jq_if (jv_insR jm_49 dX12_cellsOf_7) rfl (by decide)
theorem e49_10 : jv_ev d 49 10 [some (.ref a), x1, x2, x3] st h = jv_ev d 49 11 [some (.ref a), x1, x2, x3] (.ref a :: st) h := jq_nx (jv_insR jm_49 dX12_cellsOf_10) rfl
theorem e49_11 : jv_ev d 49 11 [x0, x1, x2, some (.int v)] st h = jv_ev d 49 12 [x0, x1, x2, some (.int v)] (.int v :: st) h := jq_nx (jv_insR jm_49 dX12_cellsOf_11) rfl
theorem e49_12 : jv_ev d 49 12 lc [z0, .ref b] h = (jv_rc h b [(0, 50)]).bind fun y => (jv_cd d y [.ref b, z0] h).bind fun r => jv_on r (fun v h => jv_ev d 49 15 lc (v.toList ++ []) h) (fun q h => some (.inr q, h)) := jq_V (as := [z0]) (rest := []) (jv_insR jm_49 dX12_cellsOf_12) jo_49 jV_1_366 rfl rfl rfl rfl
theorem e49_15 : jv_ev d 49 15 lc (.int v :: st) h = if v = 0 then jv_ev d 49 30 lc st h else jv_ev d 49 18 lc st h := jq_if (jv_insR jm_49 dX12_cellsOf_15) rfl (by decide)
theorem e49_18 : jv_ev d 49 18 [some (.ref a), x1, x2, x3] st h = jv_ev d 49 19 [some (.ref a), x1, x2, x3] (.ref a :: st) h := jq_nx (jv_insR jm_49 dX12_cellsOf_18) rfl
theorem e49_19 : jv_ev d 49 19 [x0, x1, x2, some (.int v)] st h = jv_ev d 49 20 [x0, x1, x2, some (.int v)] (.int v :: st) h := jq_nx (jv_insR jm_49 dX12_cellsOf_19) rfl
theorem e49_20 : jv_ev d 49 20 lc [z0, .ref b] h = (jv_rc h b [(0, 42)]).bind fun y => (jv_cd d y [.ref b, z0] h).bind fun r => jv_on r (fun v h => jv_ev d 49 23 lc (v.toList ++ []) h) (fun q h => some (.inr q, h)) := jq_V (as := [z0]) (rest := []) (jv_insR jm_49 dX12_cellsOf_20) jo_49 jV_1_347 rfl rfl rfl rfl
theorem e49_23 : jv_ev d 49 23 [x0, some (.int v), x2, x3] st h = jv_ev d 49 24 [x0, some (.int v), x2, x3] (.int v :: st) h := jq_nx (jv_insR jm_49 dX12_cellsOf_23) rfl
theorem e49_24 : jv_ev d 49 24 lc (.int w :: .int v :: st) h = if ¬ v = w then jv_ev d 49 30 lc st h else jv_ev d 49 27 lc st h := jq_if (jv_insR jm_49 dX12_cellsOf_24) rfl (by decide)
theorem e49_27 : jv_ev d 49 27 [x0, x1, some (.int v), x3] st h = jv_ev d 49 30 [x0, x1, some (.int (v + 1)), x3] st h := jq_nx (jv_insR jm_49 dX12_cellsOf_27) rfl
theorem e49_30 : jv_ev d 49 30 [x0, x1, x2, some (.int v)] st h = jv_ev d 49 33 [x0, x1, x2, some (.int (v + 1))] st h := jq_nx (jv_insR jm_49 dX12_cellsOf_30) rfl
theorem e49_33 : jv_ev d 49 33 lc st h = jv_ev d 49 4 lc st h := jq_go (jv_insR jm_49 dX12_cellsOf_33) (by decide)
theorem e49_36 : jv_ev d 49 36 [x0, x1, some (.int v), x3] st h = jv_ev d 49 37 [x0, x1, some (.int v), x3] (.int v :: st) h := jq_nx (jv_insR jm_49 dX12_cellsOf_36) rfl
theorem e49_37 : jv_ev d 49 37 lc [.int v] h = some (.inl (some (.int v)), h) := jq_reti (jv_insR jm_49 dX12_cellsOf_37) jr_49
/-! 50: RainLoomModel.isLand(I)Z -/
theorem n50 : jv_cd (d + 1) 50 [.ref a0, .int i1] h = jv_ev d 50 0 [some (.ref a0), some (.int i1)] [] h := rfl
theorem e50_0 : jv_ev d 50 0 [some (.ref a), x1] st h = jv_ev d 50 1 [some (.ref a), x1] (.ref a :: st) h := jq_nx (jv_insR jm_50 dX12_isLand_0) rfl
theorem e50_1 : jv_ev d 50 1 [x0, some (.int v)] st h = jv_ev d 50 2 [x0, some (.int v)] (.int v :: st) h := jq_nx (jv_insR jm_50 dX12_isLand_1) rfl
theorem e50_2 : jv_ev d 50 2 lc st h = jv_ev d 50 4 lc (.int 8 :: st) h := jq_bipush (jv_insR jm_50 dX12_isLand_2) (by decide)
theorem e50_4 : jv_ev d 50 4 lc (.int w :: .int v :: st) h = if w = 0 then none else jv_ev d 50 5 lc (.int (v - v / w * w) :: st) h := jq_irem (jv_insR jm_50 dX12_isLand_4)
theorem e50_5 : jv_ev d 50 5 [x0, some (.int v)] st h = jv_ev d 50 6 [x0, some (.int v)] (.int v :: st) h := jq_nx (jv_insR jm_50 dX12_isLand_5) rfl
theorem e50_6 : jv_ev d 50 6 lc st h = jv_ev d 50 8 lc (.int 8 :: st) h := jq_bipush (jv_insR jm_50 dX12_isLand_6) (by decide)
theorem e50_8 : jv_ev d 50 8 lc (.int w :: .int v :: st) h = if w = 0 then none else jv_ev d 50 9 lc (.int (v / w) :: st) h := jq_idiv (jv_insR jm_50 dX12_isLand_8)
theorem e50_9 : jv_ev d 50 9 lc [z1, z0, .ref b] h = (jv_rc h b [(0, 39)]).bind fun y => (jv_cd d y [.ref b, z0, z1] h).bind fun r => jv_on r (fun v h => jv_ev d 50 12 lc (v.toList ++ []) h) (fun q h => some (.inr q, h)) := jq_V (as := [z0, z1]) (rest := []) (jv_insR jm_50 dX12_isLand_9) jo_50 jV_1_343 rfl rfl rfl rfl
theorem e50_12 : jv_ev d 50 12 lc [.int v] h = if narrow .boolean (.int v) = .int v then some (.inl (some (.int v)), h) else none := jq_ret (jv_insR jm_50 dX12_isLand_12) jr_50 (by decide)
/-! 51: RainLoomModel.needAll(I)I -/
theorem n51 : jv_cd (d + 1) 51 [.ref a0, .int i1] h = jv_ev d 51 0 [some (.ref a0), some (.int i1)] [] h := rfl
theorem e51_0 : jv_ev d 51 0 [some (.ref a), x1] st h = jv_ev d 51 1 [some (.ref a), x1] (.ref a :: st) h := jq_nx (jv_insR jm_51 dX12_needAll_0) rfl
theorem e51_1 : jv_ev d 51 1 [x0, some (.int v)] st h = jv_ev d 51 2 [x0, some (.int v)] (.int v :: st) h := jq_nx (jv_insR jm_51 dX12_needAll_1) rfl
theorem e51_2 : jv_ev d 51 2 lc [z0, .ref b] h = (jv_rc h b [(0, 49)]).bind fun y => (jv_cd d y [.ref b, z0] h).bind fun r => jv_on r (fun v h => jv_ev d 51 5 lc (v.toList ++ []) h) (fun q h => some (.inr q, h)) := jq_V (as := [z0]) (rest := []) (jv_insR jm_51 dX12_needAll_2) jo_51 jV_1_384 rfl rfl rfl rfl
theorem e51_5 : jv_ev d 51 5 [some (.ref a), x1] st h = jv_ev d 51 6 [some (.ref a), x1] (.ref a :: st) h := jq_nx (jv_insR jm_51 dX12_needAll_5) rfl
theorem e51_6 : jv_ev d 51 6 lc (.ref a :: st) h = (jv_gf h a [(0, 26, .array .int)]).bind fun r => jv_ev d 51 9 lc (r :: st) h := jq_get (jv_insR jm_51 dX12_needAll_6) jo_51 jF_1_55
theorem e51_9 : jv_ev d 51 9 lc st h = jv_ev d 51 11 lc (.int 6 :: st) h := jq_bipush (jv_insR jm_51 dX12_needAll_9) (by decide)
theorem e51_11 : jv_ev d 51 11 [some (.ref a), x1] st h = jv_ev d 51 12 [some (.ref a), x1] (.ref a :: st) h := jq_nx (jv_insR jm_51 dX12_needAll_11) rfl
theorem e51_12 : jv_ev d 51 12 lc (.ref a :: st) h = (jv_gf h a [(0, 18, .int)]).bind fun r => jv_ev d 51 15 lc (r :: st) h := jq_get (jv_insR jm_51 dX12_needAll_12) jo_51 jF_1_239
theorem e51_15 : jv_ev d 51 15 lc (.int w :: .int v :: st) h = jv_ev d 51 16 lc (.int (v * w) :: st) h := jq_nx (jv_insR jm_51 dX12_needAll_15) rfl
theorem e51_16 : jv_ev d 51 16 [x0, some (.int v)] st h = jv_ev d 51 17 [x0, some (.int v)] (.int v :: st) h := jq_nx (jv_insR jm_51 dX12_needAll_16) rfl
theorem e51_17 : jv_ev d 51 17 lc (.int w :: .int v :: st) h = jv_ev d 51 18 lc (.int (v + w) :: st) h := jq_nx (jv_insR jm_51 dX12_needAll_17) rfl
theorem e51_18 : jv_ev d 51 18 lc (.int v :: .ref a :: st) h = (jv_ig h a 0 0 v).bind fun w => jv_ev d 51 19 lc (.int w :: st) h := jq_iald (jv_insR jm_51 dX12_needAll_18)
theorem e51_19 : jv_ev d 51 19 lc (.int w :: .int v :: st) h = jv_ev d 51 20 lc (.int (v * w) :: st) h := jq_nx (jv_insR jm_51 dX12_needAll_19) rfl
theorem e51_20 : jv_ev d 51 20 lc [.int v] h = some (.inl (some (.int v)), h) := jq_reti (jv_insR jm_51 dX12_needAll_20) jr_51
/-! 52: RainLoomModel.loom(II)I -/
theorem n52 : jv_cd (d + 1) 52 [.ref a0, .int i1, .int i2] h = jv_ev d 52 0 [some (.ref a0), some (.int i1), some (.int i2)] [] h := rfl
theorem e52_0 : jv_ev d 52 0 [some (.ref a), x1, x2] st h = jv_ev d 52 1 [some (.ref a), x1, x2] (.ref a :: st) h := jq_nx (jv_insR jm_52 dX12_loom_0) rfl
theorem e52_1 : jv_ev d 52 1 [x0, some (.int v), x2] st h = jv_ev d 52 2 [x0, some (.int v), x2] (.int v :: st) h := jq_nx (jv_insR jm_52 dX12_loom_1) rfl
theorem e52_2 : jv_ev d 52 2 lc [z0, .ref b] h = (jv_rc h b [(0, 53)]).bind fun y => (jv_cd d y [.ref b, z0] h).bind fun r => jv_on r (fun v h => jv_ev d 52 5 lc (v.toList ++ []) h) (fun q h => some (.inr q, h)) := jq_V (as := [z0]) (rest := []) (jv_insR jm_52 dX12_loom_2) jo_52 jV_1_393 rfl rfl rfl rfl
theorem e52_5 : jv_ev d 52 5 lc (.int v :: st) h = if ¬ v = 0 then jv_ev d 52 10 lc st h else jv_ev d 52 8 lc st h := jq_if (jv_insR jm_52 dX12_loom_5) rfl (by decide)
theorem e52_8 : jv_ev d 52 8 lc st h = jv_ev d 52 9 lc (.int (-1) :: st) h := jq_iconst (jv_insR jm_52 dX12_loom_8) (by decide)
theorem e52_9 : jv_ev d 52 9 lc [.int v] h = some (.inl (some (.int v)), h) := jq_reti (jv_insR jm_52 dX12_loom_9) jr_52
theorem e52_10 : jv_ev d 52 10 [x0, x1, some (.int v)] st h = jv_ev d 52 11 [x0, x1, some (.int v)] (.int v :: st) h := jq_nx (jv_insR jm_52 dX12_loom_10) rfl
theorem e52_11 : jv_ev d 52 11 lc (.int v :: st) h = jv_tsl (fun t => jv_ev d 52 t lc st h) v [(0, 56), (1, 70), (2, 80), (3, 80), (4, 80), (5, 80), (6, 111), (7, 111)] 125 := jq_ts (jv_insR jm_52 dX12_loom_11) [(0, 56), (1, 70), (2, 80), (3, 80), (4, 80), (5, 80), (6, 111), (7, 111)] 125 (by decide) (by decide) (by decide) (by decide)
theorem e52_56 : jv_ev d 52 56 [some (.ref a), x1, x2] st h = jv_ev d 52 57 [some (.ref a), x1, x2] (.ref a :: st) h := jq_nx (jv_insR jm_52 dX12_loom_56) rfl
theorem e52_57 : jv_ev d 52 57 lc (.ref a :: st) h = (jv_gf h a [(0, 29, .array .int)]).bind fun r => jv_ev d 52 60 lc (r :: st) h := jq_get (jv_insR jm_52 dX12_loom_57) jo_52 jF_1_64
theorem e52_60 : jv_ev d 52 60 lc st h = jv_ev d 52 61 lc (.int 4 :: st) h := jq_iconst (jv_insR jm_52 dX12_loom_60) (by decide)
theorem e52_61 : jv_ev d 52 61 [some (.ref a), x1, x2] st h = jv_ev d 52 62 [some (.ref a), x1, x2] (.ref a :: st) h := jq_nx (jv_insR jm_52 dX12_loom_61) rfl
theorem e52_62 : jv_ev d 52 62 lc (.ref a :: st) h = (jv_gf h a [(0, 18, .int)]).bind fun r => jv_ev d 52 65 lc (r :: st) h := jq_get (jv_insR jm_52 dX12_loom_62) jo_52 jF_1_239
theorem e52_65 : jv_ev d 52 65 lc (.int w :: .int v :: st) h = jv_ev d 52 66 lc (.int (v * w) :: st) h := jq_nx (jv_insR jm_52 dX12_loom_65) rfl
theorem e52_66 : jv_ev d 52 66 [x0, some (.int v), x2] st h = jv_ev d 52 67 [x0, some (.int v), x2] (.int v :: st) h := jq_nx (jv_insR jm_52 dX12_loom_66) rfl
theorem e52_67 : jv_ev d 52 67 lc (.int w :: .int v :: st) h = jv_ev d 52 68 lc (.int (v + w) :: st) h := jq_nx (jv_insR jm_52 dX12_loom_67) rfl
theorem e52_68 : jv_ev d 52 68 lc (.int v :: .ref a :: st) h = (jv_ig h a 0 0 v).bind fun w => jv_ev d 52 69 lc (.int w :: st) h := jq_iald (jv_insR jm_52 dX12_loom_68)
theorem e52_69 : jv_ev d 52 69 lc [.int v] h = some (.inl (some (.int v)), h) := jq_reti (jv_insR jm_52 dX12_loom_69) jr_52
theorem e52_70 : jv_ev d 52 70 [some (.ref a), x1, x2] st h = jv_ev d 52 71 [some (.ref a), x1, x2] (.ref a :: st) h := jq_nx (jv_insR jm_52 dX12_loom_70) rfl
theorem e52_71 : jv_ev d 52 71 lc (.ref a :: st) h = (jv_gf h a [(0, 50, .array .int)]).bind fun r => jv_ev d 52 74 lc (r :: st) h := jq_get (jv_insR jm_52 dX12_loom_71) jo_52 jF_1_116
theorem e52_74 : jv_ev d 52 74 lc st h = jv_ev d 52 76 lc (.int 48 :: st) h := jq_bipush (jv_insR jm_52 dX12_loom_74) (by decide)
theorem e52_76 : jv_ev d 52 76 [x0, some (.int v), x2] st h = jv_ev d 52 77 [x0, some (.int v), x2] (.int v :: st) h := jq_nx (jv_insR jm_52 dX12_loom_76) rfl
theorem e52_77 : jv_ev d 52 77 lc (.int w :: .int v :: st) h = jv_ev d 52 78 lc (.int (v + w) :: st) h := jq_nx (jv_insR jm_52 dX12_loom_77) rfl
theorem e52_78 : jv_ev d 52 78 lc (.int v :: .ref a :: st) h = (jv_ig h a 0 0 v).bind fun w => jv_ev d 52 79 lc (.int w :: st) h := jq_iald (jv_insR jm_52 dX12_loom_78)
theorem e52_79 : jv_ev d 52 79 lc [.int v] h = some (.inl (some (.int v)), h) := jq_reti (jv_insR jm_52 dX12_loom_79) jr_52
theorem e52_80 : jv_ev d 52 80 [some (.ref a), x1, x2] st h = jv_ev d 52 81 [some (.ref a), x1, x2] (.ref a :: st) h := jq_nx (jv_insR jm_52 dX12_loom_80) rfl
theorem e52_81 : jv_ev d 52 81 lc (.ref a :: st) h = (jv_gf h a [(0, 50, .array .int)]).bind fun r => jv_ev d 52 84 lc (r :: st) h := jq_get (jv_insR jm_52 dX12_loom_81) jo_52 jF_1_116
theorem e52_84 : jv_ev d 52 84 lc st h = jv_ev d 52 86 lc (.int 52 :: st) h := jq_bipush (jv_insR jm_52 dX12_loom_84) (by decide)
theorem e52_86 : jv_ev d 52 86 [x0, some (.int v), x2] st h = jv_ev d 52 87 [x0, some (.int v), x2] (.int v :: st) h := jq_nx (jv_insR jm_52 dX12_loom_86) rfl
theorem e52_87 : jv_ev d 52 87 lc (.int w :: .int v :: st) h = jv_ev d 52 88 lc (.int (v + w) :: st) h := jq_nx (jv_insR jm_52 dX12_loom_87) rfl
theorem e52_88 : jv_ev d 52 88 lc (.int v :: .ref a :: st) h = (jv_ig h a 0 0 v).bind fun w => jv_ev d 52 89 lc (.int w :: st) h := jq_iald (jv_insR jm_52 dX12_loom_88)
theorem e52_89 : jv_ev d 52 89 lc (.int v :: st) h = if ¬ v = 0 then jv_ev d 52 97 lc st h else jv_ev d 52 92 lc st h := jq_if (jv_insR jm_52 dX12_loom_89) rfl (by decide)
theorem e52_92 : jv_ev d 52 92 lc st h = jv_ev d 52 94 lc (.int (-2) :: st) h := jq_bipush (jv_insR jm_52 dX12_loom_92) (by decide)
theorem e52_94 : jv_ev d 52 94 lc st h = jv_ev d 52 110 lc st h := jq_go (jv_insR jm_52 dX12_loom_94) (by decide)
theorem e52_97 : jv_ev d 52 97 [some (.ref a), x1, x2] st h = jv_ev d 52 98 [some (.ref a), x1, x2] (.ref a :: st) h := jq_nx (jv_insR jm_52 dX12_loom_97) rfl
theorem e52_98 : jv_ev d 52 98 lc (.ref a :: st) h = (jv_gf h a [(0, 50, .array .int)]).bind fun r => jv_ev d 52 101 lc (r :: st) h := jq_get (jv_insR jm_52 dX12_loom_98) jo_52 jF_1_116
theorem e52_101 : jv_ev d 52 101 lc st h = jv_ev d 52 103 lc (.int 44 :: st) h := jq_bipush (jv_insR jm_52 dX12_loom_101) (by decide)
theorem e52_103 : jv_ev d 52 103 lc st h = jv_ev d 52 104 lc (.int 4 :: st) h := jq_iconst (jv_insR jm_52 dX12_loom_103) (by decide)
theorem e52_104 : jv_ev d 52 104 [x0, x1, some (.int v)] st h = jv_ev d 52 105 [x0, x1, some (.int v)] (.int v :: st) h := jq_nx (jv_insR jm_52 dX12_loom_104) rfl
theorem e52_105 : jv_ev d 52 105 lc (.int w :: .int v :: st) h = jv_ev d 52 106 lc (.int (v * w) :: st) h := jq_nx (jv_insR jm_52 dX12_loom_105) rfl
theorem e52_106 : jv_ev d 52 106 lc (.int w :: .int v :: st) h = jv_ev d 52 107 lc (.int (v + w) :: st) h := jq_nx (jv_insR jm_52 dX12_loom_106) rfl
theorem e52_107 : jv_ev d 52 107 [x0, some (.int v), x2] st h = jv_ev d 52 108 [x0, some (.int v), x2] (.int v :: st) h := jq_nx (jv_insR jm_52 dX12_loom_107) rfl
theorem e52_108 : jv_ev d 52 108 lc (.int w :: .int v :: st) h = jv_ev d 52 109 lc (.int (v + w) :: st) h := jq_nx (jv_insR jm_52 dX12_loom_108) rfl
theorem e52_109 : jv_ev d 52 109 lc (.int v :: .ref a :: st) h = (jv_ig h a 0 0 v).bind fun w => jv_ev d 52 110 lc (.int w :: st) h := jq_iald (jv_insR jm_52 dX12_loom_109)
theorem e52_110 : jv_ev d 52 110 lc [.int v] h = some (.inl (some (.int v)), h) := jq_reti (jv_insR jm_52 dX12_loom_110) jr_52
theorem e52_111 : jv_ev d 52 111 [some (.ref a), x1, x2] st h = jv_ev d 52 112 [some (.ref a), x1, x2] (.ref a :: st) h := jq_nx (jv_insR jm_52 dX12_loom_111) rfl
theorem e52_112 : jv_ev d 52 112 lc (.ref a :: st) h = (jv_gf h a [(0, 50, .array .int)]).bind fun r => jv_ev d 52 115 lc (r :: st) h := jq_get (jv_insR jm_52 dX12_loom_112) jo_52 jF_1_116
theorem e52_115 : jv_ev d 52 115 lc st h = jv_ev d 52 117 lc (.int 44 :: st) h := jq_bipush (jv_insR jm_52 dX12_loom_115) (by decide)
theorem e52_117 : jv_ev d 52 117 lc st h = jv_ev d 52 118 lc (.int 4 :: st) h := jq_iconst (jv_insR jm_52 dX12_loom_117) (by decide)
theorem e52_118 : jv_ev d 52 118 [x0, x1, some (.int v)] st h = jv_ev d 52 119 [x0, x1, some (.int v)] (.int v :: st) h := jq_nx (jv_insR jm_52 dX12_loom_118) rfl
theorem e52_119 : jv_ev d 52 119 lc (.int w :: .int v :: st) h = jv_ev d 52 120 lc (.int (v * w) :: st) h := jq_nx (jv_insR jm_52 dX12_loom_119) rfl
theorem e52_120 : jv_ev d 52 120 lc (.int w :: .int v :: st) h = jv_ev d 52 121 lc (.int (v + w) :: st) h := jq_nx (jv_insR jm_52 dX12_loom_120) rfl
theorem e52_121 : jv_ev d 52 121 [x0, some (.int v), x2] st h = jv_ev d 52 122 [x0, some (.int v), x2] (.int v :: st) h := jq_nx (jv_insR jm_52 dX12_loom_121) rfl
theorem e52_122 : jv_ev d 52 122 lc (.int w :: .int v :: st) h = jv_ev d 52 123 lc (.int (v + w) :: st) h := jq_nx (jv_insR jm_52 dX12_loom_122) rfl
theorem e52_123 : jv_ev d 52 123 lc (.int v :: .ref a :: st) h = (jv_ig h a 0 0 v).bind fun w => jv_ev d 52 124 lc (.int w :: st) h := jq_iald (jv_insR jm_52 dX12_loom_123)
theorem e52_124 : jv_ev d 52 124 lc [.int v] h = some (.inl (some (.int v)), h) := jq_reti (jv_insR jm_52 dX12_loom_124) jr_52
theorem e52_125 : jv_ev d 52 125 lc st h = jv_ev d 52 126 lc (.int (-1) :: st) h := jq_iconst (jv_insR jm_52 dX12_loom_125) (by decide)
theorem e52_126 : jv_ev d 52 126 lc [.int v] h = some (.inl (some (.int v)), h) := jq_reti (jv_insR jm_52 dX12_loom_126) jr_52
/-! 53: RainLoomModel.isLoom(I)Z -/
theorem n53 : jv_cd (d + 1) 53 [.ref a0, .int i1] h = jv_ev d 53 0 [some (.ref a0), some (.int i1)] [] h := rfl
theorem e53_0 : jv_ev d 53 0 [x0, some (.int v)] st h = jv_ev d 53 1 [x0, some (.int v)] (.int v :: st) h := jq_nx (jv_insR jm_53 dX12_isLoom_0) rfl
theorem e53_1 : jv_ev d 53 1 lc st h = jv_ev d 53 2 lc (.int 0 :: st) h := jq_iconst (jv_insR jm_53 dX12_isLoom_1) (by decide)
theorem e53_2 : jv_ev d 53 2 [some (.ref a), x1] st h = jv_ev d 53 3 [some (.ref a), x1] (.ref a :: st) h := jq_nx (jv_insR jm_53 dX12_isLoom_2) rfl
theorem e53_3 : jv_ev d 53 3 lc (.ref a :: st) h = (jv_gf h a [(0, 28, .array .int)]).bind fun r => jv_ev d 53 6 lc (r :: st) h := jq_get (jv_insR jm_53 dX12_isLoom_3) jo_53 jF_1_61
theorem e53_6 : jv_ev d 53 6 [some (.ref a), x1] st h = jv_ev d 53 7 [some (.ref a), x1] (.ref a :: st) h := jq_nx (jv_insR jm_53 dX12_isLoom_6) rfl
theorem e53_7 : jv_ev d 53 7 lc (.ref a :: st) h = (jv_gf h a [(0, 18, .int)]).bind fun r => jv_ev d 53 10 lc (r :: st) h := jq_get (jv_insR jm_53 dX12_isLoom_7) jo_53 jF_1_239
theorem e53_10 : jv_ev d 53 10 lc (.int v :: .ref a :: st) h = (jv_ig h a 0 0 v).bind fun w => jv_ev d 53 11 lc (.int w :: st) h := jq_iald (jv_insR jm_53 dX12_isLoom_10)
theorem e53_11 : jv_ev d 53 11 lc st h = jv_ev d 53 12 lc (.int 1 :: st) h := jq_iconst (jv_insR jm_53 dX12_isLoom_11) (by decide)
theorem e53_12 : jv_ev d 53 12 lc (.int w :: .int v :: st) h = jv_ev d 53 13 lc (.int (v - w) :: st) h := jq_nx (jv_insR jm_53 dX12_isLoom_12) rfl
theorem e53_13 : jv_ev d 53 13 lc [z2, z1, z0] h = (jv_cd d 40 [z0, z1, z2] h).bind fun r => jv_on r (fun v h => jv_ev d 53 16 lc (v.toList ++ []) h) (fun q h => some (.inr q, h)) := jq_S (as := [z0, z1, z2]) (rest := []) (jv_insR jm_53 dX12_isLoom_13) jo_53 jT_1_323 rfl rfl rfl rfl
theorem e53_16 : jv_ev d 53 16 lc [.int v] h = if narrow .boolean (.int v) = .int v then some (.inl (some (.int v)), h) else none := jq_ret (jv_insR jm_53 dX12_isLoom_16) jr_53 (by decide)
/-! 54: RainLoomModel.thread(III)I -/
theorem n54 : jv_cd (d + 1) 54 [.ref a0, .int i1, .int i2, .int i3] h = jv_ev d 54 0 [some (.ref a0), some (.int i1), some (.int i2), some (.int i3)] [] h := rfl
theorem e54_0 : jv_ev d 54 0 [some (.ref a), x1, x2, x3] st h = jv_ev d 54 1 [some (.ref a), x1, x2, x3] (.ref a :: st) h := jq_nx (jv_insR jm_54 dX12_thread_0) rfl
theorem e54_1 : jv_ev d 54 1 [x0, some (.int v), x2, x3] st h = jv_ev d 54 2 [x0, some (.int v), x2, x3] (.int v :: st) h := jq_nx (jv_insR jm_54 dX12_thread_1) rfl
theorem e54_2 : jv_ev d 54 2 lc [z0, .ref b] h = (jv_rc h b [(0, 53)]).bind fun y => (jv_cd d y [.ref b, z0] h).bind fun r => jv_on r (fun v h => jv_ev d 54 5 lc (v.toList ++ []) h) (fun q h => some (.inr q, h)) := jq_V (as := [z0]) (rest := []) (jv_insR jm_54 dX12_thread_2) jo_54 jV_1_393 rfl rfl rfl rfl
theorem e54_5 : jv_ev d 54 5 lc (.int v :: st) h = if v = 0 then jv_ev d 54 42 lc st h else jv_ev d 54 8 lc st h := jq_if (jv_insR jm_54 dX12_thread_5) rfl (by decide)
theorem e54_8 : jv_ev d 54 8 [x0, x1, some (.int v), x3] st h = jv_ev d 54 9 [x0, x1, some (.int v), x3] (.int v :: st) h := jq_nx (jv_insR jm_54 dX12_thread_8) rfl
theorem e54_9 : jv_ev d 54 9 lc st h = jv_ev d 54 10 lc (.int 0 :: st) h := jq_iconst (jv_insR jm_54 dX12_thread_9) (by decide)
theorem e54_10 : jv_ev d 54 10 [some (.ref a), x1, x2, x3] st h = jv_ev d 54 11 [some (.ref a), x1, x2, x3] (.ref a :: st) h := jq_nx (jv_insR jm_54 dX12_thread_10) rfl
theorem e54_11 : jv_ev d 54 11 lc (.ref a :: st) h = (jv_gf h a [(0, 29, .array .int)]).bind fun r => jv_ev d 54 14 lc (r :: st) h := jq_get (jv_insR jm_54 dX12_thread_11) jo_54 jF_1_64
theorem e54_14 : jv_ev d 54 14 lc st h = jv_ev d 54 15 lc (.int 4 :: st) h := jq_iconst (jv_insR jm_54 dX12_thread_14) (by decide)
theorem e54_15 : jv_ev d 54 15 [some (.ref a), x1, x2, x3] st h = jv_ev d 54 16 [some (.ref a), x1, x2, x3] (.ref a :: st) h := jq_nx (jv_insR jm_54 dX12_thread_15) rfl
theorem e54_16 : jv_ev d 54 16 lc (.ref a :: st) h = (jv_gf h a [(0, 18, .int)]).bind fun r => jv_ev d 54 19 lc (r :: st) h := jq_get (jv_insR jm_54 dX12_thread_16) jo_54 jF_1_239
theorem e54_19 : jv_ev d 54 19 lc (.int w :: .int v :: st) h = jv_ev d 54 20 lc (.int (v * w) :: st) h := jq_nx (jv_insR jm_54 dX12_thread_19) rfl
theorem e54_20 : jv_ev d 54 20 [x0, some (.int v), x2, x3] st h = jv_ev d 54 21 [x0, some (.int v), x2, x3] (.int v :: st) h := jq_nx (jv_insR jm_54 dX12_thread_20) rfl
theorem e54_21 : jv_ev d 54 21 lc (.int w :: .int v :: st) h = jv_ev d 54 22 lc (.int (v + w) :: st) h := jq_nx (jv_insR jm_54 dX12_thread_21) rfl
theorem e54_22 : jv_ev d 54 22 lc (.int v :: .ref a :: st) h = (jv_ig h a 0 0 v).bind fun w => jv_ev d 54 23 lc (.int w :: st) h := jq_iald (jv_insR jm_54 dX12_thread_22)
theorem e54_23 : jv_ev d 54 23 lc st h = jv_ev d 54 24 lc (.int 1 :: st) h := jq_iconst (jv_insR jm_54 dX12_thread_23) (by decide)
theorem e54_24 : jv_ev d 54 24 lc (.int w :: .int v :: st) h = jv_ev d 54 25 lc (.int (v - w) :: st) h := jq_nx (jv_insR jm_54 dX12_thread_24) rfl
theorem e54_25 : jv_ev d 54 25 lc [z2, z1, z0] h = (jv_cd d 40 [z0, z1, z2] h).bind fun r => jv_on r (fun v h => jv_ev d 54 28 lc (v.toList ++ []) h) (fun q h => some (.inr q, h)) := jq_S (as := [z0, z1, z2]) (rest := []) (jv_insR jm_54 dX12_thread_25) jo_54 jT_1_323 rfl rfl rfl rfl
theorem e54_28 : jv_ev d 54 28 lc (.int v :: st) h = if v = 0 then jv_ev d 54 42 lc st h else jv_ev d 54 31 lc st h := jq_if (jv_insR jm_54 dX12_thread_28) rfl (by decide)
theorem e54_31 : jv_ev d 54 31 [x0, x1, x2, some (.int v)] st h = jv_ev d 54 32 [x0, x1, x2, some (.int v)] (.int v :: st) h := jq_nx (jv_insR jm_54 dX12_thread_31) rfl
theorem e54_32 : jv_ev d 54 32 lc st h = jv_ev d 54 33 lc (.int 0 :: st) h := jq_iconst (jv_insR jm_54 dX12_thread_32) (by decide)
theorem e54_33 : jv_ev d 54 33 lc st h = jv_ev d 54 36 lc (.int 9999 :: st) h := jq_sipush (jv_insR jm_54 dX12_thread_33) (by decide)
theorem e54_36 : jv_ev d 54 36 lc [z2, z1, z0] h = (jv_cd d 40 [z0, z1, z2] h).bind fun r => jv_on r (fun v h => jv_ev d 54 39 lc (v.toList ++ []) h) (fun q h => some (.inr q, h)) := jq_S (as := [z0, z1, z2]) (rest := []) (jv_insR jm_54 dX12_thread_36) jo_54 jT_1_323 rfl rfl rfl rfl
theorem e54_39 : jv_ev d 54 39 lc (.int v :: st) h = if ¬ v = 0 then jv_ev d 54 44 lc st h else jv_ev d 54 42 lc st h := jq_if (jv_insR jm_54 dX12_thread_39) rfl (by decide)
theorem e54_42 : jv_ev d 54 42 lc st h = jv_ev d 54 43 lc (.int (-1) :: st) h := jq_iconst (jv_insR jm_54 dX12_thread_42) (by decide)
theorem e54_43 : jv_ev d 54 43 lc [.int v] h = some (.inl (some (.int v)), h) := jq_reti (jv_insR jm_54 dX12_thread_43) jr_54
theorem e54_44 : jv_ev d 54 44 [some (.ref a), x1, x2, x3] st h = jv_ev d 54 45 [some (.ref a), x1, x2, x3] (.ref a :: st) h := jq_nx (jv_insR jm_54 dX12_thread_44) rfl
theorem e54_45 : jv_ev d 54 45 [x0, some (.int v), x2, x3] st h = jv_ev d 54 46 [x0, some (.int v), x2, x3] (.int v :: st) h := jq_nx (jv_insR jm_54 dX12_thread_45) rfl
theorem e54_46 : jv_ev d 54 46 [x0, x1, some (.int v), x3] st h = jv_ev d 54 47 [x0, x1, some (.int v), x3] (.int v :: st) h := jq_nx (jv_insR jm_54 dX12_thread_46) rfl
theorem e54_47 : jv_ev d 54 47 [x0, x1, x2, some (.int v)] st h = jv_ev d 54 48 [x0, x1, x2, some (.int v)] (.int v :: st) h := jq_nx (jv_insR jm_54 dX12_thread_47) rfl
theorem e54_48 : jv_ev d 54 48 lc [z2, z1, z0, .ref b] h = (jv_rc h b [(0, 55)]).bind fun y => (jv_cd d y [.ref b, z0, z1, z2] h).bind fun r => jv_on r (fun v h => jv_ev d 54 51 lc (v.toList ++ []) h) (fun q h => some (.inr q, h)) := jq_V (as := [z0, z1, z2]) (rest := []) (jv_insR jm_54 dX12_thread_48) jo_54 jV_1_356 rfl rfl rfl rfl
theorem e54_51 : jv_ev d 54 51 lc [.int v] h = some (.inl (some (.int v)), h) := jq_reti (jv_insR jm_54 dX12_thread_51) jr_54
/-! 55: RainLoomModel.threadOf(III)I -/
theorem n55 : jv_cd (d + 1) 55 [.ref a0, .int i1, .int i2, .int i3] h = jv_ev d 55 0 [some (.ref a0), some (.int i1), some (.int i2), some (.int i3)] [] h := rfl
theorem e55_0 : jv_ev d 55 0 [some (.ref a), x1, x2, x3] st h = jv_ev d 55 1 [some (.ref a), x1, x2, x3] (.ref a :: st) h := jq_nx (jv_insR jm_55 dX12_threadOf_0) rfl
theorem e55_1 : jv_ev d 55 1 lc [.ref b] h = (jv_rc h b [(0, 56)]).bind fun y => (jv_cd d y [.ref b] h).bind fun r => jv_on r (fun v h => jv_ev d 55 4 lc (v.toList ++ []) h) (fun q h => some (.inr q, h)) := jq_V (as := []) (rest := []) (jv_insR jm_55 dX12_threadOf_1) jo_55 jV_1_337 rfl rfl rfl rfl
theorem e55_4 : jv_ev d 55 4 [some (.ref a), x1, x2, x3] st h = jv_ev d 55 5 [some (.ref a), x1, x2, x3] (.ref a :: st) h := jq_nx (jv_insR jm_55 dX12_threadOf_4) rfl
theorem e55_5 : jv_ev d 55 5 lc (.ref a :: st) h = (jv_gf h a [(0, 47, .array .int)]).bind fun r => jv_ev d 55 8 lc (r :: st) h := jq_get (jv_insR jm_55 dX12_threadOf_5) jo_55 jF_1_110
theorem e55_8 : jv_ev d 55 8 lc st h = jv_ev d 55 9 lc (.int 0 :: st) h := jq_iconst (jv_insR jm_55 dX12_threadOf_8) (by decide)
theorem e55_9 : jv_ev d 55 9 [x0, x1, x2, some (.int v)] st h = jv_ev d 55 10 [x0, x1, x2, some (.int v)] (.int v :: st) h := jq_nx (jv_insR jm_55 dX12_threadOf_9) rfl
theorem e55_10 : jv_ev d 55 10 lc st h = jv_ev d 55 11 lc (.int 4 :: st) h := jq_iconst (jv_insR jm_55 dX12_threadOf_10) (by decide)
theorem e55_11 : jv_ev d 55 11 lc (.int w :: .int v :: st) h = if w = 0 then none else jv_ev d 55 12 lc (.int (v - v / w * w) :: st) h := jq_irem (jv_insR jm_55 dX12_threadOf_11)
theorem e55_12 : jv_ev d 55 12 lc (.int w :: .int v :: .ref a :: st) h = (jv_ip h a 0 0 v w).bind fun h => jv_ev d 55 13 lc st h := jq_iast (jv_insR jm_55 dX12_threadOf_12)
theorem e55_13 : jv_ev d 55 13 [some (.ref a), x1, x2, x3] st h = jv_ev d 55 14 [some (.ref a), x1, x2, x3] (.ref a :: st) h := jq_nx (jv_insR jm_55 dX12_threadOf_13) rfl
theorem e55_14 : jv_ev d 55 14 lc (.ref a :: st) h = (jv_gf h a [(0, 47, .array .int)]).bind fun r => jv_ev d 55 17 lc (r :: st) h := jq_get (jv_insR jm_55 dX12_threadOf_14) jo_55 jF_1_110
theorem e55_17 : jv_ev d 55 17 lc st h = jv_ev d 55 18 lc (.int 1 :: st) h := jq_iconst (jv_insR jm_55 dX12_threadOf_17) (by decide)
theorem e55_18 : jv_ev d 55 18 [x0, x1, some (.int v), x3] st h = jv_ev d 55 19 [x0, x1, some (.int v), x3] (.int v :: st) h := jq_nx (jv_insR jm_55 dX12_threadOf_18) rfl
theorem e55_19 : jv_ev d 55 19 lc (.int w :: .int v :: .ref a :: st) h = (jv_ip h a 0 0 v w).bind fun h => jv_ev d 55 20 lc st h := jq_iast (jv_insR jm_55 dX12_threadOf_19)
theorem e55_20 : jv_ev d 55 20 [some (.ref a), x1, x2, x3] st h = jv_ev d 55 21 [some (.ref a), x1, x2, x3] (.ref a :: st) h := jq_nx (jv_insR jm_55 dX12_threadOf_20) rfl
theorem e55_21 : jv_ev d 55 21 lc (.ref a :: st) h = (jv_gf h a [(0, 47, .array .int)]).bind fun r => jv_ev d 55 24 lc (r :: st) h := jq_get (jv_insR jm_55 dX12_threadOf_21) jo_55 jF_1_110
theorem e55_24 : jv_ev d 55 24 lc st h = jv_ev d 55 25 lc (.int 2 :: st) h := jq_iconst (jv_insR jm_55 dX12_threadOf_24) (by decide)
theorem e55_25 : jv_ev d 55 25 [x0, x1, x2, some (.int v)] st h = jv_ev d 55 26 [x0, x1, x2, some (.int v)] (.int v :: st) h := jq_nx (jv_insR jm_55 dX12_threadOf_25) rfl
theorem e55_26 : jv_ev d 55 26 lc (.int w :: .int v :: .ref a :: st) h = (jv_ip h a 0 0 v w).bind fun h => jv_ev d 55 27 lc st h := jq_iast (jv_insR jm_55 dX12_threadOf_26)
theorem e55_27 : jv_ev d 55 27 [some (.ref a), x1, x2, x3] st h = jv_ev d 55 28 [some (.ref a), x1, x2, x3] (.ref a :: st) h := jq_nx (jv_insR jm_55 dX12_threadOf_27) rfl
theorem e55_28 : jv_ev d 55 28 lc (.ref a :: st) h = (jv_gf h a [(0, 47, .array .int)]).bind fun r => jv_ev d 55 31 lc (r :: st) h := jq_get (jv_insR jm_55 dX12_threadOf_28) jo_55 jF_1_110
theorem e55_31 : jv_ev d 55 31 lc st h = jv_ev d 55 33 lc (.int 7 :: st) h := jq_bipush (jv_insR jm_55 dX12_threadOf_31) (by decide)
theorem e55_33 : jv_ev d 55 33 [x0, some (.int v), x2, x3] st h = jv_ev d 55 34 [x0, some (.int v), x2, x3] (.int v :: st) h := jq_nx (jv_insR jm_55 dX12_threadOf_33) rfl
theorem e55_34 : jv_ev d 55 34 lc (.int w :: .int v :: .ref a :: st) h = (jv_ip h a 0 0 v w).bind fun h => jv_ev d 55 35 lc st h := jq_iast (jv_insR jm_55 dX12_threadOf_34)
theorem e55_35 : jv_ev d 55 35 [some (.ref a), x1, x2, x3] st h = jv_ev d 55 36 [some (.ref a), x1, x2, x3] (.ref a :: st) h := jq_nx (jv_insR jm_55 dX12_threadOf_35) rfl
theorem e55_36 : jv_ev d 55 36 lc (.ref a :: st) h = (jv_gf h a [(0, 47, .array .int)]).bind fun r => jv_ev d 55 39 lc (r :: st) h := jq_get (jv_insR jm_55 dX12_threadOf_36) jo_55 jF_1_110
theorem e55_39 : jv_ev d 55 39 lc st h = jv_ev d 55 41 lc (.int 8 :: st) h := jq_bipush (jv_insR jm_55 dX12_threadOf_39) (by decide)
theorem e55_41 : jv_ev d 55 41 [some (.ref a), x1, x2, x3] st h = jv_ev d 55 42 [some (.ref a), x1, x2, x3] (.ref a :: st) h := jq_nx (jv_insR jm_55 dX12_threadOf_41) rfl
theorem e55_42 : jv_ev d 55 42 lc (.ref a :: st) h = (jv_gf h a [(0, 29, .array .int)]).bind fun r => jv_ev d 55 45 lc (r :: st) h := jq_get (jv_insR jm_55 dX12_threadOf_42) jo_55 jF_1_64
theorem e55_45 : jv_ev d 55 45 lc st h = jv_ev d 55 46 lc (.int 4 :: st) h := jq_iconst (jv_insR jm_55 dX12_threadOf_45) (by decide)
theorem e55_46 : jv_ev d 55 46 [some (.ref a), x1, x2, x3] st h = jv_ev d 55 47 [some (.ref a), x1, x2, x3] (.ref a :: st) h := jq_nx (jv_insR jm_55 dX12_threadOf_46) rfl
theorem e55_47 : jv_ev d 55 47 lc (.ref a :: st) h = (jv_gf h a [(0, 18, .int)]).bind fun r => jv_ev d 55 50 lc (r :: st) h := jq_get (jv_insR jm_55 dX12_threadOf_47) jo_55 jF_1_239
theorem e55_50 : jv_ev d 55 50 lc (.int w :: .int v :: st) h = jv_ev d 55 51 lc (.int (v * w) :: st) h := jq_nx (jv_insR jm_55 dX12_threadOf_50) rfl
theorem e55_51 : jv_ev d 55 51 [x0, some (.int v), x2, x3] st h = jv_ev d 55 52 [x0, some (.int v), x2, x3] (.int v :: st) h := jq_nx (jv_insR jm_55 dX12_threadOf_51) rfl
theorem e55_52 : jv_ev d 55 52 lc (.int w :: .int v :: st) h = jv_ev d 55 53 lc (.int (v + w) :: st) h := jq_nx (jv_insR jm_55 dX12_threadOf_52) rfl
theorem e55_53 : jv_ev d 55 53 lc (.int v :: .ref a :: st) h = (jv_ig h a 0 0 v).bind fun w => jv_ev d 55 54 lc (.int w :: st) h := jq_iald (jv_insR jm_55 dX12_threadOf_53)
theorem e55_54 : jv_ev d 55 54 lc (.int w :: .int v :: .ref a :: st) h = (jv_ip h a 0 0 v w).bind fun h => jv_ev d 55 55 lc st h := jq_iast (jv_insR jm_55 dX12_threadOf_54)
theorem e55_55 : jv_ev d 55 55 [some (.ref a), x1, x2, x3] st h = jv_ev d 55 56 [some (.ref a), x1, x2, x3] (.ref a :: st) h := jq_nx (jv_insR jm_55 dX12_threadOf_55) rfl
theorem e55_56 : jv_ev d 55 56 lc st h = jv_ev d 55 57 lc (.int 0 :: st) h := jq_iconst (jv_insR jm_55 dX12_threadOf_56) (by decide)
theorem e55_57 : jv_ev d 55 57 lc st h = jv_ev d 55 58 lc (.int 1 :: st) h := jq_iconst (jv_insR jm_55 dX12_threadOf_57) (by decide)
theorem e55_58 : jv_ev d 55 58 lc st h = jv_ev d 55 60 lc (.int 9 :: st) h := jq_bipush (jv_insR jm_55 dX12_threadOf_58) (by decide)
theorem e55_60 : jv_ev d 55 60 lc [z2, z1, z0, .ref b] h = (jv_rc h b [(0, 57)]).bind fun y => (jv_cd d y [.ref b, z0, z1, z2] h).bind fun r => jv_on r (fun v h => jv_ev d 55 63 lc (v.toList ++ []) h) (fun q h => some (.inr q, h)) := jq_V (as := [z0, z1, z2]) (rest := []) (jv_insR jm_55 dX12_threadOf_60) jo_55 jV_1_340 rfl rfl rfl rfl
theorem e55_63 : jv_ev d 55 63 lc [.int v] h = some (.inl (some (.int v)), h) := jq_reti (jv_insR jm_55 dX12_threadOf_63) jr_55
/-! 56: RainLoomModel.looks()V -/
theorem n56 : jv_cd (d + 1) 56 [.ref a0] h = jv_ev d 56 0 [some (.ref a0), none] [] h := rfl
theorem e56_0 : jv_ev d 56 0 lc st h = jv_ev d 56 1 lc (.int 0 :: st) h := jq_iconst (jv_insR jm_56 dX12_looks_0) (by decide)
theorem e56_1 : jv_ev d 56 1 [x0, x1] (.int v :: st) h = jv_ev d 56 2 [x0, some (.int v)] st h := jq_nx (jv_insR jm_56 dX12_looks_1) rfl
theorem e56_2 : jv_ev d 56 2 [x0, some (.int v)] st h = jv_ev d 56 3 [x0, some (.int v)] (.int v :: st) h := jq_nx (jv_insR jm_56 dX12_looks_2) rfl
theorem e56_3 : jv_ev d 56 3 lc st h = jv_ev d 56 5 lc (.int 9 :: st) h := jq_bipush (jv_insR jm_56 dX12_looks_3) (by decide)
theorem e56_5 : jv_ev d 56 5 lc (.int w :: .int v :: st) h = if w ≤ v then jv_ev d 56 21 lc st h else jv_ev d 56 8 lc st h := jq_if (jv_insR jm_56 dX12_looks_5) rfl (by decide)
theorem e56_8 : jv_ev d 56 8 [some (.ref a), x1] st h = jv_ev d 56 9 [some (.ref a), x1] (.ref a :: st) h := jq_nx (jv_insR jm_56 dX12_looks_8) rfl
theorem e56_9 : jv_ev d 56 9 lc (.ref a :: st) h = (jv_gf h a [(0, 47, .array .int)]).bind fun r => jv_ev d 56 12 lc (r :: st) h := jq_get (jv_insR jm_56 dX12_looks_9) jo_56 jF_1_110
theorem e56_12 : jv_ev d 56 12 [x0, some (.int v)] st h = jv_ev d 56 13 [x0, some (.int v)] (.int v :: st) h := jq_nx (jv_insR jm_56 dX12_looks_12) rfl
theorem e56_13 : jv_ev d 56 13 lc st h = jv_ev d 56 14 lc (.int 0 :: st) h := jq_iconst (jv_insR jm_56 dX12_looks_13) (by decide)
theorem e56_14 : jv_ev d 56 14 lc (.int w :: .int v :: .ref a :: st) h = (jv_ip h a 0 0 v w).bind fun h => jv_ev d 56 15 lc st h := jq_iast (jv_insR jm_56 dX12_looks_14)
theorem e56_15 : jv_ev d 56 15 [x0, some (.int v)] st h = jv_ev d 56 18 [x0, some (.int (v + 1))] st h := jq_nx (jv_insR jm_56 dX12_looks_15) rfl
theorem e56_18 : jv_ev d 56 18 lc st h = jv_ev d 56 2 lc st h := jq_go (jv_insR jm_56 dX12_looks_18) (by decide)
theorem e56_21 : jv_ev d 56 21 lc [] h = some (.inl none, h) := jq_retv (jv_insR jm_56 dX12_looks_21) jr_56
/-! 57: RainLoomModel.asks(III)I -/
theorem n57 : jv_cd (d + 1) 57 [.ref a0, .int i1, .int i2, .int i3] h = jv_ev d 57 0 [some (.ref a0), some (.int i1), some (.int i2), some (.int i3), none, none, none, none] [] h := rfl
theorem e57_0 : jv_ev d 57 0 lc st h = jv_ev d 57 1 lc (.int 3 :: st) h := jq_iconst (jv_insR jm_57 dX12_asks_0) (by decide)
theorem e57_1 : jv_ev d 57 1 [some (.ref a), x1, x2, x3, x4, x5, x6, x7] st h = jv_ev d 57 2 [some (.ref a), x1, x2, x3, x4, x5, x6, x7] (.ref a :: st) h := jq_nx (jv_insR jm_57 dX12_asks_1) rfl
theorem e57_2 : jv_ev d 57 2 lc (.ref a :: st) h = (jv_gf h a [(0, 18, .int)]).bind fun r => jv_ev d 57 5 lc (r :: st) h := jq_get (jv_insR jm_57 dX12_asks_2) jo_57 jF_1_239
theorem e57_5 : jv_ev d 57 5 lc (.int w :: .int v :: st) h = jv_ev d 57 6 lc (.int (v * w) :: st) h := jq_nx (jv_insR jm_57 dX12_asks_5) rfl
theorem e57_6 : jv_ev d 57 6 [x0, some (.int v), x2, x3, x4, x5, x6, x7] st h = jv_ev d 57 7 [x0, some (.int v), x2, x3, x4, x5, x6, x7] (.int v :: st) h := jq_nx (jv_insR jm_57 dX12_asks_6) rfl
theorem e57_7 : jv_ev d 57 7 lc (.int w :: .int v :: st) h = jv_ev d 57 8 lc (.int (v + w) :: st) h := jq_nx (jv_insR jm_57 dX12_asks_7) rfl
theorem e57_8 : jv_ev d 57 8 [x0, x1, x2, x3, x4, x5, x6, x7] (.int v :: st) h = jv_ev d 57 10 [x0, x1, x2, x3, some (.int v), x5, x6, x7] st h := jq_nx (jv_insR jm_57 dX12_asks_8) rfl
theorem e57_10 : jv_ev d 57 10 [some (.ref a), x1, x2, x3, x4, x5, x6, x7] st h = jv_ev d 57 11 [some (.ref a), x1, x2, x3, x4, x5, x6, x7] (.ref a :: st) h := jq_nx (jv_insR jm_57 dX12_asks_10) rfl
theorem e57_11 : jv_ev d 57 11 lc (.ref a :: st) h = (jv_gf h a [(0, 34, .array .int)]).bind fun r => jv_ev d 57 14 lc (r :: st) h := jq_get (jv_insR jm_57 dX12_asks_11) jo_57 jF_1_79
theorem e57_14 : jv_ev d 57 14 [x0, x1, x2, x3, some (.int v), x5, x6, x7] st h = jv_ev d 57 16 [x0, x1, x2, x3, some (.int v), x5, x6, x7] (.int v :: st) h := jq_nx (jv_insR jm_57 dX12_asks_14) rfl
theorem e57_16 : jv_ev d 57 16 lc (.int v :: .ref a :: st) h = (jv_ig h a 0 0 v).bind fun w => jv_ev d 57 17 lc (.int w :: st) h := jq_iald (jv_insR jm_57 dX12_asks_16)
theorem e57_17 : jv_ev d 57 17 [some (.ref a), x1, x2, x3, x4, x5, x6, x7] st h = jv_ev d 57 18 [some (.ref a), x1, x2, x3, x4, x5, x6, x7] (.ref a :: st) h := jq_nx (jv_insR jm_57 dX12_asks_17) rfl
theorem e57_18 : jv_ev d 57 18 lc (.ref a :: st) h = (jv_gf h a [(0, 35, .array .int)]).bind fun r => jv_ev d 57 21 lc (r :: st) h := jq_get (jv_insR jm_57 dX12_asks_18) jo_57 jF_1_82
theorem e57_21 : jv_ev d 57 21 [x0, x1, x2, x3, some (.int v), x5, x6, x7] st h = jv_ev d 57 23 [x0, x1, x2, x3, some (.int v), x5, x6, x7] (.int v :: st) h := jq_nx (jv_insR jm_57 dX12_asks_21) rfl
theorem e57_23 : jv_ev d 57 23 lc (.int v :: .ref a :: st) h = (jv_ig h a 0 0 v).bind fun w => jv_ev d 57 24 lc (.int w :: st) h := jq_iald (jv_insR jm_57 dX12_asks_23)
theorem e57_24 : jv_ev d 57 24 lc (.int w :: .int v :: st) h = if ¬ v = w then jv_ev d 57 29 lc st h else jv_ev d 57 27 lc st h := jq_if (jv_insR jm_57 dX12_asks_24) rfl (by decide)
theorem e57_27 : jv_ev d 57 27 [x0, x1, some (.int v), x3, x4, x5, x6, x7] st h = jv_ev d 57 28 [x0, x1, some (.int v), x3, x4, x5, x6, x7] (.int v :: st) h := jq_nx (jv_insR jm_57 dX12_asks_27) rfl
theorem e57_28 : jv_ev d 57 28 lc [.int v] h = some (.inl (some (.int v)), h) := jq_reti (jv_insR jm_57 dX12_asks_28) jr_57
theorem e57_29 : jv_ev d 57 29 [some (.ref a), x1, x2, x3, x4, x5, x6, x7] st h = jv_ev d 57 30 [some (.ref a), x1, x2, x3, x4, x5, x6, x7] (.ref a :: st) h := jq_nx (jv_insR jm_57 dX12_asks_29) rfl
theorem e57_30 : jv_ev d 57 30 lc st h = jv_ev d 57 31 lc (.int 0 :: st) h := jq_iconst (jv_insR jm_57 dX12_asks_30) (by decide)
theorem e57_31 : jv_ev d 57 31 lc (r :: .ref a :: st) h = (jv_pf h a [(0, 49, .boolean)] r).bind fun h => jv_ev d 57 34 lc st h := jq_put (jv_insR jm_57 dX12_asks_31) jo_57 ji_57 jG_1_319
theorem e57_34 : jv_ev d 57 34 [some (.ref a), x1, x2, x3, x4, x5, x6, x7] st h = jv_ev d 57 35 [some (.ref a), x1, x2, x3, x4, x5, x6, x7] (.ref a :: st) h := jq_nx (jv_insR jm_57 dX12_asks_34) rfl
theorem e57_35 : jv_ev d 57 35 lc (.ref a :: st) h = (jv_gf h a [(0, 34, .array .int)]).bind fun r => jv_ev d 57 38 lc (r :: st) h := jq_get (jv_insR jm_57 dX12_asks_35) jo_57 jF_1_79
theorem e57_38 : jv_ev d 57 38 [x0, x1, x2, x3, some (.int v), x5, x6, x7] st h = jv_ev d 57 40 [x0, x1, x2, x3, some (.int v), x5, x6, x7] (.int v :: st) h := jq_nx (jv_insR jm_57 dX12_asks_38) rfl
theorem e57_40 : jv_ev d 57 40 lc (.int v :: .ref a :: st) h = (jv_ig h a 0 0 v).bind fun w => jv_ev d 57 41 lc (.int w :: st) h := jq_iald (jv_insR jm_57 dX12_asks_40)
theorem e57_41 : jv_ev d 57 41 [x0, x1, x2, x3, x4, x5, x6, x7] (.int v :: st) h = jv_ev d 57 43 [x0, x1, x2, x3, x4, some (.int v), x6, x7] st h := jq_nx (jv_insR jm_57 dX12_asks_41) rfl
theorem e57_43 : jv_ev d 57 43 [x0, x1, x2, x3, x4, some (.int v), x6, x7] st h = jv_ev d 57 45 [x0, x1, x2, x3, x4, some (.int v), x6, x7] (.int v :: st) h := jq_nx (jv_insR jm_57 dX12_asks_43) rfl
theorem e57_45 : jv_ev d 57 45 [some (.ref a), x1, x2, x3, x4, x5, x6, x7] st h = jv_ev d 57 46 [some (.ref a), x1, x2, x3, x4, x5, x6, x7] (.ref a :: st) h := jq_nx (jv_insR jm_57 dX12_asks_45) rfl
theorem e57_46 : jv_ev d 57 46 lc (.ref a :: st) h = (jv_gf h a [(0, 35, .array .int)]).bind fun r => jv_ev d 57 49 lc (r :: st) h := jq_get (jv_insR jm_57 dX12_asks_46) jo_57 jF_1_82
theorem e57_49 : jv_ev d 57 49 [x0, x1, x2, x3, some (.int v), x5, x6, x7] st h = jv_ev d 57 51 [x0, x1, x2, x3, some (.int v), x5, x6, x7] (.int v :: st) h := jq_nx (jv_insR jm_57 dX12_asks_49) rfl
theorem e57_51 : jv_ev d 57 51 lc (.int v :: .ref a :: st) h = (jv_ig h a 0 0 v).bind fun w => jv_ev d 57 52 lc (.int w :: st) h := jq_iald (jv_insR jm_57 dX12_asks_51)
theorem e57_52 : jv_ev d 57 52 lc (.int w :: .int v :: st) h = if w ≤ v then jv_ev d 57 179 lc st h else jv_ev d 57 55 lc st h := jq_if (jv_insR jm_57 dX12_asks_52) rfl (by decide)
theorem e57_55 : jv_ev d 57 55 [some (.ref a), x1, x2, x3, x4, x5, x6, x7] st h = jv_ev d 57 56 [some (.ref a), x1, x2, x3, x4, x5, x6, x7] (.ref a :: st) h := jq_nx (jv_insR jm_57 dX12_asks_55) rfl
theorem e57_56 : jv_ev d 57 56 lc (.ref a :: st) h = (jv_gf h a [(0, 37, .array .boolean)]).bind fun r => jv_ev d 57 59 lc (r :: st) h := jq_get (jv_insR jm_57 dX12_asks_56) jo_57 jF_1_85
theorem e57_59 : jv_ev d 57 59 [x0, x1, x2, x3, x4, some (.int v), x6, x7] st h = jv_ev d 57 61 [x0, x1, x2, x3, x4, some (.int v), x6, x7] (.int v :: st) h := jq_nx (jv_insR jm_57 dX12_asks_59) rfl
theorem e57_61 : jv_ev d 57 61 lc (.int v :: .ref a :: st) h = (jv_ig h a 1 2 v).bind fun w => jv_ev d 57 62 lc (.int w :: st) h := jq_bald (jv_insR jm_57 dX12_asks_61)
theorem e57_62 : jv_ev d 57 62 lc (.int v :: st) h = if v = 0 then jv_ev d 57 124 lc st h else jv_ev d 57 65 lc st h := jq_if (jv_insR jm_57 dX12_asks_62) rfl (by decide)
theorem e57_65 : jv_ev d 57 65 [some (.ref a), x1, x2, x3, x4, x5, x6, x7] st h = jv_ev d 57 66 [some (.ref a), x1, x2, x3, x4, x5, x6, x7] (.ref a :: st) h := jq_nx (jv_insR jm_57 dX12_asks_65) rfl
theorem e57_66 : jv_ev d 57 66 [some (.ref a), x1, x2, x3, x4, x5, x6, x7] st h = jv_ev d 57 67 [some (.ref a), x1, x2, x3, x4, x5, x6, x7] (.ref a :: st) h := jq_nx (jv_insR jm_57 dX12_asks_66) rfl
theorem e57_67 : jv_ev d 57 67 lc (.ref a :: st) h = (jv_gf h a [(0, 38, .array .int)]).bind fun r => jv_ev d 57 70 lc (r :: st) h := jq_get (jv_insR jm_57 dX12_asks_67) jo_57 jF_1_89
theorem e57_70 : jv_ev d 57 70 [x0, x1, x2, x3, x4, some (.int v), x6, x7] st h = jv_ev d 57 72 [x0, x1, x2, x3, x4, some (.int v), x6, x7] (.int v :: st) h := jq_nx (jv_insR jm_57 dX12_asks_70) rfl
theorem e57_72 : jv_ev d 57 72 lc (.int v :: .ref a :: st) h = (jv_ig h a 0 0 v).bind fun w => jv_ev d 57 73 lc (.int w :: st) h := jq_iald (jv_insR jm_57 dX12_asks_72)
theorem e57_73 : jv_ev d 57 73 [some (.ref a), x1, x2, x3, x4, x5, x6, x7] st h = jv_ev d 57 74 [some (.ref a), x1, x2, x3, x4, x5, x6, x7] (.ref a :: st) h := jq_nx (jv_insR jm_57 dX12_asks_73) rfl
theorem e57_74 : jv_ev d 57 74 lc (.ref a :: st) h = (jv_gf h a [(0, 39, .array .int)]).bind fun r => jv_ev d 57 77 lc (r :: st) h := jq_get (jv_insR jm_57 dX12_asks_74) jo_57 jF_1_92
theorem e57_77 : jv_ev d 57 77 [x0, x1, x2, x3, x4, some (.int v), x6, x7] st h = jv_ev d 57 79 [x0, x1, x2, x3, x4, some (.int v), x6, x7] (.int v :: st) h := jq_nx (jv_insR jm_57 dX12_asks_77) rfl
theorem e57_79 : jv_ev d 57 79 lc (.int v :: .ref a :: st) h = (jv_ig h a 0 0 v).bind fun w => jv_ev d 57 80 lc (.int w :: st) h := jq_iald (jv_insR jm_57 dX12_asks_79)
theorem e57_80 : jv_ev d 57 80 lc [z1, z0, .ref b] h = (jv_rc h b [(0, 58)]).bind fun y => (jv_cd d y [.ref b, z0, z1] h).bind fun r => jv_on r (fun v h => jv_ev d 57 83 lc (v.toList ++ []) h) (fun q h => some (.inr q, h)) := jq_V (as := [z0, z1]) (rest := []) (jv_insR jm_57 dX12_asks_80) jo_57 jV_1_334 rfl rfl rfl rfl
theorem e57_83 : jv_ev d 57 83 [x0, x1, x2, x3, x4, x5, x6, x7] (.int v :: st) h = jv_ev d 57 85 [x0, x1, x2, x3, x4, x5, some (.int v), x7] st h := jq_nx (jv_insR jm_57 dX12_asks_83) rfl
theorem e57_85 : jv_ev d 57 85 [some (.ref a), x1, x2, x3, x4, x5, x6, x7] st h = jv_ev d 57 86 [some (.ref a), x1, x2, x3, x4, x5, x6, x7] (.ref a :: st) h := jq_nx (jv_insR jm_57 dX12_asks_85) rfl
theorem e57_86 : jv_ev d 57 86 [some (.ref a), x1, x2, x3, x4, x5, x6, x7] st h = jv_ev d 57 87 [some (.ref a), x1, x2, x3, x4, x5, x6, x7] (.ref a :: st) h := jq_nx (jv_insR jm_57 dX12_asks_86) rfl
theorem e57_87 : jv_ev d 57 87 lc (.ref a :: st) h = (jv_gf h a [(0, 39, .array .int)]).bind fun r => jv_ev d 57 90 lc (r :: st) h := jq_get (jv_insR jm_57 dX12_asks_87) jo_57 jF_1_92
theorem e57_90 : jv_ev d 57 90 [x0, x1, x2, x3, x4, some (.int v), x6, x7] st h = jv_ev d 57 92 [x0, x1, x2, x3, x4, some (.int v), x6, x7] (.int v :: st) h := jq_nx (jv_insR jm_57 dX12_asks_90) rfl
theorem e57_92 : jv_ev d 57 92 lc (.int v :: .ref a :: st) h = (jv_ig h a 0 0 v).bind fun w => jv_ev d 57 93 lc (.int w :: st) h := jq_iald (jv_insR jm_57 dX12_asks_92)
theorem e57_93 : jv_ev d 57 93 [some (.ref a), x1, x2, x3, x4, x5, x6, x7] st h = jv_ev d 57 94 [some (.ref a), x1, x2, x3, x4, x5, x6, x7] (.ref a :: st) h := jq_nx (jv_insR jm_57 dX12_asks_93) rfl
theorem e57_94 : jv_ev d 57 94 lc (.ref a :: st) h = (jv_gf h a [(0, 40, .array .int)]).bind fun r => jv_ev d 57 97 lc (r :: st) h := jq_get (jv_insR jm_57 dX12_asks_94) jo_57 jF_1_95
theorem e57_97 : jv_ev d 57 97 [x0, x1, x2, x3, x4, some (.int v), x6, x7] st h = jv_ev d 57 99 [x0, x1, x2, x3, x4, some (.int v), x6, x7] (.int v :: st) h := jq_nx (jv_insR jm_57 dX12_asks_97) rfl
theorem e57_99 : jv_ev d 57 99 lc (.int v :: .ref a :: st) h = (jv_ig h a 0 0 v).bind fun w => jv_ev d 57 100 lc (.int w :: st) h := jq_iald (jv_insR jm_57 dX12_asks_99)
theorem e57_100 : jv_ev d 57 100 lc [z1, z0, .ref b] h = (jv_rc h b [(0, 58)]).bind fun y => (jv_cd d y [.ref b, z0, z1] h).bind fun r => jv_on r (fun v h => jv_ev d 57 103 lc (v.toList ++ []) h) (fun q h => some (.inr q, h)) := jq_V (as := [z0, z1]) (rest := []) (jv_insR jm_57 dX12_asks_100) jo_57 jV_1_334 rfl rfl rfl rfl
theorem e57_103 : jv_ev d 57 103 [x0, x1, x2, x3, x4, x5, x6, x7] (.int v :: st) h = jv_ev d 57 105 [x0, x1, x2, x3, x4, x5, x6, some (.int v)] st h := jq_nx (jv_insR jm_57 dX12_asks_103) rfl
theorem e57_105 : jv_ev d 57 105 [some (.ref a), x1, x2, x3, x4, x5, x6, x7] st h = jv_ev d 57 106 [some (.ref a), x1, x2, x3, x4, x5, x6, x7] (.ref a :: st) h := jq_nx (jv_insR jm_57 dX12_asks_105) rfl
theorem e57_106 : jv_ev d 57 106 lc (.ref a :: st) h = (jv_gf h a [(0, 49, .boolean)]).bind fun r => jv_ev d 57 109 lc (r :: st) h := jq_get (jv_insR jm_57 dX12_asks_106) jo_57 jF_1_319
theorem e57_109 : jv_ev d 57 109 lc (.int v :: st) h = if v = 0 then jv_ev d 57 114 lc st h else jv_ev d 57 112 lc st h := jq_if (jv_insR jm_57 dX12_asks_109) rfl (by decide)
theorem e57_112 : jv_ev d 57 112 lc st h = jv_ev d 57 113 lc (.int 0 :: st) h := jq_iconst (jv_insR jm_57 dX12_asks_112) (by decide)
theorem e57_113 : jv_ev d 57 113 lc [.int v] h = some (.inl (some (.int v)), h) := jq_reti (jv_insR jm_57 dX12_asks_113) jr_57
theorem e57_114 : jv_ev d 57 114 [x0, x1, x2, x3, x4, x5, some (.int v), x7] st h = jv_ev d 57 116 [x0, x1, x2, x3, x4, x5, some (.int v), x7] (.int v :: st) h := jq_nx (jv_insR jm_57 dX12_asks_114) rfl
theorem e57_116 : jv_ev d 57 116 [x0, x1, x2, x3, x4, x5, x6, some (.int v)] st h = jv_ev d 57 118 [x0, x1, x2, x3, x4, x5, x6, some (.int v)] (.int v :: st) h := jq_nx (jv_insR jm_57 dX12_asks_116) rfl
theorem e57_118 : jv_ev d 57 118 lc (.int w :: .int v :: st) h = if v < w then jv_ev d 57 124 lc st h else jv_ev d 57 121 lc st h := jq_if (jv_insR jm_57 dX12_asks_118) rfl (by decide)
theorem e57_121 : jv_ev d 57 121 lc st h = jv_ev d 57 173 lc st h := jq_go (jv_insR jm_57 dX12_asks_121) (by decide)
theorem e57_124 : jv_ev d 57 124 [some (.ref a), x1, x2, x3, x4, x5, x6, x7] st h = jv_ev d 57 125 [some (.ref a), x1, x2, x3, x4, x5, x6, x7] (.ref a :: st) h := jq_nx (jv_insR jm_57 dX12_asks_124) rfl
theorem e57_125 : jv_ev d 57 125 [some (.ref a), x1, x2, x3, x4, x5, x6, x7] st h = jv_ev d 57 126 [some (.ref a), x1, x2, x3, x4, x5, x6, x7] (.ref a :: st) h := jq_nx (jv_insR jm_57 dX12_asks_125) rfl
theorem e57_126 : jv_ev d 57 126 lc (.ref a :: st) h = (jv_gf h a [(0, 40, .array .int)]).bind fun r => jv_ev d 57 129 lc (r :: st) h := jq_get (jv_insR jm_57 dX12_asks_126) jo_57 jF_1_95
theorem e57_129 : jv_ev d 57 129 [x0, x1, x2, x3, x4, some (.int v), x6, x7] st h = jv_ev d 57 131 [x0, x1, x2, x3, x4, some (.int v), x6, x7] (.int v :: st) h := jq_nx (jv_insR jm_57 dX12_asks_129) rfl
theorem e57_131 : jv_ev d 57 131 lc (.int v :: .ref a :: st) h = (jv_ig h a 0 0 v).bind fun w => jv_ev d 57 132 lc (.int w :: st) h := jq_iald (jv_insR jm_57 dX12_asks_131)
theorem e57_132 : jv_ev d 57 132 [some (.ref a), x1, x2, x3, x4, x5, x6, x7] st h = jv_ev d 57 133 [some (.ref a), x1, x2, x3, x4, x5, x6, x7] (.ref a :: st) h := jq_nx (jv_insR jm_57 dX12_asks_132) rfl
theorem e57_133 : jv_ev d 57 133 lc (.ref a :: st) h = (jv_gf h a [(0, 41, .array .int)]).bind fun r => jv_ev d 57 136 lc (r :: st) h := jq_get (jv_insR jm_57 dX12_asks_133) jo_57 jF_1_98
theorem e57_136 : jv_ev d 57 136 [x0, x1, x2, x3, x4, some (.int v), x6, x7] st h = jv_ev d 57 138 [x0, x1, x2, x3, x4, some (.int v), x6, x7] (.int v :: st) h := jq_nx (jv_insR jm_57 dX12_asks_136) rfl
theorem e57_138 : jv_ev d 57 138 lc (.int v :: .ref a :: st) h = (jv_ig h a 0 0 v).bind fun w => jv_ev d 57 139 lc (.int w :: st) h := jq_iald (jv_insR jm_57 dX12_asks_138)
theorem e57_139 : jv_ev d 57 139 lc [z1, z0, .ref b] h = (jv_rc h b [(0, 58)]).bind fun y => (jv_cd d y [.ref b, z0, z1] h).bind fun r => jv_on r (fun v h => jv_ev d 57 142 lc (v.toList ++ []) h) (fun q h => some (.inr q, h)) := jq_V (as := [z0, z1]) (rest := []) (jv_insR jm_57 dX12_asks_139) jo_57 jV_1_334 rfl rfl rfl rfl
theorem e57_142 : jv_ev d 57 142 [x0, x1, x2, x3, x4, x5, x6, x7] (.int v :: st) h = jv_ev d 57 144 [x0, x1, x2, x3, x4, x5, some (.int v), x7] st h := jq_nx (jv_insR jm_57 dX12_asks_142) rfl
theorem e57_144 : jv_ev d 57 144 [some (.ref a), x1, x2, x3, x4, x5, x6, x7] st h = jv_ev d 57 145 [some (.ref a), x1, x2, x3, x4, x5, x6, x7] (.ref a :: st) h := jq_nx (jv_insR jm_57 dX12_asks_144) rfl
theorem e57_145 : jv_ev d 57 145 lc (.ref a :: st) h = (jv_gf h a [(0, 49, .boolean)]).bind fun r => jv_ev d 57 148 lc (r :: st) h := jq_get (jv_insR jm_57 dX12_asks_145) jo_57 jF_1_319
theorem e57_148 : jv_ev d 57 148 lc (.int v :: st) h = if ¬ v = 0 then jv_ev d 57 156 lc st h else jv_ev d 57 151 lc st h := jq_if (jv_insR jm_57 dX12_asks_148) rfl (by decide)
theorem e57_151 : jv_ev d 57 151 [x0, x1, x2, x3, x4, x5, some (.int v), x7] st h = jv_ev d 57 153 [x0, x1, x2, x3, x4, x5, some (.int v), x7] (.int v :: st) h := jq_nx (jv_insR jm_57 dX12_asks_151) rfl
theorem e57_153 : jv_ev d 57 153 lc (.int v :: st) h = if 0 ≤ v then jv_ev d 57 160 lc st h else jv_ev d 57 156 lc st h := jq_if (jv_insR jm_57 dX12_asks_153) rfl (by decide)
theorem e57_156 : jv_ev d 57 156 lc st h = jv_ev d 57 157 lc (.int 0 :: st) h := jq_iconst (jv_insR jm_57 dX12_asks_156) (by decide)
theorem e57_157 : jv_ev d 57 157 lc st h = jv_ev d 57 172 lc st h := jq_go (jv_insR jm_57 dX12_asks_157) (by decide)
theorem e57_160 : jv_ev d 57 160 [x0, x1, x2, x3, x4, x5, some (.int v), x7] st h = jv_ev d 57 162 [x0, x1, x2, x3, x4, x5, some (.int v), x7] (.int v :: st) h := jq_nx (jv_insR jm_57 dX12_asks_160) rfl
theorem e57_162 : jv_ev d 57 162 [x0, x1, x2, some (.int v), x4, x5, x6, x7] st h = jv_ev d 57 163 [x0, x1, x2, some (.int v), x4, x5, x6, x7] (.int v :: st) h := jq_nx (jv_insR jm_57 dX12_asks_162) rfl
theorem e57_163 : jv_ev d 57 163 lc (.int w :: .int v :: st) h = if v ≤ w then jv_ev d 57 170 lc st h else jv_ev d 57 166 lc st h := jq_if (jv_insR jm_57 dX12_asks_163) rfl (by decide)
theorem e57_166 : jv_ev d 57 166 [x0, x1, x2, some (.int v), x4, x5, x6, x7] st h = jv_ev d 57 167 [x0, x1, x2, some (.int v), x4, x5, x6, x7] (.int v :: st) h := jq_nx (jv_insR jm_57 dX12_asks_166) rfl
theorem e57_167 : jv_ev d 57 167 lc st h = jv_ev d 57 172 lc st h := jq_go (jv_insR jm_57 dX12_asks_167) (by decide)
theorem e57_170 : jv_ev d 57 170 [x0, x1, x2, x3, x4, x5, some (.int v), x7] st h = jv_ev d 57 172 [x0, x1, x2, x3, x4, x5, some (.int v), x7] (.int v :: st) h := jq_nx (jv_insR jm_57 dX12_asks_170) rfl
theorem e57_172 : jv_ev d 57 172 lc [.int v] h = some (.inl (some (.int v)), h) := jq_reti (jv_insR jm_57 dX12_asks_172) jr_57
theorem e57_173 : jv_ev d 57 173 [x0, x1, x2, x3, x4, some (.int v), x6, x7] st h = jv_ev d 57 176 [x0, x1, x2, x3, x4, some (.int (v + 1)), x6, x7] st h := jq_nx (jv_insR jm_57 dX12_asks_173) rfl
theorem e57_176 : jv_ev d 57 176 lc st h = jv_ev d 57 43 lc st h := jq_go (jv_insR jm_57 dX12_asks_176) (by decide)
theorem e57_179 : jv_ev d 57 179 lc st h = jv_ev d 57 180 lc (.int 0 :: st) h := jq_iconst (jv_insR jm_57 dX12_asks_179) (by decide)
theorem e57_180 : jv_ev d 57 180 lc [.int v] h = some (.inl (some (.int v)), h) := jq_reti (jv_insR jm_57 dX12_asks_180) jr_57
/-! 58: RainLoomModel.termOf(II)I -/
theorem n58 : jv_cd (d + 1) 58 [.ref a0, .int i1, .int i2] h = jv_ev d 58 0 [some (.ref a0), some (.int i1), some (.int i2), none, none, none, none, none] [] h := rfl
theorem e58_0 : jv_ev d 58 0 lc st h = jv_ev d 58 1 lc (.int 0 :: st) h := jq_iconst (jv_insR jm_58 dX12_termOf_0) (by decide)
theorem e58_1 : jv_ev d 58 1 [x0, x1, x2, x3, x4, x5, x6, x7] (.int v :: st) h = jv_ev d 58 2 [x0, x1, x2, some (.int v), x4, x5, x6, x7] st h := jq_nx (jv_insR jm_58 dX12_termOf_1) rfl
theorem e58_2 : jv_ev d 58 2 [x0, some (.int v), x2, x3, x4, x5, x6, x7] st h = jv_ev d 58 3 [x0, some (.int v), x2, x3, x4, x5, x6, x7] (.int v :: st) h := jq_nx (jv_insR jm_58 dX12_termOf_2) rfl
theorem e58_3 : jv_ev d 58 3 [x0, x1, x2, x3, x4, x5, x6, x7] (.int v :: st) h = jv_ev d 58 5 [x0, x1, x2, x3, some (.int v), x5, x6, x7] st h := jq_nx (jv_insR jm_58 dX12_termOf_3) rfl
theorem e58_5 : jv_ev d 58 5 [x0, x1, x2, x3, some (.int v), x5, x6, x7] st h = jv_ev d 58 7 [x0, x1, x2, x3, some (.int v), x5, x6, x7] (.int v :: st) h := jq_nx (jv_insR jm_58 dX12_termOf_5) rfl
theorem e58_7 : jv_ev d 58 7 [x0, x1, some (.int v), x3, x4, x5, x6, x7] st h = jv_ev d 58 8 [x0, x1, some (.int v), x3, x4, x5, x6, x7] (.int v :: st) h := jq_nx (jv_insR jm_58 dX12_termOf_7) rfl
theorem e58_8 : jv_ev d 58 8 lc (.int w :: .int v :: st) h = if w ≤ v then jv_ev d 58 165 lc st h else jv_ev d 58 11 lc st h := jq_if (jv_insR jm_58 dX12_termOf_8) rfl (by decide)
theorem e58_11 : jv_ev d 58 11 [some (.ref a), x1, x2, x3, x4, x5, x6, x7] st h = jv_ev d 58 12 [some (.ref a), x1, x2, x3, x4, x5, x6, x7] (.ref a :: st) h := jq_nx (jv_insR jm_58 dX12_termOf_11) rfl
theorem e58_12 : jv_ev d 58 12 lc (.ref a :: st) h = (jv_gf h a [(0, 43, .array .int)]).bind fun r => jv_ev d 58 15 lc (r :: st) h := jq_get (jv_insR jm_58 dX12_termOf_12) jo_58 jF_1_101
theorem e58_15 : jv_ev d 58 15 [x0, x1, x2, x3, some (.int v), x5, x6, x7] st h = jv_ev d 58 17 [x0, x1, x2, x3, some (.int v), x5, x6, x7] (.int v :: st) h := jq_nx (jv_insR jm_58 dX12_termOf_15) rfl
theorem e58_17 : jv_ev d 58 17 lc (.int v :: .ref a :: st) h = (jv_ig h a 0 0 v).bind fun w => jv_ev d 58 18 lc (.int w :: st) h := jq_iald (jv_insR jm_58 dX12_termOf_17)
theorem e58_18 : jv_ev d 58 18 [x0, x1, x2, x3, x4, x5, x6, x7] (.int v :: st) h = jv_ev d 58 20 [x0, x1, x2, x3, x4, some (.int v), x6, x7] st h := jq_nx (jv_insR jm_58 dX12_termOf_18) rfl
theorem e58_20 : jv_ev d 58 20 [x0, x1, x2, x3, x4, some (.int v), x6, x7] st h = jv_ev d 58 22 [x0, x1, x2, x3, x4, some (.int v), x6, x7] (.int v :: st) h := jq_nx (jv_insR jm_58 dX12_termOf_20) rfl
theorem e58_22 : jv_ev d 58 22 lc st h = jv_ev d 58 23 lc (.int 2 :: st) h := jq_iconst (jv_insR jm_58 dX12_termOf_22) (by decide)
theorem e58_23 : jv_ev d 58 23 lc (.int w :: .int v :: st) h = if w ≤ v then jv_ev d 58 65 lc st h else jv_ev d 58 26 lc st h := jq_if (jv_insR jm_58 dX12_termOf_23) rfl (by decide)
theorem e58_26 : jv_ev d 58 26 [some (.ref a), x1, x2, x3, x4, x5, x6, x7] st h = jv_ev d 58 27 [some (.ref a), x1, x2, x3, x4, x5, x6, x7] (.ref a :: st) h := jq_nx (jv_insR jm_58 dX12_termOf_26) rfl
theorem e58_27 : jv_ev d 58 27 lc (.ref a :: st) h = (jv_gf h a [(0, 48, .array .int)]).bind fun r => jv_ev d 58 30 lc (r :: st) h := jq_get (jv_insR jm_58 dX12_termOf_27) jo_58 jF_1_113
theorem e58_30 : jv_ev d 58 30 [x0, x1, x2, some (.int v), x4, x5, x6, x7] st h = jv_ev d 58 31 [x0, x1, x2, some (.int v), x4, x5, x6, x7] (.int v :: st) h := jq_nx (jv_insR jm_58 dX12_termOf_30) rfl
theorem e58_31 : jv_ev d 58 31 [x0, x1, x2, x3, x4, some (.int v), x6, x7] st h = jv_ev d 58 33 [x0, x1, x2, x3, x4, some (.int v), x6, x7] (.int v :: st) h := jq_nx (jv_insR jm_58 dX12_termOf_31) rfl
theorem e58_33 : jv_ev d 58 33 lc (.int v :: st) h = if ¬ v = 0 then jv_ev d 58 46 lc st h else jv_ev d 58 36 lc st h := jq_if (jv_insR jm_58 dX12_termOf_33) rfl (by decide)
theorem e58_36 : jv_ev d 58 36 [some (.ref a), x1, x2, x3, x4, x5, x6, x7] st h = jv_ev d 58 37 [some (.ref a), x1, x2, x3, x4, x5, x6, x7] (.ref a :: st) h := jq_nx (jv_insR jm_58 dX12_termOf_36) rfl
theorem e58_37 : jv_ev d 58 37 lc (.ref a :: st) h = (jv_gf h a [(0, 44, .array .int)]).bind fun r => jv_ev d 58 40 lc (r :: st) h := jq_get (jv_insR jm_58 dX12_termOf_37) jo_58 jF_1_104
theorem e58_40 : jv_ev d 58 40 [x0, x1, x2, x3, some (.int v), x5, x6, x7] st h = jv_ev d 58 42 [x0, x1, x2, x3, some (.int v), x5, x6, x7] (.int v :: st) h := jq_nx (jv_insR jm_58 dX12_termOf_40) rfl
theorem e58_42 : jv_ev d 58 42 lc (.int v :: .ref a :: st) h = (jv_ig h a 0 0 v).bind fun w => jv_ev d 58 43 lc (.int w :: st) h := jq_iald (jv_insR jm_58 dX12_termOf_42)
theorem e58_43 : jv_ev d 58 43 lc st h = jv_ev d 58 58 lc st h := jq_go (jv_insR jm_58 dX12_termOf_43) (by decide)
theorem e58_46 : jv_ev d 58 46 [some (.ref a), x1, x2, x3, x4, x5, x6, x7] st h = jv_ev d 58 47 [some (.ref a), x1, x2, x3, x4, x5, x6, x7] (.ref a :: st) h := jq_nx (jv_insR jm_58 dX12_termOf_46) rfl
theorem e58_47 : jv_ev d 58 47 lc (.ref a :: st) h = (jv_gf h a [(0, 47, .array .int)]).bind fun r => jv_ev d 58 50 lc (r :: st) h := jq_get (jv_insR jm_58 dX12_termOf_47) jo_58 jF_1_110
theorem e58_50 : jv_ev d 58 50 [some (.ref a), x1, x2, x3, x4, x5, x6, x7] st h = jv_ev d 58 51 [some (.ref a), x1, x2, x3, x4, x5, x6, x7] (.ref a :: st) h := jq_nx (jv_insR jm_58 dX12_termOf_50) rfl
theorem e58_51 : jv_ev d 58 51 lc (.ref a :: st) h = (jv_gf h a [(0, 44, .array .int)]).bind fun r => jv_ev d 58 54 lc (r :: st) h := jq_get (jv_insR jm_58 dX12_termOf_51) jo_58 jF_1_104
theorem e58_54 : jv_ev d 58 54 [x0, x1, x2, x3, some (.int v), x5, x6, x7] st h = jv_ev d 58 56 [x0, x1, x2, x3, some (.int v), x5, x6, x7] (.int v :: st) h := jq_nx (jv_insR jm_58 dX12_termOf_54) rfl
theorem e58_56 : jv_ev d 58 56 lc (.int v :: .ref a :: st) h = (jv_ig h a 0 0 v).bind fun w => jv_ev d 58 57 lc (.int w :: st) h := jq_iald (jv_insR jm_58 dX12_termOf_56)
theorem e58_57 : jv_ev d 58 57 lc (.int v :: .ref a :: st) h = (jv_ig h a 0 0 v).bind fun w => jv_ev d 58 58 lc (.int w :: st) h := jq_iald (jv_insR jm_58 dX12_termOf_57)
theorem e58_58 : jv_ev d 58 58 lc (.int w :: .int v :: .ref a :: st) h = (jv_ip h a 0 0 v w).bind fun h => jv_ev d 58 59 lc st h := jq_iast (jv_insR jm_58 dX12_termOf_58)
theorem e58_59 : jv_ev d 58 59 [x0, x1, x2, some (.int v), x4, x5, x6, x7] st h = jv_ev d 58 62 [x0, x1, x2, some (.int (v + 1)), x4, x5, x6, x7] st h := jq_nx (jv_insR jm_58 dX12_termOf_59) rfl
theorem e58_62 : jv_ev d 58 62 lc st h = jv_ev d 58 159 lc st h := jq_go (jv_insR jm_58 dX12_termOf_62) (by decide)
theorem e58_65 : jv_ev d 58 65 [x0, x1, x2, some (.int v), x4, x5, x6, x7] st h = jv_ev d 58 68 [x0, x1, x2, some (.int (v + (-1))), x4, x5, x6, x7] st h := jq_nx (jv_insR jm_58 dX12_termOf_65) rfl
theorem e58_68 : jv_ev d 58 68 [some (.ref a), x1, x2, x3, x4, x5, x6, x7] st h = jv_ev d 58 69 [some (.ref a), x1, x2, x3, x4, x5, x6, x7] (.ref a :: st) h := jq_nx (jv_insR jm_58 dX12_termOf_68) rfl
theorem e58_69 : jv_ev d 58 69 lc (.ref a :: st) h = (jv_gf h a [(0, 48, .array .int)]).bind fun r => jv_ev d 58 72 lc (r :: st) h := jq_get (jv_insR jm_58 dX12_termOf_69) jo_58 jF_1_113
theorem e58_72 : jv_ev d 58 72 [x0, x1, x2, some (.int v), x4, x5, x6, x7] st h = jv_ev d 58 73 [x0, x1, x2, some (.int v), x4, x5, x6, x7] (.int v :: st) h := jq_nx (jv_insR jm_58 dX12_termOf_72) rfl
theorem e58_73 : jv_ev d 58 73 lc st h = jv_ev d 58 74 lc (.int 1 :: st) h := jq_iconst (jv_insR jm_58 dX12_termOf_73) (by decide)
theorem e58_74 : jv_ev d 58 74 lc (.int w :: .int v :: st) h = jv_ev d 58 75 lc (.int (v - w) :: st) h := jq_nx (jv_insR jm_58 dX12_termOf_74) rfl
theorem e58_75 : jv_ev d 58 75 lc (.int v :: .ref a :: st) h = (jv_ig h a 0 0 v).bind fun w => jv_ev d 58 76 lc (.int w :: st) h := jq_iald (jv_insR jm_58 dX12_termOf_75)
theorem e58_76 : jv_ev d 58 76 [x0, x1, x2, x3, x4, x5, x6, x7] (.int v :: st) h = jv_ev d 58 78 [x0, x1, x2, x3, x4, x5, some (.int v), x7] st h := jq_nx (jv_insR jm_58 dX12_termOf_76) rfl
theorem e58_78 : jv_ev d 58 78 [some (.ref a), x1, x2, x3, x4, x5, x6, x7] st h = jv_ev d 58 79 [some (.ref a), x1, x2, x3, x4, x5, x6, x7] (.ref a :: st) h := jq_nx (jv_insR jm_58 dX12_termOf_78) rfl
theorem e58_79 : jv_ev d 58 79 lc (.ref a :: st) h = (jv_gf h a [(0, 48, .array .int)]).bind fun r => jv_ev d 58 82 lc (r :: st) h := jq_get (jv_insR jm_58 dX12_termOf_79) jo_58 jF_1_113
theorem e58_82 : jv_ev d 58 82 [x0, x1, x2, some (.int v), x4, x5, x6, x7] st h = jv_ev d 58 83 [x0, x1, x2, some (.int v), x4, x5, x6, x7] (.int v :: st) h := jq_nx (jv_insR jm_58 dX12_termOf_82) rfl
theorem e58_83 : jv_ev d 58 83 lc (.int v :: .ref a :: st) h = (jv_ig h a 0 0 v).bind fun w => jv_ev d 58 84 lc (.int w :: st) h := jq_iald (jv_insR jm_58 dX12_termOf_83)
theorem e58_84 : jv_ev d 58 84 [x0, x1, x2, x3, x4, x5, x6, x7] (.int v :: st) h = jv_ev d 58 86 [x0, x1, x2, x3, x4, x5, x6, some (.int v)] st h := jq_nx (jv_insR jm_58 dX12_termOf_84) rfl
theorem e58_86 : jv_ev d 58 86 [x0, x1, x2, x3, x4, some (.int v), x6, x7] st h = jv_ev d 58 88 [x0, x1, x2, x3, x4, some (.int v), x6, x7] (.int v :: st) h := jq_nx (jv_insR jm_58 dX12_termOf_86) rfl
theorem e58_88 : jv_ev d 58 88 lc st h = jv_ev d 58 89 lc (.int 5 :: st) h := jq_iconst (jv_insR jm_58 dX12_termOf_88) (by decide)
theorem e58_89 : jv_ev d 58 89 lc (.int w :: .int v :: st) h = if ¬ v = w then jv_ev d 58 104 lc st h else jv_ev d 58 92 lc st h := jq_if (jv_insR jm_58 dX12_termOf_89) rfl (by decide)
theorem e58_92 : jv_ev d 58 92 [x0, x1, x2, x3, x4, x5, x6, some (.int v)] st h = jv_ev d 58 94 [x0, x1, x2, x3, x4, x5, x6, some (.int v)] (.int v :: st) h := jq_nx (jv_insR jm_58 dX12_termOf_92) rfl
theorem e58_94 : jv_ev d 58 94 lc (.int v :: st) h = if ¬ v = 0 then jv_ev d 58 104 lc st h else jv_ev d 58 97 lc st h := jq_if (jv_insR jm_58 dX12_termOf_94) rfl (by decide)
theorem e58_97 : jv_ev d 58 97 [some (.ref a), x1, x2, x3, x4, x5, x6, x7] st h = jv_ev d 58 98 [some (.ref a), x1, x2, x3, x4, x5, x6, x7] (.ref a :: st) h := jq_nx (jv_insR jm_58 dX12_termOf_97) rfl
theorem e58_98 : jv_ev d 58 98 lc st h = jv_ev d 58 99 lc (.int 1 :: st) h := jq_iconst (jv_insR jm_58 dX12_termOf_98) (by decide)
theorem e58_99 : jv_ev d 58 99 lc (r :: .ref a :: st) h = (jv_pf h a [(0, 49, .boolean)] r).bind fun h => jv_ev d 58 102 lc st h := jq_put (jv_insR jm_58 dX12_termOf_99) jo_58 ji_58 jG_1_319
theorem e58_102 : jv_ev d 58 102 lc st h = jv_ev d 58 103 lc (.int 0 :: st) h := jq_iconst (jv_insR jm_58 dX12_termOf_102) (by decide)
theorem e58_103 : jv_ev d 58 103 lc [.int v] h = some (.inl (some (.int v)), h) := jq_reti (jv_insR jm_58 dX12_termOf_103) jr_58
theorem e58_104 : jv_ev d 58 104 [some (.ref a), x1, x2, x3, x4, x5, x6, x7] st h = jv_ev d 58 105 [some (.ref a), x1, x2, x3, x4, x5, x6, x7] (.ref a :: st) h := jq_nx (jv_insR jm_58 dX12_termOf_104) rfl
theorem e58_105 : jv_ev d 58 105 lc (.ref a :: st) h = (jv_gf h a [(0, 48, .array .int)]).bind fun r => jv_ev d 58 108 lc (r :: st) h := jq_get (jv_insR jm_58 dX12_termOf_105) jo_58 jF_1_113
theorem e58_108 : jv_ev d 58 108 [x0, x1, x2, some (.int v), x4, x5, x6, x7] st h = jv_ev d 58 109 [x0, x1, x2, some (.int v), x4, x5, x6, x7] (.int v :: st) h := jq_nx (jv_insR jm_58 dX12_termOf_108) rfl
theorem e58_109 : jv_ev d 58 109 lc st h = jv_ev d 58 110 lc (.int 1 :: st) h := jq_iconst (jv_insR jm_58 dX12_termOf_109) (by decide)
theorem e58_110 : jv_ev d 58 110 lc (.int w :: .int v :: st) h = jv_ev d 58 111 lc (.int (v - w) :: st) h := jq_nx (jv_insR jm_58 dX12_termOf_110) rfl
theorem e58_111 : jv_ev d 58 111 [x0, x1, x2, x3, x4, some (.int v), x6, x7] st h = jv_ev d 58 113 [x0, x1, x2, x3, x4, some (.int v), x6, x7] (.int v :: st) h := jq_nx (jv_insR jm_58 dX12_termOf_111) rfl
theorem e58_113 : jv_ev d 58 113 lc st h = jv_ev d 58 114 lc (.int 2 :: st) h := jq_iconst (jv_insR jm_58 dX12_termOf_113) (by decide)
theorem e58_114 : jv_ev d 58 114 lc (.int w :: .int v :: st) h = if ¬ v = w then jv_ev d 58 125 lc st h else jv_ev d 58 117 lc st h := jq_if (jv_insR jm_58 dX12_termOf_114) rfl (by decide)
theorem e58_117 : jv_ev d 58 117 [x0, x1, x2, x3, x4, x5, some (.int v), x7] st h = jv_ev d 58 119 [x0, x1, x2, x3, x4, x5, some (.int v), x7] (.int v :: st) h := jq_nx (jv_insR jm_58 dX12_termOf_117) rfl
theorem e58_119 : jv_ev d 58 119 [x0, x1, x2, x3, x4, x5, x6, some (.int v)] st h = jv_ev d 58 121 [x0, x1, x2, x3, x4, x5, x6, some (.int v)] (.int v :: st) h := jq_nx (jv_insR jm_58 dX12_termOf_119) rfl
theorem e58_121 : jv_ev d 58 121 lc (.int w :: .int v :: st) h = jv_ev d 58 122 lc (.int (v + w) :: st) h := jq_nx (jv_insR jm_58 dX12_termOf_121) rfl
theorem e58_122 : jv_ev d 58 122 lc st h = jv_ev d 58 158 lc st h := jq_go (jv_insR jm_58 dX12_termOf_122) (by decide)
theorem e58_125 : jv_ev d 58 125 [x0, x1, x2, x3, x4, some (.int v), x6, x7] st h = jv_ev d 58 127 [x0, x1, x2, x3, x4, some (.int v), x6, x7] (.int v :: st) h := jq_nx (jv_insR jm_58 dX12_termOf_125) rfl
theorem e58_127 : jv_ev d 58 127 lc st h = jv_ev d 58 128 lc (.int 3 :: st) h := jq_iconst (jv_insR jm_58 dX12_termOf_127) (by decide)
theorem e58_128 : jv_ev d 58 128 lc (.int w :: .int v :: st) h = if ¬ v = w then jv_ev d 58 139 lc st h else jv_ev d 58 131 lc st h := jq_if (jv_insR jm_58 dX12_termOf_128) rfl (by decide)
theorem e58_131 : jv_ev d 58 131 [x0, x1, x2, x3, x4, x5, some (.int v), x7] st h = jv_ev d 58 133 [x0, x1, x2, x3, x4, x5, some (.int v), x7] (.int v :: st) h := jq_nx (jv_insR jm_58 dX12_termOf_131) rfl
theorem e58_133 : jv_ev d 58 133 [x0, x1, x2, x3, x4, x5, x6, some (.int v)] st h = jv_ev d 58 135 [x0, x1, x2, x3, x4, x5, x6, some (.int v)] (.int v :: st) h := jq_nx (jv_insR jm_58 dX12_termOf_133) rfl
theorem e58_135 : jv_ev d 58 135 lc (.int w :: .int v :: st) h = jv_ev d 58 136 lc (.int (v - w) :: st) h := jq_nx (jv_insR jm_58 dX12_termOf_135) rfl
theorem e58_136 : jv_ev d 58 136 lc st h = jv_ev d 58 158 lc st h := jq_go (jv_insR jm_58 dX12_termOf_136) (by decide)
theorem e58_139 : jv_ev d 58 139 [x0, x1, x2, x3, x4, some (.int v), x6, x7] st h = jv_ev d 58 141 [x0, x1, x2, x3, x4, some (.int v), x6, x7] (.int v :: st) h := jq_nx (jv_insR jm_58 dX12_termOf_139) rfl
theorem e58_141 : jv_ev d 58 141 lc st h = jv_ev d 58 142 lc (.int 4 :: st) h := jq_iconst (jv_insR jm_58 dX12_termOf_141) (by decide)
theorem e58_142 : jv_ev d 58 142 lc (.int w :: .int v :: st) h = if ¬ v = w then jv_ev d 58 153 lc st h else jv_ev d 58 145 lc st h := jq_if (jv_insR jm_58 dX12_termOf_142) rfl (by decide)
theorem e58_145 : jv_ev d 58 145 [x0, x1, x2, x3, x4, x5, some (.int v), x7] st h = jv_ev d 58 147 [x0, x1, x2, x3, x4, x5, some (.int v), x7] (.int v :: st) h := jq_nx (jv_insR jm_58 dX12_termOf_145) rfl
theorem e58_147 : jv_ev d 58 147 [x0, x1, x2, x3, x4, x5, x6, some (.int v)] st h = jv_ev d 58 149 [x0, x1, x2, x3, x4, x5, x6, some (.int v)] (.int v :: st) h := jq_nx (jv_insR jm_58 dX12_termOf_147) rfl
theorem e58_149 : jv_ev d 58 149 lc (.int w :: .int v :: st) h = jv_ev d 58 150 lc (.int (v * w) :: st) h := jq_nx (jv_insR jm_58 dX12_termOf_149) rfl
theorem e58_150 : jv_ev d 58 150 lc st h = jv_ev d 58 158 lc st h := jq_go (jv_insR jm_58 dX12_termOf_150) (by decide)
theorem e58_153 : jv_ev d 58 153 [x0, x1, x2, x3, x4, x5, some (.int v), x7] st h = jv_ev d 58 155 [x0, x1, x2, x3, x4, x5, some (.int v), x7] (.int v :: st) h := jq_nx (jv_insR jm_58 dX12_termOf_153) rfl
theorem e58_155 : jv_ev d 58 155 [x0, x1, x2, x3, x4, x5, x6, some (.int v)] st h = jv_ev d 58 157 [x0, x1, x2, x3, x4, x5, x6, some (.int v)] (.int v :: st) h := jq_nx (jv_insR jm_58 dX12_termOf_155) rfl
theorem e58_157 : jv_ev d 58 157 lc (.int w :: .int v :: st) h = if w = 0 then none else jv_ev d 58 158 lc (.int (v / w) :: st) h := jq_idiv (jv_insR jm_58 dX12_termOf_157)
theorem e58_158 : jv_ev d 58 158 lc (.int w :: .int v :: .ref a :: st) h = (jv_ip h a 0 0 v w).bind fun h => jv_ev d 58 159 lc st h := jq_iast (jv_insR jm_58 dX12_termOf_158)
theorem e58_159 : jv_ev d 58 159 [x0, x1, x2, x3, some (.int v), x5, x6, x7] st h = jv_ev d 58 162 [x0, x1, x2, x3, some (.int (v + 1)), x5, x6, x7] st h := jq_nx (jv_insR jm_58 dX12_termOf_159) rfl
theorem e58_162 : jv_ev d 58 162 lc st h = jv_ev d 58 5 lc st h := jq_go (jv_insR jm_58 dX12_termOf_162) (by decide)
theorem e58_165 : jv_ev d 58 165 [some (.ref a), x1, x2, x3, x4, x5, x6, x7] st h = jv_ev d 58 166 [some (.ref a), x1, x2, x3, x4, x5, x6, x7] (.ref a :: st) h := jq_nx (jv_insR jm_58 dX12_termOf_165) rfl
theorem e58_166 : jv_ev d 58 166 lc (.ref a :: st) h = (jv_gf h a [(0, 48, .array .int)]).bind fun r => jv_ev d 58 169 lc (r :: st) h := jq_get (jv_insR jm_58 dX12_termOf_166) jo_58 jF_1_113
theorem e58_169 : jv_ev d 58 169 lc st h = jv_ev d 58 170 lc (.int 0 :: st) h := jq_iconst (jv_insR jm_58 dX12_termOf_169) (by decide)
theorem e58_170 : jv_ev d 58 170 lc (.int v :: .ref a :: st) h = (jv_ig h a 0 0 v).bind fun w => jv_ev d 58 171 lc (.int w :: st) h := jq_iald (jv_insR jm_58 dX12_termOf_170)
theorem e58_171 : jv_ev d 58 171 lc [.int v] h = some (.inl (some (.int v)), h) := jq_reti (jv_insR jm_58 dX12_termOf_171) jr_58
/-! 59: RainLoomModel.order(IIIII)Z -/
theorem n59 : jv_cd (d + 1) 59 [.ref a0, .int i1, .int i2, .int i3, .int i4, .int i5] h = jv_ev d 59 0 [some (.ref a0), some (.int i1), some (.int i2), some (.int i3), some (.int i4), some (.int i5)] [] h := rfl
theorem e59_0 : jv_ev d 59 0 [some (.ref a), x1, x2, x3, x4, x5] st h = jv_ev d 59 1 [some (.ref a), x1, x2, x3, x4, x5] (.ref a :: st) h := jq_nx (jv_insR jm_59 dX12_order_0) rfl
theorem e59_1 : jv_ev d 59 1 [x0, some (.int v), x2, x3, x4, x5] st h = jv_ev d 59 2 [x0, some (.int v), x2, x3, x4, x5] (.int v :: st) h := jq_nx (jv_insR jm_59 dX12_order_1) rfl
theorem e59_2 : jv_ev d 59 2 [x0, x1, some (.int v), x3, x4, x5] st h = jv_ev d 59 3 [x0, x1, some (.int v), x3, x4, x5] (.int v :: st) h := jq_nx (jv_insR jm_59 dX12_order_2) rfl
theorem e59_3 : jv_ev d 59 3 [x0, x1, x2, some (.int v), x4, x5] st h = jv_ev d 59 4 [x0, x1, x2, some (.int v), x4, x5] (.int v :: st) h := jq_nx (jv_insR jm_59 dX12_order_3) rfl
theorem e59_4 : jv_ev d 59 4 lc [z2, z1, z0, .ref b] h = (jv_rc h b [(0, 60)]).bind fun y => (jv_cd d y [.ref b, z0, z1, z2] h).bind fun r => jv_on r (fun v h => jv_ev d 59 7 lc (v.toList ++ []) h) (fun q h => some (.inr q, h)) := jq_V (as := [z0, z1, z2]) (rest := []) (jv_insR jm_59 dX12_order_4) jo_59 jV_1_396 rfl rfl rfl rfl
theorem e59_7 : jv_ev d 59 7 lc (.int v :: st) h = if v = 0 then jv_ev d 59 75 lc st h else jv_ev d 59 10 lc st h := jq_if (jv_insR jm_59 dX12_order_7) rfl (by decide)
theorem e59_10 : jv_ev d 59 10 [some (.ref a), x1, x2, x3, x4, x5] st h = jv_ev d 59 11 [some (.ref a), x1, x2, x3, x4, x5] (.ref a :: st) h := jq_nx (jv_insR jm_59 dX12_order_10) rfl
theorem e59_11 : jv_ev d 59 11 [x0, x1, x2, x3, some (.int v), x5] st h = jv_ev d 59 13 [x0, x1, x2, x3, some (.int v), x5] (.int v :: st) h := jq_nx (jv_insR jm_59 dX12_order_11) rfl
theorem e59_13 : jv_ev d 59 13 [x0, x1, x2, x3, x4, some (.int v)] st h = jv_ev d 59 15 [x0, x1, x2, x3, x4, some (.int v)] (.int v :: st) h := jq_nx (jv_insR jm_59 dX12_order_13) rfl
theorem e59_15 : jv_ev d 59 15 lc [z1, z0, .ref b] h = (jv_rc h b [(0, 39)]).bind fun y => (jv_cd d y [.ref b, z0, z1] h).bind fun r => jv_on r (fun v h => jv_ev d 59 18 lc (v.toList ++ []) h) (fun q h => some (.inr q, h)) := jq_V (as := [z0, z1]) (rest := []) (jv_insR jm_59 dX12_order_15) jo_59 jV_1_343 rfl rfl rfl rfl
theorem e59_18 : jv_ev d 59 18 lc (.int v :: st) h = if v = 0 then jv_ev d 59 75 lc st h else jv_ev d 59 21 lc st h := jq_if (jv_insR jm_59 dX12_order_18) rfl (by decide)
theorem e59_21 : jv_ev d 59 21 [some (.ref a), x1, x2, x3, x4, x5] st h = jv_ev d 59 22 [some (.ref a), x1, x2, x3, x4, x5] (.ref a :: st) h := jq_nx (jv_insR jm_59 dX12_order_21) rfl
theorem e59_22 : jv_ev d 59 22 lc (.ref a :: st) h = (jv_gf h a [(0, 50, .array .int)]).bind fun r => jv_ev d 59 25 lc (r :: st) h := jq_get (jv_insR jm_59 dX12_order_22) jo_59 jF_1_116
theorem e59_25 : jv_ev d 59 25 lc st h = jv_ev d 59 27 lc (.int 52 :: st) h := jq_bipush (jv_insR jm_59 dX12_order_25) (by decide)
theorem e59_27 : jv_ev d 59 27 [x0, some (.int v), x2, x3, x4, x5] st h = jv_ev d 59 28 [x0, some (.int v), x2, x3, x4, x5] (.int v :: st) h := jq_nx (jv_insR jm_59 dX12_order_27) rfl
theorem e59_28 : jv_ev d 59 28 lc (.int w :: .int v :: st) h = jv_ev d 59 29 lc (.int (v + w) :: st) h := jq_nx (jv_insR jm_59 dX12_order_28) rfl
theorem e59_29 : jv_ev d 59 29 lc (.int v :: .ref a :: st) h = (jv_ig h a 0 0 v).bind fun w => jv_ev d 59 30 lc (.int w :: st) h := jq_iald (jv_insR jm_59 dX12_order_29)
theorem e59_30 : jv_ev d 59 30 [x0, x1, some (.int v), x3, x4, x5] st h = jv_ev d 59 31 [x0, x1, some (.int v), x3, x4, x5] (.int v :: st) h := jq_nx (jv_insR jm_59 dX12_order_30) rfl
theorem e59_31 : jv_ev d 59 31 lc (.int w :: .int v :: st) h = if ¬ v = w then jv_ev d 59 77 lc st h else jv_ev d 59 34 lc st h := jq_if (jv_insR jm_59 dX12_order_31) rfl (by decide)
theorem e59_34 : jv_ev d 59 34 [some (.ref a), x1, x2, x3, x4, x5] st h = jv_ev d 59 35 [some (.ref a), x1, x2, x3, x4, x5] (.ref a :: st) h := jq_nx (jv_insR jm_59 dX12_order_34) rfl
theorem e59_35 : jv_ev d 59 35 lc (.ref a :: st) h = (jv_gf h a [(0, 50, .array .int)]).bind fun r => jv_ev d 59 38 lc (r :: st) h := jq_get (jv_insR jm_59 dX12_order_35) jo_59 jF_1_116
theorem e59_38 : jv_ev d 59 38 lc st h = jv_ev d 59 40 lc (.int 56 :: st) h := jq_bipush (jv_insR jm_59 dX12_order_38) (by decide)
theorem e59_40 : jv_ev d 59 40 [x0, some (.int v), x2, x3, x4, x5] st h = jv_ev d 59 41 [x0, some (.int v), x2, x3, x4, x5] (.int v :: st) h := jq_nx (jv_insR jm_59 dX12_order_40) rfl
theorem e59_41 : jv_ev d 59 41 lc (.int w :: .int v :: st) h = jv_ev d 59 42 lc (.int (v + w) :: st) h := jq_nx (jv_insR jm_59 dX12_order_41) rfl
theorem e59_42 : jv_ev d 59 42 lc (.int v :: .ref a :: st) h = (jv_ig h a 0 0 v).bind fun w => jv_ev d 59 43 lc (.int w :: st) h := jq_iald (jv_insR jm_59 dX12_order_42)
theorem e59_43 : jv_ev d 59 43 [x0, x1, x2, some (.int v), x4, x5] st h = jv_ev d 59 44 [x0, x1, x2, some (.int v), x4, x5] (.int v :: st) h := jq_nx (jv_insR jm_59 dX12_order_43) rfl
theorem e59_44 : jv_ev d 59 44 lc (.int w :: .int v :: st) h = if ¬ v = w then jv_ev d 59 77 lc st h else jv_ev d 59 47 lc st h := jq_if (jv_insR jm_59 dX12_order_44) rfl (by decide)
theorem e59_47 : jv_ev d 59 47 [some (.ref a), x1, x2, x3, x4, x5] st h = jv_ev d 59 48 [some (.ref a), x1, x2, x3, x4, x5] (.ref a :: st) h := jq_nx (jv_insR jm_59 dX12_order_47) rfl
theorem e59_48 : jv_ev d 59 48 lc (.ref a :: st) h = (jv_gf h a [(0, 50, .array .int)]).bind fun r => jv_ev d 59 51 lc (r :: st) h := jq_get (jv_insR jm_59 dX12_order_48) jo_59 jF_1_116
theorem e59_51 : jv_ev d 59 51 lc st h = jv_ev d 59 53 lc (.int 60 :: st) h := jq_bipush (jv_insR jm_59 dX12_order_51) (by decide)
theorem e59_53 : jv_ev d 59 53 [x0, some (.int v), x2, x3, x4, x5] st h = jv_ev d 59 54 [x0, some (.int v), x2, x3, x4, x5] (.int v :: st) h := jq_nx (jv_insR jm_59 dX12_order_53) rfl
theorem e59_54 : jv_ev d 59 54 lc (.int w :: .int v :: st) h = jv_ev d 59 55 lc (.int (v + w) :: st) h := jq_nx (jv_insR jm_59 dX12_order_54) rfl
theorem e59_55 : jv_ev d 59 55 lc (.int v :: .ref a :: st) h = (jv_ig h a 0 0 v).bind fun w => jv_ev d 59 56 lc (.int w :: st) h := jq_iald (jv_insR jm_59 dX12_order_55)
theorem e59_56 : jv_ev d 59 56 [x0, x1, x2, x3, some (.int v), x5] st h = jv_ev d 59 58 [x0, x1, x2, x3, some (.int v), x5] (.int v :: st) h := jq_nx (jv_insR jm_59 dX12_order_56) rfl
theorem e59_58 : jv_ev d 59 58 lc (.int w :: .int v :: st) h = if ¬ v = w then jv_ev d 59 77 lc st h else jv_ev d 59 61 lc st h := jq_if (jv_insR jm_59 dX12_order_58) rfl (by decide)
theorem e59_61 : jv_ev d 59 61 [some (.ref a), x1, x2, x3, x4, x5] st h = jv_ev d 59 62 [some (.ref a), x1, x2, x3, x4, x5] (.ref a :: st) h := jq_nx (jv_insR jm_59 dX12_order_61) rfl
theorem e59_62 : jv_ev d 59 62 lc (.ref a :: st) h = (jv_gf h a [(0, 50, .array .int)]).bind fun r => jv_ev d 59 65 lc (r :: st) h := jq_get (jv_insR jm_59 dX12_order_62) jo_59 jF_1_116
theorem e59_65 : jv_ev d 59 65 lc st h = jv_ev d 59 67 lc (.int 64 :: st) h := jq_bipush (jv_insR jm_59 dX12_order_65) (by decide)
theorem e59_67 : jv_ev d 59 67 [x0, some (.int v), x2, x3, x4, x5] st h = jv_ev d 59 68 [x0, some (.int v), x2, x3, x4, x5] (.int v :: st) h := jq_nx (jv_insR jm_59 dX12_order_67) rfl
theorem e59_68 : jv_ev d 59 68 lc (.int w :: .int v :: st) h = jv_ev d 59 69 lc (.int (v + w) :: st) h := jq_nx (jv_insR jm_59 dX12_order_68) rfl
theorem e59_69 : jv_ev d 59 69 lc (.int v :: .ref a :: st) h = (jv_ig h a 0 0 v).bind fun w => jv_ev d 59 70 lc (.int w :: st) h := jq_iald (jv_insR jm_59 dX12_order_69)
theorem e59_70 : jv_ev d 59 70 [x0, x1, x2, x3, x4, some (.int v)] st h = jv_ev d 59 72 [x0, x1, x2, x3, x4, some (.int v)] (.int v :: st) h := jq_nx (jv_insR jm_59 dX12_order_70) rfl
theorem e59_72 : jv_ev d 59 72 lc (.int w :: .int v :: st) h = if ¬ v = w then jv_ev d 59 77 lc st h else jv_ev d 59 75 lc st h := jq_if (jv_insR jm_59 dX12_order_72) rfl (by decide)
theorem e59_75 : jv_ev d 59 75 lc st h = jv_ev d 59 76 lc (.int 0 :: st) h := jq_iconst (jv_insR jm_59 dX12_order_75) (by decide)
theorem e59_76 : jv_ev d 59 76 lc [.int v] h = if narrow .boolean (.int v) = .int v then some (.inl (some (.int v)), h) else none := jq_ret (jv_insR jm_59 dX12_order_76) jr_59 (by decide)
theorem e59_77 : jv_ev d 59 77 [some (.ref a), x1, x2, x3, x4, x5] st h = jv_ev d 59 78 [some (.ref a), x1, x2, x3, x4, x5] (.ref a :: st) h := jq_nx (jv_insR jm_59 dX12_order_77) rfl
theorem e59_78 : jv_ev d 59 78 lc [.ref b] h = (jv_rc h b [(0, 41)]).bind fun y => (jv_cd d y [.ref b] h).bind fun r => jv_on r (fun v h => jv_ev d 59 81 lc (v.toList ++ []) h) (fun q h => some (.inr q, h)) := jq_V (as := []) (rest := []) (jv_insR jm_59 dX12_order_78) jo_59 jV_1_381 rfl rfl rfl rfl
theorem e59_81 : jv_ev d 59 81 [some (.ref a), x1, x2, x3, x4, x5] st h = jv_ev d 59 82 [some (.ref a), x1, x2, x3, x4, x5] (.ref a :: st) h := jq_nx (jv_insR jm_59 dX12_order_81) rfl
theorem e59_82 : jv_ev d 59 82 lc (.ref a :: st) h = (jv_gf h a [(0, 51, .array .int)]).bind fun r => jv_ev d 59 85 lc (r :: st) h := jq_get (jv_insR jm_59 dX12_order_82) jo_59 jF_1_119
theorem e59_85 : jv_ev d 59 85 lc st h = jv_ev d 59 87 lc (.int 52 :: st) h := jq_bipush (jv_insR jm_59 dX12_order_85) (by decide)
theorem e59_87 : jv_ev d 59 87 [x0, some (.int v), x2, x3, x4, x5] st h = jv_ev d 59 88 [x0, some (.int v), x2, x3, x4, x5] (.int v :: st) h := jq_nx (jv_insR jm_59 dX12_order_87) rfl
theorem e59_88 : jv_ev d 59 88 lc (.int w :: .int v :: st) h = jv_ev d 59 89 lc (.int (v + w) :: st) h := jq_nx (jv_insR jm_59 dX12_order_88) rfl
theorem e59_89 : jv_ev d 59 89 [x0, x1, some (.int v), x3, x4, x5] st h = jv_ev d 59 90 [x0, x1, some (.int v), x3, x4, x5] (.int v :: st) h := jq_nx (jv_insR jm_59 dX12_order_89) rfl
theorem e59_90 : jv_ev d 59 90 lc (.int w :: .int v :: .ref a :: st) h = (jv_ip h a 0 0 v w).bind fun h => jv_ev d 59 91 lc st h := jq_iast (jv_insR jm_59 dX12_order_90)
theorem e59_91 : jv_ev d 59 91 [some (.ref a), x1, x2, x3, x4, x5] st h = jv_ev d 59 92 [some (.ref a), x1, x2, x3, x4, x5] (.ref a :: st) h := jq_nx (jv_insR jm_59 dX12_order_91) rfl
theorem e59_92 : jv_ev d 59 92 lc (.ref a :: st) h = (jv_gf h a [(0, 51, .array .int)]).bind fun r => jv_ev d 59 95 lc (r :: st) h := jq_get (jv_insR jm_59 dX12_order_92) jo_59 jF_1_119
theorem e59_95 : jv_ev d 59 95 lc st h = jv_ev d 59 97 lc (.int 56 :: st) h := jq_bipush (jv_insR jm_59 dX12_order_95) (by decide)
theorem e59_97 : jv_ev d 59 97 [x0, some (.int v), x2, x3, x4, x5] st h = jv_ev d 59 98 [x0, some (.int v), x2, x3, x4, x5] (.int v :: st) h := jq_nx (jv_insR jm_59 dX12_order_97) rfl
theorem e59_98 : jv_ev d 59 98 lc (.int w :: .int v :: st) h = jv_ev d 59 99 lc (.int (v + w) :: st) h := jq_nx (jv_insR jm_59 dX12_order_98) rfl
theorem e59_99 : jv_ev d 59 99 [x0, x1, x2, some (.int v), x4, x5] st h = jv_ev d 59 100 [x0, x1, x2, some (.int v), x4, x5] (.int v :: st) h := jq_nx (jv_insR jm_59 dX12_order_99) rfl
theorem e59_100 : jv_ev d 59 100 lc (.int w :: .int v :: .ref a :: st) h = (jv_ip h a 0 0 v w).bind fun h => jv_ev d 59 101 lc st h := jq_iast (jv_insR jm_59 dX12_order_100)
theorem e59_101 : jv_ev d 59 101 [some (.ref a), x1, x2, x3, x4, x5] st h = jv_ev d 59 102 [some (.ref a), x1, x2, x3, x4, x5] (.ref a :: st) h := jq_nx (jv_insR jm_59 dX12_order_101) rfl
theorem e59_102 : jv_ev d 59 102 lc (.ref a :: st) h = (jv_gf h a [(0, 51, .array .int)]).bind fun r => jv_ev d 59 105 lc (r :: st) h := jq_get (jv_insR jm_59 dX12_order_102) jo_59 jF_1_119
theorem e59_105 : jv_ev d 59 105 lc st h = jv_ev d 59 107 lc (.int 60 :: st) h := jq_bipush (jv_insR jm_59 dX12_order_105) (by decide)
theorem e59_107 : jv_ev d 59 107 [x0, some (.int v), x2, x3, x4, x5] st h = jv_ev d 59 108 [x0, some (.int v), x2, x3, x4, x5] (.int v :: st) h := jq_nx (jv_insR jm_59 dX12_order_107) rfl
theorem e59_108 : jv_ev d 59 108 lc (.int w :: .int v :: st) h = jv_ev d 59 109 lc (.int (v + w) :: st) h := jq_nx (jv_insR jm_59 dX12_order_108) rfl
theorem e59_109 : jv_ev d 59 109 [x0, x1, x2, x3, some (.int v), x5] st h = jv_ev d 59 111 [x0, x1, x2, x3, some (.int v), x5] (.int v :: st) h := jq_nx (jv_insR jm_59 dX12_order_109) rfl
theorem e59_111 : jv_ev d 59 111 lc (.int w :: .int v :: .ref a :: st) h = (jv_ip h a 0 0 v w).bind fun h => jv_ev d 59 112 lc st h := jq_iast (jv_insR jm_59 dX12_order_111)
theorem e59_112 : jv_ev d 59 112 [some (.ref a), x1, x2, x3, x4, x5] st h = jv_ev d 59 113 [some (.ref a), x1, x2, x3, x4, x5] (.ref a :: st) h := jq_nx (jv_insR jm_59 dX12_order_112) rfl
theorem e59_113 : jv_ev d 59 113 lc (.ref a :: st) h = (jv_gf h a [(0, 51, .array .int)]).bind fun r => jv_ev d 59 116 lc (r :: st) h := jq_get (jv_insR jm_59 dX12_order_113) jo_59 jF_1_119
theorem e59_116 : jv_ev d 59 116 lc st h = jv_ev d 59 118 lc (.int 64 :: st) h := jq_bipush (jv_insR jm_59 dX12_order_116) (by decide)
theorem e59_118 : jv_ev d 59 118 [x0, some (.int v), x2, x3, x4, x5] st h = jv_ev d 59 119 [x0, some (.int v), x2, x3, x4, x5] (.int v :: st) h := jq_nx (jv_insR jm_59 dX12_order_118) rfl
theorem e59_119 : jv_ev d 59 119 lc (.int w :: .int v :: st) h = jv_ev d 59 120 lc (.int (v + w) :: st) h := jq_nx (jv_insR jm_59 dX12_order_119) rfl
theorem e59_120 : jv_ev d 59 120 [x0, x1, x2, x3, x4, some (.int v)] st h = jv_ev d 59 122 [x0, x1, x2, x3, x4, some (.int v)] (.int v :: st) h := jq_nx (jv_insR jm_59 dX12_order_120) rfl
theorem e59_122 : jv_ev d 59 122 lc (.int w :: .int v :: .ref a :: st) h = (jv_ip h a 0 0 v w).bind fun h => jv_ev d 59 123 lc st h := jq_iast (jv_insR jm_59 dX12_order_122)
theorem e59_123 : jv_ev d 59 123 [some (.ref a), x1, x2, x3, x4, x5] st h = jv_ev d 59 124 [some (.ref a), x1, x2, x3, x4, x5] (.ref a :: st) h := jq_nx (jv_insR jm_59 dX12_order_123) rfl
theorem e59_124 : jv_ev d 59 124 lc [.ref b] h = (jv_rc h b [(0, 61)]).bind fun y => (jv_cd d y [.ref b] h).bind fun r => jv_on r (fun v h => jv_ev d 59 127 lc (v.toList ++ []) h) (fun q h => some (.inr q, h)) := jq_V (as := []) (rest := []) (jv_insR jm_59 dX12_order_124) jo_59 jV_1_399 rfl rfl rfl rfl
theorem e59_127 : jv_ev d 59 127 lc st h = jv_ev d 59 128 lc (.int 1 :: st) h := jq_iconst (jv_insR jm_59 dX12_order_127) (by decide)
theorem e59_128 : jv_ev d 59 128 lc [.int v] h = if narrow .boolean (.int v) = .int v then some (.inl (some (.int v)), h) else none := jq_ret (jv_insR jm_59 dX12_order_128) jr_59 (by decide)
/-! 60: RainLoomModel.isPiece(III)Z -/
theorem n60 : jv_cd (d + 1) 60 [.ref a0, .int i1, .int i2, .int i3] h = jv_ev d 60 0 [some (.ref a0), some (.int i1), some (.int i2), some (.int i3)] [] h := rfl
theorem e60_0 : jv_ev d 60 0 [some (.ref a), x1, x2, x3] st h = jv_ev d 60 1 [some (.ref a), x1, x2, x3] (.ref a :: st) h := jq_nx (jv_insR jm_60 dX12_isPiece_0) rfl
theorem e60_1 : jv_ev d 60 1 [x0, some (.int v), x2, x3] st h = jv_ev d 60 2 [x0, some (.int v), x2, x3] (.int v :: st) h := jq_nx (jv_insR jm_60 dX12_isPiece_1) rfl
theorem e60_2 : jv_ev d 60 2 lc [z0, .ref b] h = (jv_rc h b [(0, 53)]).bind fun y => (jv_cd d y [.ref b, z0] h).bind fun r => jv_on r (fun v h => jv_ev d 60 5 lc (v.toList ++ []) h) (fun q h => some (.inr q, h)) := jq_V (as := [z0]) (rest := []) (jv_insR jm_60 dX12_isPiece_2) jo_60 jV_1_393 rfl rfl rfl rfl
theorem e60_5 : jv_ev d 60 5 lc (.int v :: st) h = if v = 0 then jv_ev d 60 43 lc st h else jv_ev d 60 8 lc st h := jq_if (jv_insR jm_60 dX12_isPiece_5) rfl (by decide)
theorem e60_8 : jv_ev d 60 8 [x0, x1, some (.int v), x3] st h = jv_ev d 60 9 [x0, x1, some (.int v), x3] (.int v :: st) h := jq_nx (jv_insR jm_60 dX12_isPiece_8) rfl
theorem e60_9 : jv_ev d 60 9 lc st h = jv_ev d 60 10 lc (.int 1 :: st) h := jq_iconst (jv_insR jm_60 dX12_isPiece_9) (by decide)
theorem e60_10 : jv_ev d 60 10 [some (.ref a), x1, x2, x3] st h = jv_ev d 60 11 [some (.ref a), x1, x2, x3] (.ref a :: st) h := jq_nx (jv_insR jm_60 dX12_isPiece_10) rfl
theorem e60_11 : jv_ev d 60 11 lc (.ref a :: st) h = (jv_gf h a [(0, 29, .array .int)]).bind fun r => jv_ev d 60 14 lc (r :: st) h := jq_get (jv_insR jm_60 dX12_isPiece_11) jo_60 jF_1_64
theorem e60_14 : jv_ev d 60 14 lc st h = jv_ev d 60 15 lc (.int 4 :: st) h := jq_iconst (jv_insR jm_60 dX12_isPiece_14) (by decide)
theorem e60_15 : jv_ev d 60 15 [some (.ref a), x1, x2, x3] st h = jv_ev d 60 16 [some (.ref a), x1, x2, x3] (.ref a :: st) h := jq_nx (jv_insR jm_60 dX12_isPiece_15) rfl
theorem e60_16 : jv_ev d 60 16 lc (.ref a :: st) h = (jv_gf h a [(0, 18, .int)]).bind fun r => jv_ev d 60 19 lc (r :: st) h := jq_get (jv_insR jm_60 dX12_isPiece_16) jo_60 jF_1_239
theorem e60_19 : jv_ev d 60 19 lc (.int w :: .int v :: st) h = jv_ev d 60 20 lc (.int (v * w) :: st) h := jq_nx (jv_insR jm_60 dX12_isPiece_19) rfl
theorem e60_20 : jv_ev d 60 20 [x0, some (.int v), x2, x3] st h = jv_ev d 60 21 [x0, some (.int v), x2, x3] (.int v :: st) h := jq_nx (jv_insR jm_60 dX12_isPiece_20) rfl
theorem e60_21 : jv_ev d 60 21 lc (.int w :: .int v :: st) h = jv_ev d 60 22 lc (.int (v + w) :: st) h := jq_nx (jv_insR jm_60 dX12_isPiece_21) rfl
theorem e60_22 : jv_ev d 60 22 lc (.int v :: .ref a :: st) h = (jv_ig h a 0 0 v).bind fun w => jv_ev d 60 23 lc (.int w :: st) h := jq_iald (jv_insR jm_60 dX12_isPiece_22)
theorem e60_23 : jv_ev d 60 23 lc [z2, z1, z0] h = (jv_cd d 40 [z0, z1, z2] h).bind fun r => jv_on r (fun v h => jv_ev d 60 26 lc (v.toList ++ []) h) (fun q h => some (.inr q, h)) := jq_S (as := [z0, z1, z2]) (rest := []) (jv_insR jm_60 dX12_isPiece_23) jo_60 jT_1_323 rfl rfl rfl rfl
theorem e60_26 : jv_ev d 60 26 lc (.int v :: st) h = if v = 0 then jv_ev d 60 43 lc st h else jv_ev d 60 29 lc st h := jq_if (jv_insR jm_60 dX12_isPiece_26) rfl (by decide)
theorem e60_29 : jv_ev d 60 29 [x0, x1, x2, some (.int v)] st h = jv_ev d 60 30 [x0, x1, x2, some (.int v)] (.int v :: st) h := jq_nx (jv_insR jm_60 dX12_isPiece_29) rfl
theorem e60_30 : jv_ev d 60 30 lc st h = jv_ev d 60 31 lc (.int 1 :: st) h := jq_iconst (jv_insR jm_60 dX12_isPiece_30) (by decide)
theorem e60_31 : jv_ev d 60 31 lc st h = jv_ev d 60 33 lc (.int 6 :: st) h := jq_bipush (jv_insR jm_60 dX12_isPiece_31) (by decide)
theorem e60_33 : jv_ev d 60 33 lc [z2, z1, z0] h = (jv_cd d 40 [z0, z1, z2] h).bind fun r => jv_on r (fun v h => jv_ev d 60 36 lc (v.toList ++ []) h) (fun q h => some (.inr q, h)) := jq_S (as := [z0, z1, z2]) (rest := []) (jv_insR jm_60 dX12_isPiece_33) jo_60 jT_1_323 rfl rfl rfl rfl
theorem e60_36 : jv_ev d 60 36 lc (.int v :: st) h = if v = 0 then jv_ev d 60 43 lc st h else jv_ev d 60 39 lc st h := jq_if (jv_insR jm_60 dX12_isPiece_36) rfl (by decide)
theorem e60_39 : jv_ev d 60 39 lc st h = jv_ev d 60 40 lc (.int 1 :: st) h := jq_iconst (jv_insR jm_60 dX12_isPiece_39) (by decide)
theorem e60_40 : jv_ev d 60 40 lc st h = jv_ev d 60 44 lc st h := jq_go (jv_insR jm_60 dX12_isPiece_40) (by decide)
theorem e60_43 : jv_ev d 60 43 lc st h = jv_ev d 60 44 lc (.int 0 :: st) h := jq_iconst (jv_insR jm_60 dX12_isPiece_43) (by decide)
theorem e60_44 : jv_ev d 60 44 lc [.int v] h = if narrow .boolean (.int v) = .int v then some (.inl (some (.int v)), h) else none := jq_ret (jv_insR jm_60 dX12_isPiece_44) jr_60 (by decide)
/-! 61: RainLoomModel.keeps()V -/
theorem n61 : jv_cd (d + 1) 61 [.ref a0] h = jv_ev d 61 0 [some (.ref a0), none] [] h := rfl
theorem e61_0 : jv_ev d 61 0 [some (.ref a), x1] st h = jv_ev d 61 1 [some (.ref a), x1] (.ref a :: st) h := jq_nx (jv_insR jm_61 dX12_keeps_0) rfl
theorem e61_1 : jv_ev d 61 1 lc (.ref a :: st) h = (jv_gf h a [(0, 53, .int)]).bind fun r => jv_ev d 61 4 lc (r :: st) h := jq_get (jv_insR jm_61 dX12_keeps_1) jo_61 jF_1_265
theorem e61_4 : jv_ev d 61 4 lc st h = jv_ev d 61 6 lc (.int 30 :: st) h := jq_bipush (jv_insR jm_61 dX12_keeps_4) (by decide)
theorem e61_6 : jv_ev d 61 6 lc (.int w :: .int v :: st) h = if ¬ v = w then jv_ev d 61 49 lc st h else jv_ev d 61 9 lc st h := jq_if (jv_insR jm_61 dX12_keeps_6) rfl (by decide)
theorem e61_9 : jv_ev d 61 9 lc st h = jv_ev d 61 10 lc (.int 0 :: st) h := jq_iconst (jv_insR jm_61 dX12_keeps_9) (by decide)
theorem e61_10 : jv_ev d 61 10 [x0, x1] (.int v :: st) h = jv_ev d 61 11 [x0, some (.int v)] st h := jq_nx (jv_insR jm_61 dX12_keeps_10) rfl
theorem e61_11 : jv_ev d 61 11 [x0, some (.int v)] st h = jv_ev d 61 12 [x0, some (.int v)] (.int v :: st) h := jq_nx (jv_insR jm_61 dX12_keeps_11) rfl
theorem e61_12 : jv_ev d 61 12 lc st h = jv_ev d 61 15 lc (.int 2668 :: st) h := jq_sipush (jv_insR jm_61 dX12_keeps_12) (by decide)
theorem e61_15 : jv_ev d 61 15 lc (.int w :: .int v :: st) h = if w ≤ v then jv_ev d 61 39 lc st h else jv_ev d 61 18 lc st h := jq_if (jv_insR jm_61 dX12_keeps_15) rfl (by decide)
theorem e61_18 : jv_ev d 61 18 [some (.ref a), x1] st h = jv_ev d 61 19 [some (.ref a), x1] (.ref a :: st) h := jq_nx (jv_insR jm_61 dX12_keeps_18) rfl
theorem e61_19 : jv_ev d 61 19 lc (.ref a :: st) h = (jv_gf h a [(0, 54, .array .int)]).bind fun r => jv_ev d 61 22 lc (r :: st) h := jq_get (jv_insR jm_61 dX12_keeps_19) jo_61 jF_1_122
theorem e61_22 : jv_ev d 61 22 [x0, some (.int v)] st h = jv_ev d 61 23 [x0, some (.int v)] (.int v :: st) h := jq_nx (jv_insR jm_61 dX12_keeps_22) rfl
theorem e61_23 : jv_ev d 61 23 [some (.ref a), x1] st h = jv_ev d 61 24 [some (.ref a), x1] (.ref a :: st) h := jq_nx (jv_insR jm_61 dX12_keeps_23) rfl
theorem e61_24 : jv_ev d 61 24 lc (.ref a :: st) h = (jv_gf h a [(0, 54, .array .int)]).bind fun r => jv_ev d 61 27 lc (r :: st) h := jq_get (jv_insR jm_61 dX12_keeps_24) jo_61 jF_1_122
theorem e61_27 : jv_ev d 61 27 [x0, some (.int v)] st h = jv_ev d 61 28 [x0, some (.int v)] (.int v :: st) h := jq_nx (jv_insR jm_61 dX12_keeps_27) rfl
theorem e61_28 : jv_ev d 61 28 lc st h = jv_ev d 61 30 lc (.int 92 :: st) h := jq_bipush (jv_insR jm_61 dX12_keeps_28) (by decide)
theorem e61_30 : jv_ev d 61 30 lc (.int w :: .int v :: st) h = jv_ev d 61 31 lc (.int (v + w) :: st) h := jq_nx (jv_insR jm_61 dX12_keeps_30) rfl
theorem e61_31 : jv_ev d 61 31 lc (.int v :: .ref a :: st) h = (jv_ig h a 0 0 v).bind fun w => jv_ev d 61 32 lc (.int w :: st) h := jq_iald (jv_insR jm_61 dX12_keeps_31)
theorem e61_32 : jv_ev d 61 32 lc (.int w :: .int v :: .ref a :: st) h = (jv_ip h a 0 0 v w).bind fun h => jv_ev d 61 33 lc st h := jq_iast (jv_insR jm_61 dX12_keeps_32)
theorem e61_33 : jv_ev d 61 33 [x0, some (.int v)] st h = jv_ev d 61 36 [x0, some (.int (v + 1))] st h := jq_nx (jv_insR jm_61 dX12_keeps_33) rfl
theorem e61_36 : jv_ev d 61 36 lc st h = jv_ev d 61 11 lc st h := jq_go (jv_insR jm_61 dX12_keeps_36) (by decide)
theorem e61_39 : jv_ev d 61 39 [some (.ref a), x1] st h = jv_ev d 61 40 [some (.ref a), x1] (.ref a :: st) h := jq_nx (jv_insR jm_61 dX12_keeps_39) rfl
theorem e61_40 : jv_ev d 61 40 lc (.ref a :: st) h = jv_ev d 61 41 lc (.ref a :: .ref a :: st) h := jq_nx (jv_insR jm_61 dX12_keeps_40) rfl
theorem e61_41 : jv_ev d 61 41 lc (.ref a :: st) h = (jv_gf h a [(0, 53, .int)]).bind fun r => jv_ev d 61 44 lc (r :: st) h := jq_get (jv_insR jm_61 dX12_keeps_41) jo_61 jF_1_265
theorem e61_44 : jv_ev d 61 44 lc st h = jv_ev d 61 45 lc (.int 1 :: st) h := jq_iconst (jv_insR jm_61 dX12_keeps_44) (by decide)
theorem e61_45 : jv_ev d 61 45 lc (.int w :: .int v :: st) h = jv_ev d 61 46 lc (.int (v - w) :: st) h := jq_nx (jv_insR jm_61 dX12_keeps_45) rfl
theorem e61_46 : jv_ev d 61 46 lc (r :: .ref a :: st) h = (jv_pf h a [(0, 53, .int)] r).bind fun h => jv_ev d 61 49 lc st h := jq_put (jv_insR jm_61 dX12_keeps_46) jo_61 ji_61 jG_1_265
theorem e61_49 : jv_ev d 61 49 lc st h = jv_ev d 61 50 lc (.int 0 :: st) h := jq_iconst (jv_insR jm_61 dX12_keeps_49) (by decide)
theorem e61_50 : jv_ev d 61 50 [x0, x1] (.int v :: st) h = jv_ev d 61 51 [x0, some (.int v)] st h := jq_nx (jv_insR jm_61 dX12_keeps_50) rfl
theorem e61_51 : jv_ev d 61 51 [x0, some (.int v)] st h = jv_ev d 61 52 [x0, some (.int v)] (.int v :: st) h := jq_nx (jv_insR jm_61 dX12_keeps_51) rfl
theorem e61_52 : jv_ev d 61 52 lc st h = jv_ev d 61 54 lc (.int 92 :: st) h := jq_bipush (jv_insR jm_61 dX12_keeps_52) (by decide)
theorem e61_54 : jv_ev d 61 54 lc (.int w :: .int v :: st) h = if w ≤ v then jv_ev d 61 83 lc st h else jv_ev d 61 57 lc st h := jq_if (jv_insR jm_61 dX12_keeps_54) rfl (by decide)
theorem e61_57 : jv_ev d 61 57 [some (.ref a), x1] st h = jv_ev d 61 58 [some (.ref a), x1] (.ref a :: st) h := jq_nx (jv_insR jm_61 dX12_keeps_57) rfl
theorem e61_58 : jv_ev d 61 58 lc (.ref a :: st) h = (jv_gf h a [(0, 54, .array .int)]).bind fun r => jv_ev d 61 61 lc (r :: st) h := jq_get (jv_insR jm_61 dX12_keeps_58) jo_61 jF_1_122
theorem e61_61 : jv_ev d 61 61 lc st h = jv_ev d 61 63 lc (.int 92 :: st) h := jq_bipush (jv_insR jm_61 dX12_keeps_61) (by decide)
theorem e61_63 : jv_ev d 61 63 [some (.ref a), x1] st h = jv_ev d 61 64 [some (.ref a), x1] (.ref a :: st) h := jq_nx (jv_insR jm_61 dX12_keeps_63) rfl
theorem e61_64 : jv_ev d 61 64 lc (.ref a :: st) h = (jv_gf h a [(0, 53, .int)]).bind fun r => jv_ev d 61 67 lc (r :: st) h := jq_get (jv_insR jm_61 dX12_keeps_64) jo_61 jF_1_265
theorem e61_67 : jv_ev d 61 67 lc (.int w :: .int v :: st) h = jv_ev d 61 68 lc (.int (v * w) :: st) h := jq_nx (jv_insR jm_61 dX12_keeps_67) rfl
theorem e61_68 : jv_ev d 61 68 [x0, some (.int v)] st h = jv_ev d 61 69 [x0, some (.int v)] (.int v :: st) h := jq_nx (jv_insR jm_61 dX12_keeps_68) rfl
theorem e61_69 : jv_ev d 61 69 lc (.int w :: .int v :: st) h = jv_ev d 61 70 lc (.int (v + w) :: st) h := jq_nx (jv_insR jm_61 dX12_keeps_69) rfl
theorem e61_70 : jv_ev d 61 70 [some (.ref a), x1] st h = jv_ev d 61 71 [some (.ref a), x1] (.ref a :: st) h := jq_nx (jv_insR jm_61 dX12_keeps_70) rfl
theorem e61_71 : jv_ev d 61 71 lc (.ref a :: st) h = (jv_gf h a [(0, 50, .array .int)]).bind fun r => jv_ev d 61 74 lc (r :: st) h := jq_get (jv_insR jm_61 dX12_keeps_71) jo_61 jF_1_116
theorem e61_74 : jv_ev d 61 74 [x0, some (.int v)] st h = jv_ev d 61 75 [x0, some (.int v)] (.int v :: st) h := jq_nx (jv_insR jm_61 dX12_keeps_74) rfl
theorem e61_75 : jv_ev d 61 75 lc (.int v :: .ref a :: st) h = (jv_ig h a 0 0 v).bind fun w => jv_ev d 61 76 lc (.int w :: st) h := jq_iald (jv_insR jm_61 dX12_keeps_75)
theorem e61_76 : jv_ev d 61 76 lc (.int w :: .int v :: .ref a :: st) h = (jv_ip h a 0 0 v w).bind fun h => jv_ev d 61 77 lc st h := jq_iast (jv_insR jm_61 dX12_keeps_76)
theorem e61_77 : jv_ev d 61 77 [x0, some (.int v)] st h = jv_ev d 61 80 [x0, some (.int (v + 1))] st h := jq_nx (jv_insR jm_61 dX12_keeps_77) rfl
theorem e61_80 : jv_ev d 61 80 lc st h = jv_ev d 61 51 lc st h := jq_go (jv_insR jm_61 dX12_keeps_80) (by decide)
theorem e61_83 : jv_ev d 61 83 [some (.ref a), x1] st h = jv_ev d 61 84 [some (.ref a), x1] (.ref a :: st) h := jq_nx (jv_insR jm_61 dX12_keeps_83) rfl
theorem e61_84 : jv_ev d 61 84 lc (.ref a :: st) h = jv_ev d 61 85 lc (.ref a :: .ref a :: st) h := jq_nx (jv_insR jm_61 dX12_keeps_84) rfl
theorem e61_85 : jv_ev d 61 85 lc (.ref a :: st) h = (jv_gf h a [(0, 53, .int)]).bind fun r => jv_ev d 61 88 lc (r :: st) h := jq_get (jv_insR jm_61 dX12_keeps_85) jo_61 jF_1_265
theorem e61_88 : jv_ev d 61 88 lc st h = jv_ev d 61 89 lc (.int 1 :: st) h := jq_iconst (jv_insR jm_61 dX12_keeps_88) (by decide)
theorem e61_89 : jv_ev d 61 89 lc (.int w :: .int v :: st) h = jv_ev d 61 90 lc (.int (v + w) :: st) h := jq_nx (jv_insR jm_61 dX12_keeps_89) rfl
theorem e61_90 : jv_ev d 61 90 lc (r :: .ref a :: st) h = (jv_pf h a [(0, 53, .int)] r).bind fun h => jv_ev d 61 93 lc st h := jq_put (jv_insR jm_61 dX12_keeps_90) jo_61 ji_61 jG_1_265
theorem e61_93 : jv_ev d 61 93 [some (.ref a), x1] st h = jv_ev d 61 94 [some (.ref a), x1] (.ref a :: st) h := jq_nx (jv_insR jm_61 dX12_keeps_93) rfl
theorem e61_94 : jv_ev d 61 94 lc [.ref b] h = (jv_rc h b [(0, 6)]).bind fun y => (jv_cd d y [.ref b] h).bind fun r => jv_on r (fun v h => jv_ev d 61 97 lc (v.toList ++ []) h) (fun q h => some (.inr q, h)) := jq_V (as := []) (rest := []) (jv_insR jm_61 dX12_keeps_94) jo_61 jV_1_169 rfl rfl rfl rfl
theorem e61_97 : jv_ev d 61 97 lc [] h = some (.inl none, h) := jq_retv (jv_insR jm_61 dX12_keeps_97) jr_61
/-! 62: RainLoomModel.stop(I)Z -/
theorem n62 : jv_cd (d + 1) 62 [.ref a0, .int i1] h = jv_ev d 62 0 [some (.ref a0), some (.int i1), none] [] h := rfl
theorem e62_0 : jv_ev d 62 0 [some (.ref a), x1, x2] st h = jv_ev d 62 1 [some (.ref a), x1, x2] (.ref a :: st) h := jq_nx (jv_insR jm_62 dX12_stop_0) rfl
theorem e62_1 : jv_ev d 62 1 [x0, some (.int v), x2] st h = jv_ev d 62 2 [x0, some (.int v), x2] (.int v :: st) h := jq_nx (jv_insR jm_62 dX12_stop_1) rfl
theorem e62_2 : jv_ev d 62 2 lc [z0, .ref b] h = (jv_rc h b [(0, 53)]).bind fun y => (jv_cd d y [.ref b, z0] h).bind fun r => jv_on r (fun v h => jv_ev d 62 5 lc (v.toList ++ []) h) (fun q h => some (.inr q, h)) := jq_V (as := [z0]) (rest := []) (jv_insR jm_62 dX12_stop_2) jo_62 jV_1_393 rfl rfl rfl rfl
theorem e62_5 : jv_ev d 62 5 lc (.int v :: st) h = if v = 0 then jv_ev d 62 20 lc st h else jv_ev d 62 8 lc st h := jq_if (jv_insR jm_62 dX12_stop_5) rfl (by decide)
theorem e62_8 : jv_ev d 62 8 [some (.ref a), x1, x2] st h = jv_ev d 62 9 [some (.ref a), x1, x2] (.ref a :: st) h := jq_nx (jv_insR jm_62 dX12_stop_8) rfl
theorem e62_9 : jv_ev d 62 9 lc (.ref a :: st) h = (jv_gf h a [(0, 50, .array .int)]).bind fun r => jv_ev d 62 12 lc (r :: st) h := jq_get (jv_insR jm_62 dX12_stop_9) jo_62 jF_1_116
theorem e62_12 : jv_ev d 62 12 lc st h = jv_ev d 62 14 lc (.int 52 :: st) h := jq_bipush (jv_insR jm_62 dX12_stop_12) (by decide)
theorem e62_14 : jv_ev d 62 14 [x0, some (.int v), x2] st h = jv_ev d 62 15 [x0, some (.int v), x2] (.int v :: st) h := jq_nx (jv_insR jm_62 dX12_stop_14) rfl
theorem e62_15 : jv_ev d 62 15 lc (.int w :: .int v :: st) h = jv_ev d 62 16 lc (.int (v + w) :: st) h := jq_nx (jv_insR jm_62 dX12_stop_15) rfl
theorem e62_16 : jv_ev d 62 16 lc (.int v :: .ref a :: st) h = (jv_ig h a 0 0 v).bind fun w => jv_ev d 62 17 lc (.int w :: st) h := jq_iald (jv_insR jm_62 dX12_stop_16)
theorem e62_17 : jv_ev d 62 17 lc (.int v :: st) h = if ¬ v = 0 then jv_ev d 62 22 lc st h else jv_ev d 62 20 lc st h := jq_if (jv_insR jm_62 dX12_stop_17) rfl (by decide)
theorem e62_20 : jv_ev d 62 20 lc st h = jv_ev d 62 21 lc (.int 0 :: st) h := jq_iconst (jv_insR jm_62 dX12_stop_20) (by decide)
theorem e62_21 : jv_ev d 62 21 lc [.int v] h = if narrow .boolean (.int v) = .int v then some (.inl (some (.int v)), h) else none := jq_ret (jv_insR jm_62 dX12_stop_21) jr_62 (by decide)
theorem e62_22 : jv_ev d 62 22 [some (.ref a), x1, x2] st h = jv_ev d 62 23 [some (.ref a), x1, x2] (.ref a :: st) h := jq_nx (jv_insR jm_62 dX12_stop_22) rfl
theorem e62_23 : jv_ev d 62 23 lc [.ref b] h = (jv_rc h b [(0, 41)]).bind fun y => (jv_cd d y [.ref b] h).bind fun r => jv_on r (fun v h => jv_ev d 62 26 lc (v.toList ++ []) h) (fun q h => some (.inr q, h)) := jq_V (as := []) (rest := []) (jv_insR jm_62 dX12_stop_23) jo_62 jV_1_381 rfl rfl rfl rfl
theorem e62_26 : jv_ev d 62 26 lc st h = jv_ev d 62 28 lc (.int 52 :: st) h := jq_bipush (jv_insR jm_62 dX12_stop_26) (by decide)
theorem e62_28 : jv_ev d 62 28 [x0, x1, x2] (.int v :: st) h = jv_ev d 62 29 [x0, x1, some (.int v)] st h := jq_nx (jv_insR jm_62 dX12_stop_28) rfl
theorem e62_29 : jv_ev d 62 29 [x0, x1, some (.int v)] st h = jv_ev d 62 30 [x0, x1, some (.int v)] (.int v :: st) h := jq_nx (jv_insR jm_62 dX12_stop_29) rfl
theorem e62_30 : jv_ev d 62 30 lc st h = jv_ev d 62 32 lc (.int 68 :: st) h := jq_bipush (jv_insR jm_62 dX12_stop_30) (by decide)
theorem e62_32 : jv_ev d 62 32 lc (.int w :: .int v :: st) h = if w ≤ v then jv_ev d 62 50 lc st h else jv_ev d 62 35 lc st h := jq_if (jv_insR jm_62 dX12_stop_32) rfl (by decide)
theorem e62_35 : jv_ev d 62 35 [some (.ref a), x1, x2] st h = jv_ev d 62 36 [some (.ref a), x1, x2] (.ref a :: st) h := jq_nx (jv_insR jm_62 dX12_stop_35) rfl
theorem e62_36 : jv_ev d 62 36 lc (.ref a :: st) h = (jv_gf h a [(0, 51, .array .int)]).bind fun r => jv_ev d 62 39 lc (r :: st) h := jq_get (jv_insR jm_62 dX12_stop_36) jo_62 jF_1_119
theorem e62_39 : jv_ev d 62 39 [x0, x1, some (.int v)] st h = jv_ev d 62 40 [x0, x1, some (.int v)] (.int v :: st) h := jq_nx (jv_insR jm_62 dX12_stop_39) rfl
theorem e62_40 : jv_ev d 62 40 [x0, some (.int v), x2] st h = jv_ev d 62 41 [x0, some (.int v), x2] (.int v :: st) h := jq_nx (jv_insR jm_62 dX12_stop_40) rfl
theorem e62_41 : jv_ev d 62 41 lc (.int w :: .int v :: st) h = jv_ev d 62 42 lc (.int (v + w) :: st) h := jq_nx (jv_insR jm_62 dX12_stop_41) rfl
theorem e62_42 : jv_ev d 62 42 lc st h = jv_ev d 62 43 lc (.int 0 :: st) h := jq_iconst (jv_insR jm_62 dX12_stop_42) (by decide)
theorem e62_43 : jv_ev d 62 43 lc (.int w :: .int v :: .ref a :: st) h = (jv_ip h a 0 0 v w).bind fun h => jv_ev d 62 44 lc st h := jq_iast (jv_insR jm_62 dX12_stop_43)
theorem e62_44 : jv_ev d 62 44 [x0, x1, some (.int v)] st h = jv_ev d 62 47 [x0, x1, some (.int (v + 4))] st h := jq_nx (jv_insR jm_62 dX12_stop_44) rfl
theorem e62_47 : jv_ev d 62 47 lc st h = jv_ev d 62 29 lc st h := jq_go (jv_insR jm_62 dX12_stop_47) (by decide)
theorem e62_50 : jv_ev d 62 50 [some (.ref a), x1, x2] st h = jv_ev d 62 51 [some (.ref a), x1, x2] (.ref a :: st) h := jq_nx (jv_insR jm_62 dX12_stop_50) rfl
theorem e62_51 : jv_ev d 62 51 lc [.ref b] h = (jv_rc h b [(0, 61)]).bind fun y => (jv_cd d y [.ref b] h).bind fun r => jv_on r (fun v h => jv_ev d 62 54 lc (v.toList ++ []) h) (fun q h => some (.inr q, h)) := jq_V (as := []) (rest := []) (jv_insR jm_62 dX12_stop_51) jo_62 jV_1_399 rfl rfl rfl rfl
theorem e62_54 : jv_ev d 62 54 lc st h = jv_ev d 62 55 lc (.int 1 :: st) h := jq_iconst (jv_insR jm_62 dX12_stop_54) (by decide)
theorem e62_55 : jv_ev d 62 55 lc [.int v] h = if narrow .boolean (.int v) = .int v then some (.inl (some (.int v)), h) else none := jq_ret (jv_insR jm_62 dX12_stop_55) jr_62 (by decide)
/-! 63: RainLoomModel.fall(IIIII)I -/
theorem n63 : jv_cd (d + 1) 63 [.ref a0, .int i1, .int i2, .int i3, .int i4, .int i5] h = jv_ev d 63 0 [some (.ref a0), some (.int i1), some (.int i2), some (.int i3), some (.int i4), some (.int i5), none] [] h := rfl
theorem e63_0 : jv_ev d 63 0 [some (.ref a), x1, x2, x3, x4, x5, x6] st h = jv_ev d 63 1 [some (.ref a), x1, x2, x3, x4, x5, x6] (.ref a :: st) h := jq_nx (jv_insR jm_63 dX12_fall_0) rfl
theorem e63_1 : jv_ev d 63 1 [x0, some (.int v), x2, x3, x4, x5, x6] st h = jv_ev d 63 2 [x0, some (.int v), x2, x3, x4, x5, x6] (.int v :: st) h := jq_nx (jv_insR jm_63 dX12_fall_1) rfl
theorem e63_2 : jv_ev d 63 2 [x0, x1, some (.int v), x3, x4, x5, x6] st h = jv_ev d 63 3 [x0, x1, some (.int v), x3, x4, x5, x6] (.int v :: st) h := jq_nx (jv_insR jm_63 dX12_fall_2) rfl
theorem e63_3 : jv_ev d 63 3 [x0, x1, x2, some (.int v), x4, x5, x6] st h = jv_ev d 63 4 [x0, x1, x2, some (.int v), x4, x5, x6] (.int v :: st) h := jq_nx (jv_insR jm_63 dX12_fall_3) rfl
theorem e63_4 : jv_ev d 63 4 lc [z2, z1, z0, .ref b] h = (jv_rc h b [(0, 60)]).bind fun y => (jv_cd d y [.ref b, z0, z1, z2] h).bind fun r => jv_on r (fun v h => jv_ev d 63 7 lc (v.toList ++ []) h) (fun q h => some (.inr q, h)) := jq_V (as := [z0, z1, z2]) (rest := []) (jv_insR jm_63 dX12_fall_4) jo_63 jV_1_396 rfl rfl rfl rfl
theorem e63_7 : jv_ev d 63 7 lc (.int v :: st) h = if v = 0 then jv_ev d 63 21 lc st h else jv_ev d 63 10 lc st h := jq_if (jv_insR jm_63 dX12_fall_7) rfl (by decide)
theorem e63_10 : jv_ev d 63 10 [some (.ref a), x1, x2, x3, x4, x5, x6] st h = jv_ev d 63 11 [some (.ref a), x1, x2, x3, x4, x5, x6] (.ref a :: st) h := jq_nx (jv_insR jm_63 dX12_fall_10) rfl
theorem e63_11 : jv_ev d 63 11 [x0, x1, x2, x3, some (.int v), x5, x6] st h = jv_ev d 63 13 [x0, x1, x2, x3, some (.int v), x5, x6] (.int v :: st) h := jq_nx (jv_insR jm_63 dX12_fall_11) rfl
theorem e63_13 : jv_ev d 63 13 [x0, x1, x2, x3, x4, some (.int v), x6] st h = jv_ev d 63 15 [x0, x1, x2, x3, x4, some (.int v), x6] (.int v :: st) h := jq_nx (jv_insR jm_63 dX12_fall_13) rfl
theorem e63_15 : jv_ev d 63 15 lc [z1, z0, .ref b] h = (jv_rc h b [(0, 39)]).bind fun y => (jv_cd d y [.ref b, z0, z1] h).bind fun r => jv_on r (fun v h => jv_ev d 63 18 lc (v.toList ++ []) h) (fun q h => some (.inr q, h)) := jq_V (as := [z0, z1]) (rest := []) (jv_insR jm_63 dX12_fall_15) jo_63 jV_1_343 rfl rfl rfl rfl
theorem e63_18 : jv_ev d 63 18 lc (.int v :: st) h = if ¬ v = 0 then jv_ev d 63 23 lc st h else jv_ev d 63 21 lc st h := jq_if (jv_insR jm_63 dX12_fall_18) rfl (by decide)
theorem e63_21 : jv_ev d 63 21 lc st h = jv_ev d 63 22 lc (.int (-1) :: st) h := jq_iconst (jv_insR jm_63 dX12_fall_21) (by decide)
theorem e63_22 : jv_ev d 63 22 lc [.int v] h = some (.inl (some (.int v)), h) := jq_reti (jv_insR jm_63 dX12_fall_22) jr_63
theorem e63_23 : jv_ev d 63 23 [some (.ref a), x1, x2, x3, x4, x5, x6] st h = jv_ev d 63 24 [some (.ref a), x1, x2, x3, x4, x5, x6] (.ref a :: st) h := jq_nx (jv_insR jm_63 dX12_fall_23) rfl
theorem e63_24 : jv_ev d 63 24 lc [.ref b] h = (jv_rc h b [(0, 41)]).bind fun y => (jv_cd d y [.ref b] h).bind fun r => jv_on r (fun v h => jv_ev d 63 27 lc (v.toList ++ []) h) (fun q h => some (.inr q, h)) := jq_V (as := []) (rest := []) (jv_insR jm_63 dX12_fall_24) jo_63 jV_1_381 rfl rfl rfl rfl
theorem e63_27 : jv_ev d 63 27 [some (.ref a), x1, x2, x3, x4, x5, x6] st h = jv_ev d 63 28 [some (.ref a), x1, x2, x3, x4, x5, x6] (.ref a :: st) h := jq_nx (jv_insR jm_63 dX12_fall_27) rfl
theorem e63_28 : jv_ev d 63 28 [x0, some (.int v), x2, x3, x4, x5, x6] st h = jv_ev d 63 29 [x0, some (.int v), x2, x3, x4, x5, x6] (.int v :: st) h := jq_nx (jv_insR jm_63 dX12_fall_28) rfl
theorem e63_29 : jv_ev d 63 29 [x0, x1, some (.int v), x3, x4, x5, x6] st h = jv_ev d 63 30 [x0, x1, some (.int v), x3, x4, x5, x6] (.int v :: st) h := jq_nx (jv_insR jm_63 dX12_fall_29) rfl
theorem e63_30 : jv_ev d 63 30 [x0, x1, x2, some (.int v), x4, x5, x6] st h = jv_ev d 63 31 [x0, x1, x2, some (.int v), x4, x5, x6] (.int v :: st) h := jq_nx (jv_insR jm_63 dX12_fall_30) rfl
theorem e63_31 : jv_ev d 63 31 [x0, x1, x2, x3, some (.int v), x5, x6] st h = jv_ev d 63 33 [x0, x1, x2, x3, some (.int v), x5, x6] (.int v :: st) h := jq_nx (jv_insR jm_63 dX12_fall_31) rfl
theorem e63_33 : jv_ev d 63 33 [x0, x1, x2, x3, x4, some (.int v), x6] st h = jv_ev d 63 35 [x0, x1, x2, x3, x4, some (.int v), x6] (.int v :: st) h := jq_nx (jv_insR jm_63 dX12_fall_33) rfl
theorem e63_35 : jv_ev d 63 35 lc [z4, z3, z2, z1, z0, .ref b] h = (jv_rc h b [(0, 64)]).bind fun y => (jv_cd d y [.ref b, z0, z1, z2, z3, z4] h).bind fun r => jv_on r (fun v h => jv_ev d 63 38 lc (v.toList ++ []) h) (fun q h => some (.inr q, h)) := jq_V (as := [z0, z1, z2, z3, z4]) (rest := []) (jv_insR jm_63 dX12_fall_35) jo_63 jV_1_362 rfl rfl rfl rfl
theorem e63_38 : jv_ev d 63 38 [x0, x1, x2, x3, x4, x5, x6] (.int v :: st) h = jv_ev d 63 40 [x0, x1, x2, x3, x4, x5, some (.int v)] st h := jq_nx (jv_insR jm_63 dX12_fall_38) rfl
theorem e63_40 : jv_ev d 63 40 [some (.ref a), x1, x2, x3, x4, x5, x6] st h = jv_ev d 63 41 [some (.ref a), x1, x2, x3, x4, x5, x6] (.ref a :: st) h := jq_nx (jv_insR jm_63 dX12_fall_40) rfl
theorem e63_41 : jv_ev d 63 41 lc [.ref b] h = (jv_rc h b [(0, 61)]).bind fun y => (jv_cd d y [.ref b] h).bind fun r => jv_on r (fun v h => jv_ev d 63 44 lc (v.toList ++ []) h) (fun q h => some (.inr q, h)) := jq_V (as := []) (rest := []) (jv_insR jm_63 dX12_fall_41) jo_63 jV_1_399 rfl rfl rfl rfl
theorem e63_44 : jv_ev d 63 44 [x0, x1, x2, x3, x4, x5, some (.int v)] st h = jv_ev d 63 46 [x0, x1, x2, x3, x4, x5, some (.int v)] (.int v :: st) h := jq_nx (jv_insR jm_63 dX12_fall_44) rfl
theorem e63_46 : jv_ev d 63 46 lc [.int v] h = some (.inl (some (.int v)), h) := jq_reti (jv_insR jm_63 dX12_fall_46) jr_63
/-! 64: RainLoomModel.falls(IIIII)I -/
theorem n64 : jv_cd (d + 1) 64 [.ref a0, .int i1, .int i2, .int i3, .int i4, .int i5] h = jv_ev d 64 0 [some (.ref a0), some (.int i1), some (.int i2), some (.int i3), some (.int i4), some (.int i5), none, none, none, none, none, none, none, none] [] h := rfl
theorem e64_0 : jv_ev d 64 0 lc st h = jv_ev d 64 1 lc (.int 0 :: st) h := jq_iconst (jv_insR jm_64 dX12_falls_0) (by decide)
theorem e64_1 : jv_ev d 64 1 [x0, x1, x2, x3, x4, x5, x6, x7, x8, x9, x10, x11, x12, x13] (.int v :: st) h = jv_ev d 64 3 [x0, x1, x2, x3, x4, x5, some (.int v), x7, x8, x9, x10, x11, x12, x13] st h := jq_nx (jv_insR jm_64 dX12_falls_1) rfl
theorem e64_3 : jv_ev d 64 3 [some (.ref a), x1, x2, x3, x4, x5, x6, x7, x8, x9, x10, x11, x12, x13] st h = jv_ev d 64 4 [some (.ref a), x1, x2, x3, x4, x5, x6, x7, x8, x9, x10, x11, x12, x13] (.ref a :: st) h := jq_nx (jv_insR jm_64 dX12_falls_3) rfl
theorem e64_4 : jv_ev d 64 4 lc (.ref a :: st) h = (jv_gf h a [(0, 51, .array .int)]).bind fun r => jv_ev d 64 7 lc (r :: st) h := jq_get (jv_insR jm_64 dX12_falls_4) jo_64 jF_1_119
theorem e64_7 : jv_ev d 64 7 lc st h = jv_ev d 64 9 lc (.int 48 :: st) h := jq_bipush (jv_insR jm_64 dX12_falls_7) (by decide)
theorem e64_9 : jv_ev d 64 9 [x0, some (.int v), x2, x3, x4, x5, x6, x7, x8, x9, x10, x11, x12, x13] st h = jv_ev d 64 10 [x0, some (.int v), x2, x3, x4, x5, x6, x7, x8, x9, x10, x11, x12, x13] (.int v :: st) h := jq_nx (jv_insR jm_64 dX12_falls_9) rfl
theorem e64_10 : jv_ev d 64 10 lc (.int w :: .int v :: st) h = jv_ev d 64 11 lc (.int (v + w) :: st) h := jq_nx (jv_insR jm_64 dX12_falls_10) rfl
theorem e64_11 : jv_ev d 64 11 lc (.int v :: .ref a :: st) h = (jv_ig h a 0 0 v).bind fun w => jv_ev d 64 12 lc (.int w :: st) h := jq_iald (jv_insR jm_64 dX12_falls_11)
theorem e64_12 : jv_ev d 64 12 [x0, x1, x2, x3, x4, x5, x6, x7, x8, x9, x10, x11, x12, x13] (.int v :: st) h = jv_ev d 64 14 [x0, x1, x2, x3, x4, x5, x6, some (.int v), x8, x9, x10, x11, x12, x13] st h := jq_nx (jv_insR jm_64 dX12_falls_12) rfl
theorem e64_14 : jv_ev d 64 14 lc st h = jv_ev d 64 15 lc (.int 0 :: st) h := jq_iconst (jv_insR jm_64 dX12_falls_14) (by decide)
theorem e64_15 : jv_ev d 64 15 [x0, x1, x2, x3, x4, x5, x6, x7, x8, x9, x10, x11, x12, x13] (.int v :: st) h = jv_ev d 64 17 [x0, x1, x2, x3, x4, x5, x6, x7, some (.int v), x9, x10, x11, x12, x13] st h := jq_nx (jv_insR jm_64 dX12_falls_15) rfl
theorem e64_17 : jv_ev d 64 17 lc st h = jv_ev d 64 18 lc (.int 0 :: st) h := jq_iconst (jv_insR jm_64 dX12_falls_17) (by decide)
theorem e64_18 : jv_ev d 64 18 [x0, x1, x2, x3, x4, x5, x6, x7, x8, x9, x10, x11, x12, x13] (.int v :: st) h = jv_ev d 64 20 [x0, x1, x2, x3, x4, x5, x6, x7, x8, some (.int v), x10, x11, x12, x13] st h := jq_nx (jv_insR jm_64 dX12_falls_18) rfl
theorem e64_20 : jv_ev d 64 20 [x0, x1, x2, x3, x4, x5, x6, x7, x8, some (.int v), x10, x11, x12, x13] st h = jv_ev d 64 22 [x0, x1, x2, x3, x4, x5, x6, x7, x8, some (.int v), x10, x11, x12, x13] (.int v :: st) h := jq_nx (jv_insR jm_64 dX12_falls_20) rfl
theorem e64_22 : jv_ev d 64 22 [x0, x1, some (.int v), x3, x4, x5, x6, x7, x8, x9, x10, x11, x12, x13] st h = jv_ev d 64 23 [x0, x1, some (.int v), x3, x4, x5, x6, x7, x8, x9, x10, x11, x12, x13] (.int v :: st) h := jq_nx (jv_insR jm_64 dX12_falls_22) rfl
theorem e64_23 : jv_ev d 64 23 [x0, x1, x2, some (.int v), x4, x5, x6, x7, x8, x9, x10, x11, x12, x13] st h = jv_ev d 64 24 [x0, x1, x2, some (.int v), x4, x5, x6, x7, x8, x9, x10, x11, x12, x13] (.int v :: st) h := jq_nx (jv_insR jm_64 dX12_falls_23) rfl
theorem e64_24 : jv_ev d 64 24 lc (.int w :: .int v :: st) h = jv_ev d 64 25 lc (.int (v * w) :: st) h := jq_nx (jv_insR jm_64 dX12_falls_24) rfl
theorem e64_25 : jv_ev d 64 25 lc (.int w :: .int v :: st) h = if w ≤ v then jv_ev d 64 182 lc st h else jv_ev d 64 28 lc st h := jq_if (jv_insR jm_64 dX12_falls_25) rfl (by decide)
theorem e64_28 : jv_ev d 64 28 [x0, x1, x2, x3, x4, x5, x6, x7, some (.int v), x9, x10, x11, x12, x13] st h = jv_ev d 64 30 [x0, x1, x2, x3, x4, x5, x6, x7, some (.int v), x9, x10, x11, x12, x13] (.int v :: st) h := jq_nx (jv_insR jm_64 dX12_falls_28) rfl
theorem e64_30 : jv_ev d 64 30 lc (.int v :: st) h = if ¬ v = 0 then jv_ev d 64 182 lc st h else jv_ev d 64 33 lc st h := jq_if (jv_insR jm_64 dX12_falls_30) rfl (by decide)
theorem e64_33 : jv_ev d 64 33 [some (.ref a), x1, x2, x3, x4, x5, x6, x7, x8, x9, x10, x11, x12, x13] st h = jv_ev d 64 34 [some (.ref a), x1, x2, x3, x4, x5, x6, x7, x8, x9, x10, x11, x12, x13] (.ref a :: st) h := jq_nx (jv_insR jm_64 dX12_falls_33) rfl
theorem e64_34 : jv_ev d 64 34 [x0, some (.int v), x2, x3, x4, x5, x6, x7, x8, x9, x10, x11, x12, x13] st h = jv_ev d 64 35 [x0, some (.int v), x2, x3, x4, x5, x6, x7, x8, x9, x10, x11, x12, x13] (.int v :: st) h := jq_nx (jv_insR jm_64 dX12_falls_34) rfl
theorem e64_35 : jv_ev d 64 35 [x0, x1, x2, x3, x4, x5, x6, x7, x8, some (.int v), x10, x11, x12, x13] st h = jv_ev d 64 37 [x0, x1, x2, x3, x4, x5, x6, x7, x8, some (.int v), x10, x11, x12, x13] (.int v :: st) h := jq_nx (jv_insR jm_64 dX12_falls_35) rfl
theorem e64_37 : jv_ev d 64 37 [x0, x1, some (.int v), x3, x4, x5, x6, x7, x8, x9, x10, x11, x12, x13] st h = jv_ev d 64 38 [x0, x1, some (.int v), x3, x4, x5, x6, x7, x8, x9, x10, x11, x12, x13] (.int v :: st) h := jq_nx (jv_insR jm_64 dX12_falls_37) rfl
theorem e64_38 : jv_ev d 64 38 lc (.int w :: .int v :: st) h = if w = 0 then none else jv_ev d 64 39 lc (.int (v - v / w * w) :: st) h := jq_irem (jv_insR jm_64 dX12_falls_38)
theorem e64_39 : jv_ev d 64 39 [x0, x1, x2, x3, x4, x5, x6, some (.int v), x8, x9, x10, x11, x12, x13] st h = jv_ev d 64 41 [x0, x1, x2, x3, x4, x5, x6, some (.int v), x8, x9, x10, x11, x12, x13] (.int v :: st) h := jq_nx (jv_insR jm_64 dX12_falls_39) rfl
theorem e64_41 : jv_ev d 64 41 [x0, x1, x2, x3, x4, x5, x6, x7, x8, some (.int v), x10, x11, x12, x13] st h = jv_ev d 64 43 [x0, x1, x2, x3, x4, x5, x6, x7, x8, some (.int v), x10, x11, x12, x13] (.int v :: st) h := jq_nx (jv_insR jm_64 dX12_falls_41) rfl
theorem e64_43 : jv_ev d 64 43 [x0, x1, some (.int v), x3, x4, x5, x6, x7, x8, x9, x10, x11, x12, x13] st h = jv_ev d 64 44 [x0, x1, some (.int v), x3, x4, x5, x6, x7, x8, x9, x10, x11, x12, x13] (.int v :: st) h := jq_nx (jv_insR jm_64 dX12_falls_43) rfl
theorem e64_44 : jv_ev d 64 44 lc (.int w :: .int v :: st) h = if w = 0 then none else jv_ev d 64 45 lc (.int (v / w) :: st) h := jq_idiv (jv_insR jm_64 dX12_falls_44)
theorem e64_45 : jv_ev d 64 45 lc (.int w :: .int v :: st) h = jv_ev d 64 46 lc (.int (v + w) :: st) h := jq_nx (jv_insR jm_64 dX12_falls_45) rfl
theorem e64_46 : jv_ev d 64 46 lc [z2, z1, z0, .ref b] h = (jv_rc h b [(0, 55)]).bind fun y => (jv_cd d y [.ref b, z0, z1, z2] h).bind fun r => jv_on r (fun v h => jv_ev d 64 49 lc (v.toList ++ []) h) (fun q h => some (.inr q, h)) := jq_V (as := [z0, z1, z2]) (rest := []) (jv_insR jm_64 dX12_falls_46) jo_64 jV_1_356 rfl rfl rfl rfl
theorem e64_49 : jv_ev d 64 49 [x0, x1, x2, x3, x4, x5, x6, x7, x8, x9, x10, x11, x12, x13] (.int v :: st) h = jv_ev d 64 51 [x0, x1, x2, x3, x4, x5, x6, x7, x8, x9, some (.int v), x11, x12, x13] st h := jq_nx (jv_insR jm_64 dX12_falls_49) rfl
theorem e64_51 : jv_ev d 64 51 [x0, x1, x2, x3, x4, x5, x6, x7, x8, x9, some (.int v), x11, x12, x13] st h = jv_ev d 64 53 [x0, x1, x2, x3, x4, x5, x6, x7, x8, x9, some (.int v), x11, x12, x13] (.int v :: st) h := jq_nx (jv_insR jm_64 dX12_falls_51) rfl
theorem e64_53 : jv_ev d 64 53 [some (.ref a), x1, x2, x3, x4, x5, x6, x7, x8, x9, x10, x11, x12, x13] st h = jv_ev d 64 54 [some (.ref a), x1, x2, x3, x4, x5, x6, x7, x8, x9, x10, x11, x12, x13] (.ref a :: st) h := jq_nx (jv_insR jm_64 dX12_falls_53) rfl
theorem e64_54 : jv_ev d 64 54 lc (.ref a :: st) h = (jv_gf h a [(0, 51, .array .int)]).bind fun r => jv_ev d 64 57 lc (r :: st) h := jq_get (jv_insR jm_64 dX12_falls_54) jo_64 jF_1_119
theorem e64_57 : jv_ev d 64 57 lc st h = jv_ev d 64 59 lc (.int 88 :: st) h := jq_bipush (jv_insR jm_64 dX12_falls_57) (by decide)
theorem e64_59 : jv_ev d 64 59 lc (.int v :: .ref a :: st) h = (jv_ig h a 0 0 v).bind fun w => jv_ev d 64 60 lc (.int w :: st) h := jq_iald (jv_insR jm_64 dX12_falls_59)
theorem e64_60 : jv_ev d 64 60 lc (.int w :: .int v :: st) h = if v ≤ w then jv_ev d 64 67 lc st h else jv_ev d 64 63 lc st h := jq_if (jv_insR jm_64 dX12_falls_60) rfl (by decide)
theorem e64_63 : jv_ev d 64 63 lc st h = jv_ev d 64 64 lc (.int 1 :: st) h := jq_iconst (jv_insR jm_64 dX12_falls_63) (by decide)
theorem e64_64 : jv_ev d 64 64 lc st h = jv_ev d 64 68 lc st h := jq_go (jv_insR jm_64 dX12_falls_64) (by decide)
theorem e64_67 : jv_ev d 64 67 lc st h = jv_ev d 64 68 lc (.int 0 :: st) h := jq_iconst (jv_insR jm_64 dX12_falls_67) (by decide)
theorem e64_68 : jv_ev d 64 68 [x0, x1, x2, x3, x4, x5, x6, x7, x8, x9, x10, x11, x12, x13] (.int v :: st) h = jv_ev d 64 70 [x0, x1, x2, x3, x4, x5, x6, x7, some (.int v), x9, x10, x11, x12, x13] st h := jq_nx (jv_insR jm_64 dX12_falls_68) rfl
theorem e64_70 : jv_ev d 64 70 [x0, x1, x2, x3, x4, x5, x6, x7, some (.int v), x9, x10, x11, x12, x13] st h = jv_ev d 64 72 [x0, x1, x2, x3, x4, x5, x6, x7, some (.int v), x9, x10, x11, x12, x13] (.int v :: st) h := jq_nx (jv_insR jm_64 dX12_falls_70) rfl
theorem e64_72 : jv_ev d 64 72 lc (.int v :: st) h = if v = 0 then jv_ev d 64 78 lc st h else jv_ev d 64 75 lc st h := jq_if (jv_insR jm_64 dX12_falls_72) rfl (by decide)
theorem e64_75 : jv_ev d 64 75 lc st h = jv_ev d 64 176 lc st h := jq_go (jv_insR jm_64 dX12_falls_75) (by decide)
theorem e64_78 : jv_ev d 64 78 [some (.ref a), x1, x2, x3, x4, x5, x6, x7, x8, x9, x10, x11, x12, x13] st h = jv_ev d 64 79 [some (.ref a), x1, x2, x3, x4, x5, x6, x7, x8, x9, x10, x11, x12, x13] (.ref a :: st) h := jq_nx (jv_insR jm_64 dX12_falls_78) rfl
theorem e64_79 : jv_ev d 64 79 lc (.ref a :: st) h = (jv_gf h a [(0, 51, .array .int)]).bind fun r => jv_ev d 64 82 lc (r :: st) h := jq_get (jv_insR jm_64 dX12_falls_79) jo_64 jF_1_119
theorem e64_82 : jv_ev d 64 82 lc st h = jv_ev d 64 84 lc (.int 88 :: st) h := jq_bipush (jv_insR jm_64 dX12_falls_82) (by decide)
theorem e64_84 : jv_ev d 64 84 lc (.int v :: .ref b :: st) h = jv_ev d 64 85 lc (.int v :: .ref b :: .int v :: .ref b :: st) h := jq_nx (jv_insR jm_64 dX12_falls_84) rfl
theorem e64_85 : jv_ev d 64 85 lc (.int v :: .ref a :: st) h = (jv_ig h a 0 0 v).bind fun w => jv_ev d 64 86 lc (.int w :: st) h := jq_iald (jv_insR jm_64 dX12_falls_85)
theorem e64_86 : jv_ev d 64 86 [x0, x1, x2, x3, x4, x5, x6, x7, x8, x9, some (.int v), x11, x12, x13] st h = jv_ev d 64 88 [x0, x1, x2, x3, x4, x5, x6, x7, x8, x9, some (.int v), x11, x12, x13] (.int v :: st) h := jq_nx (jv_insR jm_64 dX12_falls_86) rfl
theorem e64_88 : jv_ev d 64 88 lc (.int w :: .int v :: st) h = jv_ev d 64 89 lc (.int (v - w) :: st) h := jq_nx (jv_insR jm_64 dX12_falls_88) rfl
theorem e64_89 : jv_ev d 64 89 lc (.int w :: .int v :: .ref a :: st) h = (jv_ip h a 0 0 v w).bind fun h => jv_ev d 64 90 lc st h := jq_iast (jv_insR jm_64 dX12_falls_89)
theorem e64_90 : jv_ev d 64 90 [x0, x1, x2, x3, x4, x5, some (.int v), x7, x8, x9, x10, x11, x12, x13] st h = jv_ev d 64 92 [x0, x1, x2, x3, x4, x5, some (.int v), x7, x8, x9, x10, x11, x12, x13] (.int v :: st) h := jq_nx (jv_insR jm_64 dX12_falls_90) rfl
theorem e64_92 : jv_ev d 64 92 [x0, x1, x2, x3, x4, x5, x6, x7, x8, x9, some (.int v), x11, x12, x13] st h = jv_ev d 64 94 [x0, x1, x2, x3, x4, x5, x6, x7, x8, x9, some (.int v), x11, x12, x13] (.int v :: st) h := jq_nx (jv_insR jm_64 dX12_falls_92) rfl
theorem e64_94 : jv_ev d 64 94 lc (.int w :: .int v :: st) h = jv_ev d 64 95 lc (.int (v + w) :: st) h := jq_nx (jv_insR jm_64 dX12_falls_94) rfl
theorem e64_95 : jv_ev d 64 95 [x0, x1, x2, x3, x4, x5, x6, x7, x8, x9, x10, x11, x12, x13] (.int v :: st) h = jv_ev d 64 97 [x0, x1, x2, x3, x4, x5, some (.int v), x7, x8, x9, x10, x11, x12, x13] st h := jq_nx (jv_insR jm_64 dX12_falls_95) rfl
theorem e64_97 : jv_ev d 64 97 [x0, x1, x2, x3, some (.int v), x5, x6, x7, x8, x9, x10, x11, x12, x13] st h = jv_ev d 64 99 [x0, x1, x2, x3, some (.int v), x5, x6, x7, x8, x9, x10, x11, x12, x13] (.int v :: st) h := jq_nx (jv_insR jm_64 dX12_falls_97) rfl
theorem e64_99 : jv_ev d 64 99 [x0, x1, x2, x3, x4, x5, x6, x7, x8, some (.int v), x10, x11, x12, x13] st h = jv_ev d 64 101 [x0, x1, x2, x3, x4, x5, x6, x7, x8, some (.int v), x10, x11, x12, x13] (.int v :: st) h := jq_nx (jv_insR jm_64 dX12_falls_99) rfl
theorem e64_101 : jv_ev d 64 101 [x0, x1, some (.int v), x3, x4, x5, x6, x7, x8, x9, x10, x11, x12, x13] st h = jv_ev d 64 102 [x0, x1, some (.int v), x3, x4, x5, x6, x7, x8, x9, x10, x11, x12, x13] (.int v :: st) h := jq_nx (jv_insR jm_64 dX12_falls_101) rfl
theorem e64_102 : jv_ev d 64 102 lc (.int w :: .int v :: st) h = if w = 0 then none else jv_ev d 64 103 lc (.int (v - v / w * w) :: st) h := jq_irem (jv_insR jm_64 dX12_falls_102)
theorem e64_103 : jv_ev d 64 103 lc (.int w :: .int v :: st) h = jv_ev d 64 104 lc (.int (v + w) :: st) h := jq_nx (jv_insR jm_64 dX12_falls_103) rfl
theorem e64_104 : jv_ev d 64 104 [x0, x1, x2, x3, x4, x5, x6, x7, x8, x9, x10, x11, x12, x13] (.int v :: st) h = jv_ev d 64 106 [x0, x1, x2, x3, x4, x5, x6, x7, x8, x9, x10, some (.int v), x12, x13] st h := jq_nx (jv_insR jm_64 dX12_falls_104) rfl
theorem e64_106 : jv_ev d 64 106 [x0, x1, x2, x3, x4, some (.int v), x6, x7, x8, x9, x10, x11, x12, x13] st h = jv_ev d 64 108 [x0, x1, x2, x3, x4, some (.int v), x6, x7, x8, x9, x10, x11, x12, x13] (.int v :: st) h := jq_nx (jv_insR jm_64 dX12_falls_106) rfl
theorem e64_108 : jv_ev d 64 108 [x0, x1, x2, x3, x4, x5, x6, x7, x8, some (.int v), x10, x11, x12, x13] st h = jv_ev d 64 110 [x0, x1, x2, x3, x4, x5, x6, x7, x8, some (.int v), x10, x11, x12, x13] (.int v :: st) h := jq_nx (jv_insR jm_64 dX12_falls_108) rfl
theorem e64_110 : jv_ev d 64 110 [x0, x1, some (.int v), x3, x4, x5, x6, x7, x8, x9, x10, x11, x12, x13] st h = jv_ev d 64 111 [x0, x1, some (.int v), x3, x4, x5, x6, x7, x8, x9, x10, x11, x12, x13] (.int v :: st) h := jq_nx (jv_insR jm_64 dX12_falls_110) rfl
theorem e64_111 : jv_ev d 64 111 lc (.int w :: .int v :: st) h = if w = 0 then none else jv_ev d 64 112 lc (.int (v / w) :: st) h := jq_idiv (jv_insR jm_64 dX12_falls_111)
theorem e64_112 : jv_ev d 64 112 lc (.int w :: .int v :: st) h = jv_ev d 64 113 lc (.int (v + w) :: st) h := jq_nx (jv_insR jm_64 dX12_falls_112) rfl
theorem e64_113 : jv_ev d 64 113 [x0, x1, x2, x3, x4, x5, x6, x7, x8, x9, x10, x11, x12, x13] (.int v :: st) h = jv_ev d 64 115 [x0, x1, x2, x3, x4, x5, x6, x7, x8, x9, x10, x11, some (.int v), x13] st h := jq_nx (jv_insR jm_64 dX12_falls_113) rfl
theorem e64_115 : jv_ev d 64 115 [some (.ref a), x1, x2, x3, x4, x5, x6, x7, x8, x9, x10, x11, x12, x13] st h = jv_ev d 64 116 [some (.ref a), x1, x2, x3, x4, x5, x6, x7, x8, x9, x10, x11, x12, x13] (.ref a :: st) h := jq_nx (jv_insR jm_64 dX12_falls_115) rfl
theorem e64_116 : jv_ev d 64 116 [x0, x1, x2, x3, x4, x5, x6, x7, x8, x9, x10, some (.int v), x12, x13] st h = jv_ev d 64 118 [x0, x1, x2, x3, x4, x5, x6, x7, x8, x9, x10, some (.int v), x12, x13] (.int v :: st) h := jq_nx (jv_insR jm_64 dX12_falls_116) rfl
theorem e64_118 : jv_ev d 64 118 [x0, x1, x2, x3, x4, x5, x6, x7, x8, x9, x10, x11, some (.int v), x13] st h = jv_ev d 64 120 [x0, x1, x2, x3, x4, x5, x6, x7, x8, x9, x10, x11, some (.int v), x13] (.int v :: st) h := jq_nx (jv_insR jm_64 dX12_falls_118) rfl
theorem e64_120 : jv_ev d 64 120 lc [z1, z0, .ref b] h = (jv_rc h b [(0, 39)]).bind fun y => (jv_cd d y [.ref b, z0, z1] h).bind fun r => jv_on r (fun v h => jv_ev d 64 123 lc (v.toList ++ []) h) (fun q h => some (.inr q, h)) := jq_V (as := [z0, z1]) (rest := []) (jv_insR jm_64 dX12_falls_120) jo_64 jV_1_343 rfl rfl rfl rfl
theorem e64_123 : jv_ev d 64 123 lc (.int v :: st) h = if ¬ v = 0 then jv_ev d 64 129 lc st h else jv_ev d 64 126 lc st h := jq_if (jv_insR jm_64 dX12_falls_123) rfl (by decide)
theorem e64_126 : jv_ev d 64 126 lc st h = jv_ev d 64 176 lc st h := jq_go (jv_insR jm_64 dX12_falls_126) (by decide)
theorem e64_129 : jv_ev d 64 129 [some (.ref a), x1, x2, x3, x4, x5, x6, x7, x8, x9, x10, x11, x12, x13] st h = jv_ev d 64 130 [some (.ref a), x1, x2, x3, x4, x5, x6, x7, x8, x9, x10, x11, x12, x13] (.ref a :: st) h := jq_nx (jv_insR jm_64 dX12_falls_129) rfl
theorem e64_130 : jv_ev d 64 130 lc (.ref a :: st) h = (jv_gf h a [(0, 51, .array .int)]).bind fun r => jv_ev d 64 133 lc (r :: st) h := jq_get (jv_insR jm_64 dX12_falls_130) jo_64 jF_1_119
theorem e64_133 : jv_ev d 64 133 lc st h = jv_ev d 64 135 lc (.int 8 :: st) h := jq_bipush (jv_insR jm_64 dX12_falls_133) (by decide)
theorem e64_135 : jv_ev d 64 135 [x0, x1, x2, x3, x4, x5, x6, x7, x8, x9, x10, x11, some (.int v), x13] st h = jv_ev d 64 137 [x0, x1, x2, x3, x4, x5, x6, x7, x8, x9, x10, x11, some (.int v), x13] (.int v :: st) h := jq_nx (jv_insR jm_64 dX12_falls_135) rfl
theorem e64_137 : jv_ev d 64 137 lc (.int w :: .int v :: st) h = jv_ev d 64 138 lc (.int (v * w) :: st) h := jq_nx (jv_insR jm_64 dX12_falls_137) rfl
theorem e64_138 : jv_ev d 64 138 [x0, x1, x2, x3, x4, x5, x6, x7, x8, x9, x10, some (.int v), x12, x13] st h = jv_ev d 64 140 [x0, x1, x2, x3, x4, x5, x6, x7, x8, x9, x10, some (.int v), x12, x13] (.int v :: st) h := jq_nx (jv_insR jm_64 dX12_falls_138) rfl
theorem e64_140 : jv_ev d 64 140 lc (.int w :: .int v :: st) h = jv_ev d 64 141 lc (.int (v + w) :: st) h := jq_nx (jv_insR jm_64 dX12_falls_140) rfl
theorem e64_141 : jv_ev d 64 141 lc (.int v :: .ref a :: st) h = (jv_ig h a 0 0 v).bind fun w => jv_ev d 64 142 lc (.int w :: st) h := jq_iald (jv_insR jm_64 dX12_falls_141)
theorem e64_142 : jv_ev d 64 142 [x0, x1, x2, x3, x4, x5, x6, x7, x8, x9, some (.int v), x11, x12, x13] st h = jv_ev d 64 144 [x0, x1, x2, x3, x4, x5, x6, x7, x8, x9, some (.int v), x11, x12, x13] (.int v :: st) h := jq_nx (jv_insR jm_64 dX12_falls_142) rfl
theorem e64_144 : jv_ev d 64 144 lc (.int w :: .int v :: st) h = jv_ev d 64 145 lc (.int (v + w) :: st) h := jq_nx (jv_insR jm_64 dX12_falls_144) rfl
theorem e64_145 : jv_ev d 64 145 [x0, x1, x2, x3, x4, x5, x6, x7, x8, x9, x10, x11, x12, x13] (.int v :: st) h = jv_ev d 64 147 [x0, x1, x2, x3, x4, x5, x6, x7, x8, x9, x10, x11, x12, some (.int v)] st h := jq_nx (jv_insR jm_64 dX12_falls_145) rfl
theorem e64_147 : jv_ev d 64 147 [some (.ref a), x1, x2, x3, x4, x5, x6, x7, x8, x9, x10, x11, x12, x13] st h = jv_ev d 64 148 [some (.ref a), x1, x2, x3, x4, x5, x6, x7, x8, x9, x10, x11, x12, x13] (.ref a :: st) h := jq_nx (jv_insR jm_64 dX12_falls_147) rfl
theorem e64_148 : jv_ev d 64 148 lc (.ref a :: st) h = (jv_gf h a [(0, 51, .array .int)]).bind fun r => jv_ev d 64 151 lc (r :: st) h := jq_get (jv_insR jm_64 dX12_falls_148) jo_64 jF_1_119
theorem e64_151 : jv_ev d 64 151 lc st h = jv_ev d 64 153 lc (.int 8 :: st) h := jq_bipush (jv_insR jm_64 dX12_falls_151) (by decide)
theorem e64_153 : jv_ev d 64 153 [x0, x1, x2, x3, x4, x5, x6, x7, x8, x9, x10, x11, some (.int v), x13] st h = jv_ev d 64 155 [x0, x1, x2, x3, x4, x5, x6, x7, x8, x9, x10, x11, some (.int v), x13] (.int v :: st) h := jq_nx (jv_insR jm_64 dX12_falls_153) rfl
theorem e64_155 : jv_ev d 64 155 lc (.int w :: .int v :: st) h = jv_ev d 64 156 lc (.int (v * w) :: st) h := jq_nx (jv_insR jm_64 dX12_falls_155) rfl
theorem e64_156 : jv_ev d 64 156 [x0, x1, x2, x3, x4, x5, x6, x7, x8, x9, x10, some (.int v), x12, x13] st h = jv_ev d 64 158 [x0, x1, x2, x3, x4, x5, x6, x7, x8, x9, x10, some (.int v), x12, x13] (.int v :: st) h := jq_nx (jv_insR jm_64 dX12_falls_156) rfl
theorem e64_158 : jv_ev d 64 158 lc (.int w :: .int v :: st) h = jv_ev d 64 159 lc (.int (v + w) :: st) h := jq_nx (jv_insR jm_64 dX12_falls_158) rfl
theorem e64_159 : jv_ev d 64 159 [x0, x1, x2, x3, x4, x5, x6, x7, x8, x9, x10, x11, x12, some (.int v)] st h = jv_ev d 64 161 [x0, x1, x2, x3, x4, x5, x6, x7, x8, x9, x10, x11, x12, some (.int v)] (.int v :: st) h := jq_nx (jv_insR jm_64 dX12_falls_159) rfl
theorem e64_161 : jv_ev d 64 161 lc st h = jv_ev d 64 164 lc (.int 999 :: st) h := jq_sipush (jv_insR jm_64 dX12_falls_161) (by decide)
theorem e64_164 : jv_ev d 64 164 lc (.int w :: .int v :: st) h = if v ≤ w then jv_ev d 64 173 lc st h else jv_ev d 64 167 lc st h := jq_if (jv_insR jm_64 dX12_falls_164) rfl (by decide)
theorem e64_167 : jv_ev d 64 167 lc st h = jv_ev d 64 170 lc (.int 999 :: st) h := jq_sipush (jv_insR jm_64 dX12_falls_167) (by decide)
theorem e64_170 : jv_ev d 64 170 lc st h = jv_ev d 64 175 lc st h := jq_go (jv_insR jm_64 dX12_falls_170) (by decide)
theorem e64_173 : jv_ev d 64 173 [x0, x1, x2, x3, x4, x5, x6, x7, x8, x9, x10, x11, x12, some (.int v)] st h = jv_ev d 64 175 [x0, x1, x2, x3, x4, x5, x6, x7, x8, x9, x10, x11, x12, some (.int v)] (.int v :: st) h := jq_nx (jv_insR jm_64 dX12_falls_173) rfl
theorem e64_175 : jv_ev d 64 175 lc (.int w :: .int v :: .ref a :: st) h = (jv_ip h a 0 0 v w).bind fun h => jv_ev d 64 176 lc st h := jq_iast (jv_insR jm_64 dX12_falls_175)
theorem e64_176 : jv_ev d 64 176 [x0, x1, x2, x3, x4, x5, x6, x7, x8, some (.int v), x10, x11, x12, x13] st h = jv_ev d 64 179 [x0, x1, x2, x3, x4, x5, x6, x7, x8, some (.int (v + 1)), x10, x11, x12, x13] st h := jq_nx (jv_insR jm_64 dX12_falls_176) rfl
theorem e64_179 : jv_ev d 64 179 lc st h = jv_ev d 64 20 lc st h := jq_go (jv_insR jm_64 dX12_falls_179) (by decide)
theorem e64_182 : jv_ev d 64 182 [some (.ref a), x1, x2, x3, x4, x5, x6, x7, x8, x9, x10, x11, x12, x13] st h = jv_ev d 64 183 [some (.ref a), x1, x2, x3, x4, x5, x6, x7, x8, x9, x10, x11, x12, x13] (.ref a :: st) h := jq_nx (jv_insR jm_64 dX12_falls_182) rfl
theorem e64_183 : jv_ev d 64 183 lc (.ref a :: st) h = (jv_gf h a [(0, 51, .array .int)]).bind fun r => jv_ev d 64 186 lc (r :: st) h := jq_get (jv_insR jm_64 dX12_falls_183) jo_64 jF_1_119
theorem e64_186 : jv_ev d 64 186 lc st h = jv_ev d 64 188 lc (.int 48 :: st) h := jq_bipush (jv_insR jm_64 dX12_falls_186) (by decide)
theorem e64_188 : jv_ev d 64 188 [x0, some (.int v), x2, x3, x4, x5, x6, x7, x8, x9, x10, x11, x12, x13] st h = jv_ev d 64 189 [x0, some (.int v), x2, x3, x4, x5, x6, x7, x8, x9, x10, x11, x12, x13] (.int v :: st) h := jq_nx (jv_insR jm_64 dX12_falls_188) rfl
theorem e64_189 : jv_ev d 64 189 lc (.int w :: .int v :: st) h = jv_ev d 64 190 lc (.int (v + w) :: st) h := jq_nx (jv_insR jm_64 dX12_falls_189) rfl
theorem e64_190 : jv_ev d 64 190 [x0, x1, x2, x3, x4, x5, x6, some (.int v), x8, x9, x10, x11, x12, x13] st h = jv_ev d 64 192 [x0, x1, x2, x3, x4, x5, x6, some (.int v), x8, x9, x10, x11, x12, x13] (.int v :: st) h := jq_nx (jv_insR jm_64 dX12_falls_190) rfl
theorem e64_192 : jv_ev d 64 192 [x0, x1, x2, some (.int v), x4, x5, x6, x7, x8, x9, x10, x11, x12, x13] st h = jv_ev d 64 193 [x0, x1, x2, some (.int v), x4, x5, x6, x7, x8, x9, x10, x11, x12, x13] (.int v :: st) h := jq_nx (jv_insR jm_64 dX12_falls_192) rfl
theorem e64_193 : jv_ev d 64 193 lc (.int w :: .int v :: st) h = jv_ev d 64 194 lc (.int (v + w) :: st) h := jq_nx (jv_insR jm_64 dX12_falls_193) rfl
theorem e64_194 : jv_ev d 64 194 lc (.int w :: .int v :: .ref a :: st) h = (jv_ip h a 0 0 v w).bind fun h => jv_ev d 64 195 lc st h := jq_iast (jv_insR jm_64 dX12_falls_194)
theorem e64_195 : jv_ev d 64 195 [some (.ref a), x1, x2, x3, x4, x5, x6, x7, x8, x9, x10, x11, x12, x13] st h = jv_ev d 64 196 [some (.ref a), x1, x2, x3, x4, x5, x6, x7, x8, x9, x10, x11, x12, x13] (.ref a :: st) h := jq_nx (jv_insR jm_64 dX12_falls_195) rfl
theorem e64_196 : jv_ev d 64 196 lc (.ref a :: st) h = (jv_gf h a [(0, 51, .array .int)]).bind fun r => jv_ev d 64 199 lc (r :: st) h := jq_get (jv_insR jm_64 dX12_falls_196) jo_64 jF_1_119
theorem e64_199 : jv_ev d 64 199 lc st h = jv_ev d 64 201 lc (.int 68 :: st) h := jq_bipush (jv_insR jm_64 dX12_falls_199) (by decide)
theorem e64_201 : jv_ev d 64 201 [x0, some (.int v), x2, x3, x4, x5, x6, x7, x8, x9, x10, x11, x12, x13] st h = jv_ev d 64 202 [x0, some (.int v), x2, x3, x4, x5, x6, x7, x8, x9, x10, x11, x12, x13] (.int v :: st) h := jq_nx (jv_insR jm_64 dX12_falls_201) rfl
theorem e64_202 : jv_ev d 64 202 lc (.int w :: .int v :: st) h = jv_ev d 64 203 lc (.int (v + w) :: st) h := jq_nx (jv_insR jm_64 dX12_falls_202) rfl
theorem e64_203 : jv_ev d 64 203 lc (.int v :: .ref b :: st) h = jv_ev d 64 204 lc (.int v :: .ref b :: .int v :: .ref b :: st) h := jq_nx (jv_insR jm_64 dX12_falls_203) rfl
theorem e64_204 : jv_ev d 64 204 lc (.int v :: .ref a :: st) h = (jv_ig h a 0 0 v).bind fun w => jv_ev d 64 205 lc (.int w :: st) h := jq_iald (jv_insR jm_64 dX12_falls_204)
theorem e64_205 : jv_ev d 64 205 [x0, x1, x2, x3, x4, x5, some (.int v), x7, x8, x9, x10, x11, x12, x13] st h = jv_ev d 64 207 [x0, x1, x2, x3, x4, x5, some (.int v), x7, x8, x9, x10, x11, x12, x13] (.int v :: st) h := jq_nx (jv_insR jm_64 dX12_falls_205) rfl
theorem e64_207 : jv_ev d 64 207 lc (.int w :: .int v :: st) h = jv_ev d 64 208 lc (.int (v + w) :: st) h := jq_nx (jv_insR jm_64 dX12_falls_207) rfl
theorem e64_208 : jv_ev d 64 208 lc (.int w :: .int v :: .ref a :: st) h = (jv_ip h a 0 0 v w).bind fun h => jv_ev d 64 209 lc st h := jq_iast (jv_insR jm_64 dX12_falls_208)
theorem e64_209 : jv_ev d 64 209 [x0, x1, x2, x3, x4, x5, x6, x7, some (.int v), x9, x10, x11, x12, x13] st h = jv_ev d 64 211 [x0, x1, x2, x3, x4, x5, x6, x7, some (.int v), x9, x10, x11, x12, x13] (.int v :: st) h := jq_nx (jv_insR jm_64 dX12_falls_209) rfl
theorem e64_211 : jv_ev d 64 211 lc (.int v :: st) h = if v = 0 then jv_ev d 64 227 lc st h else jv_ev d 64 214 lc st h := jq_if (jv_insR jm_64 dX12_falls_211) rfl (by decide)
theorem e64_214 : jv_ev d 64 214 [some (.ref a), x1, x2, x3, x4, x5, x6, x7, x8, x9, x10, x11, x12, x13] st h = jv_ev d 64 215 [some (.ref a), x1, x2, x3, x4, x5, x6, x7, x8, x9, x10, x11, x12, x13] (.ref a :: st) h := jq_nx (jv_insR jm_64 dX12_falls_214) rfl
theorem e64_215 : jv_ev d 64 215 lc (.ref a :: st) h = (jv_gf h a [(0, 51, .array .int)]).bind fun r => jv_ev d 64 218 lc (r :: st) h := jq_get (jv_insR jm_64 dX12_falls_215) jo_64 jF_1_119
theorem e64_218 : jv_ev d 64 218 lc st h = jv_ev d 64 220 lc (.int 72 :: st) h := jq_bipush (jv_insR jm_64 dX12_falls_218) (by decide)
theorem e64_220 : jv_ev d 64 220 [x0, some (.int v), x2, x3, x4, x5, x6, x7, x8, x9, x10, x11, x12, x13] st h = jv_ev d 64 221 [x0, some (.int v), x2, x3, x4, x5, x6, x7, x8, x9, x10, x11, x12, x13] (.int v :: st) h := jq_nx (jv_insR jm_64 dX12_falls_220) rfl
theorem e64_221 : jv_ev d 64 221 lc (.int w :: .int v :: st) h = jv_ev d 64 222 lc (.int (v + w) :: st) h := jq_nx (jv_insR jm_64 dX12_falls_221) rfl
theorem e64_222 : jv_ev d 64 222 lc (.int v :: .ref b :: st) h = jv_ev d 64 223 lc (.int v :: .ref b :: .int v :: .ref b :: st) h := jq_nx (jv_insR jm_64 dX12_falls_222) rfl
theorem e64_223 : jv_ev d 64 223 lc (.int v :: .ref a :: st) h = (jv_ig h a 0 0 v).bind fun w => jv_ev d 64 224 lc (.int w :: st) h := jq_iald (jv_insR jm_64 dX12_falls_223)
theorem e64_224 : jv_ev d 64 224 lc st h = jv_ev d 64 225 lc (.int 1 :: st) h := jq_iconst (jv_insR jm_64 dX12_falls_224) (by decide)
theorem e64_225 : jv_ev d 64 225 lc (.int w :: .int v :: st) h = jv_ev d 64 226 lc (.int (v + w) :: st) h := jq_nx (jv_insR jm_64 dX12_falls_225) rfl
theorem e64_226 : jv_ev d 64 226 lc (.int w :: .int v :: .ref a :: st) h = (jv_ip h a 0 0 v w).bind fun h => jv_ev d 64 227 lc st h := jq_iast (jv_insR jm_64 dX12_falls_226)
theorem e64_227 : jv_ev d 64 227 [some (.ref a), x1, x2, x3, x4, x5, x6, x7, x8, x9, x10, x11, x12, x13] st h = jv_ev d 64 228 [some (.ref a), x1, x2, x3, x4, x5, x6, x7, x8, x9, x10, x11, x12, x13] (.ref a :: st) h := jq_nx (jv_insR jm_64 dX12_falls_227) rfl
theorem e64_228 : jv_ev d 64 228 lc (.ref a :: st) h = (jv_gf h a [(0, 51, .array .int)]).bind fun r => jv_ev d 64 231 lc (r :: st) h := jq_get (jv_insR jm_64 dX12_falls_228) jo_64 jF_1_119
theorem e64_231 : jv_ev d 64 231 lc st h = jv_ev d 64 233 lc (.int 90 :: st) h := jq_bipush (jv_insR jm_64 dX12_falls_231) (by decide)
theorem e64_233 : jv_ev d 64 233 lc (.int v :: .ref b :: st) h = jv_ev d 64 234 lc (.int v :: .ref b :: .int v :: .ref b :: st) h := jq_nx (jv_insR jm_64 dX12_falls_233) rfl
theorem e64_234 : jv_ev d 64 234 lc (.int v :: .ref a :: st) h = (jv_ig h a 0 0 v).bind fun w => jv_ev d 64 235 lc (.int w :: st) h := jq_iald (jv_insR jm_64 dX12_falls_234)
theorem e64_235 : jv_ev d 64 235 [x0, x1, x2, x3, x4, x5, some (.int v), x7, x8, x9, x10, x11, x12, x13] st h = jv_ev d 64 237 [x0, x1, x2, x3, x4, x5, some (.int v), x7, x8, x9, x10, x11, x12, x13] (.int v :: st) h := jq_nx (jv_insR jm_64 dX12_falls_235) rfl
theorem e64_237 : jv_ev d 64 237 lc (.int w :: .int v :: st) h = jv_ev d 64 238 lc (.int (v + w) :: st) h := jq_nx (jv_insR jm_64 dX12_falls_237) rfl
theorem e64_238 : jv_ev d 64 238 lc (.int w :: .int v :: .ref a :: st) h = (jv_ip h a 0 0 v w).bind fun h => jv_ev d 64 239 lc st h := jq_iast (jv_insR jm_64 dX12_falls_238)
theorem e64_239 : jv_ev d 64 239 [x0, x1, x2, x3, x4, x5, some (.int v), x7, x8, x9, x10, x11, x12, x13] st h = jv_ev d 64 241 [x0, x1, x2, x3, x4, x5, some (.int v), x7, x8, x9, x10, x11, x12, x13] (.int v :: st) h := jq_nx (jv_insR jm_64 dX12_falls_239) rfl
theorem e64_241 : jv_ev d 64 241 lc [.int v] h = some (.inl (some (.int v)), h) := jq_reti (jv_insR jm_64 dX12_falls_241) jr_64
/-! 65: RainLoomModel.turn(II)I -/
theorem n65 : jv_cd (d + 1) 65 [.ref a0, .int i1, .int i2] h = jv_ev d 65 0 [some (.ref a0), some (.int i1), some (.int i2)] [] h := rfl
theorem e65_0 : jv_ev d 65 0 [some (.ref a), x1, x2] st h = jv_ev d 65 1 [some (.ref a), x1, x2] (.ref a :: st) h := jq_nx (jv_insR jm_65 dX12_turn_0) rfl
theorem e65_1 : jv_ev d 65 1 [x0, some (.int v), x2] st h = jv_ev d 65 2 [x0, some (.int v), x2] (.int v :: st) h := jq_nx (jv_insR jm_65 dX12_turn_1) rfl
theorem e65_2 : jv_ev d 65 2 lc [z0, .ref b] h = (jv_rc h b [(0, 53)]).bind fun y => (jv_cd d y [.ref b, z0] h).bind fun r => jv_on r (fun v h => jv_ev d 65 5 lc (v.toList ++ []) h) (fun q h => some (.inr q, h)) := jq_V (as := [z0]) (rest := []) (jv_insR jm_65 dX12_turn_2) jo_65 jV_1_393 rfl rfl rfl rfl
theorem e65_5 : jv_ev d 65 5 lc (.int v :: st) h = if v = 0 then jv_ev d 65 18 lc st h else jv_ev d 65 8 lc st h := jq_if (jv_insR jm_65 dX12_turn_5) rfl (by decide)
theorem e65_8 : jv_ev d 65 8 [x0, x1, some (.int v)] st h = jv_ev d 65 9 [x0, x1, some (.int v)] (.int v :: st) h := jq_nx (jv_insR jm_65 dX12_turn_8) rfl
theorem e65_9 : jv_ev d 65 9 lc st h = jv_ev d 65 10 lc (.int 1 :: st) h := jq_iconst (jv_insR jm_65 dX12_turn_9) (by decide)
theorem e65_10 : jv_ev d 65 10 lc st h = jv_ev d 65 12 lc (.int 99 :: st) h := jq_bipush (jv_insR jm_65 dX12_turn_10) (by decide)
theorem e65_12 : jv_ev d 65 12 lc [z2, z1, z0] h = (jv_cd d 40 [z0, z1, z2] h).bind fun r => jv_on r (fun v h => jv_ev d 65 15 lc (v.toList ++ []) h) (fun q h => some (.inr q, h)) := jq_S (as := [z0, z1, z2]) (rest := []) (jv_insR jm_65 dX12_turn_12) jo_65 jT_1_323 rfl rfl rfl rfl
theorem e65_15 : jv_ev d 65 15 lc (.int v :: st) h = if ¬ v = 0 then jv_ev d 65 20 lc st h else jv_ev d 65 18 lc st h := jq_if (jv_insR jm_65 dX12_turn_15) rfl (by decide)
theorem e65_18 : jv_ev d 65 18 lc st h = jv_ev d 65 19 lc (.int (-1) :: st) h := jq_iconst (jv_insR jm_65 dX12_turn_18) (by decide)
theorem e65_19 : jv_ev d 65 19 lc [.int v] h = some (.inl (some (.int v)), h) := jq_reti (jv_insR jm_65 dX12_turn_19) jr_65
theorem e65_20 : jv_ev d 65 20 [some (.ref a), x1, x2] st h = jv_ev d 65 21 [some (.ref a), x1, x2] (.ref a :: st) h := jq_nx (jv_insR jm_65 dX12_turn_20) rfl
theorem e65_21 : jv_ev d 65 21 lc [.ref b] h = (jv_rc h b [(0, 41)]).bind fun y => (jv_cd d y [.ref b] h).bind fun r => jv_on r (fun v h => jv_ev d 65 24 lc (v.toList ++ []) h) (fun q h => some (.inr q, h)) := jq_V (as := []) (rest := []) (jv_insR jm_65 dX12_turn_21) jo_65 jV_1_381 rfl rfl rfl rfl
theorem e65_24 : jv_ev d 65 24 [some (.ref a), x1, x2] st h = jv_ev d 65 25 [some (.ref a), x1, x2] (.ref a :: st) h := jq_nx (jv_insR jm_65 dX12_turn_24) rfl
theorem e65_25 : jv_ev d 65 25 lc (.ref a :: st) h = (jv_gf h a [(0, 51, .array .int)]).bind fun r => jv_ev d 65 28 lc (r :: st) h := jq_get (jv_insR jm_65 dX12_turn_25) jo_65 jF_1_119
theorem e65_28 : jv_ev d 65 28 lc st h = jv_ev d 65 30 lc (.int 48 :: st) h := jq_bipush (jv_insR jm_65 dX12_turn_28) (by decide)
theorem e65_30 : jv_ev d 65 30 [x0, some (.int v), x2] st h = jv_ev d 65 31 [x0, some (.int v), x2] (.int v :: st) h := jq_nx (jv_insR jm_65 dX12_turn_30) rfl
theorem e65_31 : jv_ev d 65 31 lc (.int w :: .int v :: st) h = jv_ev d 65 32 lc (.int (v + w) :: st) h := jq_nx (jv_insR jm_65 dX12_turn_31) rfl
theorem e65_32 : jv_ev d 65 32 lc (.int v :: .ref b :: st) h = jv_ev d 65 33 lc (.int v :: .ref b :: .int v :: .ref b :: st) h := jq_nx (jv_insR jm_65 dX12_turn_32) rfl
theorem e65_33 : jv_ev d 65 33 lc (.int v :: .ref a :: st) h = (jv_ig h a 0 0 v).bind fun w => jv_ev d 65 34 lc (.int w :: st) h := jq_iald (jv_insR jm_65 dX12_turn_33)
theorem e65_34 : jv_ev d 65 34 [x0, x1, some (.int v)] st h = jv_ev d 65 35 [x0, x1, some (.int v)] (.int v :: st) h := jq_nx (jv_insR jm_65 dX12_turn_34) rfl
theorem e65_35 : jv_ev d 65 35 lc (.int w :: .int v :: st) h = jv_ev d 65 36 lc (.int (v + w) :: st) h := jq_nx (jv_insR jm_65 dX12_turn_35) rfl
theorem e65_36 : jv_ev d 65 36 lc (.int w :: .int v :: .ref a :: st) h = (jv_ip h a 0 0 v w).bind fun h => jv_ev d 65 37 lc st h := jq_iast (jv_insR jm_65 dX12_turn_36)
theorem e65_37 : jv_ev d 65 37 [some (.ref a), x1, x2] st h = jv_ev d 65 38 [some (.ref a), x1, x2] (.ref a :: st) h := jq_nx (jv_insR jm_65 dX12_turn_37) rfl
theorem e65_38 : jv_ev d 65 38 lc [.ref b] h = (jv_rc h b [(0, 61)]).bind fun y => (jv_cd d y [.ref b] h).bind fun r => jv_on r (fun v h => jv_ev d 65 41 lc (v.toList ++ []) h) (fun q h => some (.inr q, h)) := jq_V (as := []) (rest := []) (jv_insR jm_65 dX12_turn_38) jo_65 jV_1_399 rfl rfl rfl rfl
theorem e65_41 : jv_ev d 65 41 [some (.ref a), x1, x2] st h = jv_ev d 65 42 [some (.ref a), x1, x2] (.ref a :: st) h := jq_nx (jv_insR jm_65 dX12_turn_41) rfl
theorem e65_42 : jv_ev d 65 42 lc (.ref a :: st) h = (jv_gf h a [(0, 50, .array .int)]).bind fun r => jv_ev d 65 45 lc (r :: st) h := jq_get (jv_insR jm_65 dX12_turn_42) jo_65 jF_1_116
theorem e65_45 : jv_ev d 65 45 lc st h = jv_ev d 65 47 lc (.int 48 :: st) h := jq_bipush (jv_insR jm_65 dX12_turn_45) (by decide)
theorem e65_47 : jv_ev d 65 47 [x0, some (.int v), x2] st h = jv_ev d 65 48 [x0, some (.int v), x2] (.int v :: st) h := jq_nx (jv_insR jm_65 dX12_turn_47) rfl
theorem e65_48 : jv_ev d 65 48 lc (.int w :: .int v :: st) h = jv_ev d 65 49 lc (.int (v + w) :: st) h := jq_nx (jv_insR jm_65 dX12_turn_48) rfl
theorem e65_49 : jv_ev d 65 49 lc (.int v :: .ref a :: st) h = (jv_ig h a 0 0 v).bind fun w => jv_ev d 65 50 lc (.int w :: st) h := jq_iald (jv_insR jm_65 dX12_turn_49)
theorem e65_50 : jv_ev d 65 50 lc [.int v] h = some (.inl (some (.int v)), h) := jq_reti (jv_insR jm_65 dX12_turn_50) jr_65
/-! 66: RainLoomModel.days(I)I -/
theorem n66 : jv_cd (d + 1) 66 [.ref a0, .int i1] h = jv_ev d 66 0 [some (.ref a0), some (.int i1)] [] h := rfl
theorem e66_0 : jv_ev d 66 0 [x0, some (.int v)] st h = jv_ev d 66 1 [x0, some (.int v)] (.int v :: st) h := jq_nx (jv_insR jm_66 dX12_days_0) rfl
theorem e66_1 : jv_ev d 66 1 lc st h = jv_ev d 66 2 lc (.int 0 :: st) h := jq_iconst (jv_insR jm_66 dX12_days_1) (by decide)
theorem e66_2 : jv_ev d 66 2 lc st h = jv_ev d 66 4 lc (.int 30 :: st) h := jq_bipush (jv_insR jm_66 dX12_days_2) (by decide)
theorem e66_4 : jv_ev d 66 4 lc [z2, z1, z0] h = (jv_cd d 40 [z0, z1, z2] h).bind fun r => jv_on r (fun v h => jv_ev d 66 7 lc (v.toList ++ []) h) (fun q h => some (.inr q, h)) := jq_S (as := [z0, z1, z2]) (rest := []) (jv_insR jm_66 dX12_days_4) jo_66 jT_1_323 rfl rfl rfl rfl
theorem e66_7 : jv_ev d 66 7 lc (.int v :: st) h = if ¬ v = 0 then jv_ev d 66 12 lc st h else jv_ev d 66 10 lc st h := jq_if (jv_insR jm_66 dX12_days_7) rfl (by decide)
theorem e66_10 : jv_ev d 66 10 lc st h = jv_ev d 66 11 lc (.int (-1) :: st) h := jq_iconst (jv_insR jm_66 dX12_days_10) (by decide)
theorem e66_11 : jv_ev d 66 11 lc [.int v] h = some (.inl (some (.int v)), h) := jq_reti (jv_insR jm_66 dX12_days_11) jr_66
theorem e66_12 : jv_ev d 66 12 [x0, some (.int v)] st h = jv_ev d 66 13 [x0, some (.int v)] (.int v :: st) h := jq_nx (jv_insR jm_66 dX12_days_12) rfl
theorem e66_13 : jv_ev d 66 13 lc (.int v :: st) h = if ¬ v = 0 then jv_ev d 66 24 lc st h else jv_ev d 66 16 lc st h := jq_if (jv_insR jm_66 dX12_days_13) rfl (by decide)
theorem e66_16 : jv_ev d 66 16 [some (.ref a), x1] st h = jv_ev d 66 17 [some (.ref a), x1] (.ref a :: st) h := jq_nx (jv_insR jm_66 dX12_days_16) rfl
theorem e66_17 : jv_ev d 66 17 lc (.ref a :: st) h = (jv_gf h a [(0, 50, .array .int)]).bind fun r => jv_ev d 66 20 lc (r :: st) h := jq_get (jv_insR jm_66 dX12_days_17) jo_66 jF_1_116
theorem e66_20 : jv_ev d 66 20 lc st h = jv_ev d 66 22 lc (.int 89 :: st) h := jq_bipush (jv_insR jm_66 dX12_days_20) (by decide)
theorem e66_22 : jv_ev d 66 22 lc (.int v :: .ref a :: st) h = (jv_ig h a 0 0 v).bind fun w => jv_ev d 66 23 lc (.int w :: st) h := jq_iald (jv_insR jm_66 dX12_days_22)
theorem e66_23 : jv_ev d 66 23 lc [.int v] h = some (.inl (some (.int v)), h) := jq_reti (jv_insR jm_66 dX12_days_23) jr_66
theorem e66_24 : jv_ev d 66 24 [some (.ref a), x1] st h = jv_ev d 66 25 [some (.ref a), x1] (.ref a :: st) h := jq_nx (jv_insR jm_66 dX12_days_24) rfl
theorem e66_25 : jv_ev d 66 25 lc [.ref b] h = (jv_rc h b [(0, 41)]).bind fun y => (jv_cd d y [.ref b] h).bind fun r => jv_on r (fun v h => jv_ev d 66 28 lc (v.toList ++ []) h) (fun q h => some (.inr q, h)) := jq_V (as := []) (rest := []) (jv_insR jm_66 dX12_days_25) jo_66 jV_1_381 rfl rfl rfl rfl
theorem e66_28 : jv_ev d 66 28 [some (.ref a), x1] st h = jv_ev d 66 29 [some (.ref a), x1] (.ref a :: st) h := jq_nx (jv_insR jm_66 dX12_days_28) rfl
theorem e66_29 : jv_ev d 66 29 [x0, some (.int v)] st h = jv_ev d 66 30 [x0, some (.int v)] (.int v :: st) h := jq_nx (jv_insR jm_66 dX12_days_29) rfl
theorem e66_30 : jv_ev d 66 30 lc [z0, .ref b] h = (jv_rc h b [(0, 67)]).bind fun y => (jv_cd d y [.ref b, z0] h).bind fun r => jv_on r (fun v h => jv_ev d 66 33 lc (v.toList ++ []) h) (fun q h => some (.inr q, h)) := jq_V (as := [z0]) (rest := []) (jv_insR jm_66 dX12_days_30) jo_66 jV_1_402 rfl rfl rfl rfl
theorem e66_33 : jv_ev d 66 33 [some (.ref a), x1] st h = jv_ev d 66 34 [some (.ref a), x1] (.ref a :: st) h := jq_nx (jv_insR jm_66 dX12_days_33) rfl
theorem e66_34 : jv_ev d 66 34 lc [.ref b] h = (jv_rc h b [(0, 61)]).bind fun y => (jv_cd d y [.ref b] h).bind fun r => jv_on r (fun v h => jv_ev d 66 37 lc (v.toList ++ []) h) (fun q h => some (.inr q, h)) := jq_V (as := []) (rest := []) (jv_insR jm_66 dX12_days_34) jo_66 jV_1_399 rfl rfl rfl rfl
theorem e66_37 : jv_ev d 66 37 [some (.ref a), x1] st h = jv_ev d 66 38 [some (.ref a), x1] (.ref a :: st) h := jq_nx (jv_insR jm_66 dX12_days_37) rfl
theorem e66_38 : jv_ev d 66 38 lc (.ref a :: st) h = (jv_gf h a [(0, 50, .array .int)]).bind fun r => jv_ev d 66 41 lc (r :: st) h := jq_get (jv_insR jm_66 dX12_days_38) jo_66 jF_1_116
theorem e66_41 : jv_ev d 66 41 lc st h = jv_ev d 66 43 lc (.int 89 :: st) h := jq_bipush (jv_insR jm_66 dX12_days_41) (by decide)
theorem e66_43 : jv_ev d 66 43 lc (.int v :: .ref a :: st) h = (jv_ig h a 0 0 v).bind fun w => jv_ev d 66 44 lc (.int w :: st) h := jq_iald (jv_insR jm_66 dX12_days_43)
theorem e66_44 : jv_ev d 66 44 lc [.int v] h = some (.inl (some (.int v)), h) := jq_reti (jv_insR jm_66 dX12_days_44) jr_66
/-! 67: RainLoomModel.goes(I)V -/
theorem n67 : jv_cd (d + 1) 67 [.ref a0, .int i1] h = jv_ev d 67 0 [some (.ref a0), some (.int i1), none] [] h := rfl
theorem e67_0 : jv_ev d 67 0 lc st h = jv_ev d 67 1 lc (.int 0 :: st) h := jq_iconst (jv_insR jm_67 dX12_goes_0) (by decide)
theorem e67_1 : jv_ev d 67 1 [x0, x1, x2] (.int v :: st) h = jv_ev d 67 2 [x0, x1, some (.int v)] st h := jq_nx (jv_insR jm_67 dX12_goes_1) rfl
theorem e67_2 : jv_ev d 67 2 [x0, x1, some (.int v)] st h = jv_ev d 67 3 [x0, x1, some (.int v)] (.int v :: st) h := jq_nx (jv_insR jm_67 dX12_goes_2) rfl
theorem e67_3 : jv_ev d 67 3 [x0, some (.int v), x2] st h = jv_ev d 67 4 [x0, some (.int v), x2] (.int v :: st) h := jq_nx (jv_insR jm_67 dX12_goes_3) rfl
theorem e67_4 : jv_ev d 67 4 lc (.int w :: .int v :: st) h = if w ≤ v then jv_ev d 67 17 lc st h else jv_ev d 67 7 lc st h := jq_if (jv_insR jm_67 dX12_goes_4) rfl (by decide)
theorem e67_7 : jv_ev d 67 7 [some (.ref a), x1, x2] st h = jv_ev d 67 8 [some (.ref a), x1, x2] (.ref a :: st) h := jq_nx (jv_insR jm_67 dX12_goes_7) rfl
theorem e67_8 : jv_ev d 67 8 lc [.ref b] h = (jv_rc h b [(0, 68)]).bind fun y => (jv_cd d y [.ref b] h).bind fun r => jv_on r (fun v h => jv_ev d 67 11 lc (v.toList ++ []) h) (fun q h => some (.inr q, h)) := jq_V (as := []) (rest := []) (jv_insR jm_67 dX12_goes_8) jo_67 jV_1_378 rfl rfl rfl rfl
theorem e67_11 : jv_ev d 67 11 [x0, x1, some (.int v)] st h = jv_ev d 67 14 [x0, x1, some (.int (v + 1))] st h := jq_nx (jv_insR jm_67 dX12_goes_11) rfl
theorem e67_14 : jv_ev d 67 14 lc st h = jv_ev d 67 2 lc st h := jq_go (jv_insR jm_67 dX12_goes_14) (by decide)
theorem e67_17 : jv_ev d 67 17 lc [] h = some (.inl none, h) := jq_retv (jv_insR jm_67 dX12_goes_17) jr_67
/-! 68: RainLoomModel.dayGoes()V -/
theorem n68 : jv_cd (d + 1) 68 [.ref a0] h = jv_ev d 68 0 [some (.ref a0), none, none] [] h := rfl
theorem e68_0 : jv_ev d 68 0 lc st h = jv_ev d 68 1 lc (.int 0 :: st) h := jq_iconst (jv_insR jm_68 dX12_dayGoes_0) (by decide)
theorem e68_1 : jv_ev d 68 1 [x0, x1, x2] (.int v :: st) h = jv_ev d 68 2 [x0, some (.int v), x2] st h := jq_nx (jv_insR jm_68 dX12_dayGoes_1) rfl
theorem e68_2 : jv_ev d 68 2 [x0, some (.int v), x2] st h = jv_ev d 68 3 [x0, some (.int v), x2] (.int v :: st) h := jq_nx (jv_insR jm_68 dX12_dayGoes_2) rfl
theorem e68_3 : jv_ev d 68 3 [some (.ref a), x1, x2] st h = jv_ev d 68 4 [some (.ref a), x1, x2] (.ref a :: st) h := jq_nx (jv_insR jm_68 dX12_dayGoes_3) rfl
theorem e68_4 : jv_ev d 68 4 lc (.ref a :: st) h = (jv_gf h a [(0, 28, .array .int)]).bind fun r => jv_ev d 68 7 lc (r :: st) h := jq_get (jv_insR jm_68 dX12_dayGoes_4) jo_68 jF_1_61
theorem e68_7 : jv_ev d 68 7 [some (.ref a), x1, x2] st h = jv_ev d 68 8 [some (.ref a), x1, x2] (.ref a :: st) h := jq_nx (jv_insR jm_68 dX12_dayGoes_7) rfl
theorem e68_8 : jv_ev d 68 8 lc (.ref a :: st) h = (jv_gf h a [(0, 18, .int)]).bind fun r => jv_ev d 68 11 lc (r :: st) h := jq_get (jv_insR jm_68 dX12_dayGoes_8) jo_68 jF_1_239
theorem e68_11 : jv_ev d 68 11 lc (.int v :: .ref a :: st) h = (jv_ig h a 0 0 v).bind fun w => jv_ev d 68 12 lc (.int w :: st) h := jq_iald (jv_insR jm_68 dX12_dayGoes_11)
theorem e68_12 : jv_ev d 68 12 lc (.int w :: .int v :: st) h = if w ≤ v then jv_ev d 68 114 lc st h else jv_ev d 68 15 lc st h := jq_if (jv_insR jm_68 dX12_dayGoes_12) rfl (by decide)
theorem e68_15 : jv_ev d 68 15 [some (.ref a), x1, x2] st h = jv_ev d 68 16 [some (.ref a), x1, x2] (.ref a :: st) h := jq_nx (jv_insR jm_68 dX12_dayGoes_15) rfl
theorem e68_16 : jv_ev d 68 16 lc (.ref a :: st) h = (jv_gf h a [(0, 51, .array .int)]).bind fun r => jv_ev d 68 19 lc (r :: st) h := jq_get (jv_insR jm_68 dX12_dayGoes_16) jo_68 jF_1_119
theorem e68_19 : jv_ev d 68 19 lc st h = jv_ev d 68 21 lc (.int 52 :: st) h := jq_bipush (jv_insR jm_68 dX12_dayGoes_19) (by decide)
theorem e68_21 : jv_ev d 68 21 [x0, some (.int v), x2] st h = jv_ev d 68 22 [x0, some (.int v), x2] (.int v :: st) h := jq_nx (jv_insR jm_68 dX12_dayGoes_21) rfl
theorem e68_22 : jv_ev d 68 22 lc (.int w :: .int v :: st) h = jv_ev d 68 23 lc (.int (v + w) :: st) h := jq_nx (jv_insR jm_68 dX12_dayGoes_22) rfl
theorem e68_23 : jv_ev d 68 23 lc (.int v :: .ref a :: st) h = (jv_ig h a 0 0 v).bind fun w => jv_ev d 68 24 lc (.int w :: st) h := jq_iald (jv_insR jm_68 dX12_dayGoes_23)
theorem e68_24 : jv_ev d 68 24 lc (.int v :: st) h = if ¬ v = 0 then jv_ev d 68 30 lc st h else jv_ev d 68 27 lc st h := jq_if (jv_insR jm_68 dX12_dayGoes_24) rfl (by decide)
theorem e68_27 : jv_ev d 68 27 lc st h = jv_ev d 68 108 lc st h := jq_go (jv_insR jm_68 dX12_dayGoes_27) (by decide)
theorem e68_30 : jv_ev d 68 30 [some (.ref a), x1, x2] st h = jv_ev d 68 31 [some (.ref a), x1, x2] (.ref a :: st) h := jq_nx (jv_insR jm_68 dX12_dayGoes_30) rfl
theorem e68_31 : jv_ev d 68 31 lc st h = jv_ev d 68 33 lc (.int 8 :: st) h := jq_bipush (jv_insR jm_68 dX12_dayGoes_31) (by decide)
theorem e68_33 : jv_ev d 68 33 [some (.ref a), x1, x2] st h = jv_ev d 68 34 [some (.ref a), x1, x2] (.ref a :: st) h := jq_nx (jv_insR jm_68 dX12_dayGoes_33) rfl
theorem e68_34 : jv_ev d 68 34 lc (.ref a :: st) h = (jv_gf h a [(0, 51, .array .int)]).bind fun r => jv_ev d 68 37 lc (r :: st) h := jq_get (jv_insR jm_68 dX12_dayGoes_34) jo_68 jF_1_119
theorem e68_37 : jv_ev d 68 37 lc st h = jv_ev d 68 39 lc (.int 89 :: st) h := jq_bipush (jv_insR jm_68 dX12_dayGoes_37) (by decide)
theorem e68_39 : jv_ev d 68 39 lc (.int v :: .ref a :: st) h = (jv_ig h a 0 0 v).bind fun w => jv_ev d 68 40 lc (.int w :: st) h := jq_iald (jv_insR jm_68 dX12_dayGoes_39)
theorem e68_40 : jv_ev d 68 40 lc (.int w :: .int v :: st) h = jv_ev d 68 41 lc (.int (v * w) :: st) h := jq_nx (jv_insR jm_68 dX12_dayGoes_40) rfl
theorem e68_41 : jv_ev d 68 41 [x0, some (.int v), x2] st h = jv_ev d 68 42 [x0, some (.int v), x2] (.int v :: st) h := jq_nx (jv_insR jm_68 dX12_dayGoes_41) rfl
theorem e68_42 : jv_ev d 68 42 lc (.int w :: .int v :: st) h = jv_ev d 68 43 lc (.int (v + w) :: st) h := jq_nx (jv_insR jm_68 dX12_dayGoes_42) rfl
theorem e68_43 : jv_ev d 68 43 lc [z0, .ref b] h = (jv_rc h b [(0, 69)]).bind fun y => (jv_cd d y [.ref b, z0] h).bind fun r => jv_on r (fun v h => jv_ev d 68 46 lc (v.toList ++ []) h) (fun q h => some (.inr q, h)) := jq_V (as := [z0]) (rest := []) (jv_insR jm_68 dX12_dayGoes_43) jo_68 jV_1_359 rfl rfl rfl rfl
theorem e68_46 : jv_ev d 68 46 [some (.ref a), x1, x2] st h = jv_ev d 68 47 [some (.ref a), x1, x2] (.ref a :: st) h := jq_nx (jv_insR jm_68 dX12_dayGoes_46) rfl
theorem e68_47 : jv_ev d 68 47 lc (.ref a :: st) h = (jv_gf h a [(0, 32, .array .int)]).bind fun r => jv_ev d 68 50 lc (r :: st) h := jq_get (jv_insR jm_68 dX12_dayGoes_47) jo_68 jF_1_73
theorem e68_50 : jv_ev d 68 50 [some (.ref a), x1, x2] st h = jv_ev d 68 51 [some (.ref a), x1, x2] (.ref a :: st) h := jq_nx (jv_insR jm_68 dX12_dayGoes_50) rfl
theorem e68_51 : jv_ev d 68 51 lc (.ref a :: st) h = (jv_gf h a [(0, 18, .int)]).bind fun r => jv_ev d 68 54 lc (r :: st) h := jq_get (jv_insR jm_68 dX12_dayGoes_51) jo_68 jF_1_239
theorem e68_54 : jv_ev d 68 54 lc (.int v :: .ref a :: st) h = (jv_ig h a 0 0 v).bind fun w => jv_ev d 68 55 lc (.int w :: st) h := jq_iald (jv_insR jm_68 dX12_dayGoes_54)
theorem e68_55 : jv_ev d 68 55 lc (.int w :: .int v :: st) h = if w ≤ v then jv_ev d 68 62 lc st h else jv_ev d 68 58 lc st h := jq_if (jv_insR jm_68 dX12_dayGoes_55) rfl (by decide)
theorem e68_58 : jv_ev d 68 58 lc st h = jv_ev d 68 59 lc (.int 1 :: st) h := jq_iconst (jv_insR jm_68 dX12_dayGoes_58) (by decide)
theorem e68_59 : jv_ev d 68 59 lc st h = jv_ev d 68 63 lc st h := jq_go (jv_insR jm_68 dX12_dayGoes_59) (by decide)
theorem e68_62 : jv_ev d 68 62 lc st h = jv_ev d 68 63 lc (.int 0 :: st) h := jq_iconst (jv_insR jm_68 dX12_dayGoes_62) (by decide)
theorem e68_63 : jv_ev d 68 63 [x0, x1, x2] (.int v :: st) h = jv_ev d 68 64 [x0, x1, some (.int v)] st h := jq_nx (jv_insR jm_68 dX12_dayGoes_63) rfl
theorem e68_64 : jv_ev d 68 64 [some (.ref a), x1, x2] st h = jv_ev d 68 65 [some (.ref a), x1, x2] (.ref a :: st) h := jq_nx (jv_insR jm_68 dX12_dayGoes_64) rfl
theorem e68_65 : jv_ev d 68 65 [x0, some (.int v), x2] st h = jv_ev d 68 66 [x0, some (.int v), x2] (.int v :: st) h := jq_nx (jv_insR jm_68 dX12_dayGoes_65) rfl
theorem e68_66 : jv_ev d 68 66 [some (.ref a), x1, x2] st h = jv_ev d 68 67 [some (.ref a), x1, x2] (.ref a :: st) h := jq_nx (jv_insR jm_68 dX12_dayGoes_66) rfl
theorem e68_67 : jv_ev d 68 67 lc (.ref a :: st) h = (jv_gf h a [(0, 51, .array .int)]).bind fun r => jv_ev d 68 70 lc (r :: st) h := jq_get (jv_insR jm_68 dX12_dayGoes_67) jo_68 jF_1_119
theorem e68_70 : jv_ev d 68 70 lc st h = jv_ev d 68 72 lc (.int 52 :: st) h := jq_bipush (jv_insR jm_68 dX12_dayGoes_70) (by decide)
theorem e68_72 : jv_ev d 68 72 [x0, some (.int v), x2] st h = jv_ev d 68 73 [x0, some (.int v), x2] (.int v :: st) h := jq_nx (jv_insR jm_68 dX12_dayGoes_72) rfl
theorem e68_73 : jv_ev d 68 73 lc (.int w :: .int v :: st) h = jv_ev d 68 74 lc (.int (v + w) :: st) h := jq_nx (jv_insR jm_68 dX12_dayGoes_73) rfl
theorem e68_74 : jv_ev d 68 74 lc (.int v :: .ref a :: st) h = (jv_ig h a 0 0 v).bind fun w => jv_ev d 68 75 lc (.int w :: st) h := jq_iald (jv_insR jm_68 dX12_dayGoes_74)
theorem e68_75 : jv_ev d 68 75 [some (.ref a), x1, x2] st h = jv_ev d 68 76 [some (.ref a), x1, x2] (.ref a :: st) h := jq_nx (jv_insR jm_68 dX12_dayGoes_75) rfl
theorem e68_76 : jv_ev d 68 76 lc (.ref a :: st) h = (jv_gf h a [(0, 51, .array .int)]).bind fun r => jv_ev d 68 79 lc (r :: st) h := jq_get (jv_insR jm_68 dX12_dayGoes_76) jo_68 jF_1_119
theorem e68_79 : jv_ev d 68 79 lc st h = jv_ev d 68 81 lc (.int 56 :: st) h := jq_bipush (jv_insR jm_68 dX12_dayGoes_79) (by decide)
theorem e68_81 : jv_ev d 68 81 [x0, some (.int v), x2] st h = jv_ev d 68 82 [x0, some (.int v), x2] (.int v :: st) h := jq_nx (jv_insR jm_68 dX12_dayGoes_81) rfl
theorem e68_82 : jv_ev d 68 82 lc (.int w :: .int v :: st) h = jv_ev d 68 83 lc (.int (v + w) :: st) h := jq_nx (jv_insR jm_68 dX12_dayGoes_82) rfl
theorem e68_83 : jv_ev d 68 83 lc (.int v :: .ref a :: st) h = (jv_ig h a 0 0 v).bind fun w => jv_ev d 68 84 lc (.int w :: st) h := jq_iald (jv_insR jm_68 dX12_dayGoes_83)
theorem e68_84 : jv_ev d 68 84 [some (.ref a), x1, x2] st h = jv_ev d 68 85 [some (.ref a), x1, x2] (.ref a :: st) h := jq_nx (jv_insR jm_68 dX12_dayGoes_84) rfl
theorem e68_85 : jv_ev d 68 85 lc (.ref a :: st) h = (jv_gf h a [(0, 51, .array .int)]).bind fun r => jv_ev d 68 88 lc (r :: st) h := jq_get (jv_insR jm_68 dX12_dayGoes_85) jo_68 jF_1_119
theorem e68_88 : jv_ev d 68 88 lc st h = jv_ev d 68 90 lc (.int 60 :: st) h := jq_bipush (jv_insR jm_68 dX12_dayGoes_88) (by decide)
theorem e68_90 : jv_ev d 68 90 [x0, some (.int v), x2] st h = jv_ev d 68 91 [x0, some (.int v), x2] (.int v :: st) h := jq_nx (jv_insR jm_68 dX12_dayGoes_90) rfl
theorem e68_91 : jv_ev d 68 91 lc (.int w :: .int v :: st) h = jv_ev d 68 92 lc (.int (v + w) :: st) h := jq_nx (jv_insR jm_68 dX12_dayGoes_91) rfl
theorem e68_92 : jv_ev d 68 92 lc (.int v :: .ref a :: st) h = (jv_ig h a 0 0 v).bind fun w => jv_ev d 68 93 lc (.int w :: st) h := jq_iald (jv_insR jm_68 dX12_dayGoes_92)
theorem e68_93 : jv_ev d 68 93 [x0, x1, some (.int v)] st h = jv_ev d 68 94 [x0, x1, some (.int v)] (.int v :: st) h := jq_nx (jv_insR jm_68 dX12_dayGoes_93) rfl
theorem e68_94 : jv_ev d 68 94 lc (.int w :: .int v :: st) h = jv_ev d 68 95 lc (.int (v + w) :: st) h := jq_nx (jv_insR jm_68 dX12_dayGoes_94) rfl
theorem e68_95 : jv_ev d 68 95 [some (.ref a), x1, x2] st h = jv_ev d 68 96 [some (.ref a), x1, x2] (.ref a :: st) h := jq_nx (jv_insR jm_68 dX12_dayGoes_95) rfl
theorem e68_96 : jv_ev d 68 96 lc (.ref a :: st) h = (jv_gf h a [(0, 51, .array .int)]).bind fun r => jv_ev d 68 99 lc (r :: st) h := jq_get (jv_insR jm_68 dX12_dayGoes_96) jo_68 jF_1_119
theorem e68_99 : jv_ev d 68 99 lc st h = jv_ev d 68 101 lc (.int 64 :: st) h := jq_bipush (jv_insR jm_68 dX12_dayGoes_99) (by decide)
theorem e68_101 : jv_ev d 68 101 [x0, some (.int v), x2] st h = jv_ev d 68 102 [x0, some (.int v), x2] (.int v :: st) h := jq_nx (jv_insR jm_68 dX12_dayGoes_101) rfl
theorem e68_102 : jv_ev d 68 102 lc (.int w :: .int v :: st) h = jv_ev d 68 103 lc (.int (v + w) :: st) h := jq_nx (jv_insR jm_68 dX12_dayGoes_102) rfl
theorem e68_103 : jv_ev d 68 103 lc (.int v :: .ref a :: st) h = (jv_ig h a 0 0 v).bind fun w => jv_ev d 68 104 lc (.int w :: st) h := jq_iald (jv_insR jm_68 dX12_dayGoes_103)
theorem e68_104 : jv_ev d 68 104 lc [z4, z3, z2, z1, z0, .ref b] h = (jv_rc h b [(0, 64)]).bind fun y => (jv_cd d y [.ref b, z0, z1, z2, z3, z4] h).bind fun r => jv_on r (fun v h => jv_ev d 68 107 lc (v.toList ++ []) h) (fun q h => some (.inr q, h)) := jq_V (as := [z0, z1, z2, z3, z4]) (rest := []) (jv_insR jm_68 dX12_dayGoes_104) jo_68 jV_1_362 rfl rfl rfl rfl
theorem e68_107 : jv_ev d 68 107 lc (.int v :: st) h = jv_ev d 68 108 lc st h := jq_nx (jv_insR jm_68 dX12_dayGoes_107) rfl
theorem e68_108 : jv_ev d 68 108 [x0, some (.int v), x2] st h = jv_ev d 68 111 [x0, some (.int (v + 1)), x2] st h := jq_nx (jv_insR jm_68 dX12_dayGoes_108) rfl
theorem e68_111 : jv_ev d 68 111 lc st h = jv_ev d 68 2 lc st h := jq_go (jv_insR jm_68 dX12_dayGoes_111) (by decide)
theorem e68_114 : jv_ev d 68 114 lc st h = jv_ev d 68 115 lc (.int 0 :: st) h := jq_iconst (jv_insR jm_68 dX12_dayGoes_114) (by decide)
theorem e68_115 : jv_ev d 68 115 [x0, x1, x2] (.int v :: st) h = jv_ev d 68 116 [x0, some (.int v), x2] st h := jq_nx (jv_insR jm_68 dX12_dayGoes_115) rfl
theorem e68_116 : jv_ev d 68 116 [x0, some (.int v), x2] st h = jv_ev d 68 117 [x0, some (.int v), x2] (.int v :: st) h := jq_nx (jv_insR jm_68 dX12_dayGoes_116) rfl
theorem e68_117 : jv_ev d 68 117 lc st h = jv_ev d 68 119 lc (.int 48 :: st) h := jq_bipush (jv_insR jm_68 dX12_dayGoes_117) (by decide)
theorem e68_119 : jv_ev d 68 119 lc (.int w :: .int v :: st) h = if w ≤ v then jv_ev d 68 189 lc st h else jv_ev d 68 122 lc st h := jq_if (jv_insR jm_68 dX12_dayGoes_119) rfl (by decide)
theorem e68_122 : jv_ev d 68 122 [some (.ref a), x1, x2] st h = jv_ev d 68 123 [some (.ref a), x1, x2] (.ref a :: st) h := jq_nx (jv_insR jm_68 dX12_dayGoes_122) rfl
theorem e68_123 : jv_ev d 68 123 [x0, some (.int v), x2] st h = jv_ev d 68 124 [x0, some (.int v), x2] (.int v :: st) h := jq_nx (jv_insR jm_68 dX12_dayGoes_123) rfl
theorem e68_124 : jv_ev d 68 124 lc [z0, .ref b] h = (jv_rc h b [(0, 50)]).bind fun y => (jv_cd d y [.ref b, z0] h).bind fun r => jv_on r (fun v h => jv_ev d 68 127 lc (v.toList ++ []) h) (fun q h => some (.inr q, h)) := jq_V (as := [z0]) (rest := []) (jv_insR jm_68 dX12_dayGoes_124) jo_68 jV_1_366 rfl rfl rfl rfl
theorem e68_127 : jv_ev d 68 127 lc (.int v :: st) h = if ¬ v = 0 then jv_ev d 68 133 lc st h else jv_ev d 68 130 lc st h := jq_if (jv_insR jm_68 dX12_dayGoes_127) rfl (by decide)
theorem e68_130 : jv_ev d 68 130 lc st h = jv_ev d 68 183 lc st h := jq_go (jv_insR jm_68 dX12_dayGoes_130) (by decide)
theorem e68_133 : jv_ev d 68 133 [some (.ref a), x1, x2] st h = jv_ev d 68 134 [some (.ref a), x1, x2] (.ref a :: st) h := jq_nx (jv_insR jm_68 dX12_dayGoes_133) rfl
theorem e68_134 : jv_ev d 68 134 [x0, some (.int v), x2] st h = jv_ev d 68 135 [x0, some (.int v), x2] (.int v :: st) h := jq_nx (jv_insR jm_68 dX12_dayGoes_134) rfl
theorem e68_135 : jv_ev d 68 135 lc [z0, .ref b] h = (jv_rc h b [(0, 43)]).bind fun y => (jv_cd d y [.ref b, z0] h).bind fun r => jv_on r (fun v h => jv_ev d 68 138 lc (v.toList ++ []) h) (fun q h => some (.inr q, h)) := jq_V (as := [z0]) (rest := []) (jv_insR jm_68 dX12_dayGoes_135) jo_68 jV_1_369 rfl rfl rfl rfl
theorem e68_138 : jv_ev d 68 138 lc (.int v :: st) h = if v = 0 then jv_ev d 68 158 lc st h else jv_ev d 68 141 lc st h := jq_if (jv_insR jm_68 dX12_dayGoes_138) rfl (by decide)
theorem e68_141 : jv_ev d 68 141 [some (.ref a), x1, x2] st h = jv_ev d 68 142 [some (.ref a), x1, x2] (.ref a :: st) h := jq_nx (jv_insR jm_68 dX12_dayGoes_141) rfl
theorem e68_142 : jv_ev d 68 142 lc (.ref a :: st) h = (jv_gf h a [(0, 51, .array .int)]).bind fun r => jv_ev d 68 145 lc (r :: st) h := jq_get (jv_insR jm_68 dX12_dayGoes_142) jo_68 jF_1_119
theorem e68_145 : jv_ev d 68 145 lc st h = jv_ev d 68 147 lc (.int 76 :: st) h := jq_bipush (jv_insR jm_68 dX12_dayGoes_145) (by decide)
theorem e68_147 : jv_ev d 68 147 [some (.ref a), x1, x2] st h = jv_ev d 68 148 [some (.ref a), x1, x2] (.ref a :: st) h := jq_nx (jv_insR jm_68 dX12_dayGoes_147) rfl
theorem e68_148 : jv_ev d 68 148 [x0, some (.int v), x2] st h = jv_ev d 68 149 [x0, some (.int v), x2] (.int v :: st) h := jq_nx (jv_insR jm_68 dX12_dayGoes_148) rfl
theorem e68_149 : jv_ev d 68 149 lc [z0, .ref b, y0, y1] h = (jv_rc h b [(0, 42)]).bind fun y => (jv_cd d y [.ref b, z0] h).bind fun r => jv_on r (fun v h => jv_ev d 68 152 lc (v.toList ++ [y0, y1]) h) (fun q h => some (.inr q, h)) := jq_V (as := [z0]) (rest := [y0, y1]) (jv_insR jm_68 dX12_dayGoes_149) jo_68 jV_1_347 rfl rfl rfl rfl
theorem e68_152 : jv_ev d 68 152 lc (.int w :: .int v :: st) h = jv_ev d 68 153 lc (.int (v + w) :: st) h := jq_nx (jv_insR jm_68 dX12_dayGoes_152) rfl
theorem e68_153 : jv_ev d 68 153 lc (.int v :: .ref b :: st) h = jv_ev d 68 154 lc (.int v :: .ref b :: .int v :: .ref b :: st) h := jq_nx (jv_insR jm_68 dX12_dayGoes_153) rfl
theorem e68_154 : jv_ev d 68 154 lc (.int v :: .ref a :: st) h = (jv_ig h a 0 0 v).bind fun w => jv_ev d 68 155 lc (.int w :: st) h := jq_iald (jv_insR jm_68 dX12_dayGoes_154)
theorem e68_155 : jv_ev d 68 155 lc st h = jv_ev d 68 156 lc (.int 1 :: st) h := jq_iconst (jv_insR jm_68 dX12_dayGoes_155) (by decide)
theorem e68_156 : jv_ev d 68 156 lc (.int w :: .int v :: st) h = jv_ev d 68 157 lc (.int (v + w) :: st) h := jq_nx (jv_insR jm_68 dX12_dayGoes_156) rfl
theorem e68_157 : jv_ev d 68 157 lc (.int w :: .int v :: .ref a :: st) h = (jv_ip h a 0 0 v w).bind fun h => jv_ev d 68 158 lc st h := jq_iast (jv_insR jm_68 dX12_dayGoes_157)
theorem e68_158 : jv_ev d 68 158 [some (.ref a), x1, x2] st h = jv_ev d 68 159 [some (.ref a), x1, x2] (.ref a :: st) h := jq_nx (jv_insR jm_68 dX12_dayGoes_158) rfl
theorem e68_159 : jv_ev d 68 159 [x0, some (.int v), x2] st h = jv_ev d 68 160 [x0, some (.int v), x2] (.int v :: st) h := jq_nx (jv_insR jm_68 dX12_dayGoes_159) rfl
theorem e68_160 : jv_ev d 68 160 lc [z0, .ref b] h = (jv_rc h b [(0, 45)]).bind fun y => (jv_cd d y [.ref b, z0] h).bind fun r => jv_on r (fun v h => jv_ev d 68 163 lc (v.toList ++ []) h) (fun q h => some (.inr q, h)) := jq_V (as := [z0]) (rest := []) (jv_insR jm_68 dX12_dayGoes_160) jo_68 jV_1_372 rfl rfl rfl rfl
theorem e68_163 : jv_ev d 68 163 lc (.int v :: st) h = if v = 0 then jv_ev d 68 183 lc st h else jv_ev d 68 166 lc st h := jq_if (jv_insR jm_68 dX12_dayGoes_163) rfl (by decide)
theorem e68_166 : jv_ev d 68 166 [some (.ref a), x1, x2] st h = jv_ev d 68 167 [some (.ref a), x1, x2] (.ref a :: st) h := jq_nx (jv_insR jm_68 dX12_dayGoes_166) rfl
theorem e68_167 : jv_ev d 68 167 lc (.ref a :: st) h = (jv_gf h a [(0, 51, .array .int)]).bind fun r => jv_ev d 68 170 lc (r :: st) h := jq_get (jv_insR jm_68 dX12_dayGoes_167) jo_68 jF_1_119
theorem e68_170 : jv_ev d 68 170 lc st h = jv_ev d 68 172 lc (.int 82 :: st) h := jq_bipush (jv_insR jm_68 dX12_dayGoes_170) (by decide)
theorem e68_172 : jv_ev d 68 172 [some (.ref a), x1, x2] st h = jv_ev d 68 173 [some (.ref a), x1, x2] (.ref a :: st) h := jq_nx (jv_insR jm_68 dX12_dayGoes_172) rfl
theorem e68_173 : jv_ev d 68 173 [x0, some (.int v), x2] st h = jv_ev d 68 174 [x0, some (.int v), x2] (.int v :: st) h := jq_nx (jv_insR jm_68 dX12_dayGoes_173) rfl
theorem e68_174 : jv_ev d 68 174 lc [z0, .ref b, y0, y1] h = (jv_rc h b [(0, 42)]).bind fun y => (jv_cd d y [.ref b, z0] h).bind fun r => jv_on r (fun v h => jv_ev d 68 177 lc (v.toList ++ [y0, y1]) h) (fun q h => some (.inr q, h)) := jq_V (as := [z0]) (rest := [y0, y1]) (jv_insR jm_68 dX12_dayGoes_174) jo_68 jV_1_347 rfl rfl rfl rfl
theorem e68_177 : jv_ev d 68 177 lc (.int w :: .int v :: st) h = jv_ev d 68 178 lc (.int (v + w) :: st) h := jq_nx (jv_insR jm_68 dX12_dayGoes_177) rfl
theorem e68_178 : jv_ev d 68 178 lc (.int v :: .ref b :: st) h = jv_ev d 68 179 lc (.int v :: .ref b :: .int v :: .ref b :: st) h := jq_nx (jv_insR jm_68 dX12_dayGoes_178) rfl
theorem e68_179 : jv_ev d 68 179 lc (.int v :: .ref a :: st) h = (jv_ig h a 0 0 v).bind fun w => jv_ev d 68 180 lc (.int w :: st) h := jq_iald (jv_insR jm_68 dX12_dayGoes_179)
theorem e68_180 : jv_ev d 68 180 lc st h = jv_ev d 68 181 lc (.int 1 :: st) h := jq_iconst (jv_insR jm_68 dX12_dayGoes_180) (by decide)
theorem e68_181 : jv_ev d 68 181 lc (.int w :: .int v :: st) h = jv_ev d 68 182 lc (.int (v + w) :: st) h := jq_nx (jv_insR jm_68 dX12_dayGoes_181) rfl
theorem e68_182 : jv_ev d 68 182 lc (.int w :: .int v :: .ref a :: st) h = (jv_ip h a 0 0 v w).bind fun h => jv_ev d 68 183 lc st h := jq_iast (jv_insR jm_68 dX12_dayGoes_182)
theorem e68_183 : jv_ev d 68 183 [x0, some (.int v), x2] st h = jv_ev d 68 186 [x0, some (.int (v + 1)), x2] st h := jq_nx (jv_insR jm_68 dX12_dayGoes_183) rfl
theorem e68_186 : jv_ev d 68 186 lc st h = jv_ev d 68 116 lc st h := jq_go (jv_insR jm_68 dX12_dayGoes_186) (by decide)
theorem e68_189 : jv_ev d 68 189 lc st h = jv_ev d 68 190 lc (.int 0 :: st) h := jq_iconst (jv_insR jm_68 dX12_dayGoes_189) (by decide)
theorem e68_190 : jv_ev d 68 190 [x0, x1, x2] (.int v :: st) h = jv_ev d 68 191 [x0, some (.int v), x2] st h := jq_nx (jv_insR jm_68 dX12_dayGoes_190) rfl
theorem e68_191 : jv_ev d 68 191 [x0, some (.int v), x2] st h = jv_ev d 68 192 [x0, some (.int v), x2] (.int v :: st) h := jq_nx (jv_insR jm_68 dX12_dayGoes_191) rfl
theorem e68_192 : jv_ev d 68 192 lc st h = jv_ev d 68 194 lc (.int 48 :: st) h := jq_bipush (jv_insR jm_68 dX12_dayGoes_192) (by decide)
theorem e68_194 : jv_ev d 68 194 lc (.int w :: .int v :: st) h = if w ≤ v then jv_ev d 68 248 lc st h else jv_ev d 68 197 lc st h := jq_if (jv_insR jm_68 dX12_dayGoes_194) rfl (by decide)
theorem e68_197 : jv_ev d 68 197 [some (.ref a), x1, x2] st h = jv_ev d 68 198 [some (.ref a), x1, x2] (.ref a :: st) h := jq_nx (jv_insR jm_68 dX12_dayGoes_197) rfl
theorem e68_198 : jv_ev d 68 198 [x0, some (.int v), x2] st h = jv_ev d 68 199 [x0, some (.int v), x2] (.int v :: st) h := jq_nx (jv_insR jm_68 dX12_dayGoes_198) rfl
theorem e68_199 : jv_ev d 68 199 lc [z0, .ref b] h = (jv_rc h b [(0, 50)]).bind fun y => (jv_cd d y [.ref b, z0] h).bind fun r => jv_on r (fun v h => jv_ev d 68 202 lc (v.toList ++ []) h) (fun q h => some (.inr q, h)) := jq_V (as := [z0]) (rest := []) (jv_insR jm_68 dX12_dayGoes_199) jo_68 jV_1_366 rfl rfl rfl rfl
theorem e68_202 : jv_ev d 68 202 lc (.int v :: st) h = if ¬ v = 0 then jv_ev d 68 208 lc st h else jv_ev d 68 205 lc st h := jq_if (jv_insR jm_68 dX12_dayGoes_202) rfl (by decide)
theorem e68_205 : jv_ev d 68 205 lc st h = jv_ev d 68 242 lc st h := jq_go (jv_insR jm_68 dX12_dayGoes_205) (by decide)
theorem e68_208 : jv_ev d 68 208 [some (.ref a), x1, x2] st h = jv_ev d 68 209 [some (.ref a), x1, x2] (.ref a :: st) h := jq_nx (jv_insR jm_68 dX12_dayGoes_208) rfl
theorem e68_209 : jv_ev d 68 209 [x0, some (.int v), x2] st h = jv_ev d 68 210 [x0, some (.int v), x2] (.int v :: st) h := jq_nx (jv_insR jm_68 dX12_dayGoes_209) rfl
theorem e68_210 : jv_ev d 68 210 lc [z0, .ref b] h = (jv_rc h b [(0, 71)]).bind fun y => (jv_cd d y [.ref b, z0] h).bind fun r => jv_on r (fun v h => jv_ev d 68 213 lc (v.toList ++ []) h) (fun q h => some (.inr q, h)) := jq_V (as := [z0]) (rest := []) (jv_insR jm_68 dX12_dayGoes_210) jo_68 jV_1_375 rfl rfl rfl rfl
theorem e68_213 : jv_ev d 68 213 [x0, x1, x2] (.int v :: st) h = jv_ev d 68 214 [x0, x1, some (.int v)] st h := jq_nx (jv_insR jm_68 dX12_dayGoes_213) rfl
theorem e68_214 : jv_ev d 68 214 [some (.ref a), x1, x2] st h = jv_ev d 68 215 [some (.ref a), x1, x2] (.ref a :: st) h := jq_nx (jv_insR jm_68 dX12_dayGoes_214) rfl
theorem e68_215 : jv_ev d 68 215 lc (.ref a :: st) h = (jv_gf h a [(0, 51, .array .int)]).bind fun r => jv_ev d 68 218 lc (r :: st) h := jq_get (jv_insR jm_68 dX12_dayGoes_215) jo_68 jF_1_119
theorem e68_218 : jv_ev d 68 218 [x0, some (.int v), x2] st h = jv_ev d 68 219 [x0, some (.int v), x2] (.int v :: st) h := jq_nx (jv_insR jm_68 dX12_dayGoes_218) rfl
theorem e68_219 : jv_ev d 68 219 [some (.ref a), x1, x2] st h = jv_ev d 68 220 [some (.ref a), x1, x2] (.ref a :: st) h := jq_nx (jv_insR jm_68 dX12_dayGoes_219) rfl
theorem e68_220 : jv_ev d 68 220 lc (.ref a :: st) h = (jv_gf h a [(0, 51, .array .int)]).bind fun r => jv_ev d 68 223 lc (r :: st) h := jq_get (jv_insR jm_68 dX12_dayGoes_220) jo_68 jF_1_119
theorem e68_223 : jv_ev d 68 223 [x0, some (.int v), x2] st h = jv_ev d 68 224 [x0, some (.int v), x2] (.int v :: st) h := jq_nx (jv_insR jm_68 dX12_dayGoes_223) rfl
theorem e68_224 : jv_ev d 68 224 lc (.int v :: .ref a :: st) h = (jv_ig h a 0 0 v).bind fun w => jv_ev d 68 225 lc (.int w :: st) h := jq_iald (jv_insR jm_68 dX12_dayGoes_224)
theorem e68_225 : jv_ev d 68 225 [x0, x1, some (.int v)] st h = jv_ev d 68 226 [x0, x1, some (.int v)] (.int v :: st) h := jq_nx (jv_insR jm_68 dX12_dayGoes_225) rfl
theorem e68_226 : jv_ev d 68 226 lc (.int w :: .int v :: st) h = if v ≤ w then jv_ev d 68 240 lc st h else jv_ev d 68 229 lc st h := jq_if (jv_insR jm_68 dX12_dayGoes_226) rfl (by decide)
theorem e68_229 : jv_ev d 68 229 [some (.ref a), x1, x2] st h = jv_ev d 68 230 [some (.ref a), x1, x2] (.ref a :: st) h := jq_nx (jv_insR jm_68 dX12_dayGoes_229) rfl
theorem e68_230 : jv_ev d 68 230 lc (.ref a :: st) h = (jv_gf h a [(0, 51, .array .int)]).bind fun r => jv_ev d 68 233 lc (r :: st) h := jq_get (jv_insR jm_68 dX12_dayGoes_230) jo_68 jF_1_119
theorem e68_233 : jv_ev d 68 233 [x0, some (.int v), x2] st h = jv_ev d 68 234 [x0, some (.int v), x2] (.int v :: st) h := jq_nx (jv_insR jm_68 dX12_dayGoes_233) rfl
theorem e68_234 : jv_ev d 68 234 lc (.int v :: .ref a :: st) h = (jv_ig h a 0 0 v).bind fun w => jv_ev d 68 235 lc (.int w :: st) h := jq_iald (jv_insR jm_68 dX12_dayGoes_234)
theorem e68_235 : jv_ev d 68 235 [x0, x1, some (.int v)] st h = jv_ev d 68 236 [x0, x1, some (.int v)] (.int v :: st) h := jq_nx (jv_insR jm_68 dX12_dayGoes_235) rfl
theorem e68_236 : jv_ev d 68 236 lc (.int w :: .int v :: st) h = jv_ev d 68 237 lc (.int (v - w) :: st) h := jq_nx (jv_insR jm_68 dX12_dayGoes_236) rfl
theorem e68_237 : jv_ev d 68 237 lc st h = jv_ev d 68 241 lc st h := jq_go (jv_insR jm_68 dX12_dayGoes_237) (by decide)
theorem e68_240 : jv_ev d 68 240 lc st h = jv_ev d 68 241 lc (.int 0 :: st) h := jq_iconst (jv_insR jm_68 dX12_dayGoes_240) (by decide)
theorem e68_241 : jv_ev d 68 241 lc (.int w :: .int v :: .ref a :: st) h = (jv_ip h a 0 0 v w).bind fun h => jv_ev d 68 242 lc st h := jq_iast (jv_insR jm_68 dX12_dayGoes_241)
theorem e68_242 : jv_ev d 68 242 [x0, some (.int v), x2] st h = jv_ev d 68 245 [x0, some (.int (v + 1)), x2] st h := jq_nx (jv_insR jm_68 dX12_dayGoes_242) rfl
theorem e68_245 : jv_ev d 68 245 lc st h = jv_ev d 68 191 lc st h := jq_go (jv_insR jm_68 dX12_dayGoes_245) (by decide)
theorem e68_248 : jv_ev d 68 248 [some (.ref a), x1, x2] st h = jv_ev d 68 249 [some (.ref a), x1, x2] (.ref a :: st) h := jq_nx (jv_insR jm_68 dX12_dayGoes_248) rfl
theorem e68_249 : jv_ev d 68 249 lc [.ref b] h = (jv_rc h b [(0, 56)]).bind fun y => (jv_cd d y [.ref b] h).bind fun r => jv_on r (fun v h => jv_ev d 68 252 lc (v.toList ++ []) h) (fun q h => some (.inr q, h)) := jq_V (as := []) (rest := []) (jv_insR jm_68 dX12_dayGoes_249) jo_68 jV_1_337 rfl rfl rfl rfl
theorem e68_252 : jv_ev d 68 252 [some (.ref a), x1, x2] st h = jv_ev d 68 253 [some (.ref a), x1, x2] (.ref a :: st) h := jq_nx (jv_insR jm_68 dX12_dayGoes_252) rfl
theorem e68_253 : jv_ev d 68 253 lc (.ref a :: st) h = (jv_gf h a [(0, 47, .array .int)]).bind fun r => jv_ev d 68 256 lc (r :: st) h := jq_get (jv_insR jm_68 dX12_dayGoes_253) jo_68 jF_1_110
theorem e68_256 : jv_ev d 68 256 lc st h = jv_ev d 68 258 lc (.int 6 :: st) h := jq_bipush (jv_insR jm_68 dX12_dayGoes_256) (by decide)
theorem e68_258 : jv_ev d 68 258 [some (.ref a), x1, x2] st h = jv_ev d 68 259 [some (.ref a), x1, x2] (.ref a :: st) h := jq_nx (jv_insR jm_68 dX12_dayGoes_258) rfl
theorem e68_259 : jv_ev d 68 259 lc (.ref a :: st) h = (jv_gf h a [(0, 51, .array .int)]).bind fun r => jv_ev d 68 262 lc (r :: st) h := jq_get (jv_insR jm_68 dX12_dayGoes_259) jo_68 jF_1_119
theorem e68_262 : jv_ev d 68 262 lc st h = jv_ev d 68 264 lc (.int 89 :: st) h := jq_bipush (jv_insR jm_68 dX12_dayGoes_262) (by decide)
theorem e68_264 : jv_ev d 68 264 lc (.int v :: .ref a :: st) h = (jv_ig h a 0 0 v).bind fun w => jv_ev d 68 265 lc (.int w :: st) h := jq_iald (jv_insR jm_68 dX12_dayGoes_264)
theorem e68_265 : jv_ev d 68 265 lc (.int w :: .int v :: .ref a :: st) h = (jv_ip h a 0 0 v w).bind fun h => jv_ev d 68 266 lc st h := jq_iast (jv_insR jm_68 dX12_dayGoes_265)
theorem e68_266 : jv_ev d 68 266 [some (.ref a), x1, x2] st h = jv_ev d 68 267 [some (.ref a), x1, x2] (.ref a :: st) h := jq_nx (jv_insR jm_68 dX12_dayGoes_266) rfl
theorem e68_267 : jv_ev d 68 267 lc (.ref a :: st) h = (jv_gf h a [(0, 51, .array .int)]).bind fun r => jv_ev d 68 270 lc (r :: st) h := jq_get (jv_insR jm_68 dX12_dayGoes_267) jo_68 jF_1_119
theorem e68_270 : jv_ev d 68 270 lc st h = jv_ev d 68 272 lc (.int 88 :: st) h := jq_bipush (jv_insR jm_68 dX12_dayGoes_270) (by decide)
theorem e68_272 : jv_ev d 68 272 lc (.int v :: .ref a :: st) h = (jv_ig h a 0 0 v).bind fun w => jv_ev d 68 273 lc (.int w :: st) h := jq_iald (jv_insR jm_68 dX12_dayGoes_272)
theorem e68_273 : jv_ev d 68 273 [some (.ref a), x1, x2] st h = jv_ev d 68 274 [some (.ref a), x1, x2] (.ref a :: st) h := jq_nx (jv_insR jm_68 dX12_dayGoes_273) rfl
theorem e68_274 : jv_ev d 68 274 lc st h = jv_ev d 68 275 lc (.int 2 :: st) h := jq_iconst (jv_insR jm_68 dX12_dayGoes_274) (by decide)
theorem e68_275 : jv_ev d 68 275 lc st h = jv_ev d 68 276 lc (.int 0 :: st) h := jq_iconst (jv_insR jm_68 dX12_dayGoes_275) (by decide)
theorem e68_276 : jv_ev d 68 276 lc st h = jv_ev d 68 279 lc (.int 999 :: st) h := jq_sipush (jv_insR jm_68 dX12_dayGoes_276) (by decide)
theorem e68_279 : jv_ev d 68 279 lc [z2, z1, z0, .ref b, y0] h = (jv_rc h b [(0, 57)]).bind fun y => (jv_cd d y [.ref b, z0, z1, z2] h).bind fun r => jv_on r (fun v h => jv_ev d 68 282 lc (v.toList ++ [y0]) h) (fun q h => some (.inr q, h)) := jq_V (as := [z0, z1, z2]) (rest := [y0]) (jv_insR jm_68 dX12_dayGoes_279) jo_68 jV_1_340 rfl rfl rfl rfl
theorem e68_282 : jv_ev d 68 282 lc (.int w :: .int v :: st) h = jv_ev d 68 283 lc (.int (v + w) :: st) h := jq_nx (jv_insR jm_68 dX12_dayGoes_282) rfl
theorem e68_283 : jv_ev d 68 283 [x0, x1, x2] (.int v :: st) h = jv_ev d 68 284 [x0, some (.int v), x2] st h := jq_nx (jv_insR jm_68 dX12_dayGoes_283) rfl
theorem e68_284 : jv_ev d 68 284 [some (.ref a), x1, x2] st h = jv_ev d 68 285 [some (.ref a), x1, x2] (.ref a :: st) h := jq_nx (jv_insR jm_68 dX12_dayGoes_284) rfl
theorem e68_285 : jv_ev d 68 285 lc (.ref a :: st) h = (jv_gf h a [(0, 51, .array .int)]).bind fun r => jv_ev d 68 288 lc (r :: st) h := jq_get (jv_insR jm_68 dX12_dayGoes_285) jo_68 jF_1_119
theorem e68_288 : jv_ev d 68 288 lc st h = jv_ev d 68 290 lc (.int 88 :: st) h := jq_bipush (jv_insR jm_68 dX12_dayGoes_288) (by decide)
theorem e68_290 : jv_ev d 68 290 [x0, some (.int v), x2] st h = jv_ev d 68 291 [x0, some (.int v), x2] (.int v :: st) h := jq_nx (jv_insR jm_68 dX12_dayGoes_290) rfl
theorem e68_291 : jv_ev d 68 291 lc st h = jv_ev d 68 294 lc (.int 9999 :: st) h := jq_sipush (jv_insR jm_68 dX12_dayGoes_291) (by decide)
theorem e68_294 : jv_ev d 68 294 lc (.int w :: .int v :: st) h = if v ≤ w then jv_ev d 68 303 lc st h else jv_ev d 68 297 lc st h := jq_if (jv_insR jm_68 dX12_dayGoes_294) rfl (by decide)
theorem e68_297 : jv_ev d 68 297 lc st h = jv_ev d 68 300 lc (.int 9999 :: st) h := jq_sipush (jv_insR jm_68 dX12_dayGoes_297) (by decide)
theorem e68_300 : jv_ev d 68 300 lc st h = jv_ev d 68 304 lc st h := jq_go (jv_insR jm_68 dX12_dayGoes_300) (by decide)
theorem e68_303 : jv_ev d 68 303 [x0, some (.int v), x2] st h = jv_ev d 68 304 [x0, some (.int v), x2] (.int v :: st) h := jq_nx (jv_insR jm_68 dX12_dayGoes_303) rfl
theorem e68_304 : jv_ev d 68 304 lc (.int w :: .int v :: .ref a :: st) h = (jv_ip h a 0 0 v w).bind fun h => jv_ev d 68 305 lc st h := jq_iast (jv_insR jm_68 dX12_dayGoes_304)
theorem e68_305 : jv_ev d 68 305 [some (.ref a), x1, x2] st h = jv_ev d 68 306 [some (.ref a), x1, x2] (.ref a :: st) h := jq_nx (jv_insR jm_68 dX12_dayGoes_305) rfl
theorem e68_306 : jv_ev d 68 306 lc (.ref a :: st) h = (jv_gf h a [(0, 51, .array .int)]).bind fun r => jv_ev d 68 309 lc (r :: st) h := jq_get (jv_insR jm_68 dX12_dayGoes_306) jo_68 jF_1_119
theorem e68_309 : jv_ev d 68 309 lc st h = jv_ev d 68 311 lc (.int 89 :: st) h := jq_bipush (jv_insR jm_68 dX12_dayGoes_309) (by decide)
theorem e68_311 : jv_ev d 68 311 lc (.int v :: .ref b :: st) h = jv_ev d 68 312 lc (.int v :: .ref b :: .int v :: .ref b :: st) h := jq_nx (jv_insR jm_68 dX12_dayGoes_311) rfl
theorem e68_312 : jv_ev d 68 312 lc (.int v :: .ref a :: st) h = (jv_ig h a 0 0 v).bind fun w => jv_ev d 68 313 lc (.int w :: st) h := jq_iald (jv_insR jm_68 dX12_dayGoes_312)
theorem e68_313 : jv_ev d 68 313 lc st h = jv_ev d 68 314 lc (.int 1 :: st) h := jq_iconst (jv_insR jm_68 dX12_dayGoes_313) (by decide)
theorem e68_314 : jv_ev d 68 314 lc (.int w :: .int v :: st) h = jv_ev d 68 315 lc (.int (v + w) :: st) h := jq_nx (jv_insR jm_68 dX12_dayGoes_314) rfl
theorem e68_315 : jv_ev d 68 315 lc (.int w :: .int v :: .ref a :: st) h = (jv_ip h a 0 0 v w).bind fun h => jv_ev d 68 316 lc st h := jq_iast (jv_insR jm_68 dX12_dayGoes_315)
theorem e68_316 : jv_ev d 68 316 lc [] h = some (.inl none, h) := jq_retv (jv_insR jm_68 dX12_dayGoes_316) jr_68
/-! 69: RainLoomModel.lotOf(I)I -/
theorem n69 : jv_cd (d + 1) 69 [.ref a0, .int i1] h = jv_ev d 69 0 [some (.ref a0), some (.int i1)] [] h := rfl
theorem e69_0 : jv_ev d 69 0 [some (.ref a), x1] st h = jv_ev d 69 1 [some (.ref a), x1] (.ref a :: st) h := jq_nx (jv_insR jm_69 dX12_lotOf_0) rfl
theorem e69_1 : jv_ev d 69 1 lc (.ref a :: st) h = (jv_gf h a [(0, 52, .int)]).bind fun r => jv_ev d 69 4 lc (r :: st) h := jq_get (jv_insR jm_69 dX12_lotOf_1) jo_69 jF_1_327
theorem e69_4 : jv_ev d 69 4 lc st h = jv_ev d 69 6 lc (.int 75 :: st) h := jq_bipush (jv_insR jm_69 dX12_lotOf_4) (by decide)
theorem e69_6 : jv_ev d 69 6 lc [z1, z0] h = (jv_cd d 70 [z0, z1] h).bind fun r => jv_on r (fun v h => jv_ev d 69 9 lc (v.toList ++ []) h) (fun q h => some (.inr q, h)) := jq_S (as := [z0, z1]) (rest := []) (jv_insR jm_69 dX12_lotOf_6) jo_69 jT_1_331 rfl rfl rfl rfl
theorem e69_9 : jv_ev d 69 9 [x0, some (.int v)] st h = jv_ev d 69 10 [x0, some (.int v)] (.int v :: st) h := jq_nx (jv_insR jm_69 dX12_lotOf_9) rfl
theorem e69_10 : jv_ev d 69 10 lc [z1, z0] h = (jv_cd d 70 [z0, z1] h).bind fun r => jv_on r (fun v h => jv_ev d 69 13 lc (v.toList ++ []) h) (fun q h => some (.inr q, h)) := jq_S (as := [z0, z1]) (rest := []) (jv_insR jm_69 dX12_lotOf_10) jo_69 jT_1_331 rfl rfl rfl rfl
theorem e69_13 : jv_ev d 69 13 lc st h = jv_ev d 69 14 lc (.int 1 :: st) h := jq_iconst (jv_insR jm_69 dX12_lotOf_13) (by decide)
theorem e69_14 : jv_ev d 69 14 lc (.int w :: .int v :: st) h = jv_ev d 69 15 lc (.int ((v.toUInt32 >>> (w.toUInt32 &&& Int32.toUInt32 31)).toInt32) :: st) h := jq_nx (jv_insR jm_69 dX12_lotOf_14) rfl
theorem e69_15 : jv_ev d 69 15 lc st h = jv_ev d 69 17 lc (.int 100 :: st) h := jq_bipush (jv_insR jm_69 dX12_lotOf_15) (by decide)
theorem e69_17 : jv_ev d 69 17 lc (.int w :: .int v :: st) h = if w = 0 then none else jv_ev d 69 18 lc (.int (v - v / w * w) :: st) h := jq_irem (jv_insR jm_69 dX12_lotOf_17)
theorem e69_18 : jv_ev d 69 18 lc [.int v] h = some (.inl (some (.int v)), h) := jq_reti (jv_insR jm_69 dX12_lotOf_18) jr_69
/-! 70: RainLoomModel.mixed(II)I -/
theorem n70 : jv_cd (d + 1) 70 [.int i0, .int i1] h = jv_ev d 70 0 [some (.int i0), some (.int i1), none] [] h := rfl
theorem e70_0 : jv_ev d 70 0 [some (.int v), x1, x2] st h = jv_ev d 70 1 [some (.int v), x1, x2] (.int v :: st) h := jq_nx (jv_insR jm_70 dX12_mixed_0) rfl
theorem e70_1 : jv_ev d 70 1 [x0, some (.int v), x2] st h = jv_ev d 70 2 [x0, some (.int v), x2] (.int v :: st) h := jq_nx (jv_insR jm_70 dX12_mixed_1) rfl
theorem e70_2 : jv_ev d 70 2 lc (.int w :: .int v :: st) h = jv_ev d 70 3 lc (.int (v ^^^ w) :: st) h := jq_nx (jv_insR jm_70 dX12_mixed_2) rfl
theorem e70_3 : jv_ev d 70 3 lc st h = jv_ev d 70 6 lc (.int (1103515245) :: st) h := jq_ldcw (jv_insR jm_70 dX12_mixed_3) jo_70 jK_1_330
theorem e70_6 : jv_ev d 70 6 lc (.int w :: .int v :: st) h = jv_ev d 70 7 lc (.int (v * w) :: st) h := jq_nx (jv_insR jm_70 dX12_mixed_6) rfl
theorem e70_7 : jv_ev d 70 7 lc st h = jv_ev d 70 10 lc (.int 12345 :: st) h := jq_sipush (jv_insR jm_70 dX12_mixed_7) (by decide)
theorem e70_10 : jv_ev d 70 10 lc (.int w :: .int v :: st) h = jv_ev d 70 11 lc (.int (v + w) :: st) h := jq_nx (jv_insR jm_70 dX12_mixed_10) rfl
theorem e70_11 : jv_ev d 70 11 [x0, x1, x2] (.int v :: st) h = jv_ev d 70 12 [x0, x1, some (.int v)] st h := jq_nx (jv_insR jm_70 dX12_mixed_11) rfl
theorem e70_12 : jv_ev d 70 12 [x0, x1, some (.int v)] st h = jv_ev d 70 13 [x0, x1, some (.int v)] (.int v :: st) h := jq_nx (jv_insR jm_70 dX12_mixed_12) rfl
theorem e70_13 : jv_ev d 70 13 [x0, x1, some (.int v)] st h = jv_ev d 70 14 [x0, x1, some (.int v)] (.int v :: st) h := jq_nx (jv_insR jm_70 dX12_mixed_13) rfl
theorem e70_14 : jv_ev d 70 14 lc st h = jv_ev d 70 16 lc (.int 15 :: st) h := jq_bipush (jv_insR jm_70 dX12_mixed_14) (by decide)
theorem e70_16 : jv_ev d 70 16 lc (.int w :: .int v :: st) h = jv_ev d 70 17 lc (.int ((v.toUInt32 >>> (w.toUInt32 &&& Int32.toUInt32 31)).toInt32) :: st) h := jq_nx (jv_insR jm_70 dX12_mixed_16) rfl
theorem e70_17 : jv_ev d 70 17 lc (.int w :: .int v :: st) h = jv_ev d 70 18 lc (.int (v ^^^ w) :: st) h := jq_nx (jv_insR jm_70 dX12_mixed_17) rfl
theorem e70_18 : jv_ev d 70 18 lc [.int v] h = some (.inl (some (.int v)), h) := jq_reti (jv_insR jm_70 dX12_mixed_18) jr_70
/-! 71: RainLoomModel.driesIn(I)I -/
theorem n71 : jv_cd (d + 1) 71 [.ref a0, .int i1] h = jv_ev d 71 0 [some (.ref a0), some (.int i1)] [] h := rfl
theorem e71_0 : jv_ev d 71 0 [some (.ref a), x1] st h = jv_ev d 71 1 [some (.ref a), x1] (.ref a :: st) h := jq_nx (jv_insR jm_71 dX12_driesIn_0) rfl
theorem e71_1 : jv_ev d 71 1 lc [.ref b] h = (jv_rc h b [(0, 56)]).bind fun y => (jv_cd d y [.ref b] h).bind fun r => jv_on r (fun v h => jv_ev d 71 4 lc (v.toList ++ []) h) (fun q h => some (.inr q, h)) := jq_V (as := []) (rest := []) (jv_insR jm_71 dX12_driesIn_1) jo_71 jV_1_337 rfl rfl rfl rfl
theorem e71_4 : jv_ev d 71 4 [some (.ref a), x1] st h = jv_ev d 71 5 [some (.ref a), x1] (.ref a :: st) h := jq_nx (jv_insR jm_71 dX12_driesIn_4) rfl
theorem e71_5 : jv_ev d 71 5 lc (.ref a :: st) h = (jv_gf h a [(0, 47, .array .int)]).bind fun r => jv_ev d 71 8 lc (r :: st) h := jq_get (jv_insR jm_71 dX12_driesIn_5) jo_71 jF_1_110
theorem e71_8 : jv_ev d 71 8 lc st h = jv_ev d 71 9 lc (.int 3 :: st) h := jq_iconst (jv_insR jm_71 dX12_driesIn_8) (by decide)
theorem e71_9 : jv_ev d 71 9 [some (.ref a), x1] st h = jv_ev d 71 10 [some (.ref a), x1] (.ref a :: st) h := jq_nx (jv_insR jm_71 dX12_driesIn_9) rfl
theorem e71_10 : jv_ev d 71 10 lc (.ref a :: st) h = (jv_gf h a [(0, 51, .array .int)]).bind fun r => jv_ev d 71 13 lc (r :: st) h := jq_get (jv_insR jm_71 dX12_driesIn_10) jo_71 jF_1_119
theorem e71_13 : jv_ev d 71 13 [x0, some (.int v)] st h = jv_ev d 71 14 [x0, some (.int v)] (.int v :: st) h := jq_nx (jv_insR jm_71 dX12_driesIn_13) rfl
theorem e71_14 : jv_ev d 71 14 lc (.int v :: .ref a :: st) h = (jv_ig h a 0 0 v).bind fun w => jv_ev d 71 15 lc (.int w :: st) h := jq_iald (jv_insR jm_71 dX12_driesIn_14)
theorem e71_15 : jv_ev d 71 15 lc (.int w :: .int v :: .ref a :: st) h = (jv_ip h a 0 0 v w).bind fun h => jv_ev d 71 16 lc st h := jq_iast (jv_insR jm_71 dX12_driesIn_15)
theorem e71_16 : jv_ev d 71 16 [some (.ref a), x1] st h = jv_ev d 71 17 [some (.ref a), x1] (.ref a :: st) h := jq_nx (jv_insR jm_71 dX12_driesIn_16) rfl
theorem e71_17 : jv_ev d 71 17 lc (.ref a :: st) h = (jv_gf h a [(0, 47, .array .int)]).bind fun r => jv_ev d 71 20 lc (r :: st) h := jq_get (jv_insR jm_71 dX12_driesIn_17) jo_71 jF_1_110
theorem e71_20 : jv_ev d 71 20 lc st h = jv_ev d 71 21 lc (.int 4 :: st) h := jq_iconst (jv_insR jm_71 dX12_driesIn_20) (by decide)
theorem e71_21 : jv_ev d 71 21 [some (.ref a), x1] st h = jv_ev d 71 22 [some (.ref a), x1] (.ref a :: st) h := jq_nx (jv_insR jm_71 dX12_driesIn_21) rfl
theorem e71_22 : jv_ev d 71 22 [x0, some (.int v)] st h = jv_ev d 71 23 [x0, some (.int v)] (.int v :: st) h := jq_nx (jv_insR jm_71 dX12_driesIn_22) rfl
theorem e71_23 : jv_ev d 71 23 lc [z0, .ref b, y0, y1] h = (jv_rc h b [(0, 44)]).bind fun y => (jv_cd d y [.ref b, z0] h).bind fun r => jv_on r (fun v h => jv_ev d 71 26 lc (v.toList ++ [y0, y1]) h) (fun q h => some (.inr q, h)) := jq_V (as := [z0]) (rest := [y0, y1]) (jv_insR jm_71 dX12_driesIn_23) jo_71 jV_1_350 rfl rfl rfl rfl
theorem e71_26 : jv_ev d 71 26 lc (.int w :: .int v :: .ref a :: st) h = (jv_ip h a 0 0 v w).bind fun h => jv_ev d 71 27 lc st h := jq_iast (jv_insR jm_71 dX12_driesIn_26)
theorem e71_27 : jv_ev d 71 27 [some (.ref a), x1] st h = jv_ev d 71 28 [some (.ref a), x1] (.ref a :: st) h := jq_nx (jv_insR jm_71 dX12_driesIn_27) rfl
theorem e71_28 : jv_ev d 71 28 lc (.ref a :: st) h = (jv_gf h a [(0, 47, .array .int)]).bind fun r => jv_ev d 71 31 lc (r :: st) h := jq_get (jv_insR jm_71 dX12_driesIn_28) jo_71 jF_1_110
theorem e71_31 : jv_ev d 71 31 lc st h = jv_ev d 71 32 lc (.int 5 :: st) h := jq_iconst (jv_insR jm_71 dX12_driesIn_31) (by decide)
theorem e71_32 : jv_ev d 71 32 [some (.ref a), x1] st h = jv_ev d 71 33 [some (.ref a), x1] (.ref a :: st) h := jq_nx (jv_insR jm_71 dX12_driesIn_32) rfl
theorem e71_33 : jv_ev d 71 33 [x0, some (.int v)] st h = jv_ev d 71 34 [x0, some (.int v)] (.int v :: st) h := jq_nx (jv_insR jm_71 dX12_driesIn_33) rfl
theorem e71_34 : jv_ev d 71 34 lc [z0, .ref b, y0, y1] h = (jv_rc h b [(0, 46)]).bind fun y => (jv_cd d y [.ref b, z0] h).bind fun r => jv_on r (fun v h => jv_ev d 71 37 lc (v.toList ++ [y0, y1]) h) (fun q h => some (.inr q, h)) := jq_V (as := [z0]) (rest := [y0, y1]) (jv_insR jm_71 dX12_driesIn_34) jo_71 jV_1_353 rfl rfl rfl rfl
theorem e71_37 : jv_ev d 71 37 lc (.int w :: .int v :: .ref a :: st) h = (jv_ip h a 0 0 v w).bind fun h => jv_ev d 71 38 lc st h := jq_iast (jv_insR jm_71 dX12_driesIn_37)
theorem e71_38 : jv_ev d 71 38 [some (.ref a), x1] st h = jv_ev d 71 39 [some (.ref a), x1] (.ref a :: st) h := jq_nx (jv_insR jm_71 dX12_driesIn_38) rfl
theorem e71_39 : jv_ev d 71 39 lc (.ref a :: st) h = (jv_gf h a [(0, 47, .array .int)]).bind fun r => jv_ev d 71 42 lc (r :: st) h := jq_get (jv_insR jm_71 dX12_driesIn_39) jo_71 jF_1_110
theorem e71_42 : jv_ev d 71 42 lc st h = jv_ev d 71 44 lc (.int 6 :: st) h := jq_bipush (jv_insR jm_71 dX12_driesIn_42) (by decide)
theorem e71_44 : jv_ev d 71 44 [some (.ref a), x1] st h = jv_ev d 71 45 [some (.ref a), x1] (.ref a :: st) h := jq_nx (jv_insR jm_71 dX12_driesIn_44) rfl
theorem e71_45 : jv_ev d 71 45 lc (.ref a :: st) h = (jv_gf h a [(0, 51, .array .int)]).bind fun r => jv_ev d 71 48 lc (r :: st) h := jq_get (jv_insR jm_71 dX12_driesIn_45) jo_71 jF_1_119
theorem e71_48 : jv_ev d 71 48 lc st h = jv_ev d 71 50 lc (.int 89 :: st) h := jq_bipush (jv_insR jm_71 dX12_driesIn_48) (by decide)
theorem e71_50 : jv_ev d 71 50 lc (.int v :: .ref a :: st) h = (jv_ig h a 0 0 v).bind fun w => jv_ev d 71 51 lc (.int w :: st) h := jq_iald (jv_insR jm_71 dX12_driesIn_50)
theorem e71_51 : jv_ev d 71 51 lc (.int w :: .int v :: .ref a :: st) h = (jv_ip h a 0 0 v w).bind fun h => jv_ev d 71 52 lc st h := jq_iast (jv_insR jm_71 dX12_driesIn_51)
theorem e71_52 : jv_ev d 71 52 [some (.ref a), x1] st h = jv_ev d 71 53 [some (.ref a), x1] (.ref a :: st) h := jq_nx (jv_insR jm_71 dX12_driesIn_52) rfl
theorem e71_53 : jv_ev d 71 53 lc st h = jv_ev d 71 54 lc (.int 1 :: st) h := jq_iconst (jv_insR jm_71 dX12_driesIn_53) (by decide)
theorem e71_54 : jv_ev d 71 54 lc st h = jv_ev d 71 55 lc (.int 1 :: st) h := jq_iconst (jv_insR jm_71 dX12_driesIn_54) (by decide)
theorem e71_55 : jv_ev d 71 55 lc st h = jv_ev d 71 57 lc (.int 99 :: st) h := jq_bipush (jv_insR jm_71 dX12_driesIn_55) (by decide)
theorem e71_57 : jv_ev d 71 57 lc [z2, z1, z0, .ref b] h = (jv_rc h b [(0, 57)]).bind fun y => (jv_cd d y [.ref b, z0, z1, z2] h).bind fun r => jv_on r (fun v h => jv_ev d 71 60 lc (v.toList ++ []) h) (fun q h => some (.inr q, h)) := jq_V (as := [z0, z1, z2]) (rest := []) (jv_insR jm_71 dX12_driesIn_57) jo_71 jV_1_340 rfl rfl rfl rfl
theorem e71_60 : jv_ev d 71 60 lc [.int v] h = some (.inl (some (.int v)), h) := jq_reti (jv_insR jm_71 dX12_driesIn_60) jr_71
/-! 72: RainLoomModel.undo()Z -/
theorem n72 : jv_cd (d + 1) 72 [.ref a0] h = jv_ev d 72 0 [some (.ref a0), none] [] h := rfl
theorem e72_0 : jv_ev d 72 0 [some (.ref a), x1] st h = jv_ev d 72 1 [some (.ref a), x1] (.ref a :: st) h := jq_nx (jv_insR jm_72 dX12_undo_0) rfl
theorem e72_1 : jv_ev d 72 1 lc (.ref a :: st) h = (jv_gf h a [(0, 53, .int)]).bind fun r => jv_ev d 72 4 lc (r :: st) h := jq_get (jv_insR jm_72 dX12_undo_1) jo_72 jF_1_265
theorem e72_4 : jv_ev d 72 4 lc (.int v :: st) h = if ¬ v = 0 then jv_ev d 72 9 lc st h else jv_ev d 72 7 lc st h := jq_if (jv_insR jm_72 dX12_undo_4) rfl (by decide)
theorem e72_7 : jv_ev d 72 7 lc st h = jv_ev d 72 8 lc (.int 0 :: st) h := jq_iconst (jv_insR jm_72 dX12_undo_7) (by decide)
theorem e72_8 : jv_ev d 72 8 lc [.int v] h = if narrow .boolean (.int v) = .int v then some (.inl (some (.int v)), h) else none := jq_ret (jv_insR jm_72 dX12_undo_8) jr_72 (by decide)
theorem e72_9 : jv_ev d 72 9 [some (.ref a), x1] st h = jv_ev d 72 10 [some (.ref a), x1] (.ref a :: st) h := jq_nx (jv_insR jm_72 dX12_undo_9) rfl
theorem e72_10 : jv_ev d 72 10 lc (.ref a :: st) h = jv_ev d 72 11 lc (.ref a :: .ref a :: st) h := jq_nx (jv_insR jm_72 dX12_undo_10) rfl
theorem e72_11 : jv_ev d 72 11 lc (.ref a :: st) h = (jv_gf h a [(0, 53, .int)]).bind fun r => jv_ev d 72 14 lc (r :: st) h := jq_get (jv_insR jm_72 dX12_undo_11) jo_72 jF_1_265
theorem e72_14 : jv_ev d 72 14 lc st h = jv_ev d 72 15 lc (.int 1 :: st) h := jq_iconst (jv_insR jm_72 dX12_undo_14) (by decide)
theorem e72_15 : jv_ev d 72 15 lc (.int w :: .int v :: st) h = jv_ev d 72 16 lc (.int (v - w) :: st) h := jq_nx (jv_insR jm_72 dX12_undo_15) rfl
theorem e72_16 : jv_ev d 72 16 lc (r :: .ref a :: st) h = (jv_pf h a [(0, 53, .int)] r).bind fun h => jv_ev d 72 19 lc st h := jq_put (jv_insR jm_72 dX12_undo_16) jo_72 ji_72 jG_1_265
theorem e72_19 : jv_ev d 72 19 lc st h = jv_ev d 72 20 lc (.int 0 :: st) h := jq_iconst (jv_insR jm_72 dX12_undo_19) (by decide)
theorem e72_20 : jv_ev d 72 20 [x0, x1] (.int v :: st) h = jv_ev d 72 21 [x0, some (.int v)] st h := jq_nx (jv_insR jm_72 dX12_undo_20) rfl
theorem e72_21 : jv_ev d 72 21 [x0, some (.int v)] st h = jv_ev d 72 22 [x0, some (.int v)] (.int v :: st) h := jq_nx (jv_insR jm_72 dX12_undo_21) rfl
theorem e72_22 : jv_ev d 72 22 lc st h = jv_ev d 72 24 lc (.int 92 :: st) h := jq_bipush (jv_insR jm_72 dX12_undo_22) (by decide)
theorem e72_24 : jv_ev d 72 24 lc (.int w :: .int v :: st) h = if w ≤ v then jv_ev d 72 53 lc st h else jv_ev d 72 27 lc st h := jq_if (jv_insR jm_72 dX12_undo_24) rfl (by decide)
theorem e72_27 : jv_ev d 72 27 [some (.ref a), x1] st h = jv_ev d 72 28 [some (.ref a), x1] (.ref a :: st) h := jq_nx (jv_insR jm_72 dX12_undo_27) rfl
theorem e72_28 : jv_ev d 72 28 lc (.ref a :: st) h = (jv_gf h a [(0, 50, .array .int)]).bind fun r => jv_ev d 72 31 lc (r :: st) h := jq_get (jv_insR jm_72 dX12_undo_28) jo_72 jF_1_116
theorem e72_31 : jv_ev d 72 31 [x0, some (.int v)] st h = jv_ev d 72 32 [x0, some (.int v)] (.int v :: st) h := jq_nx (jv_insR jm_72 dX12_undo_31) rfl
theorem e72_32 : jv_ev d 72 32 [some (.ref a), x1] st h = jv_ev d 72 33 [some (.ref a), x1] (.ref a :: st) h := jq_nx (jv_insR jm_72 dX12_undo_32) rfl
theorem e72_33 : jv_ev d 72 33 lc (.ref a :: st) h = (jv_gf h a [(0, 54, .array .int)]).bind fun r => jv_ev d 72 36 lc (r :: st) h := jq_get (jv_insR jm_72 dX12_undo_33) jo_72 jF_1_122
theorem e72_36 : jv_ev d 72 36 lc st h = jv_ev d 72 38 lc (.int 92 :: st) h := jq_bipush (jv_insR jm_72 dX12_undo_36) (by decide)
theorem e72_38 : jv_ev d 72 38 [some (.ref a), x1] st h = jv_ev d 72 39 [some (.ref a), x1] (.ref a :: st) h := jq_nx (jv_insR jm_72 dX12_undo_38) rfl
theorem e72_39 : jv_ev d 72 39 lc (.ref a :: st) h = (jv_gf h a [(0, 53, .int)]).bind fun r => jv_ev d 72 42 lc (r :: st) h := jq_get (jv_insR jm_72 dX12_undo_39) jo_72 jF_1_265
theorem e72_42 : jv_ev d 72 42 lc (.int w :: .int v :: st) h = jv_ev d 72 43 lc (.int (v * w) :: st) h := jq_nx (jv_insR jm_72 dX12_undo_42) rfl
theorem e72_43 : jv_ev d 72 43 [x0, some (.int v)] st h = jv_ev d 72 44 [x0, some (.int v)] (.int v :: st) h := jq_nx (jv_insR jm_72 dX12_undo_43) rfl
theorem e72_44 : jv_ev d 72 44 lc (.int w :: .int v :: st) h = jv_ev d 72 45 lc (.int (v + w) :: st) h := jq_nx (jv_insR jm_72 dX12_undo_44) rfl
theorem e72_45 : jv_ev d 72 45 lc (.int v :: .ref a :: st) h = (jv_ig h a 0 0 v).bind fun w => jv_ev d 72 46 lc (.int w :: st) h := jq_iald (jv_insR jm_72 dX12_undo_45)
theorem e72_46 : jv_ev d 72 46 lc (.int w :: .int v :: .ref a :: st) h = (jv_ip h a 0 0 v w).bind fun h => jv_ev d 72 47 lc st h := jq_iast (jv_insR jm_72 dX12_undo_46)
theorem e72_47 : jv_ev d 72 47 [x0, some (.int v)] st h = jv_ev d 72 50 [x0, some (.int (v + 1))] st h := jq_nx (jv_insR jm_72 dX12_undo_47) rfl
theorem e72_50 : jv_ev d 72 50 lc st h = jv_ev d 72 21 lc st h := jq_go (jv_insR jm_72 dX12_undo_50) (by decide)
theorem e72_53 : jv_ev d 72 53 lc st h = jv_ev d 72 54 lc (.int 1 :: st) h := jq_iconst (jv_insR jm_72 dX12_undo_53) (by decide)
theorem e72_54 : jv_ev d 72 54 lc [.int v] h = if narrow .boolean (.int v) = .int v then some (.inl (some (.int v)), h) else none := jq_ret (jv_insR jm_72 dX12_undo_54) jr_72 (by decide)
/-! 73: RainLoomModel.holds(IIIZ)I -/
theorem n73 : jv_cd (d + 1) 73 [.ref a0, .int i1, .int i2, .int i3, .int i4] h = jv_ev d 73 0 [some (.ref a0), some (.int i1), some (.int i2), some (.int i3), some (.int i4), none, none] [] h := rfl
theorem e73_0 : jv_ev d 73 0 [some (.ref a), x1, x2, x3, x4, x5, x6] st h = jv_ev d 73 1 [some (.ref a), x1, x2, x3, x4, x5, x6] (.ref a :: st) h := jq_nx (jv_insR jm_73 dX12_holds_0) rfl
theorem e73_1 : jv_ev d 73 1 [x0, some (.int v), x2, x3, x4, x5, x6] st h = jv_ev d 73 2 [x0, some (.int v), x2, x3, x4, x5, x6] (.int v :: st) h := jq_nx (jv_insR jm_73 dX12_holds_1) rfl
theorem e73_2 : jv_ev d 73 2 [x0, x1, some (.int v), x3, x4, x5, x6] st h = jv_ev d 73 3 [x0, x1, some (.int v), x3, x4, x5, x6] (.int v :: st) h := jq_nx (jv_insR jm_73 dX12_holds_2) rfl
theorem e73_3 : jv_ev d 73 3 [x0, x1, x2, some (.int v), x4, x5, x6] st h = jv_ev d 73 4 [x0, x1, x2, some (.int v), x4, x5, x6] (.int v :: st) h := jq_nx (jv_insR jm_73 dX12_holds_3) rfl
theorem e73_4 : jv_ev d 73 4 lc [z2, z1, z0, .ref b] h = (jv_rc h b [(0, 60)]).bind fun y => (jv_cd d y [.ref b, z0, z1, z2] h).bind fun r => jv_on r (fun v h => jv_ev d 73 7 lc (v.toList ++ []) h) (fun q h => some (.inr q, h)) := jq_V (as := [z0, z1, z2]) (rest := []) (jv_insR jm_73 dX12_holds_4) jo_73 jV_1_396 rfl rfl rfl rfl
theorem e73_7 : jv_ev d 73 7 lc (.int v :: st) h = if ¬ v = 0 then jv_ev d 73 12 lc st h else jv_ev d 73 10 lc st h := jq_if (jv_insR jm_73 dX12_holds_7) rfl (by decide)
theorem e73_10 : jv_ev d 73 10 lc st h = jv_ev d 73 11 lc (.int (-1) :: st) h := jq_iconst (jv_insR jm_73 dX12_holds_10) (by decide)
theorem e73_11 : jv_ev d 73 11 lc [.int v] h = some (.inl (some (.int v)), h) := jq_reti (jv_insR jm_73 dX12_holds_11) jr_73
theorem e73_12 : jv_ev d 73 12 [x0, x1, x2, x3, some (.int v), x5, x6] st h = jv_ev d 73 14 [x0, x1, x2, x3, some (.int v), x5, x6] (.int v :: st) h := jq_nx (jv_insR jm_73 dX12_holds_12) rfl
theorem e73_14 : jv_ev d 73 14 lc (.int v :: st) h = if ¬ v = 0 then jv_ev d 73 25 lc st h else jv_ev d 73 17 lc st h := jq_if (jv_insR jm_73 dX12_holds_14) rfl (by decide)
theorem e73_17 : jv_ev d 73 17 [some (.ref a), x1, x2, x3, x4, x5, x6] st h = jv_ev d 73 18 [some (.ref a), x1, x2, x3, x4, x5, x6] (.ref a :: st) h := jq_nx (jv_insR jm_73 dX12_holds_17) rfl
theorem e73_18 : jv_ev d 73 18 [x0, some (.int v), x2, x3, x4, x5, x6] st h = jv_ev d 73 19 [x0, some (.int v), x2, x3, x4, x5, x6] (.int v :: st) h := jq_nx (jv_insR jm_73 dX12_holds_18) rfl
theorem e73_19 : jv_ev d 73 19 [x0, x1, some (.int v), x3, x4, x5, x6] st h = jv_ev d 73 20 [x0, x1, some (.int v), x3, x4, x5, x6] (.int v :: st) h := jq_nx (jv_insR jm_73 dX12_holds_19) rfl
theorem e73_20 : jv_ev d 73 20 [x0, x1, x2, some (.int v), x4, x5, x6] st h = jv_ev d 73 21 [x0, x1, x2, some (.int v), x4, x5, x6] (.int v :: st) h := jq_nx (jv_insR jm_73 dX12_holds_20) rfl
theorem e73_21 : jv_ev d 73 21 lc [z2, z1, z0, .ref b] h = (jv_rc h b [(0, 74)]).bind fun y => (jv_cd d y [.ref b, z0, z1, z2] h).bind fun r => jv_on r (fun v h => jv_ev d 73 24 lc (v.toList ++ []) h) (fun q h => some (.inr q, h)) := jq_V (as := [z0, z1, z2]) (rest := []) (jv_insR jm_73 dX12_holds_21) jo_73 jV_1_405 rfl rfl rfl rfl
theorem e73_24 : jv_ev d 73 24 lc [.int v] h = some (.inl (some (.int v)), h) := jq_reti (jv_insR jm_73 dX12_holds_24) jr_73
theorem e73_25 : jv_ev d 73 25 lc st h = jv_ev d 73 26 lc (.int 0 :: st) h := jq_iconst (jv_insR jm_73 dX12_holds_25) (by decide)
theorem e73_26 : jv_ev d 73 26 [x0, x1, x2, x3, x4, x5, x6] (.int v :: st) h = jv_ev d 73 28 [x0, x1, x2, x3, x4, some (.int v), x6] st h := jq_nx (jv_insR jm_73 dX12_holds_26) rfl
theorem e73_28 : jv_ev d 73 28 lc st h = jv_ev d 73 29 lc (.int 0 :: st) h := jq_iconst (jv_insR jm_73 dX12_holds_28) (by decide)
theorem e73_29 : jv_ev d 73 29 [x0, x1, x2, x3, x4, x5, x6] (.int v :: st) h = jv_ev d 73 31 [x0, x1, x2, x3, x4, x5, some (.int v)] st h := jq_nx (jv_insR jm_73 dX12_holds_29) rfl
theorem e73_31 : jv_ev d 73 31 [x0, x1, x2, x3, x4, x5, some (.int v)] st h = jv_ev d 73 33 [x0, x1, x2, x3, x4, x5, some (.int v)] (.int v :: st) h := jq_nx (jv_insR jm_73 dX12_holds_31) rfl
theorem e73_33 : jv_ev d 73 33 [x0, x1, some (.int v), x3, x4, x5, x6] st h = jv_ev d 73 34 [x0, x1, some (.int v), x3, x4, x5, x6] (.int v :: st) h := jq_nx (jv_insR jm_73 dX12_holds_33) rfl
theorem e73_34 : jv_ev d 73 34 [x0, x1, x2, some (.int v), x4, x5, x6] st h = jv_ev d 73 35 [x0, x1, x2, some (.int v), x4, x5, x6] (.int v :: st) h := jq_nx (jv_insR jm_73 dX12_holds_34) rfl
theorem e73_35 : jv_ev d 73 35 lc (.int w :: .int v :: st) h = jv_ev d 73 36 lc (.int (v * w) :: st) h := jq_nx (jv_insR jm_73 dX12_holds_35) rfl
theorem e73_36 : jv_ev d 73 36 lc (.int w :: .int v :: st) h = if w ≤ v then jv_ev d 73 74 lc st h else jv_ev d 73 39 lc st h := jq_if (jv_insR jm_73 dX12_holds_36) rfl (by decide)
theorem e73_39 : jv_ev d 73 39 [some (.ref a), x1, x2, x3, x4, x5, x6] st h = jv_ev d 73 40 [some (.ref a), x1, x2, x3, x4, x5, x6] (.ref a :: st) h := jq_nx (jv_insR jm_73 dX12_holds_39) rfl
theorem e73_40 : jv_ev d 73 40 [x0, some (.int v), x2, x3, x4, x5, x6] st h = jv_ev d 73 41 [x0, some (.int v), x2, x3, x4, x5, x6] (.int v :: st) h := jq_nx (jv_insR jm_73 dX12_holds_40) rfl
theorem e73_41 : jv_ev d 73 41 [x0, x1, x2, x3, x4, x5, some (.int v)] st h = jv_ev d 73 43 [x0, x1, x2, x3, x4, x5, some (.int v)] (.int v :: st) h := jq_nx (jv_insR jm_73 dX12_holds_41) rfl
theorem e73_43 : jv_ev d 73 43 [x0, x1, some (.int v), x3, x4, x5, x6] st h = jv_ev d 73 44 [x0, x1, some (.int v), x3, x4, x5, x6] (.int v :: st) h := jq_nx (jv_insR jm_73 dX12_holds_43) rfl
theorem e73_44 : jv_ev d 73 44 lc (.int w :: .int v :: st) h = if w = 0 then none else jv_ev d 73 45 lc (.int (v - v / w * w) :: st) h := jq_irem (jv_insR jm_73 dX12_holds_44)
theorem e73_45 : jv_ev d 73 45 [some (.ref a), x1, x2, x3, x4, x5, x6] st h = jv_ev d 73 46 [some (.ref a), x1, x2, x3, x4, x5, x6] (.ref a :: st) h := jq_nx (jv_insR jm_73 dX12_holds_45) rfl
theorem e73_46 : jv_ev d 73 46 lc (.ref a :: st) h = (jv_gf h a [(0, 50, .array .int)]).bind fun r => jv_ev d 73 49 lc (r :: st) h := jq_get (jv_insR jm_73 dX12_holds_46) jo_73 jF_1_116
theorem e73_49 : jv_ev d 73 49 lc st h = jv_ev d 73 51 lc (.int 48 :: st) h := jq_bipush (jv_insR jm_73 dX12_holds_49) (by decide)
theorem e73_51 : jv_ev d 73 51 [x0, some (.int v), x2, x3, x4, x5, x6] st h = jv_ev d 73 52 [x0, some (.int v), x2, x3, x4, x5, x6] (.int v :: st) h := jq_nx (jv_insR jm_73 dX12_holds_51) rfl
theorem e73_52 : jv_ev d 73 52 lc (.int w :: .int v :: st) h = jv_ev d 73 53 lc (.int (v + w) :: st) h := jq_nx (jv_insR jm_73 dX12_holds_52) rfl
theorem e73_53 : jv_ev d 73 53 lc (.int v :: .ref a :: st) h = (jv_ig h a 0 0 v).bind fun w => jv_ev d 73 54 lc (.int w :: st) h := jq_iald (jv_insR jm_73 dX12_holds_53)
theorem e73_54 : jv_ev d 73 54 [x0, x1, x2, x3, x4, x5, some (.int v)] st h = jv_ev d 73 56 [x0, x1, x2, x3, x4, x5, some (.int v)] (.int v :: st) h := jq_nx (jv_insR jm_73 dX12_holds_54) rfl
theorem e73_56 : jv_ev d 73 56 [x0, x1, some (.int v), x3, x4, x5, x6] st h = jv_ev d 73 57 [x0, x1, some (.int v), x3, x4, x5, x6] (.int v :: st) h := jq_nx (jv_insR jm_73 dX12_holds_56) rfl
theorem e73_57 : jv_ev d 73 57 lc (.int w :: .int v :: st) h = if w = 0 then none else jv_ev d 73 58 lc (.int (v / w) :: st) h := jq_idiv (jv_insR jm_73 dX12_holds_57)
theorem e73_58 : jv_ev d 73 58 lc (.int w :: .int v :: st) h = jv_ev d 73 59 lc (.int (v + w) :: st) h := jq_nx (jv_insR jm_73 dX12_holds_58) rfl
theorem e73_59 : jv_ev d 73 59 lc [z2, z1, z0, .ref b] h = (jv_rc h b [(0, 55)]).bind fun y => (jv_cd d y [.ref b, z0, z1, z2] h).bind fun r => jv_on r (fun v h => jv_ev d 73 62 lc (v.toList ++ []) h) (fun q h => some (.inr q, h)) := jq_V (as := [z0, z1, z2]) (rest := []) (jv_insR jm_73 dX12_holds_59) jo_73 jV_1_356 rfl rfl rfl rfl
theorem e73_62 : jv_ev d 73 62 lc (.int v :: st) h = if ¬ v = 0 then jv_ev d 73 68 lc st h else jv_ev d 73 65 lc st h := jq_if (jv_insR jm_73 dX12_holds_62) rfl (by decide)
theorem e73_65 : jv_ev d 73 65 [x0, x1, x2, x3, x4, some (.int v), x6] st h = jv_ev d 73 68 [x0, x1, x2, x3, x4, some (.int (v + 1)), x6] st h := jq_nx (jv_insR jm_73 dX12_holds_65) rfl
theorem e73_68 : jv_ev d 73 68 [x0, x1, x2, x3, x4, x5, some (.int v)] st h = jv_ev d 73 71 [x0, x1, x2, x3, x4, x5, some (.int (v + 1))] st h := jq_nx (jv_insR jm_73 dX12_holds_68) rfl
theorem e73_71 : jv_ev d 73 71 lc st h = jv_ev d 73 31 lc st h := jq_go (jv_insR jm_73 dX12_holds_71) (by decide)
theorem e73_74 : jv_ev d 73 74 [x0, x1, x2, x3, x4, some (.int v), x6] st h = jv_ev d 73 76 [x0, x1, x2, x3, x4, some (.int v), x6] (.int v :: st) h := jq_nx (jv_insR jm_73 dX12_holds_74) rfl
theorem e73_76 : jv_ev d 73 76 lc [.int v] h = some (.inl (some (.int v)), h) := jq_reti (jv_insR jm_73 dX12_holds_76) jr_73
/-! 74: RainLoomModel.heldBy(III)I -/
theorem n74 : jv_cd (d + 1) 74 [.ref a0, .int i1, .int i2, .int i3] h = jv_ev d 74 0 [some (.ref a0), some (.int i1), some (.int i2), some (.int i3), none, none] [] h := rfl
theorem e74_0 : jv_ev d 74 0 lc st h = jv_ev d 74 1 lc (.int 0 :: st) h := jq_iconst (jv_insR jm_74 dX12_heldBy_0) (by decide)
theorem e74_1 : jv_ev d 74 1 [x0, x1, x2, x3, x4, x5] (.int v :: st) h = jv_ev d 74 3 [x0, x1, x2, x3, some (.int v), x5] st h := jq_nx (jv_insR jm_74 dX12_heldBy_1) rfl
theorem e74_3 : jv_ev d 74 3 lc st h = jv_ev d 74 4 lc (.int 0 :: st) h := jq_iconst (jv_insR jm_74 dX12_heldBy_3) (by decide)
theorem e74_4 : jv_ev d 74 4 [x0, x1, x2, x3, x4, x5] (.int v :: st) h = jv_ev d 74 6 [x0, x1, x2, x3, x4, some (.int v)] st h := jq_nx (jv_insR jm_74 dX12_heldBy_4) rfl
theorem e74_6 : jv_ev d 74 6 [x0, x1, x2, x3, x4, some (.int v)] st h = jv_ev d 74 8 [x0, x1, x2, x3, x4, some (.int v)] (.int v :: st) h := jq_nx (jv_insR jm_74 dX12_heldBy_6) rfl
theorem e74_8 : jv_ev d 74 8 [x0, x1, some (.int v), x3, x4, x5] st h = jv_ev d 74 9 [x0, x1, some (.int v), x3, x4, x5] (.int v :: st) h := jq_nx (jv_insR jm_74 dX12_heldBy_8) rfl
theorem e74_9 : jv_ev d 74 9 [x0, x1, x2, some (.int v), x4, x5] st h = jv_ev d 74 10 [x0, x1, x2, some (.int v), x4, x5] (.int v :: st) h := jq_nx (jv_insR jm_74 dX12_heldBy_9) rfl
theorem e74_10 : jv_ev d 74 10 lc (.int w :: .int v :: st) h = jv_ev d 74 11 lc (.int (v * w) :: st) h := jq_nx (jv_insR jm_74 dX12_heldBy_10) rfl
theorem e74_11 : jv_ev d 74 11 lc (.int w :: .int v :: st) h = if w ≤ v then jv_ev d 74 48 lc st h else jv_ev d 74 14 lc st h := jq_if (jv_insR jm_74 dX12_heldBy_11) rfl (by decide)
theorem e74_14 : jv_ev d 74 14 [x0, x1, x2, x3, some (.int v), x5] st h = jv_ev d 74 16 [x0, x1, x2, x3, some (.int v), x5] (.int v :: st) h := jq_nx (jv_insR jm_74 dX12_heldBy_14) rfl
theorem e74_16 : jv_ev d 74 16 [some (.ref a), x1, x2, x3, x4, x5] st h = jv_ev d 74 17 [some (.ref a), x1, x2, x3, x4, x5] (.ref a :: st) h := jq_nx (jv_insR jm_74 dX12_heldBy_16) rfl
theorem e74_17 : jv_ev d 74 17 [x0, some (.int v), x2, x3, x4, x5] st h = jv_ev d 74 18 [x0, some (.int v), x2, x3, x4, x5] (.int v :: st) h := jq_nx (jv_insR jm_74 dX12_heldBy_17) rfl
theorem e74_18 : jv_ev d 74 18 [x0, x1, x2, x3, x4, some (.int v)] st h = jv_ev d 74 20 [x0, x1, x2, x3, x4, some (.int v)] (.int v :: st) h := jq_nx (jv_insR jm_74 dX12_heldBy_18) rfl
theorem e74_20 : jv_ev d 74 20 [x0, x1, some (.int v), x3, x4, x5] st h = jv_ev d 74 21 [x0, x1, some (.int v), x3, x4, x5] (.int v :: st) h := jq_nx (jv_insR jm_74 dX12_heldBy_20) rfl
theorem e74_21 : jv_ev d 74 21 lc (.int w :: .int v :: st) h = if w = 0 then none else jv_ev d 74 22 lc (.int (v - v / w * w) :: st) h := jq_irem (jv_insR jm_74 dX12_heldBy_21)
theorem e74_22 : jv_ev d 74 22 [some (.ref a), x1, x2, x3, x4, x5] st h = jv_ev d 74 23 [some (.ref a), x1, x2, x3, x4, x5] (.ref a :: st) h := jq_nx (jv_insR jm_74 dX12_heldBy_22) rfl
theorem e74_23 : jv_ev d 74 23 lc (.ref a :: st) h = (jv_gf h a [(0, 50, .array .int)]).bind fun r => jv_ev d 74 26 lc (r :: st) h := jq_get (jv_insR jm_74 dX12_heldBy_23) jo_74 jF_1_116
theorem e74_26 : jv_ev d 74 26 lc st h = jv_ev d 74 28 lc (.int 48 :: st) h := jq_bipush (jv_insR jm_74 dX12_heldBy_26) (by decide)
theorem e74_28 : jv_ev d 74 28 [x0, some (.int v), x2, x3, x4, x5] st h = jv_ev d 74 29 [x0, some (.int v), x2, x3, x4, x5] (.int v :: st) h := jq_nx (jv_insR jm_74 dX12_heldBy_28) rfl
theorem e74_29 : jv_ev d 74 29 lc (.int w :: .int v :: st) h = jv_ev d 74 30 lc (.int (v + w) :: st) h := jq_nx (jv_insR jm_74 dX12_heldBy_29) rfl
theorem e74_30 : jv_ev d 74 30 lc (.int v :: .ref a :: st) h = (jv_ig h a 0 0 v).bind fun w => jv_ev d 74 31 lc (.int w :: st) h := jq_iald (jv_insR jm_74 dX12_heldBy_30)
theorem e74_31 : jv_ev d 74 31 [x0, x1, x2, x3, x4, some (.int v)] st h = jv_ev d 74 33 [x0, x1, x2, x3, x4, some (.int v)] (.int v :: st) h := jq_nx (jv_insR jm_74 dX12_heldBy_31) rfl
theorem e74_33 : jv_ev d 74 33 [x0, x1, some (.int v), x3, x4, x5] st h = jv_ev d 74 34 [x0, x1, some (.int v), x3, x4, x5] (.int v :: st) h := jq_nx (jv_insR jm_74 dX12_heldBy_33) rfl
theorem e74_34 : jv_ev d 74 34 lc (.int w :: .int v :: st) h = if w = 0 then none else jv_ev d 74 35 lc (.int (v / w) :: st) h := jq_idiv (jv_insR jm_74 dX12_heldBy_34)
theorem e74_35 : jv_ev d 74 35 lc (.int w :: .int v :: st) h = jv_ev d 74 36 lc (.int (v + w) :: st) h := jq_nx (jv_insR jm_74 dX12_heldBy_35) rfl
theorem e74_36 : jv_ev d 74 36 lc [z2, z1, z0, .ref b, y0] h = (jv_rc h b [(0, 55)]).bind fun y => (jv_cd d y [.ref b, z0, z1, z2] h).bind fun r => jv_on r (fun v h => jv_ev d 74 39 lc (v.toList ++ [y0]) h) (fun q h => some (.inr q, h)) := jq_V (as := [z0, z1, z2]) (rest := [y0]) (jv_insR jm_74 dX12_heldBy_36) jo_74 jV_1_356 rfl rfl rfl rfl
theorem e74_39 : jv_ev d 74 39 lc (.int w :: .int v :: st) h = jv_ev d 74 40 lc (.int (v + w) :: st) h := jq_nx (jv_insR jm_74 dX12_heldBy_39) rfl
theorem e74_40 : jv_ev d 74 40 [x0, x1, x2, x3, x4, x5] (.int v :: st) h = jv_ev d 74 42 [x0, x1, x2, x3, some (.int v), x5] st h := jq_nx (jv_insR jm_74 dX12_heldBy_40) rfl
theorem e74_42 : jv_ev d 74 42 [x0, x1, x2, x3, x4, some (.int v)] st h = jv_ev d 74 45 [x0, x1, x2, x3, x4, some (.int (v + 1))] st h := jq_nx (jv_insR jm_74 dX12_heldBy_42) rfl
theorem e74_45 : jv_ev d 74 45 lc st h = jv_ev d 74 6 lc st h := jq_go (jv_insR jm_74 dX12_heldBy_45) (by decide)
theorem e74_48 : jv_ev d 74 48 [x0, x1, x2, x3, some (.int v), x5] st h = jv_ev d 74 50 [x0, x1, x2, x3, some (.int v), x5] (.int v :: st) h := jq_nx (jv_insR jm_74 dX12_heldBy_48) rfl
theorem e74_50 : jv_ev d 74 50 lc [.int v] h = some (.inl (some (.int v)), h) := jq_reti (jv_insR jm_74 dX12_heldBy_50) jr_74
/-! 75: RainLoomModel.comes(III)I -/
theorem n75 : jv_cd (d + 1) 75 [.ref a0, .int i1, .int i2, .int i3] h = jv_ev d 75 0 [some (.ref a0), some (.int i1), some (.int i2), some (.int i3), none, none, none] [] h := rfl
theorem e75_0 : jv_ev d 75 0 [some (.ref a), x1, x2, x3, x4, x5, x6] st h = jv_ev d 75 1 [some (.ref a), x1, x2, x3, x4, x5, x6] (.ref a :: st) h := jq_nx (jv_insR jm_75 dX12_comes_0) rfl
theorem e75_1 : jv_ev d 75 1 [x0, some (.int v), x2, x3, x4, x5, x6] st h = jv_ev d 75 2 [x0, some (.int v), x2, x3, x4, x5, x6] (.int v :: st) h := jq_nx (jv_insR jm_75 dX12_comes_1) rfl
theorem e75_2 : jv_ev d 75 2 lc [z0, .ref b] h = (jv_rc h b [(0, 53)]).bind fun y => (jv_cd d y [.ref b, z0] h).bind fun r => jv_on r (fun v h => jv_ev d 75 5 lc (v.toList ++ []) h) (fun q h => some (.inr q, h)) := jq_V (as := [z0]) (rest := []) (jv_insR jm_75 dX12_comes_2) jo_75 jV_1_393 rfl rfl rfl rfl
theorem e75_5 : jv_ev d 75 5 lc (.int v :: st) h = if v = 0 then jv_ev d 75 42 lc st h else jv_ev d 75 8 lc st h := jq_if (jv_insR jm_75 dX12_comes_5) rfl (by decide)
theorem e75_8 : jv_ev d 75 8 [x0, x1, some (.int v), x3, x4, x5, x6] st h = jv_ev d 75 9 [x0, x1, some (.int v), x3, x4, x5, x6] (.int v :: st) h := jq_nx (jv_insR jm_75 dX12_comes_8) rfl
theorem e75_9 : jv_ev d 75 9 lc st h = jv_ev d 75 10 lc (.int 1 :: st) h := jq_iconst (jv_insR jm_75 dX12_comes_9) (by decide)
theorem e75_10 : jv_ev d 75 10 [some (.ref a), x1, x2, x3, x4, x5, x6] st h = jv_ev d 75 11 [some (.ref a), x1, x2, x3, x4, x5, x6] (.ref a :: st) h := jq_nx (jv_insR jm_75 dX12_comes_10) rfl
theorem e75_11 : jv_ev d 75 11 lc (.ref a :: st) h = (jv_gf h a [(0, 29, .array .int)]).bind fun r => jv_ev d 75 14 lc (r :: st) h := jq_get (jv_insR jm_75 dX12_comes_11) jo_75 jF_1_64
theorem e75_14 : jv_ev d 75 14 lc st h = jv_ev d 75 15 lc (.int 4 :: st) h := jq_iconst (jv_insR jm_75 dX12_comes_14) (by decide)
theorem e75_15 : jv_ev d 75 15 [some (.ref a), x1, x2, x3, x4, x5, x6] st h = jv_ev d 75 16 [some (.ref a), x1, x2, x3, x4, x5, x6] (.ref a :: st) h := jq_nx (jv_insR jm_75 dX12_comes_15) rfl
theorem e75_16 : jv_ev d 75 16 lc (.ref a :: st) h = (jv_gf h a [(0, 18, .int)]).bind fun r => jv_ev d 75 19 lc (r :: st) h := jq_get (jv_insR jm_75 dX12_comes_16) jo_75 jF_1_239
theorem e75_19 : jv_ev d 75 19 lc (.int w :: .int v :: st) h = jv_ev d 75 20 lc (.int (v * w) :: st) h := jq_nx (jv_insR jm_75 dX12_comes_19) rfl
theorem e75_20 : jv_ev d 75 20 [x0, some (.int v), x2, x3, x4, x5, x6] st h = jv_ev d 75 21 [x0, some (.int v), x2, x3, x4, x5, x6] (.int v :: st) h := jq_nx (jv_insR jm_75 dX12_comes_20) rfl
theorem e75_21 : jv_ev d 75 21 lc (.int w :: .int v :: st) h = jv_ev d 75 22 lc (.int (v + w) :: st) h := jq_nx (jv_insR jm_75 dX12_comes_21) rfl
theorem e75_22 : jv_ev d 75 22 lc (.int v :: .ref a :: st) h = (jv_ig h a 0 0 v).bind fun w => jv_ev d 75 23 lc (.int w :: st) h := jq_iald (jv_insR jm_75 dX12_comes_22)
theorem e75_23 : jv_ev d 75 23 lc [z2, z1, z0] h = (jv_cd d 40 [z0, z1, z2] h).bind fun r => jv_on r (fun v h => jv_ev d 75 26 lc (v.toList ++ []) h) (fun q h => some (.inr q, h)) := jq_S (as := [z0, z1, z2]) (rest := []) (jv_insR jm_75 dX12_comes_23) jo_75 jT_1_323 rfl rfl rfl rfl
theorem e75_26 : jv_ev d 75 26 lc (.int v :: st) h = if v = 0 then jv_ev d 75 42 lc st h else jv_ev d 75 29 lc st h := jq_if (jv_insR jm_75 dX12_comes_26) rfl (by decide)
theorem e75_29 : jv_ev d 75 29 [x0, x1, x2, some (.int v), x4, x5, x6] st h = jv_ev d 75 30 [x0, x1, x2, some (.int v), x4, x5, x6] (.int v :: st) h := jq_nx (jv_insR jm_75 dX12_comes_29) rfl
theorem e75_30 : jv_ev d 75 30 lc st h = jv_ev d 75 31 lc (.int 0 :: st) h := jq_iconst (jv_insR jm_75 dX12_comes_30) (by decide)
theorem e75_31 : jv_ev d 75 31 lc st h = jv_ev d 75 32 lc (.int 1 :: st) h := jq_iconst (jv_insR jm_75 dX12_comes_31) (by decide)
theorem e75_32 : jv_ev d 75 32 [x0, x1, some (.int v), x3, x4, x5, x6] st h = jv_ev d 75 33 [x0, x1, some (.int v), x3, x4, x5, x6] (.int v :: st) h := jq_nx (jv_insR jm_75 dX12_comes_32) rfl
theorem e75_33 : jv_ev d 75 33 lc (.int w :: .int v :: st) h = jv_ev d 75 34 lc (.int (v <<< (w &&& 31)) :: st) h := jq_nx (jv_insR jm_75 dX12_comes_33) rfl
theorem e75_34 : jv_ev d 75 34 lc st h = jv_ev d 75 35 lc (.int 1 :: st) h := jq_iconst (jv_insR jm_75 dX12_comes_34) (by decide)
theorem e75_35 : jv_ev d 75 35 lc (.int w :: .int v :: st) h = jv_ev d 75 36 lc (.int (v - w) :: st) h := jq_nx (jv_insR jm_75 dX12_comes_35) rfl
theorem e75_36 : jv_ev d 75 36 lc [z2, z1, z0] h = (jv_cd d 40 [z0, z1, z2] h).bind fun r => jv_on r (fun v h => jv_ev d 75 39 lc (v.toList ++ []) h) (fun q h => some (.inr q, h)) := jq_S (as := [z0, z1, z2]) (rest := []) (jv_insR jm_75 dX12_comes_36) jo_75 jT_1_323 rfl rfl rfl rfl
theorem e75_39 : jv_ev d 75 39 lc (.int v :: st) h = if ¬ v = 0 then jv_ev d 75 44 lc st h else jv_ev d 75 42 lc st h := jq_if (jv_insR jm_75 dX12_comes_39) rfl (by decide)
theorem e75_42 : jv_ev d 75 42 lc st h = jv_ev d 75 43 lc (.int (-1) :: st) h := jq_iconst (jv_insR jm_75 dX12_comes_42) (by decide)
theorem e75_43 : jv_ev d 75 43 lc [.int v] h = some (.inl (some (.int v)), h) := jq_reti (jv_insR jm_75 dX12_comes_43) jr_75
theorem e75_44 : jv_ev d 75 44 lc st h = jv_ev d 75 45 lc (.int 0 :: st) h := jq_iconst (jv_insR jm_75 dX12_comes_44) (by decide)
theorem e75_45 : jv_ev d 75 45 [x0, x1, x2, x3, x4, x5, x6] (.int v :: st) h = jv_ev d 75 47 [x0, x1, x2, x3, some (.int v), x5, x6] st h := jq_nx (jv_insR jm_75 dX12_comes_45) rfl
theorem e75_47 : jv_ev d 75 47 [x0, x1, x2, x3, some (.int v), x5, x6] st h = jv_ev d 75 49 [x0, x1, x2, x3, some (.int v), x5, x6] (.int v :: st) h := jq_nx (jv_insR jm_75 dX12_comes_47) rfl
theorem e75_49 : jv_ev d 75 49 lc st h = jv_ev d 75 52 lc (.int 200 :: st) h := jq_sipush (jv_insR jm_75 dX12_comes_49) (by decide)
theorem e75_52 : jv_ev d 75 52 lc (.int w :: .int v :: st) h = if w < v then jv_ev d 75 119 lc st h else jv_ev d 75 55 lc st h := jq_if (jv_insR jm_75 dX12_comes_52) rfl (by decide)
theorem e75_55 : jv_ev d 75 55 lc st h = jv_ev d 75 56 lc (.int 0 :: st) h := jq_iconst (jv_insR jm_75 dX12_comes_55) (by decide)
theorem e75_56 : jv_ev d 75 56 [x0, x1, x2, x3, x4, x5, x6] (.int v :: st) h = jv_ev d 75 58 [x0, x1, x2, x3, x4, some (.int v), x6] st h := jq_nx (jv_insR jm_75 dX12_comes_56) rfl
theorem e75_58 : jv_ev d 75 58 lc st h = jv_ev d 75 59 lc (.int 0 :: st) h := jq_iconst (jv_insR jm_75 dX12_comes_58) (by decide)
theorem e75_59 : jv_ev d 75 59 [x0, x1, x2, x3, x4, x5, x6] (.int v :: st) h = jv_ev d 75 61 [x0, x1, x2, x3, x4, x5, some (.int v)] st h := jq_nx (jv_insR jm_75 dX12_comes_59) rfl
theorem e75_61 : jv_ev d 75 61 [x0, x1, x2, x3, x4, x5, some (.int v)] st h = jv_ev d 75 63 [x0, x1, x2, x3, x4, x5, some (.int v)] (.int v :: st) h := jq_nx (jv_insR jm_75 dX12_comes_61) rfl
theorem e75_63 : jv_ev d 75 63 [x0, x1, some (.int v), x3, x4, x5, x6] st h = jv_ev d 75 64 [x0, x1, some (.int v), x3, x4, x5, x6] (.int v :: st) h := jq_nx (jv_insR jm_75 dX12_comes_63) rfl
theorem e75_64 : jv_ev d 75 64 lc (.int w :: .int v :: st) h = if w ≤ v then jv_ev d 75 104 lc st h else jv_ev d 75 67 lc st h := jq_if (jv_insR jm_75 dX12_comes_64) rfl (by decide)
theorem e75_67 : jv_ev d 75 67 [some (.ref a), x1, x2, x3, x4, x5, x6] st h = jv_ev d 75 68 [some (.ref a), x1, x2, x3, x4, x5, x6] (.ref a :: st) h := jq_nx (jv_insR jm_75 dX12_comes_67) rfl
theorem e75_68 : jv_ev d 75 68 [x0, some (.int v), x2, x3, x4, x5, x6] st h = jv_ev d 75 69 [x0, some (.int v), x2, x3, x4, x5, x6] (.int v :: st) h := jq_nx (jv_insR jm_75 dX12_comes_68) rfl
theorem e75_69 : jv_ev d 75 69 [x0, x1, x2, x3, x4, x5, some (.int v)] st h = jv_ev d 75 71 [x0, x1, x2, x3, x4, x5, some (.int v)] (.int v :: st) h := jq_nx (jv_insR jm_75 dX12_comes_69) rfl
theorem e75_71 : jv_ev d 75 71 [some (.ref a), x1, x2, x3, x4, x5, x6] st h = jv_ev d 75 72 [some (.ref a), x1, x2, x3, x4, x5, x6] (.ref a :: st) h := jq_nx (jv_insR jm_75 dX12_comes_71) rfl
theorem e75_72 : jv_ev d 75 72 lc (.ref a :: st) h = (jv_gf h a [(0, 50, .array .int)]).bind fun r => jv_ev d 75 75 lc (r :: st) h := jq_get (jv_insR jm_75 dX12_comes_72) jo_75 jF_1_116
theorem e75_75 : jv_ev d 75 75 lc st h = jv_ev d 75 77 lc (.int 48 :: st) h := jq_bipush (jv_insR jm_75 dX12_comes_75) (by decide)
theorem e75_77 : jv_ev d 75 77 [x0, some (.int v), x2, x3, x4, x5, x6] st h = jv_ev d 75 78 [x0, some (.int v), x2, x3, x4, x5, x6] (.int v :: st) h := jq_nx (jv_insR jm_75 dX12_comes_77) rfl
theorem e75_78 : jv_ev d 75 78 lc (.int w :: .int v :: st) h = jv_ev d 75 79 lc (.int (v + w) :: st) h := jq_nx (jv_insR jm_75 dX12_comes_78) rfl
theorem e75_79 : jv_ev d 75 79 lc (.int v :: .ref a :: st) h = (jv_ig h a 0 0 v).bind fun w => jv_ev d 75 80 lc (.int w :: st) h := jq_iald (jv_insR jm_75 dX12_comes_79)
theorem e75_80 : jv_ev d 75 80 [x0, x1, x2, x3, some (.int v), x5, x6] st h = jv_ev d 75 82 [x0, x1, x2, x3, some (.int v), x5, x6] (.int v :: st) h := jq_nx (jv_insR jm_75 dX12_comes_80) rfl
theorem e75_82 : jv_ev d 75 82 lc (.int w :: .int v :: st) h = jv_ev d 75 83 lc (.int (v + w) :: st) h := jq_nx (jv_insR jm_75 dX12_comes_82) rfl
theorem e75_83 : jv_ev d 75 83 lc [z2, z1, z0, .ref b] h = (jv_rc h b [(0, 55)]).bind fun y => (jv_cd d y [.ref b, z0, z1, z2] h).bind fun r => jv_on r (fun v h => jv_ev d 75 86 lc (v.toList ++ []) h) (fun q h => some (.inr q, h)) := jq_V (as := [z0, z1, z2]) (rest := []) (jv_insR jm_75 dX12_comes_83) jo_75 jV_1_356 rfl rfl rfl rfl
theorem e75_86 : jv_ev d 75 86 lc (.int v :: st) h = if v ≤ 0 then jv_ev d 75 98 lc st h else jv_ev d 75 89 lc st h := jq_if (jv_insR jm_75 dX12_comes_86) rfl (by decide)
theorem e75_89 : jv_ev d 75 89 [x0, x1, x2, x3, x4, some (.int v), x6] st h = jv_ev d 75 91 [x0, x1, x2, x3, x4, some (.int v), x6] (.int v :: st) h := jq_nx (jv_insR jm_75 dX12_comes_89) rfl
theorem e75_91 : jv_ev d 75 91 lc st h = jv_ev d 75 92 lc (.int 1 :: st) h := jq_iconst (jv_insR jm_75 dX12_comes_91) (by decide)
theorem e75_92 : jv_ev d 75 92 [x0, x1, x2, x3, x4, x5, some (.int v)] st h = jv_ev d 75 94 [x0, x1, x2, x3, x4, x5, some (.int v)] (.int v :: st) h := jq_nx (jv_insR jm_75 dX12_comes_92) rfl
theorem e75_94 : jv_ev d 75 94 lc (.int w :: .int v :: st) h = jv_ev d 75 95 lc (.int (v <<< (w &&& 31)) :: st) h := jq_nx (jv_insR jm_75 dX12_comes_94) rfl
theorem e75_95 : jv_ev d 75 95 lc (.int w :: .int v :: st) h = jv_ev d 75 96 lc (.int (v ||| w) :: st) h := jq_nx (jv_insR jm_75 dX12_comes_95) rfl
theorem e75_96 : jv_ev d 75 96 [x0, x1, x2, x3, x4, x5, x6] (.int v :: st) h = jv_ev d 75 98 [x0, x1, x2, x3, x4, some (.int v), x6] st h := jq_nx (jv_insR jm_75 dX12_comes_96) rfl
theorem e75_98 : jv_ev d 75 98 [x0, x1, x2, x3, x4, x5, some (.int v)] st h = jv_ev d 75 101 [x0, x1, x2, x3, x4, x5, some (.int (v + 1))] st h := jq_nx (jv_insR jm_75 dX12_comes_98) rfl
theorem e75_101 : jv_ev d 75 101 lc st h = jv_ev d 75 61 lc st h := jq_go (jv_insR jm_75 dX12_comes_101) (by decide)
theorem e75_104 : jv_ev d 75 104 [x0, x1, x2, x3, x4, some (.int v), x6] st h = jv_ev d 75 106 [x0, x1, x2, x3, x4, some (.int v), x6] (.int v :: st) h := jq_nx (jv_insR jm_75 dX12_comes_104) rfl
theorem e75_106 : jv_ev d 75 106 [x0, x1, x2, some (.int v), x4, x5, x6] st h = jv_ev d 75 107 [x0, x1, x2, some (.int v), x4, x5, x6] (.int v :: st) h := jq_nx (jv_insR jm_75 dX12_comes_106) rfl
theorem e75_107 : jv_ev d 75 107 lc (.int w :: .int v :: st) h = if ¬ v = w then jv_ev d 75 113 lc st h else jv_ev d 75 110 lc st h := jq_if (jv_insR jm_75 dX12_comes_107) rfl (by decide)
theorem e75_110 : jv_ev d 75 110 [x0, x1, x2, x3, some (.int v), x5, x6] st h = jv_ev d 75 112 [x0, x1, x2, x3, some (.int v), x5, x6] (.int v :: st) h := jq_nx (jv_insR jm_75 dX12_comes_110) rfl
theorem e75_112 : jv_ev d 75 112 lc [.int v] h = some (.inl (some (.int v)), h) := jq_reti (jv_insR jm_75 dX12_comes_112) jr_75
theorem e75_113 : jv_ev d 75 113 [x0, x1, x2, x3, some (.int v), x5, x6] st h = jv_ev d 75 116 [x0, x1, x2, x3, some (.int (v + 1)), x5, x6] st h := jq_nx (jv_insR jm_75 dX12_comes_113) rfl
theorem e75_116 : jv_ev d 75 116 lc st h = jv_ev d 75 47 lc st h := jq_go (jv_insR jm_75 dX12_comes_116) (by decide)
theorem e75_119 : jv_ev d 75 119 lc st h = jv_ev d 75 121 lc (.int (-2) :: st) h := jq_bipush (jv_insR jm_75 dX12_comes_119) (by decide)
theorem e75_121 : jv_ev d 75 121 lc [.int v] h = some (.inl (some (.int v)), h) := jq_reti (jv_insR jm_75 dX12_comes_121) jr_75
/-! 76: RainLoomModel.round(I)I -/
theorem n76 : jv_cd (d + 1) 76 [.ref a0, .int i1] h = jv_ev d 76 0 [some (.ref a0), some (.int i1), none] [] h := rfl
theorem e76_0 : jv_ev d 76 0 [some (.ref a), x1, x2] st h = jv_ev d 76 1 [some (.ref a), x1, x2] (.ref a :: st) h := jq_nx (jv_insR jm_76 dX12_round_0) rfl
theorem e76_1 : jv_ev d 76 1 [x0, some (.int v), x2] st h = jv_ev d 76 2 [x0, some (.int v), x2] (.int v :: st) h := jq_nx (jv_insR jm_76 dX12_round_1) rfl
theorem e76_2 : jv_ev d 76 2 lc [z0, .ref b] h = (jv_rc h b [(0, 53)]).bind fun y => (jv_cd d y [.ref b, z0] h).bind fun r => jv_on r (fun v h => jv_ev d 76 5 lc (v.toList ++ []) h) (fun q h => some (.inr q, h)) := jq_V (as := [z0]) (rest := []) (jv_insR jm_76 dX12_round_2) jo_76 jV_1_393 rfl rfl rfl rfl
theorem e76_5 : jv_ev d 76 5 lc (.int v :: st) h = if ¬ v = 0 then jv_ev d 76 10 lc st h else jv_ev d 76 8 lc st h := jq_if (jv_insR jm_76 dX12_round_5) rfl (by decide)
theorem e76_8 : jv_ev d 76 8 lc st h = jv_ev d 76 9 lc (.int (-1) :: st) h := jq_iconst (jv_insR jm_76 dX12_round_8) (by decide)
theorem e76_9 : jv_ev d 76 9 lc [.int v] h = some (.inl (some (.int v)), h) := jq_reti (jv_insR jm_76 dX12_round_9) jr_76
theorem e76_10 : jv_ev d 76 10 lc st h = jv_ev d 76 11 lc (.int 1 :: st) h := jq_iconst (jv_insR jm_76 dX12_round_10) (by decide)
theorem e76_11 : jv_ev d 76 11 [x0, x1, x2] (.int v :: st) h = jv_ev d 76 12 [x0, x1, some (.int v)] st h := jq_nx (jv_insR jm_76 dX12_round_11) rfl
theorem e76_12 : jv_ev d 76 12 [x0, x1, some (.int v)] st h = jv_ev d 76 13 [x0, x1, some (.int v)] (.int v :: st) h := jq_nx (jv_insR jm_76 dX12_round_12) rfl
theorem e76_13 : jv_ev d 76 13 lc st h = jv_ev d 76 15 lc (.int 99 :: st) h := jq_bipush (jv_insR jm_76 dX12_round_13) (by decide)
theorem e76_15 : jv_ev d 76 15 lc (.int w :: .int v :: st) h = if w < v then jv_ev d 76 35 lc st h else jv_ev d 76 18 lc st h := jq_if (jv_insR jm_76 dX12_round_15) rfl (by decide)
theorem e76_18 : jv_ev d 76 18 [some (.ref a), x1, x2] st h = jv_ev d 76 19 [some (.ref a), x1, x2] (.ref a :: st) h := jq_nx (jv_insR jm_76 dX12_round_18) rfl
theorem e76_19 : jv_ev d 76 19 [x0, some (.int v), x2] st h = jv_ev d 76 20 [x0, some (.int v), x2] (.int v :: st) h := jq_nx (jv_insR jm_76 dX12_round_19) rfl
theorem e76_20 : jv_ev d 76 20 [x0, x1, some (.int v)] st h = jv_ev d 76 21 [x0, x1, some (.int v)] (.int v :: st) h := jq_nx (jv_insR jm_76 dX12_round_20) rfl
theorem e76_21 : jv_ev d 76 21 lc [z1, z0, .ref b] h = (jv_rc h b [(0, 77)]).bind fun y => (jv_cd d y [.ref b, z0, z1] h).bind fun r => jv_on r (fun v h => jv_ev d 76 24 lc (v.toList ++ []) h) (fun q h => some (.inr q, h)) := jq_V (as := [z0, z1]) (rest := []) (jv_insR jm_76 dX12_round_21) jo_76 jV_1_408 rfl rfl rfl rfl
theorem e76_24 : jv_ev d 76 24 lc (.int v :: st) h = if v = 0 then jv_ev d 76 29 lc st h else jv_ev d 76 27 lc st h := jq_if (jv_insR jm_76 dX12_round_24) rfl (by decide)
theorem e76_27 : jv_ev d 76 27 [x0, x1, some (.int v)] st h = jv_ev d 76 28 [x0, x1, some (.int v)] (.int v :: st) h := jq_nx (jv_insR jm_76 dX12_round_27) rfl
theorem e76_28 : jv_ev d 76 28 lc [.int v] h = some (.inl (some (.int v)), h) := jq_reti (jv_insR jm_76 dX12_round_28) jr_76
theorem e76_29 : jv_ev d 76 29 [x0, x1, some (.int v)] st h = jv_ev d 76 32 [x0, x1, some (.int (v + 1))] st h := jq_nx (jv_insR jm_76 dX12_round_29) rfl
theorem e76_32 : jv_ev d 76 32 lc st h = jv_ev d 76 12 lc st h := jq_go (jv_insR jm_76 dX12_round_32) (by decide)
theorem e76_35 : jv_ev d 76 35 lc st h = jv_ev d 76 37 lc (.int (-2) :: st) h := jq_bipush (jv_insR jm_76 dX12_round_35) (by decide)
theorem e76_37 : jv_ev d 76 37 lc [.int v] h = some (.inl (some (.int v)), h) := jq_reti (jv_insR jm_76 dX12_round_37) jr_76
/-! 77: RainLoomModel.isRound(II)Z -/
theorem n77 : jv_cd (d + 1) 77 [.ref a0, .int i1, .int i2] h = jv_ev d 77 0 [some (.ref a0), some (.int i1), some (.int i2), none, none] [] h := rfl
theorem e77_0 : jv_ev d 77 0 lc st h = jv_ev d 77 1 lc (.int 0 :: st) h := jq_iconst (jv_insR jm_77 dX12_isRound_0) (by decide)
theorem e77_1 : jv_ev d 77 1 [x0, x1, x2, x3, x4] (.int v :: st) h = jv_ev d 77 2 [x0, x1, x2, some (.int v), x4] st h := jq_nx (jv_insR jm_77 dX12_isRound_1) rfl
theorem e77_2 : jv_ev d 77 2 [x0, x1, x2, some (.int v), x4] st h = jv_ev d 77 3 [x0, x1, x2, some (.int v), x4] (.int v :: st) h := jq_nx (jv_insR jm_77 dX12_isRound_2) rfl
theorem e77_3 : jv_ev d 77 3 lc st h = jv_ev d 77 5 lc (.int 48 :: st) h := jq_bipush (jv_insR jm_77 dX12_isRound_3) (by decide)
theorem e77_5 : jv_ev d 77 5 lc (.int w :: .int v :: st) h = if w ≤ v then jv_ev d 77 84 lc st h else jv_ev d 77 8 lc st h := jq_if (jv_insR jm_77 dX12_isRound_5) rfl (by decide)
theorem e77_8 : jv_ev d 77 8 lc st h = jv_ev d 77 9 lc (.int 0 :: st) h := jq_iconst (jv_insR jm_77 dX12_isRound_8) (by decide)
theorem e77_9 : jv_ev d 77 9 [x0, x1, x2, x3, x4] (.int v :: st) h = jv_ev d 77 11 [x0, x1, x2, x3, some (.int v)] st h := jq_nx (jv_insR jm_77 dX12_isRound_9) rfl
theorem e77_11 : jv_ev d 77 11 [x0, x1, x2, x3, some (.int v)] st h = jv_ev d 77 13 [x0, x1, x2, x3, some (.int v)] (.int v :: st) h := jq_nx (jv_insR jm_77 dX12_isRound_11) rfl
theorem e77_13 : jv_ev d 77 13 [some (.ref a), x1, x2, x3, x4] st h = jv_ev d 77 14 [some (.ref a), x1, x2, x3, x4] (.ref a :: st) h := jq_nx (jv_insR jm_77 dX12_isRound_13) rfl
theorem e77_14 : jv_ev d 77 14 lc (.ref a :: st) h = (jv_gf h a [(0, 29, .array .int)]).bind fun r => jv_ev d 77 17 lc (r :: st) h := jq_get (jv_insR jm_77 dX12_isRound_14) jo_77 jF_1_64
theorem e77_17 : jv_ev d 77 17 lc st h = jv_ev d 77 18 lc (.int 4 :: st) h := jq_iconst (jv_insR jm_77 dX12_isRound_17) (by decide)
theorem e77_18 : jv_ev d 77 18 [some (.ref a), x1, x2, x3, x4] st h = jv_ev d 77 19 [some (.ref a), x1, x2, x3, x4] (.ref a :: st) h := jq_nx (jv_insR jm_77 dX12_isRound_18) rfl
theorem e77_19 : jv_ev d 77 19 lc (.ref a :: st) h = (jv_gf h a [(0, 18, .int)]).bind fun r => jv_ev d 77 22 lc (r :: st) h := jq_get (jv_insR jm_77 dX12_isRound_19) jo_77 jF_1_239
theorem e77_22 : jv_ev d 77 22 lc (.int w :: .int v :: st) h = jv_ev d 77 23 lc (.int (v * w) :: st) h := jq_nx (jv_insR jm_77 dX12_isRound_22) rfl
theorem e77_23 : jv_ev d 77 23 [x0, some (.int v), x2, x3, x4] st h = jv_ev d 77 24 [x0, some (.int v), x2, x3, x4] (.int v :: st) h := jq_nx (jv_insR jm_77 dX12_isRound_23) rfl
theorem e77_24 : jv_ev d 77 24 lc (.int w :: .int v :: st) h = jv_ev d 77 25 lc (.int (v + w) :: st) h := jq_nx (jv_insR jm_77 dX12_isRound_24) rfl
theorem e77_25 : jv_ev d 77 25 lc (.int v :: .ref a :: st) h = (jv_ig h a 0 0 v).bind fun w => jv_ev d 77 26 lc (.int w :: st) h := jq_iald (jv_insR jm_77 dX12_isRound_25)
theorem e77_26 : jv_ev d 77 26 lc (.int w :: .int v :: st) h = if w ≤ v then jv_ev d 77 78 lc st h else jv_ev d 77 29 lc st h := jq_if (jv_insR jm_77 dX12_isRound_26) rfl (by decide)
theorem e77_29 : jv_ev d 77 29 [some (.ref a), x1, x2, x3, x4] st h = jv_ev d 77 30 [some (.ref a), x1, x2, x3, x4] (.ref a :: st) h := jq_nx (jv_insR jm_77 dX12_isRound_29) rfl
theorem e77_30 : jv_ev d 77 30 [x0, some (.int v), x2, x3, x4] st h = jv_ev d 77 31 [x0, some (.int v), x2, x3, x4] (.int v :: st) h := jq_nx (jv_insR jm_77 dX12_isRound_30) rfl
theorem e77_31 : jv_ev d 77 31 [x0, x1, x2, x3, some (.int v)] st h = jv_ev d 77 33 [x0, x1, x2, x3, some (.int v)] (.int v :: st) h := jq_nx (jv_insR jm_77 dX12_isRound_31) rfl
theorem e77_33 : jv_ev d 77 33 [some (.ref a), x1, x2, x3, x4] st h = jv_ev d 77 34 [some (.ref a), x1, x2, x3, x4] (.ref a :: st) h := jq_nx (jv_insR jm_77 dX12_isRound_33) rfl
theorem e77_34 : jv_ev d 77 34 lc (.ref a :: st) h = (jv_gf h a [(0, 50, .array .int)]).bind fun r => jv_ev d 77 37 lc (r :: st) h := jq_get (jv_insR jm_77 dX12_isRound_34) jo_77 jF_1_116
theorem e77_37 : jv_ev d 77 37 lc st h = jv_ev d 77 39 lc (.int 48 :: st) h := jq_bipush (jv_insR jm_77 dX12_isRound_37) (by decide)
theorem e77_39 : jv_ev d 77 39 [x0, some (.int v), x2, x3, x4] st h = jv_ev d 77 40 [x0, some (.int v), x2, x3, x4] (.int v :: st) h := jq_nx (jv_insR jm_77 dX12_isRound_39) rfl
theorem e77_40 : jv_ev d 77 40 lc (.int w :: .int v :: st) h = jv_ev d 77 41 lc (.int (v + w) :: st) h := jq_nx (jv_insR jm_77 dX12_isRound_40) rfl
theorem e77_41 : jv_ev d 77 41 lc (.int v :: .ref a :: st) h = (jv_ig h a 0 0 v).bind fun w => jv_ev d 77 42 lc (.int w :: st) h := jq_iald (jv_insR jm_77 dX12_isRound_41)
theorem e77_42 : jv_ev d 77 42 [x0, x1, x2, some (.int v), x4] st h = jv_ev d 77 43 [x0, x1, x2, some (.int v), x4] (.int v :: st) h := jq_nx (jv_insR jm_77 dX12_isRound_42) rfl
theorem e77_43 : jv_ev d 77 43 lc (.int w :: .int v :: st) h = jv_ev d 77 44 lc (.int (v + w) :: st) h := jq_nx (jv_insR jm_77 dX12_isRound_43) rfl
theorem e77_44 : jv_ev d 77 44 lc [z2, z1, z0, .ref b] h = (jv_rc h b [(0, 55)]).bind fun y => (jv_cd d y [.ref b, z0, z1, z2] h).bind fun r => jv_on r (fun v h => jv_ev d 77 47 lc (v.toList ++ []) h) (fun q h => some (.inr q, h)) := jq_V (as := [z0, z1, z2]) (rest := []) (jv_insR jm_77 dX12_isRound_44) jo_77 jV_1_356 rfl rfl rfl rfl
theorem e77_47 : jv_ev d 77 47 [some (.ref a), x1, x2, x3, x4] st h = jv_ev d 77 48 [some (.ref a), x1, x2, x3, x4] (.ref a :: st) h := jq_nx (jv_insR jm_77 dX12_isRound_47) rfl
theorem e77_48 : jv_ev d 77 48 [x0, some (.int v), x2, x3, x4] st h = jv_ev d 77 49 [x0, some (.int v), x2, x3, x4] (.int v :: st) h := jq_nx (jv_insR jm_77 dX12_isRound_48) rfl
theorem e77_49 : jv_ev d 77 49 [x0, x1, x2, x3, some (.int v)] st h = jv_ev d 77 51 [x0, x1, x2, x3, some (.int v)] (.int v :: st) h := jq_nx (jv_insR jm_77 dX12_isRound_49) rfl
theorem e77_51 : jv_ev d 77 51 [some (.ref a), x1, x2, x3, x4] st h = jv_ev d 77 52 [some (.ref a), x1, x2, x3, x4] (.ref a :: st) h := jq_nx (jv_insR jm_77 dX12_isRound_51) rfl
theorem e77_52 : jv_ev d 77 52 lc (.ref a :: st) h = (jv_gf h a [(0, 50, .array .int)]).bind fun r => jv_ev d 77 55 lc (r :: st) h := jq_get (jv_insR jm_77 dX12_isRound_52) jo_77 jF_1_116
theorem e77_55 : jv_ev d 77 55 lc st h = jv_ev d 77 57 lc (.int 48 :: st) h := jq_bipush (jv_insR jm_77 dX12_isRound_55) (by decide)
theorem e77_57 : jv_ev d 77 57 [x0, some (.int v), x2, x3, x4] st h = jv_ev d 77 58 [x0, some (.int v), x2, x3, x4] (.int v :: st) h := jq_nx (jv_insR jm_77 dX12_isRound_57) rfl
theorem e77_58 : jv_ev d 77 58 lc (.int w :: .int v :: st) h = jv_ev d 77 59 lc (.int (v + w) :: st) h := jq_nx (jv_insR jm_77 dX12_isRound_58) rfl
theorem e77_59 : jv_ev d 77 59 lc (.int v :: .ref a :: st) h = (jv_ig h a 0 0 v).bind fun w => jv_ev d 77 60 lc (.int w :: st) h := jq_iald (jv_insR jm_77 dX12_isRound_59)
theorem e77_60 : jv_ev d 77 60 [x0, x1, x2, some (.int v), x4] st h = jv_ev d 77 61 [x0, x1, x2, some (.int v), x4] (.int v :: st) h := jq_nx (jv_insR jm_77 dX12_isRound_60) rfl
theorem e77_61 : jv_ev d 77 61 lc (.int w :: .int v :: st) h = jv_ev d 77 62 lc (.int (v + w) :: st) h := jq_nx (jv_insR jm_77 dX12_isRound_61) rfl
theorem e77_62 : jv_ev d 77 62 [x0, x1, some (.int v), x3, x4] st h = jv_ev d 77 63 [x0, x1, some (.int v), x3, x4] (.int v :: st) h := jq_nx (jv_insR jm_77 dX12_isRound_62) rfl
theorem e77_63 : jv_ev d 77 63 lc (.int w :: .int v :: st) h = jv_ev d 77 64 lc (.int (v + w) :: st) h := jq_nx (jv_insR jm_77 dX12_isRound_63) rfl
theorem e77_64 : jv_ev d 77 64 lc [z2, z1, z0, .ref b, y0] h = (jv_rc h b [(0, 55)]).bind fun y => (jv_cd d y [.ref b, z0, z1, z2] h).bind fun r => jv_on r (fun v h => jv_ev d 77 67 lc (v.toList ++ [y0]) h) (fun q h => some (.inr q, h)) := jq_V (as := [z0, z1, z2]) (rest := [y0]) (jv_insR jm_77 dX12_isRound_64) jo_77 jV_1_356 rfl rfl rfl rfl
theorem e77_67 : jv_ev d 77 67 lc (.int w :: .int v :: st) h = if v = w then jv_ev d 77 72 lc st h else jv_ev d 77 70 lc st h := jq_if (jv_insR jm_77 dX12_isRound_67) rfl (by decide)
theorem e77_70 : jv_ev d 77 70 lc st h = jv_ev d 77 71 lc (.int 0 :: st) h := jq_iconst (jv_insR jm_77 dX12_isRound_70) (by decide)
theorem e77_71 : jv_ev d 77 71 lc [.int v] h = if narrow .boolean (.int v) = .int v then some (.inl (some (.int v)), h) else none := jq_ret (jv_insR jm_77 dX12_isRound_71) jr_77 (by decide)
theorem e77_72 : jv_ev d 77 72 [x0, x1, x2, x3, some (.int v)] st h = jv_ev d 77 75 [x0, x1, x2, x3, some (.int (v + 1))] st h := jq_nx (jv_insR jm_77 dX12_isRound_72) rfl
theorem e77_75 : jv_ev d 77 75 lc st h = jv_ev d 77 11 lc st h := jq_go (jv_insR jm_77 dX12_isRound_75) (by decide)
theorem e77_78 : jv_ev d 77 78 [x0, x1, x2, some (.int v), x4] st h = jv_ev d 77 81 [x0, x1, x2, some (.int (v + 1)), x4] st h := jq_nx (jv_insR jm_77 dX12_isRound_78) rfl
theorem e77_81 : jv_ev d 77 81 lc st h = jv_ev d 77 2 lc st h := jq_go (jv_insR jm_77 dX12_isRound_81) (by decide)
theorem e77_84 : jv_ev d 77 84 lc st h = jv_ev d 77 85 lc (.int 1 :: st) h := jq_iconst (jv_insR jm_77 dX12_isRound_84) (by decide)
theorem e77_85 : jv_ev d 77 85 lc [.int v] h = if narrow .boolean (.int v) = .int v then some (.inl (some (.int v)), h) else none := jq_ret (jv_insR jm_77 dX12_isRound_85) jr_77 (by decide)
/-! 78: RainLoomModel.agree(II)I -/
theorem n78 : jv_cd (d + 1) 78 [.ref a0, .int i1, .int i2] h = jv_ev d 78 0 [some (.ref a0), some (.int i1), some (.int i2), none, none, none] [] h := rfl
theorem e78_0 : jv_ev d 78 0 [some (.ref a), x1, x2, x3, x4, x5] st h = jv_ev d 78 1 [some (.ref a), x1, x2, x3, x4, x5] (.ref a :: st) h := jq_nx (jv_insR jm_78 dX12_agree_0) rfl
theorem e78_1 : jv_ev d 78 1 [x0, some (.int v), x2, x3, x4, x5] st h = jv_ev d 78 2 [x0, some (.int v), x2, x3, x4, x5] (.int v :: st) h := jq_nx (jv_insR jm_78 dX12_agree_1) rfl
theorem e78_2 : jv_ev d 78 2 lc [z0, .ref b] h = (jv_rc h b [(0, 53)]).bind fun y => (jv_cd d y [.ref b, z0] h).bind fun r => jv_on r (fun v h => jv_ev d 78 5 lc (v.toList ++ []) h) (fun q h => some (.inr q, h)) := jq_V (as := [z0]) (rest := []) (jv_insR jm_78 dX12_agree_2) jo_78 jV_1_393 rfl rfl rfl rfl
theorem e78_5 : jv_ev d 78 5 lc (.int v :: st) h = if v = 0 then jv_ev d 78 21 lc st h else jv_ev d 78 8 lc st h := jq_if (jv_insR jm_78 dX12_agree_5) rfl (by decide)
theorem e78_8 : jv_ev d 78 8 [some (.ref a), x1, x2, x3, x4, x5] st h = jv_ev d 78 9 [some (.ref a), x1, x2, x3, x4, x5] (.ref a :: st) h := jq_nx (jv_insR jm_78 dX12_agree_8) rfl
theorem e78_9 : jv_ev d 78 9 [x0, x1, some (.int v), x3, x4, x5] st h = jv_ev d 78 10 [x0, x1, some (.int v), x3, x4, x5] (.int v :: st) h := jq_nx (jv_insR jm_78 dX12_agree_9) rfl
theorem e78_10 : jv_ev d 78 10 lc [z0, .ref b] h = (jv_rc h b [(0, 53)]).bind fun y => (jv_cd d y [.ref b, z0] h).bind fun r => jv_on r (fun v h => jv_ev d 78 13 lc (v.toList ++ []) h) (fun q h => some (.inr q, h)) := jq_V (as := [z0]) (rest := []) (jv_insR jm_78 dX12_agree_10) jo_78 jV_1_393 rfl rfl rfl rfl
theorem e78_13 : jv_ev d 78 13 lc (.int v :: st) h = if v = 0 then jv_ev d 78 21 lc st h else jv_ev d 78 16 lc st h := jq_if (jv_insR jm_78 dX12_agree_13) rfl (by decide)
theorem e78_16 : jv_ev d 78 16 [x0, some (.int v), x2, x3, x4, x5] st h = jv_ev d 78 17 [x0, some (.int v), x2, x3, x4, x5] (.int v :: st) h := jq_nx (jv_insR jm_78 dX12_agree_16) rfl
theorem e78_17 : jv_ev d 78 17 [x0, x1, some (.int v), x3, x4, x5] st h = jv_ev d 78 18 [x0, x1, some (.int v), x3, x4, x5] (.int v :: st) h := jq_nx (jv_insR jm_78 dX12_agree_17) rfl
theorem e78_18 : jv_ev d 78 18 lc (.int w :: .int v :: st) h = if ¬ v = w then jv_ev d 78 23 lc st h else jv_ev d 78 21 lc st h := jq_if (jv_insR jm_78 dX12_agree_18) rfl (by decide)
theorem e78_21 : jv_ev d 78 21 lc st h = jv_ev d 78 22 lc (.int (-1) :: st) h := jq_iconst (jv_insR jm_78 dX12_agree_21) (by decide)
theorem e78_22 : jv_ev d 78 22 lc [.int v] h = some (.inl (some (.int v)), h) := jq_reti (jv_insR jm_78 dX12_agree_22) jr_78
theorem e78_23 : jv_ev d 78 23 lc st h = jv_ev d 78 24 lc (.int 0 :: st) h := jq_iconst (jv_insR jm_78 dX12_agree_23) (by decide)
theorem e78_24 : jv_ev d 78 24 [x0, x1, x2, x3, x4, x5] (.int v :: st) h = jv_ev d 78 25 [x0, x1, x2, some (.int v), x4, x5] st h := jq_nx (jv_insR jm_78 dX12_agree_24) rfl
theorem e78_25 : jv_ev d 78 25 [x0, x1, x2, some (.int v), x4, x5] st h = jv_ev d 78 26 [x0, x1, x2, some (.int v), x4, x5] (.int v :: st) h := jq_nx (jv_insR jm_78 dX12_agree_25) rfl
theorem e78_26 : jv_ev d 78 26 lc st h = jv_ev d 78 29 lc (.int 200 :: st) h := jq_sipush (jv_insR jm_78 dX12_agree_26) (by decide)
theorem e78_29 : jv_ev d 78 29 lc (.int w :: .int v :: st) h = if w < v then jv_ev d 78 135 lc st h else jv_ev d 78 32 lc st h := jq_if (jv_insR jm_78 dX12_agree_29) rfl (by decide)
theorem e78_32 : jv_ev d 78 32 lc st h = jv_ev d 78 33 lc (.int 1 :: st) h := jq_iconst (jv_insR jm_78 dX12_agree_32) (by decide)
theorem e78_33 : jv_ev d 78 33 [x0, x1, x2, x3, x4, x5] (.int v :: st) h = jv_ev d 78 35 [x0, x1, x2, x3, some (.int v), x5] st h := jq_nx (jv_insR jm_78 dX12_agree_33) rfl
theorem e78_35 : jv_ev d 78 35 lc st h = jv_ev d 78 36 lc (.int 0 :: st) h := jq_iconst (jv_insR jm_78 dX12_agree_35) (by decide)
theorem e78_36 : jv_ev d 78 36 [x0, x1, x2, x3, x4, x5] (.int v :: st) h = jv_ev d 78 38 [x0, x1, x2, x3, x4, some (.int v)] st h := jq_nx (jv_insR jm_78 dX12_agree_36) rfl
theorem e78_38 : jv_ev d 78 38 [x0, x1, x2, x3, x4, some (.int v)] st h = jv_ev d 78 40 [x0, x1, x2, x3, x4, some (.int v)] (.int v :: st) h := jq_nx (jv_insR jm_78 dX12_agree_38) rfl
theorem e78_40 : jv_ev d 78 40 [some (.ref a), x1, x2, x3, x4, x5] st h = jv_ev d 78 41 [some (.ref a), x1, x2, x3, x4, x5] (.ref a :: st) h := jq_nx (jv_insR jm_78 dX12_agree_40) rfl
theorem e78_41 : jv_ev d 78 41 lc (.ref a :: st) h = (jv_gf h a [(0, 29, .array .int)]).bind fun r => jv_ev d 78 44 lc (r :: st) h := jq_get (jv_insR jm_78 dX12_agree_41) jo_78 jF_1_64
theorem e78_44 : jv_ev d 78 44 lc st h = jv_ev d 78 45 lc (.int 4 :: st) h := jq_iconst (jv_insR jm_78 dX12_agree_44) (by decide)
theorem e78_45 : jv_ev d 78 45 [some (.ref a), x1, x2, x3, x4, x5] st h = jv_ev d 78 46 [some (.ref a), x1, x2, x3, x4, x5] (.ref a :: st) h := jq_nx (jv_insR jm_78 dX12_agree_45) rfl
theorem e78_46 : jv_ev d 78 46 lc (.ref a :: st) h = (jv_gf h a [(0, 18, .int)]).bind fun r => jv_ev d 78 49 lc (r :: st) h := jq_get (jv_insR jm_78 dX12_agree_46) jo_78 jF_1_239
theorem e78_49 : jv_ev d 78 49 lc (.int w :: .int v :: st) h = jv_ev d 78 50 lc (.int (v * w) :: st) h := jq_nx (jv_insR jm_78 dX12_agree_49) rfl
theorem e78_50 : jv_ev d 78 50 [x0, some (.int v), x2, x3, x4, x5] st h = jv_ev d 78 51 [x0, some (.int v), x2, x3, x4, x5] (.int v :: st) h := jq_nx (jv_insR jm_78 dX12_agree_50) rfl
theorem e78_51 : jv_ev d 78 51 lc (.int w :: .int v :: st) h = jv_ev d 78 52 lc (.int (v + w) :: st) h := jq_nx (jv_insR jm_78 dX12_agree_51) rfl
theorem e78_52 : jv_ev d 78 52 lc (.int v :: .ref a :: st) h = (jv_ig h a 0 0 v).bind fun w => jv_ev d 78 53 lc (.int w :: st) h := jq_iald (jv_insR jm_78 dX12_agree_52)
theorem e78_53 : jv_ev d 78 53 lc (.int w :: .int v :: st) h = if w ≤ v then jv_ev d 78 122 lc st h else jv_ev d 78 56 lc st h := jq_if (jv_insR jm_78 dX12_agree_53) rfl (by decide)
theorem e78_56 : jv_ev d 78 56 [x0, x1, x2, x3, x4, some (.int v)] st h = jv_ev d 78 58 [x0, x1, x2, x3, x4, some (.int v)] (.int v :: st) h := jq_nx (jv_insR jm_78 dX12_agree_56) rfl
theorem e78_58 : jv_ev d 78 58 [some (.ref a), x1, x2, x3, x4, x5] st h = jv_ev d 78 59 [some (.ref a), x1, x2, x3, x4, x5] (.ref a :: st) h := jq_nx (jv_insR jm_78 dX12_agree_58) rfl
theorem e78_59 : jv_ev d 78 59 lc (.ref a :: st) h = (jv_gf h a [(0, 29, .array .int)]).bind fun r => jv_ev d 78 62 lc (r :: st) h := jq_get (jv_insR jm_78 dX12_agree_59) jo_78 jF_1_64
theorem e78_62 : jv_ev d 78 62 lc st h = jv_ev d 78 63 lc (.int 4 :: st) h := jq_iconst (jv_insR jm_78 dX12_agree_62) (by decide)
theorem e78_63 : jv_ev d 78 63 [some (.ref a), x1, x2, x3, x4, x5] st h = jv_ev d 78 64 [some (.ref a), x1, x2, x3, x4, x5] (.ref a :: st) h := jq_nx (jv_insR jm_78 dX12_agree_63) rfl
theorem e78_64 : jv_ev d 78 64 lc (.ref a :: st) h = (jv_gf h a [(0, 18, .int)]).bind fun r => jv_ev d 78 67 lc (r :: st) h := jq_get (jv_insR jm_78 dX12_agree_64) jo_78 jF_1_239
theorem e78_67 : jv_ev d 78 67 lc (.int w :: .int v :: st) h = jv_ev d 78 68 lc (.int (v * w) :: st) h := jq_nx (jv_insR jm_78 dX12_agree_67) rfl
theorem e78_68 : jv_ev d 78 68 [x0, x1, some (.int v), x3, x4, x5] st h = jv_ev d 78 69 [x0, x1, some (.int v), x3, x4, x5] (.int v :: st) h := jq_nx (jv_insR jm_78 dX12_agree_68) rfl
theorem e78_69 : jv_ev d 78 69 lc (.int w :: .int v :: st) h = jv_ev d 78 70 lc (.int (v + w) :: st) h := jq_nx (jv_insR jm_78 dX12_agree_69) rfl
theorem e78_70 : jv_ev d 78 70 lc (.int v :: .ref a :: st) h = (jv_ig h a 0 0 v).bind fun w => jv_ev d 78 71 lc (.int w :: st) h := jq_iald (jv_insR jm_78 dX12_agree_70)
theorem e78_71 : jv_ev d 78 71 lc (.int w :: .int v :: st) h = if w ≤ v then jv_ev d 78 122 lc st h else jv_ev d 78 74 lc st h := jq_if (jv_insR jm_78 dX12_agree_71) rfl (by decide)
theorem e78_74 : jv_ev d 78 74 [some (.ref a), x1, x2, x3, x4, x5] st h = jv_ev d 78 75 [some (.ref a), x1, x2, x3, x4, x5] (.ref a :: st) h := jq_nx (jv_insR jm_78 dX12_agree_74) rfl
theorem e78_75 : jv_ev d 78 75 [x0, some (.int v), x2, x3, x4, x5] st h = jv_ev d 78 76 [x0, some (.int v), x2, x3, x4, x5] (.int v :: st) h := jq_nx (jv_insR jm_78 dX12_agree_75) rfl
theorem e78_76 : jv_ev d 78 76 [x0, x1, x2, x3, x4, some (.int v)] st h = jv_ev d 78 78 [x0, x1, x2, x3, x4, some (.int v)] (.int v :: st) h := jq_nx (jv_insR jm_78 dX12_agree_76) rfl
theorem e78_78 : jv_ev d 78 78 [some (.ref a), x1, x2, x3, x4, x5] st h = jv_ev d 78 79 [some (.ref a), x1, x2, x3, x4, x5] (.ref a :: st) h := jq_nx (jv_insR jm_78 dX12_agree_78) rfl
theorem e78_79 : jv_ev d 78 79 lc (.ref a :: st) h = (jv_gf h a [(0, 50, .array .int)]).bind fun r => jv_ev d 78 82 lc (r :: st) h := jq_get (jv_insR jm_78 dX12_agree_79) jo_78 jF_1_116
theorem e78_82 : jv_ev d 78 82 lc st h = jv_ev d 78 84 lc (.int 48 :: st) h := jq_bipush (jv_insR jm_78 dX12_agree_82) (by decide)
theorem e78_84 : jv_ev d 78 84 [x0, some (.int v), x2, x3, x4, x5] st h = jv_ev d 78 85 [x0, some (.int v), x2, x3, x4, x5] (.int v :: st) h := jq_nx (jv_insR jm_78 dX12_agree_84) rfl
theorem e78_85 : jv_ev d 78 85 lc (.int w :: .int v :: st) h = jv_ev d 78 86 lc (.int (v + w) :: st) h := jq_nx (jv_insR jm_78 dX12_agree_85) rfl
theorem e78_86 : jv_ev d 78 86 lc (.int v :: .ref a :: st) h = (jv_ig h a 0 0 v).bind fun w => jv_ev d 78 87 lc (.int w :: st) h := jq_iald (jv_insR jm_78 dX12_agree_86)
theorem e78_87 : jv_ev d 78 87 [x0, x1, x2, some (.int v), x4, x5] st h = jv_ev d 78 88 [x0, x1, x2, some (.int v), x4, x5] (.int v :: st) h := jq_nx (jv_insR jm_78 dX12_agree_87) rfl
theorem e78_88 : jv_ev d 78 88 lc (.int w :: .int v :: st) h = jv_ev d 78 89 lc (.int (v + w) :: st) h := jq_nx (jv_insR jm_78 dX12_agree_88) rfl
theorem e78_89 : jv_ev d 78 89 lc [z2, z1, z0, .ref b] h = (jv_rc h b [(0, 55)]).bind fun y => (jv_cd d y [.ref b, z0, z1, z2] h).bind fun r => jv_on r (fun v h => jv_ev d 78 92 lc (v.toList ++ []) h) (fun q h => some (.inr q, h)) := jq_V (as := [z0, z1, z2]) (rest := []) (jv_insR jm_78 dX12_agree_89) jo_78 jV_1_356 rfl rfl rfl rfl
theorem e78_92 : jv_ev d 78 92 [some (.ref a), x1, x2, x3, x4, x5] st h = jv_ev d 78 93 [some (.ref a), x1, x2, x3, x4, x5] (.ref a :: st) h := jq_nx (jv_insR jm_78 dX12_agree_92) rfl
theorem e78_93 : jv_ev d 78 93 [x0, x1, some (.int v), x3, x4, x5] st h = jv_ev d 78 94 [x0, x1, some (.int v), x3, x4, x5] (.int v :: st) h := jq_nx (jv_insR jm_78 dX12_agree_93) rfl
theorem e78_94 : jv_ev d 78 94 [x0, x1, x2, x3, x4, some (.int v)] st h = jv_ev d 78 96 [x0, x1, x2, x3, x4, some (.int v)] (.int v :: st) h := jq_nx (jv_insR jm_78 dX12_agree_94) rfl
theorem e78_96 : jv_ev d 78 96 [some (.ref a), x1, x2, x3, x4, x5] st h = jv_ev d 78 97 [some (.ref a), x1, x2, x3, x4, x5] (.ref a :: st) h := jq_nx (jv_insR jm_78 dX12_agree_96) rfl
theorem e78_97 : jv_ev d 78 97 lc (.ref a :: st) h = (jv_gf h a [(0, 50, .array .int)]).bind fun r => jv_ev d 78 100 lc (r :: st) h := jq_get (jv_insR jm_78 dX12_agree_97) jo_78 jF_1_116
theorem e78_100 : jv_ev d 78 100 lc st h = jv_ev d 78 102 lc (.int 48 :: st) h := jq_bipush (jv_insR jm_78 dX12_agree_100) (by decide)
theorem e78_102 : jv_ev d 78 102 [x0, x1, some (.int v), x3, x4, x5] st h = jv_ev d 78 103 [x0, x1, some (.int v), x3, x4, x5] (.int v :: st) h := jq_nx (jv_insR jm_78 dX12_agree_102) rfl
theorem e78_103 : jv_ev d 78 103 lc (.int w :: .int v :: st) h = jv_ev d 78 104 lc (.int (v + w) :: st) h := jq_nx (jv_insR jm_78 dX12_agree_103) rfl
theorem e78_104 : jv_ev d 78 104 lc (.int v :: .ref a :: st) h = (jv_ig h a 0 0 v).bind fun w => jv_ev d 78 105 lc (.int w :: st) h := jq_iald (jv_insR jm_78 dX12_agree_104)
theorem e78_105 : jv_ev d 78 105 [x0, x1, x2, some (.int v), x4, x5] st h = jv_ev d 78 106 [x0, x1, x2, some (.int v), x4, x5] (.int v :: st) h := jq_nx (jv_insR jm_78 dX12_agree_105) rfl
theorem e78_106 : jv_ev d 78 106 lc (.int w :: .int v :: st) h = jv_ev d 78 107 lc (.int (v + w) :: st) h := jq_nx (jv_insR jm_78 dX12_agree_106) rfl
theorem e78_107 : jv_ev d 78 107 lc [z2, z1, z0, .ref b, y0] h = (jv_rc h b [(0, 55)]).bind fun y => (jv_cd d y [.ref b, z0, z1, z2] h).bind fun r => jv_on r (fun v h => jv_ev d 78 110 lc (v.toList ++ [y0]) h) (fun q h => some (.inr q, h)) := jq_V (as := [z0, z1, z2]) (rest := [y0]) (jv_insR jm_78 dX12_agree_107) jo_78 jV_1_356 rfl rfl rfl rfl
theorem e78_110 : jv_ev d 78 110 lc (.int w :: .int v :: st) h = if v = w then jv_ev d 78 116 lc st h else jv_ev d 78 113 lc st h := jq_if (jv_insR jm_78 dX12_agree_110) rfl (by decide)
theorem e78_113 : jv_ev d 78 113 lc st h = jv_ev d 78 114 lc (.int 0 :: st) h := jq_iconst (jv_insR jm_78 dX12_agree_113) (by decide)
theorem e78_114 : jv_ev d 78 114 [x0, x1, x2, x3, x4, x5] (.int v :: st) h = jv_ev d 78 116 [x0, x1, x2, x3, some (.int v), x5] st h := jq_nx (jv_insR jm_78 dX12_agree_114) rfl
theorem e78_116 : jv_ev d 78 116 [x0, x1, x2, x3, x4, some (.int v)] st h = jv_ev d 78 119 [x0, x1, x2, x3, x4, some (.int (v + 1))] st h := jq_nx (jv_insR jm_78 dX12_agree_116) rfl
theorem e78_119 : jv_ev d 78 119 lc st h = jv_ev d 78 38 lc st h := jq_go (jv_insR jm_78 dX12_agree_119) (by decide)
theorem e78_122 : jv_ev d 78 122 [x0, x1, x2, x3, some (.int v), x5] st h = jv_ev d 78 124 [x0, x1, x2, x3, some (.int v), x5] (.int v :: st) h := jq_nx (jv_insR jm_78 dX12_agree_122) rfl
theorem e78_124 : jv_ev d 78 124 lc (.int v :: st) h = if v = 0 then jv_ev d 78 129 lc st h else jv_ev d 78 127 lc st h := jq_if (jv_insR jm_78 dX12_agree_124) rfl (by decide)
theorem e78_127 : jv_ev d 78 127 [x0, x1, x2, some (.int v), x4, x5] st h = jv_ev d 78 128 [x0, x1, x2, some (.int v), x4, x5] (.int v :: st) h := jq_nx (jv_insR jm_78 dX12_agree_127) rfl
theorem e78_128 : jv_ev d 78 128 lc [.int v] h = some (.inl (some (.int v)), h) := jq_reti (jv_insR jm_78 dX12_agree_128) jr_78
theorem e78_129 : jv_ev d 78 129 [x0, x1, x2, some (.int v), x4, x5] st h = jv_ev d 78 132 [x0, x1, x2, some (.int (v + 1)), x4, x5] st h := jq_nx (jv_insR jm_78 dX12_agree_129) rfl
theorem e78_132 : jv_ev d 78 132 lc st h = jv_ev d 78 25 lc st h := jq_go (jv_insR jm_78 dX12_agree_132) (by decide)
theorem e78_135 : jv_ev d 78 135 lc st h = jv_ev d 78 137 lc (.int (-2) :: st) h := jq_bipush (jv_insR jm_78 dX12_agree_135) (by decide)
theorem e78_137 : jv_ev d 78 137 lc [.int v] h = some (.inl (some (.int v)), h) := jq_reti (jv_insR jm_78 dX12_agree_137) jr_78
/-! 79: RainLoomModel.where(IIII)I -/
theorem n79 : jv_cd (d + 1) 79 [.ref a0, .int i1, .int i2, .int i3, .int i4] h = jv_ev d 79 0 [some (.ref a0), some (.int i1), some (.int i2), some (.int i3), some (.int i4)] [] h := rfl
theorem e79_0 : jv_ev d 79 0 [some (.ref a), x1, x2, x3, x4] st h = jv_ev d 79 1 [some (.ref a), x1, x2, x3, x4] (.ref a :: st) h := jq_nx (jv_insR jm_79 dX12_where_0) rfl
theorem e79_1 : jv_ev d 79 1 [x0, some (.int v), x2, x3, x4] st h = jv_ev d 79 2 [x0, some (.int v), x2, x3, x4] (.int v :: st) h := jq_nx (jv_insR jm_79 dX12_where_1) rfl
theorem e79_2 : jv_ev d 79 2 [x0, x1, some (.int v), x3, x4] st h = jv_ev d 79 3 [x0, x1, some (.int v), x3, x4] (.int v :: st) h := jq_nx (jv_insR jm_79 dX12_where_2) rfl
theorem e79_3 : jv_ev d 79 3 [x0, x1, x2, some (.int v), x4] st h = jv_ev d 79 4 [x0, x1, x2, some (.int v), x4] (.int v :: st) h := jq_nx (jv_insR jm_79 dX12_where_3) rfl
theorem e79_4 : jv_ev d 79 4 lc [z2, z1, z0, .ref b] h = (jv_rc h b [(0, 60)]).bind fun y => (jv_cd d y [.ref b, z0, z1, z2] h).bind fun r => jv_on r (fun v h => jv_ev d 79 7 lc (v.toList ++ []) h) (fun q h => some (.inr q, h)) := jq_V (as := [z0, z1, z2]) (rest := []) (jv_insR jm_79 dX12_where_4) jo_79 jV_1_396 rfl rfl rfl rfl
theorem e79_7 : jv_ev d 79 7 lc (.int v :: st) h = if v = 0 then jv_ev d 79 20 lc st h else jv_ev d 79 10 lc st h := jq_if (jv_insR jm_79 dX12_where_7) rfl (by decide)
theorem e79_10 : jv_ev d 79 10 [x0, x1, x2, x3, some (.int v)] st h = jv_ev d 79 12 [x0, x1, x2, x3, some (.int v)] (.int v :: st) h := jq_nx (jv_insR jm_79 dX12_where_10) rfl
theorem e79_12 : jv_ev d 79 12 lc st h = jv_ev d 79 13 lc (.int 0 :: st) h := jq_iconst (jv_insR jm_79 dX12_where_12) (by decide)
theorem e79_13 : jv_ev d 79 13 lc st h = jv_ev d 79 14 lc (.int 2 :: st) h := jq_iconst (jv_insR jm_79 dX12_where_13) (by decide)
theorem e79_14 : jv_ev d 79 14 lc [z2, z1, z0] h = (jv_cd d 40 [z0, z1, z2] h).bind fun r => jv_on r (fun v h => jv_ev d 79 17 lc (v.toList ++ []) h) (fun q h => some (.inr q, h)) := jq_S (as := [z0, z1, z2]) (rest := []) (jv_insR jm_79 dX12_where_14) jo_79 jT_1_323 rfl rfl rfl rfl
theorem e79_17 : jv_ev d 79 17 lc (.int v :: st) h = if ¬ v = 0 then jv_ev d 79 24 lc st h else jv_ev d 79 20 lc st h := jq_if (jv_insR jm_79 dX12_where_17) rfl (by decide)
theorem e79_20 : jv_ev d 79 20 lc st h = jv_ev d 79 23 lc (.int (-1000) :: st) h := jq_sipush (jv_insR jm_79 dX12_where_20) (by decide)
theorem e79_23 : jv_ev d 79 23 lc [.int v] h = some (.inl (some (.int v)), h) := jq_reti (jv_insR jm_79 dX12_where_23) jr_79
theorem e79_24 : jv_ev d 79 24 [some (.ref a), x1, x2, x3, x4] st h = jv_ev d 79 25 [some (.ref a), x1, x2, x3, x4] (.ref a :: st) h := jq_nx (jv_insR jm_79 dX12_where_24) rfl
theorem e79_25 : jv_ev d 79 25 [x0, some (.int v), x2, x3, x4] st h = jv_ev d 79 26 [x0, some (.int v), x2, x3, x4] (.int v :: st) h := jq_nx (jv_insR jm_79 dX12_where_25) rfl
theorem e79_26 : jv_ev d 79 26 [x0, x1, some (.int v), x3, x4] st h = jv_ev d 79 27 [x0, x1, some (.int v), x3, x4] (.int v :: st) h := jq_nx (jv_insR jm_79 dX12_where_26) rfl
theorem e79_27 : jv_ev d 79 27 [x0, x1, x2, some (.int v), x4] st h = jv_ev d 79 28 [x0, x1, x2, some (.int v), x4] (.int v :: st) h := jq_nx (jv_insR jm_79 dX12_where_27) rfl
theorem e79_28 : jv_ev d 79 28 lc [z2, z1, z0, .ref b] h = (jv_rc h b [(0, 80)]).bind fun y => (jv_cd d y [.ref b, z0, z1, z2] h).bind fun r => jv_on r (fun v h => jv_ev d 79 31 lc (v.toList ++ []) h) (fun q h => some (.inr q, h)) := jq_V (as := [z0, z1, z2]) (rest := []) (jv_insR jm_79 dX12_where_28) jo_79 jV_1_420 rfl rfl rfl rfl
theorem e79_31 : jv_ev d 79 31 [some (.ref a), x1, x2, x3, x4] st h = jv_ev d 79 32 [some (.ref a), x1, x2, x3, x4] (.ref a :: st) h := jq_nx (jv_insR jm_79 dX12_where_31) rfl
theorem e79_32 : jv_ev d 79 32 lc (.ref a :: st) h = (jv_gf h a [(0, 56, .int)]).bind fun r => jv_ev d 79 35 lc (r :: st) h := jq_get (jv_insR jm_79 dX12_where_32) jo_79 jF_1_411
theorem e79_35 : jv_ev d 79 35 lc (.int v :: st) h = if 0 ≤ v then jv_ev d 79 42 lc st h else jv_ev d 79 38 lc st h := jq_if (jv_insR jm_79 dX12_where_35) rfl (by decide)
theorem e79_38 : jv_ev d 79 38 lc st h = jv_ev d 79 41 lc (.int (-1000) :: st) h := jq_sipush (jv_insR jm_79 dX12_where_38) (by decide)
theorem e79_41 : jv_ev d 79 41 lc [.int v] h = some (.inl (some (.int v)), h) := jq_reti (jv_insR jm_79 dX12_where_41) jr_79
theorem e79_42 : jv_ev d 79 42 [x0, x1, x2, x3, some (.int v)] st h = jv_ev d 79 44 [x0, x1, x2, x3, some (.int v)] (.int v :: st) h := jq_nx (jv_insR jm_79 dX12_where_42) rfl
theorem e79_44 : jv_ev d 79 44 lc (.int v :: st) h = if ¬ v = 0 then jv_ev d 79 54 lc st h else jv_ev d 79 47 lc st h := jq_if (jv_insR jm_79 dX12_where_44) rfl (by decide)
theorem e79_47 : jv_ev d 79 47 [some (.ref a), x1, x2, x3, x4] st h = jv_ev d 79 48 [some (.ref a), x1, x2, x3, x4] (.ref a :: st) h := jq_nx (jv_insR jm_79 dX12_where_47) rfl
theorem e79_48 : jv_ev d 79 48 lc (.ref a :: st) h = (jv_gf h a [(0, 55, .int)]).bind fun r => jv_ev d 79 51 lc (r :: st) h := jq_get (jv_insR jm_79 dX12_where_48) jo_79 jF_1_417
theorem e79_51 : jv_ev d 79 51 lc st h = jv_ev d 79 77 lc st h := jq_go (jv_insR jm_79 dX12_where_51) (by decide)
theorem e79_54 : jv_ev d 79 54 [x0, x1, x2, x3, some (.int v)] st h = jv_ev d 79 56 [x0, x1, x2, x3, some (.int v)] (.int v :: st) h := jq_nx (jv_insR jm_79 dX12_where_54) rfl
theorem e79_56 : jv_ev d 79 56 lc st h = jv_ev d 79 57 lc (.int 1 :: st) h := jq_iconst (jv_insR jm_79 dX12_where_56) (by decide)
theorem e79_57 : jv_ev d 79 57 lc (.int w :: .int v :: st) h = if ¬ v = w then jv_ev d 79 70 lc st h else jv_ev d 79 60 lc st h := jq_if (jv_insR jm_79 dX12_where_57) rfl (by decide)
theorem e79_60 : jv_ev d 79 60 [some (.ref a), x1, x2, x3, x4] st h = jv_ev d 79 61 [some (.ref a), x1, x2, x3, x4] (.ref a :: st) h := jq_nx (jv_insR jm_79 dX12_where_60) rfl
theorem e79_61 : jv_ev d 79 61 lc (.ref a :: st) h = (jv_gf h a [(0, 56, .int)]).bind fun r => jv_ev d 79 64 lc (r :: st) h := jq_get (jv_insR jm_79 dX12_where_61) jo_79 jF_1_411
theorem e79_64 : jv_ev d 79 64 lc st h = jv_ev d 79 66 lc (.int 8 :: st) h := jq_bipush (jv_insR jm_79 dX12_where_64) (by decide)
theorem e79_66 : jv_ev d 79 66 lc (.int w :: .int v :: st) h = if w = 0 then none else jv_ev d 79 67 lc (.int (v - v / w * w) :: st) h := jq_irem (jv_insR jm_79 dX12_where_66)
theorem e79_67 : jv_ev d 79 67 lc st h = jv_ev d 79 77 lc st h := jq_go (jv_insR jm_79 dX12_where_67) (by decide)
theorem e79_70 : jv_ev d 79 70 [some (.ref a), x1, x2, x3, x4] st h = jv_ev d 79 71 [some (.ref a), x1, x2, x3, x4] (.ref a :: st) h := jq_nx (jv_insR jm_79 dX12_where_70) rfl
theorem e79_71 : jv_ev d 79 71 lc (.ref a :: st) h = (jv_gf h a [(0, 56, .int)]).bind fun r => jv_ev d 79 74 lc (r :: st) h := jq_get (jv_insR jm_79 dX12_where_71) jo_79 jF_1_411
theorem e79_74 : jv_ev d 79 74 lc st h = jv_ev d 79 76 lc (.int 8 :: st) h := jq_bipush (jv_insR jm_79 dX12_where_74) (by decide)
theorem e79_76 : jv_ev d 79 76 lc (.int w :: .int v :: st) h = if w = 0 then none else jv_ev d 79 77 lc (.int (v / w) :: st) h := jq_idiv (jv_insR jm_79 dX12_where_76)
theorem e79_77 : jv_ev d 79 77 lc [.int v] h = some (.inl (some (.int v)), h) := jq_reti (jv_insR jm_79 dX12_where_77) jr_79
/-! 80: RainLoomModel.fillsWhere(III)V -/
theorem n80 : jv_cd (d + 1) 80 [.ref a0, .int i1, .int i2, .int i3] h = jv_ev d 80 0 [some (.ref a0), some (.int i1), some (.int i2), some (.int i3), none, none, none] [] h := rfl
theorem e80_0 : jv_ev d 80 0 [some (.ref a), x1, x2, x3, x4, x5, x6] st h = jv_ev d 80 1 [some (.ref a), x1, x2, x3, x4, x5, x6] (.ref a :: st) h := jq_nx (jv_insR jm_80 dX12_fillsWhere_0) rfl
theorem e80_1 : jv_ev d 80 1 lc st h = jv_ev d 80 2 lc (.int (-1) :: st) h := jq_iconst (jv_insR jm_80 dX12_fillsWhere_1) (by decide)
theorem e80_2 : jv_ev d 80 2 lc (r :: .ref a :: st) h = (jv_pf h a [(0, 56, .int)] r).bind fun h => jv_ev d 80 5 lc st h := jq_put (jv_insR jm_80 dX12_fillsWhere_2) jo_80 ji_80 jG_1_411
theorem e80_5 : jv_ev d 80 5 lc st h = jv_ev d 80 6 lc (.int 0 :: st) h := jq_iconst (jv_insR jm_80 dX12_fillsWhere_5) (by decide)
theorem e80_6 : jv_ev d 80 6 [x0, x1, x2, x3, x4, x5, x6] (.int v :: st) h = jv_ev d 80 8 [x0, x1, x2, x3, some (.int v), x5, x6] st h := jq_nx (jv_insR jm_80 dX12_fillsWhere_6) rfl
theorem e80_8 : jv_ev d 80 8 [x0, x1, x2, x3, some (.int v), x5, x6] st h = jv_ev d 80 10 [x0, x1, x2, x3, some (.int v), x5, x6] (.int v :: st) h := jq_nx (jv_insR jm_80 dX12_fillsWhere_8) rfl
theorem e80_10 : jv_ev d 80 10 [x0, x1, x2, some (.int v), x4, x5, x6] st h = jv_ev d 80 11 [x0, x1, x2, some (.int v), x4, x5, x6] (.int v :: st) h := jq_nx (jv_insR jm_80 dX12_fillsWhere_10) rfl
theorem e80_11 : jv_ev d 80 11 lc (.int w :: .int v :: st) h = jv_ev d 80 12 lc (.int (v + w) :: st) h := jq_nx (jv_insR jm_80 dX12_fillsWhere_11) rfl
theorem e80_12 : jv_ev d 80 12 [some (.ref a), x1, x2, x3, x4, x5, x6] st h = jv_ev d 80 13 [some (.ref a), x1, x2, x3, x4, x5, x6] (.ref a :: st) h := jq_nx (jv_insR jm_80 dX12_fillsWhere_12) rfl
theorem e80_13 : jv_ev d 80 13 lc (.ref a :: st) h = (jv_gf h a [(0, 22, .array .int)]).bind fun r => jv_ev d 80 16 lc (r :: st) h := jq_get (jv_insR jm_80 dX12_fillsWhere_13) jo_80 jF_1_43
theorem e80_16 : jv_ev d 80 16 [some (.ref a), x1, x2, x3, x4, x5, x6] st h = jv_ev d 80 17 [some (.ref a), x1, x2, x3, x4, x5, x6] (.ref a :: st) h := jq_nx (jv_insR jm_80 dX12_fillsWhere_16) rfl
theorem e80_17 : jv_ev d 80 17 lc (.ref a :: st) h = (jv_gf h a [(0, 18, .int)]).bind fun r => jv_ev d 80 20 lc (r :: st) h := jq_get (jv_insR jm_80 dX12_fillsWhere_17) jo_80 jF_1_239
theorem e80_20 : jv_ev d 80 20 lc (.int v :: .ref a :: st) h = (jv_ig h a 0 0 v).bind fun w => jv_ev d 80 21 lc (.int w :: st) h := jq_iald (jv_insR jm_80 dX12_fillsWhere_20)
theorem e80_21 : jv_ev d 80 21 lc (.int w :: .int v :: st) h = if w < v then jv_ev d 80 105 lc st h else jv_ev d 80 24 lc st h := jq_if (jv_insR jm_80 dX12_fillsWhere_21) rfl (by decide)
theorem e80_24 : jv_ev d 80 24 lc st h = jv_ev d 80 25 lc (.int 0 :: st) h := jq_iconst (jv_insR jm_80 dX12_fillsWhere_24) (by decide)
theorem e80_25 : jv_ev d 80 25 [x0, x1, x2, x3, x4, x5, x6] (.int v :: st) h = jv_ev d 80 27 [x0, x1, x2, x3, x4, some (.int v), x6] st h := jq_nx (jv_insR jm_80 dX12_fillsWhere_25) rfl
theorem e80_27 : jv_ev d 80 27 [x0, x1, x2, x3, x4, some (.int v), x6] st h = jv_ev d 80 29 [x0, x1, x2, x3, x4, some (.int v), x6] (.int v :: st) h := jq_nx (jv_insR jm_80 dX12_fillsWhere_27) rfl
theorem e80_29 : jv_ev d 80 29 [x0, x1, some (.int v), x3, x4, x5, x6] st h = jv_ev d 80 30 [x0, x1, some (.int v), x3, x4, x5, x6] (.int v :: st) h := jq_nx (jv_insR jm_80 dX12_fillsWhere_29) rfl
theorem e80_30 : jv_ev d 80 30 lc (.int w :: .int v :: st) h = jv_ev d 80 31 lc (.int (v + w) :: st) h := jq_nx (jv_insR jm_80 dX12_fillsWhere_30) rfl
theorem e80_31 : jv_ev d 80 31 [some (.ref a), x1, x2, x3, x4, x5, x6] st h = jv_ev d 80 32 [some (.ref a), x1, x2, x3, x4, x5, x6] (.ref a :: st) h := jq_nx (jv_insR jm_80 dX12_fillsWhere_31) rfl
theorem e80_32 : jv_ev d 80 32 lc (.ref a :: st) h = (jv_gf h a [(0, 23, .array .int)]).bind fun r => jv_ev d 80 35 lc (r :: st) h := jq_get (jv_insR jm_80 dX12_fillsWhere_32) jo_80 jF_1_46
theorem e80_35 : jv_ev d 80 35 [some (.ref a), x1, x2, x3, x4, x5, x6] st h = jv_ev d 80 36 [some (.ref a), x1, x2, x3, x4, x5, x6] (.ref a :: st) h := jq_nx (jv_insR jm_80 dX12_fillsWhere_35) rfl
theorem e80_36 : jv_ev d 80 36 lc (.ref a :: st) h = (jv_gf h a [(0, 18, .int)]).bind fun r => jv_ev d 80 39 lc (r :: st) h := jq_get (jv_insR jm_80 dX12_fillsWhere_36) jo_80 jF_1_239
theorem e80_39 : jv_ev d 80 39 lc (.int v :: .ref a :: st) h = (jv_ig h a 0 0 v).bind fun w => jv_ev d 80 40 lc (.int w :: st) h := jq_iald (jv_insR jm_80 dX12_fillsWhere_39)
theorem e80_40 : jv_ev d 80 40 lc (.int w :: .int v :: st) h = if w < v then jv_ev d 80 99 lc st h else jv_ev d 80 43 lc st h := jq_if (jv_insR jm_80 dX12_fillsWhere_40) rfl (by decide)
theorem e80_43 : jv_ev d 80 43 [some (.ref a), x1, x2, x3, x4, x5, x6] st h = jv_ev d 80 44 [some (.ref a), x1, x2, x3, x4, x5, x6] (.ref a :: st) h := jq_nx (jv_insR jm_80 dX12_fillsWhere_43) rfl
theorem e80_44 : jv_ev d 80 44 [x0, some (.int v), x2, x3, x4, x5, x6] st h = jv_ev d 80 45 [x0, some (.int v), x2, x3, x4, x5, x6] (.int v :: st) h := jq_nx (jv_insR jm_80 dX12_fillsWhere_44) rfl
theorem e80_45 : jv_ev d 80 45 [x0, x1, some (.int v), x3, x4, x5, x6] st h = jv_ev d 80 46 [x0, x1, some (.int v), x3, x4, x5, x6] (.int v :: st) h := jq_nx (jv_insR jm_80 dX12_fillsWhere_45) rfl
theorem e80_46 : jv_ev d 80 46 [x0, x1, x2, some (.int v), x4, x5, x6] st h = jv_ev d 80 47 [x0, x1, x2, some (.int v), x4, x5, x6] (.int v :: st) h := jq_nx (jv_insR jm_80 dX12_fillsWhere_46) rfl
theorem e80_47 : jv_ev d 80 47 [x0, x1, x2, x3, x4, some (.int v), x6] st h = jv_ev d 80 49 [x0, x1, x2, x3, x4, some (.int v), x6] (.int v :: st) h := jq_nx (jv_insR jm_80 dX12_fillsWhere_47) rfl
theorem e80_49 : jv_ev d 80 49 [x0, x1, x2, x3, some (.int v), x5, x6] st h = jv_ev d 80 51 [x0, x1, x2, x3, some (.int v), x5, x6] (.int v :: st) h := jq_nx (jv_insR jm_80 dX12_fillsWhere_49) rfl
theorem e80_51 : jv_ev d 80 51 lc [z4, z3, z2, z1, z0, .ref b] h = (jv_rc h b [(0, 81)]).bind fun y => (jv_cd d y [.ref b, z0, z1, z2, z3, z4] h).bind fun r => jv_on r (fun v h => jv_ev d 80 54 lc (v.toList ++ []) h) (fun q h => some (.inr q, h)) := jq_V (as := [z0, z1, z2, z3, z4]) (rest := []) (jv_insR jm_80 dX12_fillsWhere_51) jo_80 jV_1_414 rfl rfl rfl rfl
theorem e80_54 : jv_ev d 80 54 [x0, x1, x2, x3, x4, x5, x6] (.int v :: st) h = jv_ev d 80 56 [x0, x1, x2, x3, x4, x5, some (.int v)] st h := jq_nx (jv_insR jm_80 dX12_fillsWhere_54) rfl
theorem e80_56 : jv_ev d 80 56 [some (.ref a), x1, x2, x3, x4, x5, x6] st h = jv_ev d 80 57 [some (.ref a), x1, x2, x3, x4, x5, x6] (.ref a :: st) h := jq_nx (jv_insR jm_80 dX12_fillsWhere_56) rfl
theorem e80_57 : jv_ev d 80 57 lc (.ref a :: st) h = (jv_gf h a [(0, 56, .int)]).bind fun r => jv_ev d 80 60 lc (r :: st) h := jq_get (jv_insR jm_80 dX12_fillsWhere_57) jo_80 jF_1_411
theorem e80_60 : jv_ev d 80 60 lc (.int v :: st) h = if v < 0 then jv_ev d 80 75 lc st h else jv_ev d 80 63 lc st h := jq_if (jv_insR jm_80 dX12_fillsWhere_60) rfl (by decide)
theorem e80_63 : jv_ev d 80 63 [x0, x1, x2, x3, x4, x5, some (.int v)] st h = jv_ev d 80 65 [x0, x1, x2, x3, x4, x5, some (.int v)] (.int v :: st) h := jq_nx (jv_insR jm_80 dX12_fillsWhere_63) rfl
theorem e80_65 : jv_ev d 80 65 [some (.ref a), x1, x2, x3, x4, x5, x6] st h = jv_ev d 80 66 [some (.ref a), x1, x2, x3, x4, x5, x6] (.ref a :: st) h := jq_nx (jv_insR jm_80 dX12_fillsWhere_65) rfl
theorem e80_66 : jv_ev d 80 66 lc (.ref a :: st) h = (jv_gf h a [(0, 55, .int)]).bind fun r => jv_ev d 80 69 lc (r :: st) h := jq_get (jv_insR jm_80 dX12_fillsWhere_66) jo_80 jF_1_417
theorem e80_69 : jv_ev d 80 69 lc (.int w :: .int v :: st) h = if w < v then jv_ev d 80 75 lc st h else jv_ev d 80 72 lc st h := jq_if (jv_insR jm_80 dX12_fillsWhere_69) rfl (by decide)
theorem e80_72 : jv_ev d 80 72 lc st h = jv_ev d 80 93 lc st h := jq_go (jv_insR jm_80 dX12_fillsWhere_72) (by decide)
theorem e80_75 : jv_ev d 80 75 [some (.ref a), x1, x2, x3, x4, x5, x6] st h = jv_ev d 80 76 [some (.ref a), x1, x2, x3, x4, x5, x6] (.ref a :: st) h := jq_nx (jv_insR jm_80 dX12_fillsWhere_75) rfl
theorem e80_76 : jv_ev d 80 76 [x0, x1, x2, x3, x4, x5, some (.int v)] st h = jv_ev d 80 78 [x0, x1, x2, x3, x4, x5, some (.int v)] (.int v :: st) h := jq_nx (jv_insR jm_80 dX12_fillsWhere_76) rfl
theorem e80_78 : jv_ev d 80 78 lc (r :: .ref a :: st) h = (jv_pf h a [(0, 55, .int)] r).bind fun h => jv_ev d 80 81 lc st h := jq_put (jv_insR jm_80 dX12_fillsWhere_78) jo_80 ji_80 jG_1_417
theorem e80_81 : jv_ev d 80 81 [some (.ref a), x1, x2, x3, x4, x5, x6] st h = jv_ev d 80 82 [some (.ref a), x1, x2, x3, x4, x5, x6] (.ref a :: st) h := jq_nx (jv_insR jm_80 dX12_fillsWhere_81) rfl
theorem e80_82 : jv_ev d 80 82 lc st h = jv_ev d 80 84 lc (.int 8 :: st) h := jq_bipush (jv_insR jm_80 dX12_fillsWhere_82) (by decide)
theorem e80_84 : jv_ev d 80 84 [x0, x1, x2, x3, some (.int v), x5, x6] st h = jv_ev d 80 86 [x0, x1, x2, x3, some (.int v), x5, x6] (.int v :: st) h := jq_nx (jv_insR jm_80 dX12_fillsWhere_84) rfl
theorem e80_86 : jv_ev d 80 86 lc (.int w :: .int v :: st) h = jv_ev d 80 87 lc (.int (v * w) :: st) h := jq_nx (jv_insR jm_80 dX12_fillsWhere_86) rfl
theorem e80_87 : jv_ev d 80 87 [x0, x1, x2, x3, x4, some (.int v), x6] st h = jv_ev d 80 89 [x0, x1, x2, x3, x4, some (.int v), x6] (.int v :: st) h := jq_nx (jv_insR jm_80 dX12_fillsWhere_87) rfl
theorem e80_89 : jv_ev d 80 89 lc (.int w :: .int v :: st) h = jv_ev d 80 90 lc (.int (v + w) :: st) h := jq_nx (jv_insR jm_80 dX12_fillsWhere_89) rfl
theorem e80_90 : jv_ev d 80 90 lc (r :: .ref a :: st) h = (jv_pf h a [(0, 56, .int)] r).bind fun h => jv_ev d 80 93 lc st h := jq_put (jv_insR jm_80 dX12_fillsWhere_90) jo_80 ji_80 jG_1_411
theorem e80_93 : jv_ev d 80 93 [x0, x1, x2, x3, x4, some (.int v), x6] st h = jv_ev d 80 96 [x0, x1, x2, x3, x4, some (.int (v + 1)), x6] st h := jq_nx (jv_insR jm_80 dX12_fillsWhere_93) rfl
theorem e80_96 : jv_ev d 80 96 lc st h = jv_ev d 80 27 lc st h := jq_go (jv_insR jm_80 dX12_fillsWhere_96) (by decide)
theorem e80_99 : jv_ev d 80 99 [x0, x1, x2, x3, some (.int v), x5, x6] st h = jv_ev d 80 102 [x0, x1, x2, x3, some (.int (v + 1)), x5, x6] st h := jq_nx (jv_insR jm_80 dX12_fillsWhere_99) rfl
theorem e80_102 : jv_ev d 80 102 lc st h = jv_ev d 80 8 lc st h := jq_go (jv_insR jm_80 dX12_fillsWhere_102) (by decide)
theorem e80_105 : jv_ev d 80 105 lc [] h = some (.inl none, h) := jq_retv (jv_insR jm_80 dX12_fillsWhere_105) jr_80
/-! 81: RainLoomModel.moreBy(IIIII)I -/
theorem n81 : jv_cd (d + 1) 81 [.ref a0, .int i1, .int i2, .int i3, .int i4, .int i5] h = jv_ev d 81 0 [some (.ref a0), some (.int i1), some (.int i2), some (.int i3), some (.int i4), some (.int i5), none, none] [] h := rfl
theorem e81_0 : jv_ev d 81 0 [some (.ref a), x1, x2, x3, x4, x5, x6, x7] st h = jv_ev d 81 1 [some (.ref a), x1, x2, x3, x4, x5, x6, x7] (.ref a :: st) h := jq_nx (jv_insR jm_81 dX12_moreBy_0) rfl
theorem e81_1 : jv_ev d 81 1 lc [.ref b] h = (jv_rc h b [(0, 41)]).bind fun y => (jv_cd d y [.ref b] h).bind fun r => jv_on r (fun v h => jv_ev d 81 4 lc (v.toList ++ []) h) (fun q h => some (.inr q, h)) := jq_V (as := []) (rest := []) (jv_insR jm_81 dX12_moreBy_1) jo_81 jV_1_381 rfl rfl rfl rfl
theorem e81_4 : jv_ev d 81 4 [some (.ref a), x1, x2, x3, x4, x5, x6, x7] st h = jv_ev d 81 5 [some (.ref a), x1, x2, x3, x4, x5, x6, x7] (.ref a :: st) h := jq_nx (jv_insR jm_81 dX12_moreBy_4) rfl
theorem e81_5 : jv_ev d 81 5 [x0, some (.int v), x2, x3, x4, x5, x6, x7] st h = jv_ev d 81 6 [x0, some (.int v), x2, x3, x4, x5, x6, x7] (.int v :: st) h := jq_nx (jv_insR jm_81 dX12_moreBy_5) rfl
theorem e81_6 : jv_ev d 81 6 [x0, x1, some (.int v), x3, x4, x5, x6, x7] st h = jv_ev d 81 7 [x0, x1, some (.int v), x3, x4, x5, x6, x7] (.int v :: st) h := jq_nx (jv_insR jm_81 dX12_moreBy_6) rfl
theorem e81_7 : jv_ev d 81 7 [x0, x1, x2, some (.int v), x4, x5, x6, x7] st h = jv_ev d 81 8 [x0, x1, x2, some (.int v), x4, x5, x6, x7] (.int v :: st) h := jq_nx (jv_insR jm_81 dX12_moreBy_7) rfl
theorem e81_8 : jv_ev d 81 8 [x0, x1, x2, x3, some (.int v), x5, x6, x7] st h = jv_ev d 81 10 [x0, x1, x2, x3, some (.int v), x5, x6, x7] (.int v :: st) h := jq_nx (jv_insR jm_81 dX12_moreBy_8) rfl
theorem e81_10 : jv_ev d 81 10 [x0, x1, x2, x3, x4, some (.int v), x6, x7] st h = jv_ev d 81 12 [x0, x1, x2, x3, x4, some (.int v), x6, x7] (.int v :: st) h := jq_nx (jv_insR jm_81 dX12_moreBy_10) rfl
theorem e81_12 : jv_ev d 81 12 lc [z4, z3, z2, z1, z0, .ref b] h = (jv_rc h b [(0, 64)]).bind fun y => (jv_cd d y [.ref b, z0, z1, z2, z3, z4] h).bind fun r => jv_on r (fun v h => jv_ev d 81 15 lc (v.toList ++ []) h) (fun q h => some (.inr q, h)) := jq_V (as := [z0, z1, z2, z3, z4]) (rest := []) (jv_insR jm_81 dX12_moreBy_12) jo_81 jV_1_362 rfl rfl rfl rfl
theorem e81_15 : jv_ev d 81 15 lc (.int v :: st) h = jv_ev d 81 16 lc st h := jq_nx (jv_insR jm_81 dX12_moreBy_15) rfl
theorem e81_16 : jv_ev d 81 16 lc st h = jv_ev d 81 17 lc (.int 0 :: st) h := jq_iconst (jv_insR jm_81 dX12_moreBy_16) (by decide)
theorem e81_17 : jv_ev d 81 17 [x0, x1, x2, x3, x4, x5, x6, x7] (.int v :: st) h = jv_ev d 81 19 [x0, x1, x2, x3, x4, x5, some (.int v), x7] st h := jq_nx (jv_insR jm_81 dX12_moreBy_17) rfl
theorem e81_19 : jv_ev d 81 19 lc st h = jv_ev d 81 20 lc (.int 0 :: st) h := jq_iconst (jv_insR jm_81 dX12_moreBy_19) (by decide)
theorem e81_20 : jv_ev d 81 20 [x0, x1, x2, x3, x4, x5, x6, x7] (.int v :: st) h = jv_ev d 81 22 [x0, x1, x2, x3, x4, x5, x6, some (.int v)] st h := jq_nx (jv_insR jm_81 dX12_moreBy_20) rfl
theorem e81_22 : jv_ev d 81 22 [x0, x1, x2, x3, x4, x5, x6, some (.int v)] st h = jv_ev d 81 24 [x0, x1, x2, x3, x4, x5, x6, some (.int v)] (.int v :: st) h := jq_nx (jv_insR jm_81 dX12_moreBy_22) rfl
theorem e81_24 : jv_ev d 81 24 lc st h = jv_ev d 81 26 lc (.int 48 :: st) h := jq_bipush (jv_insR jm_81 dX12_moreBy_24) (by decide)
theorem e81_26 : jv_ev d 81 26 lc (.int w :: .int v :: st) h = if w ≤ v then jv_ev d 81 126 lc st h else jv_ev d 81 29 lc st h := jq_if (jv_insR jm_81 dX12_moreBy_26) rfl (by decide)
theorem e81_29 : jv_ev d 81 29 [some (.ref a), x1, x2, x3, x4, x5, x6, x7] st h = jv_ev d 81 30 [some (.ref a), x1, x2, x3, x4, x5, x6, x7] (.ref a :: st) h := jq_nx (jv_insR jm_81 dX12_moreBy_29) rfl
theorem e81_30 : jv_ev d 81 30 [x0, x1, x2, x3, x4, x5, x6, some (.int v)] st h = jv_ev d 81 32 [x0, x1, x2, x3, x4, x5, x6, some (.int v)] (.int v :: st) h := jq_nx (jv_insR jm_81 dX12_moreBy_30) rfl
theorem e81_32 : jv_ev d 81 32 lc [z0, .ref b] h = (jv_rc h b [(0, 50)]).bind fun y => (jv_cd d y [.ref b, z0] h).bind fun r => jv_on r (fun v h => jv_ev d 81 35 lc (v.toList ++ []) h) (fun q h => some (.inr q, h)) := jq_V (as := [z0]) (rest := []) (jv_insR jm_81 dX12_moreBy_32) jo_81 jV_1_366 rfl rfl rfl rfl
theorem e81_35 : jv_ev d 81 35 lc (.int v :: st) h = if v = 0 then jv_ev d 81 120 lc st h else jv_ev d 81 38 lc st h := jq_if (jv_insR jm_81 dX12_moreBy_35) rfl (by decide)
theorem e81_38 : jv_ev d 81 38 [some (.ref a), x1, x2, x3, x4, x5, x6, x7] st h = jv_ev d 81 39 [some (.ref a), x1, x2, x3, x4, x5, x6, x7] (.ref a :: st) h := jq_nx (jv_insR jm_81 dX12_moreBy_38) rfl
theorem e81_39 : jv_ev d 81 39 [x0, x1, x2, x3, x4, x5, x6, some (.int v)] st h = jv_ev d 81 41 [x0, x1, x2, x3, x4, x5, x6, some (.int v)] (.int v :: st) h := jq_nx (jv_insR jm_81 dX12_moreBy_39) rfl
theorem e81_41 : jv_ev d 81 41 lc [z0, .ref b] h = (jv_rc h b [(0, 42)]).bind fun y => (jv_cd d y [.ref b, z0] h).bind fun r => jv_on r (fun v h => jv_ev d 81 44 lc (v.toList ++ []) h) (fun q h => some (.inr q, h)) := jq_V (as := [z0]) (rest := []) (jv_insR jm_81 dX12_moreBy_41) jo_81 jV_1_347 rfl rfl rfl rfl
theorem e81_44 : jv_ev d 81 44 lc (.int v :: st) h = if 0 ≤ v then jv_ev d 81 50 lc st h else jv_ev d 81 47 lc st h := jq_if (jv_insR jm_81 dX12_moreBy_44) rfl (by decide)
theorem e81_47 : jv_ev d 81 47 lc st h = jv_ev d 81 120 lc st h := jq_go (jv_insR jm_81 dX12_moreBy_47) (by decide)
theorem e81_50 : jv_ev d 81 50 [some (.ref a), x1, x2, x3, x4, x5, x6, x7] st h = jv_ev d 81 51 [some (.ref a), x1, x2, x3, x4, x5, x6, x7] (.ref a :: st) h := jq_nx (jv_insR jm_81 dX12_moreBy_50) rfl
theorem e81_51 : jv_ev d 81 51 lc (.ref a :: st) h = (jv_gf h a [(0, 50, .array .int)]).bind fun r => jv_ev d 81 54 lc (r :: st) h := jq_get (jv_insR jm_81 dX12_moreBy_51) jo_81 jF_1_116
theorem e81_54 : jv_ev d 81 54 [x0, x1, x2, x3, x4, x5, x6, some (.int v)] st h = jv_ev d 81 56 [x0, x1, x2, x3, x4, x5, x6, some (.int v)] (.int v :: st) h := jq_nx (jv_insR jm_81 dX12_moreBy_54) rfl
theorem e81_56 : jv_ev d 81 56 lc (.int v :: .ref a :: st) h = (jv_ig h a 0 0 v).bind fun w => jv_ev d 81 57 lc (.int w :: st) h := jq_iald (jv_insR jm_81 dX12_moreBy_56)
theorem e81_57 : jv_ev d 81 57 [some (.ref a), x1, x2, x3, x4, x5, x6, x7] st h = jv_ev d 81 58 [some (.ref a), x1, x2, x3, x4, x5, x6, x7] (.ref a :: st) h := jq_nx (jv_insR jm_81 dX12_moreBy_57) rfl
theorem e81_58 : jv_ev d 81 58 [x0, x1, x2, x3, x4, x5, x6, some (.int v)] st h = jv_ev d 81 60 [x0, x1, x2, x3, x4, x5, x6, some (.int v)] (.int v :: st) h := jq_nx (jv_insR jm_81 dX12_moreBy_58) rfl
theorem e81_60 : jv_ev d 81 60 lc [z0, .ref b, y0] h = (jv_rc h b [(0, 44)]).bind fun y => (jv_cd d y [.ref b, z0] h).bind fun r => jv_on r (fun v h => jv_ev d 81 63 lc (v.toList ++ [y0]) h) (fun q h => some (.inr q, h)) := jq_V (as := [z0]) (rest := [y0]) (jv_insR jm_81 dX12_moreBy_60) jo_81 jV_1_350 rfl rfl rfl rfl
theorem e81_63 : jv_ev d 81 63 lc (.int w :: .int v :: st) h = if w ≤ v then jv_ev d 81 85 lc st h else jv_ev d 81 66 lc st h := jq_if (jv_insR jm_81 dX12_moreBy_63) rfl (by decide)
theorem e81_66 : jv_ev d 81 66 [some (.ref a), x1, x2, x3, x4, x5, x6, x7] st h = jv_ev d 81 67 [some (.ref a), x1, x2, x3, x4, x5, x6, x7] (.ref a :: st) h := jq_nx (jv_insR jm_81 dX12_moreBy_66) rfl
theorem e81_67 : jv_ev d 81 67 lc (.ref a :: st) h = (jv_gf h a [(0, 51, .array .int)]).bind fun r => jv_ev d 81 70 lc (r :: st) h := jq_get (jv_insR jm_81 dX12_moreBy_67) jo_81 jF_1_119
theorem e81_70 : jv_ev d 81 70 [x0, x1, x2, x3, x4, x5, x6, some (.int v)] st h = jv_ev d 81 72 [x0, x1, x2, x3, x4, x5, x6, some (.int v)] (.int v :: st) h := jq_nx (jv_insR jm_81 dX12_moreBy_70) rfl
theorem e81_72 : jv_ev d 81 72 lc (.int v :: .ref a :: st) h = (jv_ig h a 0 0 v).bind fun w => jv_ev d 81 73 lc (.int w :: st) h := jq_iald (jv_insR jm_81 dX12_moreBy_72)
theorem e81_73 : jv_ev d 81 73 [some (.ref a), x1, x2, x3, x4, x5, x6, x7] st h = jv_ev d 81 74 [some (.ref a), x1, x2, x3, x4, x5, x6, x7] (.ref a :: st) h := jq_nx (jv_insR jm_81 dX12_moreBy_73) rfl
theorem e81_74 : jv_ev d 81 74 [x0, x1, x2, x3, x4, x5, x6, some (.int v)] st h = jv_ev d 81 76 [x0, x1, x2, x3, x4, x5, x6, some (.int v)] (.int v :: st) h := jq_nx (jv_insR jm_81 dX12_moreBy_74) rfl
theorem e81_76 : jv_ev d 81 76 lc [z0, .ref b, y0] h = (jv_rc h b [(0, 44)]).bind fun y => (jv_cd d y [.ref b, z0] h).bind fun r => jv_on r (fun v h => jv_ev d 81 79 lc (v.toList ++ [y0]) h) (fun q h => some (.inr q, h)) := jq_V (as := [z0]) (rest := [y0]) (jv_insR jm_81 dX12_moreBy_76) jo_81 jV_1_350 rfl rfl rfl rfl
theorem e81_79 : jv_ev d 81 79 lc (.int w :: .int v :: st) h = if v < w then jv_ev d 81 85 lc st h else jv_ev d 81 82 lc st h := jq_if (jv_insR jm_81 dX12_moreBy_79) rfl (by decide)
theorem e81_82 : jv_ev d 81 82 [x0, x1, x2, x3, x4, x5, some (.int v), x7] st h = jv_ev d 81 85 [x0, x1, x2, x3, x4, x5, some (.int (v + 1)), x7] st h := jq_nx (jv_insR jm_81 dX12_moreBy_82) rfl
theorem e81_85 : jv_ev d 81 85 [some (.ref a), x1, x2, x3, x4, x5, x6, x7] st h = jv_ev d 81 86 [some (.ref a), x1, x2, x3, x4, x5, x6, x7] (.ref a :: st) h := jq_nx (jv_insR jm_81 dX12_moreBy_85) rfl
theorem e81_86 : jv_ev d 81 86 lc (.ref a :: st) h = (jv_gf h a [(0, 50, .array .int)]).bind fun r => jv_ev d 81 89 lc (r :: st) h := jq_get (jv_insR jm_81 dX12_moreBy_86) jo_81 jF_1_116
theorem e81_89 : jv_ev d 81 89 [x0, x1, x2, x3, x4, x5, x6, some (.int v)] st h = jv_ev d 81 91 [x0, x1, x2, x3, x4, x5, x6, some (.int v)] (.int v :: st) h := jq_nx (jv_insR jm_81 dX12_moreBy_89) rfl
theorem e81_91 : jv_ev d 81 91 lc (.int v :: .ref a :: st) h = (jv_ig h a 0 0 v).bind fun w => jv_ev d 81 92 lc (.int w :: st) h := jq_iald (jv_insR jm_81 dX12_moreBy_91)
theorem e81_92 : jv_ev d 81 92 [some (.ref a), x1, x2, x3, x4, x5, x6, x7] st h = jv_ev d 81 93 [some (.ref a), x1, x2, x3, x4, x5, x6, x7] (.ref a :: st) h := jq_nx (jv_insR jm_81 dX12_moreBy_92) rfl
theorem e81_93 : jv_ev d 81 93 [x0, x1, x2, x3, x4, x5, x6, some (.int v)] st h = jv_ev d 81 95 [x0, x1, x2, x3, x4, x5, x6, some (.int v)] (.int v :: st) h := jq_nx (jv_insR jm_81 dX12_moreBy_93) rfl
theorem e81_95 : jv_ev d 81 95 lc [z0, .ref b, y0] h = (jv_rc h b [(0, 46)]).bind fun y => (jv_cd d y [.ref b, z0] h).bind fun r => jv_on r (fun v h => jv_ev d 81 98 lc (v.toList ++ [y0]) h) (fun q h => some (.inr q, h)) := jq_V (as := [z0]) (rest := [y0]) (jv_insR jm_81 dX12_moreBy_95) jo_81 jV_1_353 rfl rfl rfl rfl
theorem e81_98 : jv_ev d 81 98 lc (.int w :: .int v :: st) h = if w < v then jv_ev d 81 120 lc st h else jv_ev d 81 101 lc st h := jq_if (jv_insR jm_81 dX12_moreBy_98) rfl (by decide)
theorem e81_101 : jv_ev d 81 101 [some (.ref a), x1, x2, x3, x4, x5, x6, x7] st h = jv_ev d 81 102 [some (.ref a), x1, x2, x3, x4, x5, x6, x7] (.ref a :: st) h := jq_nx (jv_insR jm_81 dX12_moreBy_101) rfl
theorem e81_102 : jv_ev d 81 102 lc (.ref a :: st) h = (jv_gf h a [(0, 51, .array .int)]).bind fun r => jv_ev d 81 105 lc (r :: st) h := jq_get (jv_insR jm_81 dX12_moreBy_102) jo_81 jF_1_119
theorem e81_105 : jv_ev d 81 105 [x0, x1, x2, x3, x4, x5, x6, some (.int v)] st h = jv_ev d 81 107 [x0, x1, x2, x3, x4, x5, x6, some (.int v)] (.int v :: st) h := jq_nx (jv_insR jm_81 dX12_moreBy_105) rfl
theorem e81_107 : jv_ev d 81 107 lc (.int v :: .ref a :: st) h = (jv_ig h a 0 0 v).bind fun w => jv_ev d 81 108 lc (.int w :: st) h := jq_iald (jv_insR jm_81 dX12_moreBy_107)
theorem e81_108 : jv_ev d 81 108 [some (.ref a), x1, x2, x3, x4, x5, x6, x7] st h = jv_ev d 81 109 [some (.ref a), x1, x2, x3, x4, x5, x6, x7] (.ref a :: st) h := jq_nx (jv_insR jm_81 dX12_moreBy_108) rfl
theorem e81_109 : jv_ev d 81 109 [x0, x1, x2, x3, x4, x5, x6, some (.int v)] st h = jv_ev d 81 111 [x0, x1, x2, x3, x4, x5, x6, some (.int v)] (.int v :: st) h := jq_nx (jv_insR jm_81 dX12_moreBy_109) rfl
theorem e81_111 : jv_ev d 81 111 lc [z0, .ref b, y0] h = (jv_rc h b [(0, 46)]).bind fun y => (jv_cd d y [.ref b, z0] h).bind fun r => jv_on r (fun v h => jv_ev d 81 114 lc (v.toList ++ [y0]) h) (fun q h => some (.inr q, h)) := jq_V (as := [z0]) (rest := [y0]) (jv_insR jm_81 dX12_moreBy_111) jo_81 jV_1_353 rfl rfl rfl rfl
theorem e81_114 : jv_ev d 81 114 lc (.int w :: .int v :: st) h = if v ≤ w then jv_ev d 81 120 lc st h else jv_ev d 81 117 lc st h := jq_if (jv_insR jm_81 dX12_moreBy_114) rfl (by decide)
theorem e81_117 : jv_ev d 81 117 [x0, x1, x2, x3, x4, x5, some (.int v), x7] st h = jv_ev d 81 120 [x0, x1, x2, x3, x4, x5, some (.int (v + (-1))), x7] st h := jq_nx (jv_insR jm_81 dX12_moreBy_117) rfl
theorem e81_120 : jv_ev d 81 120 [x0, x1, x2, x3, x4, x5, x6, some (.int v)] st h = jv_ev d 81 123 [x0, x1, x2, x3, x4, x5, x6, some (.int (v + 1))] st h := jq_nx (jv_insR jm_81 dX12_moreBy_120) rfl
theorem e81_123 : jv_ev d 81 123 lc st h = jv_ev d 81 22 lc st h := jq_go (jv_insR jm_81 dX12_moreBy_123) (by decide)
theorem e81_126 : jv_ev d 81 126 [x0, x1, x2, x3, x4, x5, some (.int v), x7] st h = jv_ev d 81 128 [x0, x1, x2, x3, x4, x5, some (.int v), x7] (.int v :: st) h := jq_nx (jv_insR jm_81 dX12_moreBy_126) rfl
theorem e81_128 : jv_ev d 81 128 lc [.int v] h = some (.inl (some (.int v)), h) := jq_reti (jv_insR jm_81 dX12_moreBy_128) jr_81
/-! 82: RainLoomModel.cut(IIII)I -/
theorem n82 : jv_cd (d + 1) 82 [.ref a0, .int i1, .int i2, .int i3, .int i4] h = jv_ev d 82 0 [some (.ref a0), some (.int i1), some (.int i2), some (.int i3), some (.int i4), none, none, none, none] [] h := rfl
theorem e82_0 : jv_ev d 82 0 [some (.ref a), x1, x2, x3, x4, x5, x6, x7, x8] st h = jv_ev d 82 1 [some (.ref a), x1, x2, x3, x4, x5, x6, x7, x8] (.ref a :: st) h := jq_nx (jv_insR jm_82 dX12_cut_0) rfl
theorem e82_1 : jv_ev d 82 1 lc st h = jv_ev d 82 2 lc (.int 0 :: st) h := jq_iconst (jv_insR jm_82 dX12_cut_1) (by decide)
theorem e82_2 : jv_ev d 82 2 lc (r :: .ref a :: st) h = (jv_pf h a [(0, 61, .int)] r).bind fun h => jv_ev d 82 5 lc st h := jq_put (jv_insR jm_82 dX12_cut_2) jo_82 ji_82 jG_1_427
theorem e82_5 : jv_ev d 82 5 [some (.ref a), x1, x2, x3, x4, x5, x6, x7, x8] st h = jv_ev d 82 6 [some (.ref a), x1, x2, x3, x4, x5, x6, x7, x8] (.ref a :: st) h := jq_nx (jv_insR jm_82 dX12_cut_5) rfl
theorem e82_6 : jv_ev d 82 6 [x0, some (.int v), x2, x3, x4, x5, x6, x7, x8] st h = jv_ev d 82 7 [x0, some (.int v), x2, x3, x4, x5, x6, x7, x8] (.int v :: st) h := jq_nx (jv_insR jm_82 dX12_cut_6) rfl
theorem e82_7 : jv_ev d 82 7 lc [z0, .ref b] h = (jv_rc h b [(0, 83)]).bind fun y => (jv_cd d y [.ref b, z0] h).bind fun r => jv_on r (fun v h => jv_ev d 82 10 lc (v.toList ++ []) h) (fun q h => some (.inr q, h)) := jq_V (as := [z0]) (rest := []) (jv_insR jm_82 dX12_cut_7) jo_82 jV_1_436 rfl rfl rfl rfl
theorem e82_10 : jv_ev d 82 10 lc (.int v :: st) h = if ¬ v = 0 then jv_ev d 82 15 lc st h else jv_ev d 82 13 lc st h := jq_if (jv_insR jm_82 dX12_cut_10) rfl (by decide)
theorem e82_13 : jv_ev d 82 13 lc st h = jv_ev d 82 14 lc (.int (-1) :: st) h := jq_iconst (jv_insR jm_82 dX12_cut_13) (by decide)
theorem e82_14 : jv_ev d 82 14 lc [.int v] h = some (.inl (some (.int v)), h) := jq_reti (jv_insR jm_82 dX12_cut_14) jr_82
theorem e82_15 : jv_ev d 82 15 [x0, x1, some (.int v), x3, x4, x5, x6, x7, x8] st h = jv_ev d 82 16 [x0, x1, some (.int v), x3, x4, x5, x6, x7, x8] (.int v :: st) h := jq_nx (jv_insR jm_82 dX12_cut_15) rfl
theorem e82_16 : jv_ev d 82 16 lc (.int v :: st) h = if v = 0 then jv_ev d 82 27 lc st h else jv_ev d 82 19 lc st h := jq_if (jv_insR jm_82 dX12_cut_16) rfl (by decide)
theorem e82_19 : jv_ev d 82 19 [some (.ref a), x1, x2, x3, x4, x5, x6, x7, x8] st h = jv_ev d 82 20 [some (.ref a), x1, x2, x3, x4, x5, x6, x7, x8] (.ref a :: st) h := jq_nx (jv_insR jm_82 dX12_cut_19) rfl
theorem e82_20 : jv_ev d 82 20 [x0, x1, some (.int v), x3, x4, x5, x6, x7, x8] st h = jv_ev d 82 21 [x0, x1, some (.int v), x3, x4, x5, x6, x7, x8] (.int v :: st) h := jq_nx (jv_insR jm_82 dX12_cut_20) rfl
theorem e82_21 : jv_ev d 82 21 lc [z0, .ref b] h = (jv_rc h b [(0, 83)]).bind fun y => (jv_cd d y [.ref b, z0] h).bind fun r => jv_on r (fun v h => jv_ev d 82 24 lc (v.toList ++ []) h) (fun q h => some (.inr q, h)) := jq_V (as := [z0]) (rest := []) (jv_insR jm_82 dX12_cut_21) jo_82 jV_1_436 rfl rfl rfl rfl
theorem e82_24 : jv_ev d 82 24 lc (.int v :: st) h = if v = 0 then jv_ev d 82 70 lc st h else jv_ev d 82 27 lc st h := jq_if (jv_insR jm_82 dX12_cut_24) rfl (by decide)
theorem e82_27 : jv_ev d 82 27 [x0, x1, some (.int v), x3, x4, x5, x6, x7, x8] st h = jv_ev d 82 28 [x0, x1, some (.int v), x3, x4, x5, x6, x7, x8] (.int v :: st) h := jq_nx (jv_insR jm_82 dX12_cut_27) rfl
theorem e82_28 : jv_ev d 82 28 lc (.int v :: st) h = if ¬ v = 0 then jv_ev d 82 35 lc st h else jv_ev d 82 31 lc st h := jq_if (jv_insR jm_82 dX12_cut_28) rfl (by decide)
theorem e82_31 : jv_ev d 82 31 [x0, x1, x2, some (.int v), x4, x5, x6, x7, x8] st h = jv_ev d 82 32 [x0, x1, x2, some (.int v), x4, x5, x6, x7, x8] (.int v :: st) h := jq_nx (jv_insR jm_82 dX12_cut_31) rfl
theorem e82_32 : jv_ev d 82 32 lc (.int v :: st) h = if ¬ v = 0 then jv_ev d 82 70 lc st h else jv_ev d 82 35 lc st h := jq_if (jv_insR jm_82 dX12_cut_32) rfl (by decide)
theorem e82_35 : jv_ev d 82 35 [x0, x1, x2, some (.int v), x4, x5, x6, x7, x8] st h = jv_ev d 82 36 [x0, x1, x2, some (.int v), x4, x5, x6, x7, x8] (.int v :: st) h := jq_nx (jv_insR jm_82 dX12_cut_35) rfl
theorem e82_36 : jv_ev d 82 36 lc (.int v :: st) h = if v = 0 then jv_ev d 82 47 lc st h else jv_ev d 82 39 lc st h := jq_if (jv_insR jm_82 dX12_cut_36) rfl (by decide)
theorem e82_39 : jv_ev d 82 39 [some (.ref a), x1, x2, x3, x4, x5, x6, x7, x8] st h = jv_ev d 82 40 [some (.ref a), x1, x2, x3, x4, x5, x6, x7, x8] (.ref a :: st) h := jq_nx (jv_insR jm_82 dX12_cut_39) rfl
theorem e82_40 : jv_ev d 82 40 [x0, x1, x2, some (.int v), x4, x5, x6, x7, x8] st h = jv_ev d 82 41 [x0, x1, x2, some (.int v), x4, x5, x6, x7, x8] (.int v :: st) h := jq_nx (jv_insR jm_82 dX12_cut_40) rfl
theorem e82_41 : jv_ev d 82 41 lc [z0, .ref b] h = (jv_rc h b [(0, 83)]).bind fun y => (jv_cd d y [.ref b, z0] h).bind fun r => jv_on r (fun v h => jv_ev d 82 44 lc (v.toList ++ []) h) (fun q h => some (.inr q, h)) := jq_V (as := [z0]) (rest := []) (jv_insR jm_82 dX12_cut_41) jo_82 jV_1_436 rfl rfl rfl rfl
theorem e82_44 : jv_ev d 82 44 lc (.int v :: st) h = if v = 0 then jv_ev d 82 70 lc st h else jv_ev d 82 47 lc st h := jq_if (jv_insR jm_82 dX12_cut_44) rfl (by decide)
theorem e82_47 : jv_ev d 82 47 [x0, x1, x2, some (.int v), x4, x5, x6, x7, x8] st h = jv_ev d 82 48 [x0, x1, x2, some (.int v), x4, x5, x6, x7, x8] (.int v :: st) h := jq_nx (jv_insR jm_82 dX12_cut_47) rfl
theorem e82_48 : jv_ev d 82 48 lc (.int v :: st) h = if ¬ v = 0 then jv_ev d 82 56 lc st h else jv_ev d 82 51 lc st h := jq_if (jv_insR jm_82 dX12_cut_48) rfl (by decide)
theorem e82_51 : jv_ev d 82 51 [x0, x1, x2, x3, some (.int v), x5, x6, x7, x8] st h = jv_ev d 82 53 [x0, x1, x2, x3, some (.int v), x5, x6, x7, x8] (.int v :: st) h := jq_nx (jv_insR jm_82 dX12_cut_51) rfl
theorem e82_53 : jv_ev d 82 53 lc (.int v :: st) h = if ¬ v = 0 then jv_ev d 82 70 lc st h else jv_ev d 82 56 lc st h := jq_if (jv_insR jm_82 dX12_cut_53) rfl (by decide)
theorem e82_56 : jv_ev d 82 56 [x0, x1, x2, x3, some (.int v), x5, x6, x7, x8] st h = jv_ev d 82 58 [x0, x1, x2, x3, some (.int v), x5, x6, x7, x8] (.int v :: st) h := jq_nx (jv_insR jm_82 dX12_cut_56) rfl
theorem e82_58 : jv_ev d 82 58 lc (.int v :: st) h = if v = 0 then jv_ev d 82 72 lc st h else jv_ev d 82 61 lc st h := jq_if (jv_insR jm_82 dX12_cut_58) rfl (by decide)
theorem e82_61 : jv_ev d 82 61 [some (.ref a), x1, x2, x3, x4, x5, x6, x7, x8] st h = jv_ev d 82 62 [some (.ref a), x1, x2, x3, x4, x5, x6, x7, x8] (.ref a :: st) h := jq_nx (jv_insR jm_82 dX12_cut_61) rfl
theorem e82_62 : jv_ev d 82 62 [x0, x1, x2, x3, some (.int v), x5, x6, x7, x8] st h = jv_ev d 82 64 [x0, x1, x2, x3, some (.int v), x5, x6, x7, x8] (.int v :: st) h := jq_nx (jv_insR jm_82 dX12_cut_62) rfl
theorem e82_64 : jv_ev d 82 64 lc [z0, .ref b] h = (jv_rc h b [(0, 83)]).bind fun y => (jv_cd d y [.ref b, z0] h).bind fun r => jv_on r (fun v h => jv_ev d 82 67 lc (v.toList ++ []) h) (fun q h => some (.inr q, h)) := jq_V (as := [z0]) (rest := []) (jv_insR jm_82 dX12_cut_64) jo_82 jV_1_436 rfl rfl rfl rfl
theorem e82_67 : jv_ev d 82 67 lc (.int v :: st) h = if ¬ v = 0 then jv_ev d 82 72 lc st h else jv_ev d 82 70 lc st h := jq_if (jv_insR jm_82 dX12_cut_67) rfl (by decide)
theorem e82_70 : jv_ev d 82 70 lc st h = jv_ev d 82 71 lc (.int (-1) :: st) h := jq_iconst (jv_insR jm_82 dX12_cut_70) (by decide)
theorem e82_71 : jv_ev d 82 71 lc [.int v] h = some (.inl (some (.int v)), h) := jq_reti (jv_insR jm_82 dX12_cut_71) jr_82
theorem e82_72 : jv_ev d 82 72 lc st h = jv_ev d 82 73 lc (.int 0 :: st) h := jq_iconst (jv_insR jm_82 dX12_cut_72) (by decide)
theorem e82_73 : jv_ev d 82 73 [x0, x1, x2, x3, x4, x5, x6, x7, x8] (.int v :: st) h = jv_ev d 82 75 [x0, x1, x2, x3, x4, some (.int v), x6, x7, x8] st h := jq_nx (jv_insR jm_82 dX12_cut_73) rfl
theorem e82_75 : jv_ev d 82 75 lc st h = jv_ev d 82 76 lc (.int 0 :: st) h := jq_iconst (jv_insR jm_82 dX12_cut_75) (by decide)
theorem e82_76 : jv_ev d 82 76 [x0, x1, x2, x3, x4, x5, x6, x7, x8] (.int v :: st) h = jv_ev d 82 78 [x0, x1, x2, x3, x4, x5, some (.int v), x7, x8] st h := jq_nx (jv_insR jm_82 dX12_cut_76) rfl
theorem e82_78 : jv_ev d 82 78 lc st h = jv_ev d 82 79 lc (.int 0 :: st) h := jq_iconst (jv_insR jm_82 dX12_cut_78) (by decide)
theorem e82_79 : jv_ev d 82 79 [x0, x1, x2, x3, x4, x5, x6, x7, x8] (.int v :: st) h = jv_ev d 82 81 [x0, x1, x2, x3, x4, x5, x6, some (.int v), x8] st h := jq_nx (jv_insR jm_82 dX12_cut_79) rfl
theorem e82_81 : jv_ev d 82 81 lc st h = jv_ev d 82 82 lc (.int 0 :: st) h := jq_iconst (jv_insR jm_82 dX12_cut_81) (by decide)
theorem e82_82 : jv_ev d 82 82 [x0, x1, x2, x3, x4, x5, x6, x7, x8] (.int v :: st) h = jv_ev d 82 84 [x0, x1, x2, x3, x4, x5, x6, x7, some (.int v)] st h := jq_nx (jv_insR jm_82 dX12_cut_82) rfl
theorem e82_84 : jv_ev d 82 84 [x0, x1, x2, x3, x4, x5, x6, x7, some (.int v)] st h = jv_ev d 82 86 [x0, x1, x2, x3, x4, x5, x6, x7, some (.int v)] (.int v :: st) h := jq_nx (jv_insR jm_82 dX12_cut_84) rfl
theorem e82_86 : jv_ev d 82 86 [some (.ref a), x1, x2, x3, x4, x5, x6, x7, x8] st h = jv_ev d 82 87 [some (.ref a), x1, x2, x3, x4, x5, x6, x7, x8] (.ref a :: st) h := jq_nx (jv_insR jm_82 dX12_cut_86) rfl
theorem e82_87 : jv_ev d 82 87 lc (.ref a :: st) h = (jv_gf h a [(0, 61, .int)]).bind fun r => jv_ev d 82 90 lc (r :: st) h := jq_get (jv_insR jm_82 dX12_cut_87) jo_82 jF_1_427
theorem e82_90 : jv_ev d 82 90 lc (.int w :: .int v :: st) h = if w ≤ v then jv_ev d 82 163 lc st h else jv_ev d 82 93 lc st h := jq_if (jv_insR jm_82 dX12_cut_90) rfl (by decide)
theorem e82_93 : jv_ev d 82 93 [x0, x1, x2, x3, x4, some (.int v), x6, x7, x8] st h = jv_ev d 82 95 [x0, x1, x2, x3, x4, some (.int v), x6, x7, x8] (.int v :: st) h := jq_nx (jv_insR jm_82 dX12_cut_93) rfl
theorem e82_95 : jv_ev d 82 95 [some (.ref a), x1, x2, x3, x4, x5, x6, x7, x8] st h = jv_ev d 82 96 [some (.ref a), x1, x2, x3, x4, x5, x6, x7, x8] (.ref a :: st) h := jq_nx (jv_insR jm_82 dX12_cut_95) rfl
theorem e82_96 : jv_ev d 82 96 lc (.ref a :: st) h = (jv_gf h a [(0, 57, .array .int)]).bind fun r => jv_ev d 82 99 lc (r :: st) h := jq_get (jv_insR jm_82 dX12_cut_96) jo_82 jF_1_125
theorem e82_99 : jv_ev d 82 99 [x0, x1, x2, x3, x4, x5, x6, x7, some (.int v)] st h = jv_ev d 82 101 [x0, x1, x2, x3, x4, x5, x6, x7, some (.int v)] (.int v :: st) h := jq_nx (jv_insR jm_82 dX12_cut_99) rfl
theorem e82_101 : jv_ev d 82 101 lc (.int v :: .ref a :: st) h = (jv_ig h a 0 0 v).bind fun w => jv_ev d 82 102 lc (.int w :: st) h := jq_iald (jv_insR jm_82 dX12_cut_101)
theorem e82_102 : jv_ev d 82 102 [some (.ref a), x1, x2, x3, x4, x5, x6, x7, x8] st h = jv_ev d 82 103 [some (.ref a), x1, x2, x3, x4, x5, x6, x7, x8] (.ref a :: st) h := jq_nx (jv_insR jm_82 dX12_cut_102) rfl
theorem e82_103 : jv_ev d 82 103 lc (.ref a :: st) h = (jv_gf h a [(0, 58, .array .int)]).bind fun r => jv_ev d 82 106 lc (r :: st) h := jq_get (jv_insR jm_82 dX12_cut_103) jo_82 jF_1_128
theorem e82_106 : jv_ev d 82 106 [x0, x1, x2, x3, x4, x5, x6, x7, some (.int v)] st h = jv_ev d 82 108 [x0, x1, x2, x3, x4, x5, x6, x7, some (.int v)] (.int v :: st) h := jq_nx (jv_insR jm_82 dX12_cut_106) rfl
theorem e82_108 : jv_ev d 82 108 lc (.int v :: .ref a :: st) h = (jv_ig h a 0 0 v).bind fun w => jv_ev d 82 109 lc (.int w :: st) h := jq_iald (jv_insR jm_82 dX12_cut_108)
theorem e82_109 : jv_ev d 82 109 lc (.int w :: .int v :: st) h = jv_ev d 82 110 lc (.int (v * w) :: st) h := jq_nx (jv_insR jm_82 dX12_cut_109) rfl
theorem e82_110 : jv_ev d 82 110 lc (.int w :: .int v :: st) h = jv_ev d 82 111 lc (.int (v + w) :: st) h := jq_nx (jv_insR jm_82 dX12_cut_110) rfl
theorem e82_111 : jv_ev d 82 111 [x0, x1, x2, x3, x4, x5, x6, x7, x8] (.int v :: st) h = jv_ev d 82 113 [x0, x1, x2, x3, x4, some (.int v), x6, x7, x8] st h := jq_nx (jv_insR jm_82 dX12_cut_111) rfl
theorem e82_113 : jv_ev d 82 113 [some (.ref a), x1, x2, x3, x4, x5, x6, x7, x8] st h = jv_ev d 82 114 [some (.ref a), x1, x2, x3, x4, x5, x6, x7, x8] (.ref a :: st) h := jq_nx (jv_insR jm_82 dX12_cut_113) rfl
theorem e82_114 : jv_ev d 82 114 lc (.ref a :: st) h = (jv_gf h a [(0, 57, .array .int)]).bind fun r => jv_ev d 82 117 lc (r :: st) h := jq_get (jv_insR jm_82 dX12_cut_114) jo_82 jF_1_125
theorem e82_117 : jv_ev d 82 117 [x0, x1, x2, x3, x4, x5, x6, x7, some (.int v)] st h = jv_ev d 82 119 [x0, x1, x2, x3, x4, x5, x6, x7, some (.int v)] (.int v :: st) h := jq_nx (jv_insR jm_82 dX12_cut_117) rfl
theorem e82_119 : jv_ev d 82 119 lc (.int v :: .ref a :: st) h = (jv_ig h a 0 0 v).bind fun w => jv_ev d 82 120 lc (.int w :: st) h := jq_iald (jv_insR jm_82 dX12_cut_119)
theorem e82_120 : jv_ev d 82 120 lc st h = jv_ev d 82 121 lc (.int 4 :: st) h := jq_iconst (jv_insR jm_82 dX12_cut_120) (by decide)
theorem e82_121 : jv_ev d 82 121 lc (.int w :: .int v :: st) h = if v ≤ w then jv_ev d 82 136 lc st h else jv_ev d 82 124 lc st h := jq_if (jv_insR jm_82 dX12_cut_121) rfl (by decide)
theorem e82_124 : jv_ev d 82 124 [x0, x1, x2, x3, x4, x5, x6, some (.int v), x8] st h = jv_ev d 82 126 [x0, x1, x2, x3, x4, x5, x6, some (.int v), x8] (.int v :: st) h := jq_nx (jv_insR jm_82 dX12_cut_124) rfl
theorem e82_126 : jv_ev d 82 126 [some (.ref a), x1, x2, x3, x4, x5, x6, x7, x8] st h = jv_ev d 82 127 [some (.ref a), x1, x2, x3, x4, x5, x6, x7, x8] (.ref a :: st) h := jq_nx (jv_insR jm_82 dX12_cut_126) rfl
theorem e82_127 : jv_ev d 82 127 lc (.ref a :: st) h = (jv_gf h a [(0, 58, .array .int)]).bind fun r => jv_ev d 82 130 lc (r :: st) h := jq_get (jv_insR jm_82 dX12_cut_127) jo_82 jF_1_128
theorem e82_130 : jv_ev d 82 130 [x0, x1, x2, x3, x4, x5, x6, x7, some (.int v)] st h = jv_ev d 82 132 [x0, x1, x2, x3, x4, x5, x6, x7, some (.int v)] (.int v :: st) h := jq_nx (jv_insR jm_82 dX12_cut_130) rfl
theorem e82_132 : jv_ev d 82 132 lc (.int v :: .ref a :: st) h = (jv_ig h a 0 0 v).bind fun w => jv_ev d 82 133 lc (.int w :: st) h := jq_iald (jv_insR jm_82 dX12_cut_132)
theorem e82_133 : jv_ev d 82 133 lc (.int w :: .int v :: st) h = jv_ev d 82 134 lc (.int (v + w) :: st) h := jq_nx (jv_insR jm_82 dX12_cut_133) rfl
theorem e82_134 : jv_ev d 82 134 [x0, x1, x2, x3, x4, x5, x6, x7, x8] (.int v :: st) h = jv_ev d 82 136 [x0, x1, x2, x3, x4, x5, x6, some (.int v), x8] st h := jq_nx (jv_insR jm_82 dX12_cut_134) rfl
theorem e82_136 : jv_ev d 82 136 [some (.ref a), x1, x2, x3, x4, x5, x6, x7, x8] st h = jv_ev d 82 137 [some (.ref a), x1, x2, x3, x4, x5, x6, x7, x8] (.ref a :: st) h := jq_nx (jv_insR jm_82 dX12_cut_136) rfl
theorem e82_137 : jv_ev d 82 137 lc (.ref a :: st) h = (jv_gf h a [(0, 58, .array .int)]).bind fun r => jv_ev d 82 140 lc (r :: st) h := jq_get (jv_insR jm_82 dX12_cut_137) jo_82 jF_1_128
theorem e82_140 : jv_ev d 82 140 [x0, x1, x2, x3, x4, x5, x6, x7, some (.int v)] st h = jv_ev d 82 142 [x0, x1, x2, x3, x4, x5, x6, x7, some (.int v)] (.int v :: st) h := jq_nx (jv_insR jm_82 dX12_cut_140) rfl
theorem e82_142 : jv_ev d 82 142 lc (.int v :: .ref a :: st) h = (jv_ig h a 0 0 v).bind fun w => jv_ev d 82 143 lc (.int w :: st) h := jq_iald (jv_insR jm_82 dX12_cut_142)
theorem e82_143 : jv_ev d 82 143 [x0, x1, x2, x3, x4, x5, some (.int v), x7, x8] st h = jv_ev d 82 145 [x0, x1, x2, x3, x4, x5, some (.int v), x7, x8] (.int v :: st) h := jq_nx (jv_insR jm_82 dX12_cut_143) rfl
theorem e82_145 : jv_ev d 82 145 lc (.int w :: .int v :: st) h = if v ≤ w then jv_ev d 82 157 lc st h else jv_ev d 82 148 lc st h := jq_if (jv_insR jm_82 dX12_cut_145) rfl (by decide)
theorem e82_148 : jv_ev d 82 148 [some (.ref a), x1, x2, x3, x4, x5, x6, x7, x8] st h = jv_ev d 82 149 [some (.ref a), x1, x2, x3, x4, x5, x6, x7, x8] (.ref a :: st) h := jq_nx (jv_insR jm_82 dX12_cut_148) rfl
theorem e82_149 : jv_ev d 82 149 lc (.ref a :: st) h = (jv_gf h a [(0, 58, .array .int)]).bind fun r => jv_ev d 82 152 lc (r :: st) h := jq_get (jv_insR jm_82 dX12_cut_149) jo_82 jF_1_128
theorem e82_152 : jv_ev d 82 152 [x0, x1, x2, x3, x4, x5, x6, x7, some (.int v)] st h = jv_ev d 82 154 [x0, x1, x2, x3, x4, x5, x6, x7, some (.int v)] (.int v :: st) h := jq_nx (jv_insR jm_82 dX12_cut_152) rfl
theorem e82_154 : jv_ev d 82 154 lc (.int v :: .ref a :: st) h = (jv_ig h a 0 0 v).bind fun w => jv_ev d 82 155 lc (.int w :: st) h := jq_iald (jv_insR jm_82 dX12_cut_154)
theorem e82_155 : jv_ev d 82 155 [x0, x1, x2, x3, x4, x5, x6, x7, x8] (.int v :: st) h = jv_ev d 82 157 [x0, x1, x2, x3, x4, x5, some (.int v), x7, x8] st h := jq_nx (jv_insR jm_82 dX12_cut_155) rfl
theorem e82_157 : jv_ev d 82 157 [x0, x1, x2, x3, x4, x5, x6, x7, some (.int v)] st h = jv_ev d 82 160 [x0, x1, x2, x3, x4, x5, x6, x7, some (.int (v + 1))] st h := jq_nx (jv_insR jm_82 dX12_cut_157) rfl
theorem e82_160 : jv_ev d 82 160 lc st h = jv_ev d 82 84 lc st h := jq_go (jv_insR jm_82 dX12_cut_160) (by decide)
theorem e82_163 : jv_ev d 82 163 [x0, x1, x2, x3, x4, x5, x6, some (.int v), x8] st h = jv_ev d 82 165 [x0, x1, x2, x3, x4, x5, x6, some (.int v), x8] (.int v :: st) h := jq_nx (jv_insR jm_82 dX12_cut_163) rfl
theorem e82_165 : jv_ev d 82 165 [x0, x1, x2, x3, x4, x5, some (.int v), x7, x8] st h = jv_ev d 82 167 [x0, x1, x2, x3, x4, x5, some (.int v), x7, x8] (.int v :: st) h := jq_nx (jv_insR jm_82 dX12_cut_165) rfl
theorem e82_167 : jv_ev d 82 167 lc (.int w :: .int v :: st) h = if v ≤ w then jv_ev d 82 174 lc st h else jv_ev d 82 170 lc st h := jq_if (jv_insR jm_82 dX12_cut_167) rfl (by decide)
theorem e82_170 : jv_ev d 82 170 [x0, x1, x2, x3, x4, x5, x6, some (.int v), x8] st h = jv_ev d 82 172 [x0, x1, x2, x3, x4, x5, x6, some (.int v), x8] (.int v :: st) h := jq_nx (jv_insR jm_82 dX12_cut_170) rfl
theorem e82_172 : jv_ev d 82 172 [x0, x1, x2, x3, x4, x5, x6, x7, x8] (.int v :: st) h = jv_ev d 82 174 [x0, x1, x2, x3, x4, x5, some (.int v), x7, x8] st h := jq_nx (jv_insR jm_82 dX12_cut_172) rfl
theorem e82_174 : jv_ev d 82 174 [x0, x1, x2, x3, x4, some (.int v), x6, x7, x8] st h = jv_ev d 82 176 [x0, x1, x2, x3, x4, some (.int v), x6, x7, x8] (.int v :: st) h := jq_nx (jv_insR jm_82 dX12_cut_174) rfl
theorem e82_176 : jv_ev d 82 176 lc st h = jv_ev d 82 178 lc (.int 7 :: st) h := jq_bipush (jv_insR jm_82 dX12_cut_176) (by decide)
theorem e82_178 : jv_ev d 82 178 lc (.int w :: .int v :: st) h = jv_ev d 82 179 lc (.int (v + w) :: st) h := jq_nx (jv_insR jm_82 dX12_cut_178) rfl
theorem e82_179 : jv_ev d 82 179 lc st h = jv_ev d 82 181 lc (.int 8 :: st) h := jq_bipush (jv_insR jm_82 dX12_cut_179) (by decide)
theorem e82_181 : jv_ev d 82 181 lc (.int w :: .int v :: st) h = if w = 0 then none else jv_ev d 82 182 lc (.int (v / w) :: st) h := jq_idiv (jv_insR jm_82 dX12_cut_181)
theorem e82_182 : jv_ev d 82 182 [x0, x1, x2, x3, x4, x5, some (.int v), x7, x8] st h = jv_ev d 82 184 [x0, x1, x2, x3, x4, x5, some (.int v), x7, x8] (.int v :: st) h := jq_nx (jv_insR jm_82 dX12_cut_182) rfl
theorem e82_184 : jv_ev d 82 184 lc (.int w :: .int v :: st) h = if v ≤ w then jv_ev d 82 197 lc st h else jv_ev d 82 187 lc st h := jq_if (jv_insR jm_82 dX12_cut_184) rfl (by decide)
theorem e82_187 : jv_ev d 82 187 [x0, x1, x2, x3, x4, some (.int v), x6, x7, x8] st h = jv_ev d 82 189 [x0, x1, x2, x3, x4, some (.int v), x6, x7, x8] (.int v :: st) h := jq_nx (jv_insR jm_82 dX12_cut_187) rfl
theorem e82_189 : jv_ev d 82 189 lc st h = jv_ev d 82 191 lc (.int 7 :: st) h := jq_bipush (jv_insR jm_82 dX12_cut_189) (by decide)
theorem e82_191 : jv_ev d 82 191 lc (.int w :: .int v :: st) h = jv_ev d 82 192 lc (.int (v + w) :: st) h := jq_nx (jv_insR jm_82 dX12_cut_191) rfl
theorem e82_192 : jv_ev d 82 192 lc st h = jv_ev d 82 194 lc (.int 8 :: st) h := jq_bipush (jv_insR jm_82 dX12_cut_192) (by decide)
theorem e82_194 : jv_ev d 82 194 lc (.int w :: .int v :: st) h = if w = 0 then none else jv_ev d 82 195 lc (.int (v / w) :: st) h := jq_idiv (jv_insR jm_82 dX12_cut_194)
theorem e82_195 : jv_ev d 82 195 [x0, x1, x2, x3, x4, x5, x6, x7, x8] (.int v :: st) h = jv_ev d 82 197 [x0, x1, x2, x3, x4, x5, some (.int v), x7, x8] st h := jq_nx (jv_insR jm_82 dX12_cut_195) rfl
theorem e82_197 : jv_ev d 82 197 [some (.ref a), x1, x2, x3, x4, x5, x6, x7, x8] st h = jv_ev d 82 198 [some (.ref a), x1, x2, x3, x4, x5, x6, x7, x8] (.ref a :: st) h := jq_nx (jv_insR jm_82 dX12_cut_197) rfl
theorem e82_198 : jv_ev d 82 198 [x0, x1, x2, x3, x4, x5, some (.int v), x7, x8] st h = jv_ev d 82 200 [x0, x1, x2, x3, x4, x5, some (.int v), x7, x8] (.int v :: st) h := jq_nx (jv_insR jm_82 dX12_cut_198) rfl
theorem e82_200 : jv_ev d 82 200 lc [z0, .ref b] h = (jv_rc h b [(0, 84)]).bind fun y => (jv_cd d y [.ref b, z0] h).bind fun r => jv_on r (fun v h => jv_ev d 82 203 lc (v.toList ++ []) h) (fun q h => some (.inr q, h)) := jq_V (as := [z0]) (rest := []) (jv_insR jm_82 dX12_cut_200) jo_82 jV_1_439 rfl rfl rfl rfl
theorem e82_203 : jv_ev d 82 203 lc (.int v :: st) h = if ¬ v = 0 then jv_ev d 82 212 lc st h else jv_ev d 82 206 lc st h := jq_if (jv_insR jm_82 dX12_cut_203) rfl (by decide)
theorem e82_206 : jv_ev d 82 206 [x0, x1, x2, x3, x4, x5, some (.int v), x7, x8] st h = jv_ev d 82 209 [x0, x1, x2, x3, x4, x5, some (.int (v + 1)), x7, x8] st h := jq_nx (jv_insR jm_82 dX12_cut_206) rfl
theorem e82_209 : jv_ev d 82 209 lc st h = jv_ev d 82 197 lc st h := jq_go (jv_insR jm_82 dX12_cut_209) (by decide)
theorem e82_212 : jv_ev d 82 212 [x0, x1, x2, x3, x4, x5, some (.int v), x7, x8] st h = jv_ev d 82 214 [x0, x1, x2, x3, x4, x5, some (.int v), x7, x8] (.int v :: st) h := jq_nx (jv_insR jm_82 dX12_cut_212) rfl
theorem e82_214 : jv_ev d 82 214 lc [.int v] h = some (.inl (some (.int v)), h) := jq_reti (jv_insR jm_82 dX12_cut_214) jr_82
/-! 83: RainLoomModel.adds(I)Z -/
theorem n83 : jv_cd (d + 1) 83 [.ref a0, .int i1] h = jv_ev d 83 0 [some (.ref a0), some (.int i1), none, none] [] h := rfl
theorem e83_0 : jv_ev d 83 0 [x0, some (.int v), x2, x3] st h = jv_ev d 83 1 [x0, some (.int v), x2, x3] (.int v :: st) h := jq_nx (jv_insR jm_83 dX12_adds_0) rfl
theorem e83_1 : jv_ev d 83 1 lc st h = jv_ev d 83 3 lc (.int 10 :: st) h := jq_bipush (jv_insR jm_83 dX12_adds_1) (by decide)
theorem e83_3 : jv_ev d 83 3 lc (.int w :: .int v :: st) h = if w = 0 then none else jv_ev d 83 4 lc (.int (v / w) :: st) h := jq_idiv (jv_insR jm_83 dX12_adds_3)
theorem e83_4 : jv_ev d 83 4 [x0, x1, x2, x3] (.int v :: st) h = jv_ev d 83 5 [x0, x1, some (.int v), x3] st h := jq_nx (jv_insR jm_83 dX12_adds_4) rfl
theorem e83_5 : jv_ev d 83 5 [x0, some (.int v), x2, x3] st h = jv_ev d 83 6 [x0, some (.int v), x2, x3] (.int v :: st) h := jq_nx (jv_insR jm_83 dX12_adds_5) rfl
theorem e83_6 : jv_ev d 83 6 lc st h = jv_ev d 83 8 lc (.int 10 :: st) h := jq_bipush (jv_insR jm_83 dX12_adds_6) (by decide)
theorem e83_8 : jv_ev d 83 8 lc (.int w :: .int v :: st) h = if w = 0 then none else jv_ev d 83 9 lc (.int (v - v / w * w) :: st) h := jq_irem (jv_insR jm_83 dX12_adds_8)
theorem e83_9 : jv_ev d 83 9 [x0, x1, x2, x3] (.int v :: st) h = jv_ev d 83 10 [x0, x1, x2, some (.int v)] st h := jq_nx (jv_insR jm_83 dX12_adds_9) rfl
theorem e83_10 : jv_ev d 83 10 [x0, x1, some (.int v), x3] st h = jv_ev d 83 11 [x0, x1, some (.int v), x3] (.int v :: st) h := jq_nx (jv_insR jm_83 dX12_adds_10) rfl
theorem e83_11 : jv_ev d 83 11 lc st h = jv_ev d 83 12 lc (.int 1 :: st) h := jq_iconst (jv_insR jm_83 dX12_adds_11) (by decide)
theorem e83_12 : jv_ev d 83 12 lc st h = jv_ev d 83 14 lc (.int 8 :: st) h := jq_bipush (jv_insR jm_83 dX12_adds_12) (by decide)
theorem e83_14 : jv_ev d 83 14 lc [z2, z1, z0] h = (jv_cd d 40 [z0, z1, z2] h).bind fun r => jv_on r (fun v h => jv_ev d 83 17 lc (v.toList ++ []) h) (fun q h => some (.inr q, h)) := jq_S (as := [z0, z1, z2]) (rest := []) (jv_insR jm_83 dX12_adds_14) jo_83 jT_1_323 rfl rfl rfl rfl
theorem e83_17 : jv_ev d 83 17 lc (.int v :: st) h = if v = 0 then jv_ev d 83 30 lc st h else jv_ev d 83 20 lc st h := jq_if (jv_insR jm_83 dX12_adds_17) rfl (by decide)
theorem e83_20 : jv_ev d 83 20 [x0, x1, x2, some (.int v)] st h = jv_ev d 83 21 [x0, x1, x2, some (.int v)] (.int v :: st) h := jq_nx (jv_insR jm_83 dX12_adds_20) rfl
theorem e83_21 : jv_ev d 83 21 lc st h = jv_ev d 83 22 lc (.int 1 :: st) h := jq_iconst (jv_insR jm_83 dX12_adds_21) (by decide)
theorem e83_22 : jv_ev d 83 22 lc st h = jv_ev d 83 24 lc (.int 6 :: st) h := jq_bipush (jv_insR jm_83 dX12_adds_22) (by decide)
theorem e83_24 : jv_ev d 83 24 lc [z2, z1, z0] h = (jv_cd d 40 [z0, z1, z2] h).bind fun r => jv_on r (fun v h => jv_ev d 83 27 lc (v.toList ++ []) h) (fun q h => some (.inr q, h)) := jq_S (as := [z0, z1, z2]) (rest := []) (jv_insR jm_83 dX12_adds_24) jo_83 jT_1_323 rfl rfl rfl rfl
theorem e83_27 : jv_ev d 83 27 lc (.int v :: st) h = if ¬ v = 0 then jv_ev d 83 32 lc st h else jv_ev d 83 30 lc st h := jq_if (jv_insR jm_83 dX12_adds_27) rfl (by decide)
theorem e83_30 : jv_ev d 83 30 lc st h = jv_ev d 83 31 lc (.int 0 :: st) h := jq_iconst (jv_insR jm_83 dX12_adds_30) (by decide)
theorem e83_31 : jv_ev d 83 31 lc [.int v] h = if narrow .boolean (.int v) = .int v then some (.inl (some (.int v)), h) else none := jq_ret (jv_insR jm_83 dX12_adds_31) jr_83 (by decide)
theorem e83_32 : jv_ev d 83 32 [some (.ref a), x1, x2, x3] st h = jv_ev d 83 33 [some (.ref a), x1, x2, x3] (.ref a :: st) h := jq_nx (jv_insR jm_83 dX12_adds_32) rfl
theorem e83_33 : jv_ev d 83 33 lc (.ref a :: st) h = (jv_gf h a [(0, 57, .array .int)]).bind fun r => jv_ev d 83 36 lc (r :: st) h := jq_get (jv_insR jm_83 dX12_adds_33) jo_83 jF_1_125
theorem e83_36 : jv_ev d 83 36 [some (.ref a), x1, x2, x3] st h = jv_ev d 83 37 [some (.ref a), x1, x2, x3] (.ref a :: st) h := jq_nx (jv_insR jm_83 dX12_adds_36) rfl
theorem e83_37 : jv_ev d 83 37 lc (.ref a :: st) h = (jv_gf h a [(0, 61, .int)]).bind fun r => jv_ev d 83 40 lc (r :: st) h := jq_get (jv_insR jm_83 dX12_adds_37) jo_83 jF_1_427
theorem e83_40 : jv_ev d 83 40 [x0, x1, some (.int v), x3] st h = jv_ev d 83 41 [x0, x1, some (.int v), x3] (.int v :: st) h := jq_nx (jv_insR jm_83 dX12_adds_40) rfl
theorem e83_41 : jv_ev d 83 41 lc (.int w :: .int v :: .ref a :: st) h = (jv_ip h a 0 0 v w).bind fun h => jv_ev d 83 42 lc st h := jq_iast (jv_insR jm_83 dX12_adds_41)
theorem e83_42 : jv_ev d 83 42 [some (.ref a), x1, x2, x3] st h = jv_ev d 83 43 [some (.ref a), x1, x2, x3] (.ref a :: st) h := jq_nx (jv_insR jm_83 dX12_adds_42) rfl
theorem e83_43 : jv_ev d 83 43 lc (.ref a :: st) h = (jv_gf h a [(0, 58, .array .int)]).bind fun r => jv_ev d 83 46 lc (r :: st) h := jq_get (jv_insR jm_83 dX12_adds_43) jo_83 jF_1_128
theorem e83_46 : jv_ev d 83 46 [some (.ref a), x1, x2, x3] st h = jv_ev d 83 47 [some (.ref a), x1, x2, x3] (.ref a :: st) h := jq_nx (jv_insR jm_83 dX12_adds_46) rfl
theorem e83_47 : jv_ev d 83 47 lc (.ref a :: st) h = (jv_gf h a [(0, 61, .int)]).bind fun r => jv_ev d 83 50 lc (r :: st) h := jq_get (jv_insR jm_83 dX12_adds_47) jo_83 jF_1_427
theorem e83_50 : jv_ev d 83 50 [x0, x1, x2, some (.int v)] st h = jv_ev d 83 51 [x0, x1, x2, some (.int v)] (.int v :: st) h := jq_nx (jv_insR jm_83 dX12_adds_50) rfl
theorem e83_51 : jv_ev d 83 51 lc (.int w :: .int v :: .ref a :: st) h = (jv_ip h a 0 0 v w).bind fun h => jv_ev d 83 52 lc st h := jq_iast (jv_insR jm_83 dX12_adds_51)
theorem e83_52 : jv_ev d 83 52 [some (.ref a), x1, x2, x3] st h = jv_ev d 83 53 [some (.ref a), x1, x2, x3] (.ref a :: st) h := jq_nx (jv_insR jm_83 dX12_adds_52) rfl
theorem e83_53 : jv_ev d 83 53 lc (.ref a :: st) h = jv_ev d 83 54 lc (.ref a :: .ref a :: st) h := jq_nx (jv_insR jm_83 dX12_adds_53) rfl
theorem e83_54 : jv_ev d 83 54 lc (.ref a :: st) h = (jv_gf h a [(0, 61, .int)]).bind fun r => jv_ev d 83 57 lc (r :: st) h := jq_get (jv_insR jm_83 dX12_adds_54) jo_83 jF_1_427
theorem e83_57 : jv_ev d 83 57 lc st h = jv_ev d 83 58 lc (.int 1 :: st) h := jq_iconst (jv_insR jm_83 dX12_adds_57) (by decide)
theorem e83_58 : jv_ev d 83 58 lc (.int w :: .int v :: st) h = jv_ev d 83 59 lc (.int (v + w) :: st) h := jq_nx (jv_insR jm_83 dX12_adds_58) rfl
theorem e83_59 : jv_ev d 83 59 lc (r :: .ref a :: st) h = (jv_pf h a [(0, 61, .int)] r).bind fun h => jv_ev d 83 62 lc st h := jq_put (jv_insR jm_83 dX12_adds_59) jo_83 ji_83 jG_1_427
theorem e83_62 : jv_ev d 83 62 lc st h = jv_ev d 83 63 lc (.int 1 :: st) h := jq_iconst (jv_insR jm_83 dX12_adds_62) (by decide)
theorem e83_63 : jv_ev d 83 63 lc [.int v] h = if narrow .boolean (.int v) = .int v then some (.inl (some (.int v)), h) else none := jq_ret (jv_insR jm_83 dX12_adds_63) jr_83 (by decide)
/-! 84: RainLoomModel.goesIn(I)Z -/
theorem n84 : jv_cd (d + 1) 84 [.ref a0, .int i1] h = jv_ev d 84 0 [some (.ref a0), some (.int i1), none, none, none] [] h := rfl
theorem e84_0 : jv_ev d 84 0 lc st h = jv_ev d 84 1 lc (.int 0 :: st) h := jq_iconst (jv_insR jm_84 dX12_goesIn_0) (by decide)
theorem e84_1 : jv_ev d 84 1 [x0, x1, x2, x3, x4] (.int v :: st) h = jv_ev d 84 2 [x0, x1, some (.int v), x3, x4] st h := jq_nx (jv_insR jm_84 dX12_goesIn_1) rfl
theorem e84_2 : jv_ev d 84 2 [x0, x1, some (.int v), x3, x4] st h = jv_ev d 84 3 [x0, x1, some (.int v), x3, x4] (.int v :: st) h := jq_nx (jv_insR jm_84 dX12_goesIn_2) rfl
theorem e84_3 : jv_ev d 84 3 lc st h = jv_ev d 84 5 lc (.int 24 :: st) h := jq_bipush (jv_insR jm_84 dX12_goesIn_3) (by decide)
theorem e84_5 : jv_ev d 84 5 lc (.int w :: .int v :: st) h = if w ≤ v then jv_ev d 84 21 lc st h else jv_ev d 84 8 lc st h := jq_if (jv_insR jm_84 dX12_goesIn_5) rfl (by decide)
theorem e84_8 : jv_ev d 84 8 [some (.ref a), x1, x2, x3, x4] st h = jv_ev d 84 9 [some (.ref a), x1, x2, x3, x4] (.ref a :: st) h := jq_nx (jv_insR jm_84 dX12_goesIn_8) rfl
theorem e84_9 : jv_ev d 84 9 lc (.ref a :: st) h = (jv_gf h a [(0, 60, .array .int)]).bind fun r => jv_ev d 84 12 lc (r :: st) h := jq_get (jv_insR jm_84 dX12_goesIn_9) jo_84 jF_1_134
theorem e84_12 : jv_ev d 84 12 [x0, x1, some (.int v), x3, x4] st h = jv_ev d 84 13 [x0, x1, some (.int v), x3, x4] (.int v :: st) h := jq_nx (jv_insR jm_84 dX12_goesIn_12) rfl
theorem e84_13 : jv_ev d 84 13 lc st h = jv_ev d 84 14 lc (.int 0 :: st) h := jq_iconst (jv_insR jm_84 dX12_goesIn_13) (by decide)
theorem e84_14 : jv_ev d 84 14 lc (.int w :: .int v :: .ref a :: st) h = (jv_ip h a 0 0 v w).bind fun h => jv_ev d 84 15 lc st h := jq_iast (jv_insR jm_84 dX12_goesIn_14)
theorem e84_15 : jv_ev d 84 15 [x0, x1, some (.int v), x3, x4] st h = jv_ev d 84 18 [x0, x1, some (.int (v + 1)), x3, x4] st h := jq_nx (jv_insR jm_84 dX12_goesIn_15) rfl
theorem e84_18 : jv_ev d 84 18 lc st h = jv_ev d 84 2 lc st h := jq_go (jv_insR jm_84 dX12_goesIn_18) (by decide)
theorem e84_21 : jv_ev d 84 21 lc st h = jv_ev d 84 22 lc (.int 0 :: st) h := jq_iconst (jv_insR jm_84 dX12_goesIn_21) (by decide)
theorem e84_22 : jv_ev d 84 22 [x0, x1, x2, x3, x4] (.int v :: st) h = jv_ev d 84 23 [x0, x1, some (.int v), x3, x4] st h := jq_nx (jv_insR jm_84 dX12_goesIn_22) rfl
theorem e84_23 : jv_ev d 84 23 lc st h = jv_ev d 84 24 lc (.int 0 :: st) h := jq_iconst (jv_insR jm_84 dX12_goesIn_23) (by decide)
theorem e84_24 : jv_ev d 84 24 [x0, x1, x2, x3, x4] (.int v :: st) h = jv_ev d 84 25 [x0, x1, x2, some (.int v), x4] st h := jq_nx (jv_insR jm_84 dX12_goesIn_24) rfl
theorem e84_25 : jv_ev d 84 25 [x0, x1, some (.int v), x3, x4] st h = jv_ev d 84 26 [x0, x1, some (.int v), x3, x4] (.int v :: st) h := jq_nx (jv_insR jm_84 dX12_goesIn_25) rfl
theorem e84_26 : jv_ev d 84 26 lc (.int v :: st) h = if v < 0 then jv_ev d 84 106 lc st h else jv_ev d 84 29 lc st h := jq_if (jv_insR jm_84 dX12_goesIn_26) rfl (by decide)
theorem e84_29 : jv_ev d 84 29 [x0, x1, some (.int v), x3, x4] st h = jv_ev d 84 30 [x0, x1, some (.int v), x3, x4] (.int v :: st) h := jq_nx (jv_insR jm_84 dX12_goesIn_29) rfl
theorem e84_30 : jv_ev d 84 30 [some (.ref a), x1, x2, x3, x4] st h = jv_ev d 84 31 [some (.ref a), x1, x2, x3, x4] (.ref a :: st) h := jq_nx (jv_insR jm_84 dX12_goesIn_30) rfl
theorem e84_31 : jv_ev d 84 31 lc (.ref a :: st) h = (jv_gf h a [(0, 61, .int)]).bind fun r => jv_ev d 84 34 lc (r :: st) h := jq_get (jv_insR jm_84 dX12_goesIn_31) jo_84 jF_1_427
theorem e84_34 : jv_ev d 84 34 lc (.int w :: .int v :: st) h = if w ≤ v then jv_ev d 84 106 lc st h else jv_ev d 84 37 lc st h := jq_if (jv_insR jm_84 dX12_goesIn_34) rfl (by decide)
theorem e84_37 : jv_ev d 84 37 [some (.ref a), x1, x2, x3, x4] st h = jv_ev d 84 38 [some (.ref a), x1, x2, x3, x4] (.ref a :: st) h := jq_nx (jv_insR jm_84 dX12_goesIn_37) rfl
theorem e84_38 : jv_ev d 84 38 [x0, x1, some (.int v), x3, x4] st h = jv_ev d 84 39 [x0, x1, some (.int v), x3, x4] (.int v :: st) h := jq_nx (jv_insR jm_84 dX12_goesIn_38) rfl
theorem e84_39 : jv_ev d 84 39 [x0, x1, x2, some (.int v), x4] st h = jv_ev d 84 40 [x0, x1, x2, some (.int v), x4] (.int v :: st) h := jq_nx (jv_insR jm_84 dX12_goesIn_39) rfl
theorem e84_40 : jv_ev d 84 40 [x0, some (.int v), x2, x3, x4] st h = jv_ev d 84 41 [x0, some (.int v), x2, x3, x4] (.int v :: st) h := jq_nx (jv_insR jm_84 dX12_goesIn_40) rfl
theorem e84_41 : jv_ev d 84 41 lc [z2, z1, z0, .ref b] h = (jv_rc h b [(0, 85)]).bind fun y => (jv_cd d y [.ref b, z0, z1, z2] h).bind fun r => jv_on r (fun v h => jv_ev d 84 44 lc (v.toList ++ []) h) (fun q h => some (.inr q, h)) := jq_V (as := [z0, z1, z2]) (rest := []) (jv_insR jm_84 dX12_goesIn_41) jo_84 jV_1_430 rfl rfl rfl rfl
theorem e84_44 : jv_ev d 84 44 [x0, x1, x2, x3, x4] (.int v :: st) h = jv_ev d 84 46 [x0, x1, x2, x3, some (.int v)] st h := jq_nx (jv_insR jm_84 dX12_goesIn_44) rfl
theorem e84_46 : jv_ev d 84 46 [x0, x1, x2, x3, some (.int v)] st h = jv_ev d 84 48 [x0, x1, x2, x3, some (.int v)] (.int v :: st) h := jq_nx (jv_insR jm_84 dX12_goesIn_46) rfl
theorem e84_48 : jv_ev d 84 48 lc (.int v :: st) h = if v < 0 then jv_ev d 84 74 lc st h else jv_ev d 84 51 lc st h := jq_if (jv_insR jm_84 dX12_goesIn_48) rfl (by decide)
theorem e84_51 : jv_ev d 84 51 [some (.ref a), x1, x2, x3, x4] st h = jv_ev d 84 52 [some (.ref a), x1, x2, x3, x4] (.ref a :: st) h := jq_nx (jv_insR jm_84 dX12_goesIn_51) rfl
theorem e84_52 : jv_ev d 84 52 lc (.ref a :: st) h = (jv_gf h a [(0, 59, .array .int)]).bind fun r => jv_ev d 84 55 lc (r :: st) h := jq_get (jv_insR jm_84 dX12_goesIn_52) jo_84 jF_1_131
theorem e84_55 : jv_ev d 84 55 [x0, x1, some (.int v), x3, x4] st h = jv_ev d 84 56 [x0, x1, some (.int v), x3, x4] (.int v :: st) h := jq_nx (jv_insR jm_84 dX12_goesIn_55) rfl
theorem e84_56 : jv_ev d 84 56 [x0, x1, x2, x3, some (.int v)] st h = jv_ev d 84 58 [x0, x1, x2, x3, some (.int v)] (.int v :: st) h := jq_nx (jv_insR jm_84 dX12_goesIn_56) rfl
theorem e84_58 : jv_ev d 84 58 lc (.int w :: .int v :: .ref a :: st) h = (jv_ip h a 0 0 v w).bind fun h => jv_ev d 84 59 lc st h := jq_iast (jv_insR jm_84 dX12_goesIn_58)
theorem e84_59 : jv_ev d 84 59 [some (.ref a), x1, x2, x3, x4] st h = jv_ev d 84 60 [some (.ref a), x1, x2, x3, x4] (.ref a :: st) h := jq_nx (jv_insR jm_84 dX12_goesIn_59) rfl
theorem e84_60 : jv_ev d 84 60 [x0, x1, some (.int v), x3, x4] st h = jv_ev d 84 61 [x0, x1, some (.int v), x3, x4] (.int v :: st) h := jq_nx (jv_insR jm_84 dX12_goesIn_60) rfl
theorem e84_61 : jv_ev d 84 61 [x0, x1, x2, x3, some (.int v)] st h = jv_ev d 84 63 [x0, x1, x2, x3, some (.int v)] (.int v :: st) h := jq_nx (jv_insR jm_84 dX12_goesIn_61) rfl
theorem e84_63 : jv_ev d 84 63 lc [z1, z0, .ref b] h = (jv_rc h b [(0, 87)]).bind fun y => (jv_cd d y [.ref b, z0, z1] h).bind fun r => jv_on r (fun v h => jv_ev d 84 66 lc (v.toList ++ []) h) (fun q h => some (.inr q, h)) := jq_V (as := [z0, z1]) (rest := []) (jv_insR jm_84 dX12_goesIn_63) jo_84 jV_1_433 rfl rfl rfl rfl
theorem e84_66 : jv_ev d 84 66 [x0, x1, some (.int v), x3, x4] st h = jv_ev d 84 69 [x0, x1, some (.int (v + 1)), x3, x4] st h := jq_nx (jv_insR jm_84 dX12_goesIn_66) rfl
theorem e84_69 : jv_ev d 84 69 lc st h = jv_ev d 84 70 lc (.int 0 :: st) h := jq_iconst (jv_insR jm_84 dX12_goesIn_69) (by decide)
theorem e84_70 : jv_ev d 84 70 [x0, x1, x2, x3, x4] (.int v :: st) h = jv_ev d 84 71 [x0, x1, x2, some (.int v), x4] st h := jq_nx (jv_insR jm_84 dX12_goesIn_70) rfl
theorem e84_71 : jv_ev d 84 71 lc st h = jv_ev d 84 25 lc st h := jq_go (jv_insR jm_84 dX12_goesIn_71) (by decide)
theorem e84_74 : jv_ev d 84 74 [x0, x1, some (.int v), x3, x4] st h = jv_ev d 84 77 [x0, x1, some (.int (v + (-1))), x3, x4] st h := jq_nx (jv_insR jm_84 dX12_goesIn_74) rfl
theorem e84_77 : jv_ev d 84 77 [x0, x1, some (.int v), x3, x4] st h = jv_ev d 84 78 [x0, x1, some (.int v), x3, x4] (.int v :: st) h := jq_nx (jv_insR jm_84 dX12_goesIn_77) rfl
theorem e84_78 : jv_ev d 84 78 lc (.int v :: st) h = if 0 ≤ v then jv_ev d 84 83 lc st h else jv_ev d 84 81 lc st h := jq_if (jv_insR jm_84 dX12_goesIn_78) rfl (by decide)
theorem e84_81 : jv_ev d 84 81 lc st h = jv_ev d 84 82 lc (.int 0 :: st) h := jq_iconst (jv_insR jm_84 dX12_goesIn_81) (by decide)
theorem e84_82 : jv_ev d 84 82 lc [.int v] h = if narrow .boolean (.int v) = .int v then some (.inl (some (.int v)), h) else none := jq_ret (jv_insR jm_84 dX12_goesIn_82) jr_84 (by decide)
theorem e84_83 : jv_ev d 84 83 [some (.ref a), x1, x2, x3, x4] st h = jv_ev d 84 84 [some (.ref a), x1, x2, x3, x4] (.ref a :: st) h := jq_nx (jv_insR jm_84 dX12_goesIn_83) rfl
theorem e84_84 : jv_ev d 84 84 [x0, x1, some (.int v), x3, x4] st h = jv_ev d 84 85 [x0, x1, some (.int v), x3, x4] (.int v :: st) h := jq_nx (jv_insR jm_84 dX12_goesIn_84) rfl
theorem e84_85 : jv_ev d 84 85 [some (.ref a), x1, x2, x3, x4] st h = jv_ev d 84 86 [some (.ref a), x1, x2, x3, x4] (.ref a :: st) h := jq_nx (jv_insR jm_84 dX12_goesIn_85) rfl
theorem e84_86 : jv_ev d 84 86 lc (.ref a :: st) h = (jv_gf h a [(0, 59, .array .int)]).bind fun r => jv_ev d 84 89 lc (r :: st) h := jq_get (jv_insR jm_84 dX12_goesIn_86) jo_84 jF_1_131
theorem e84_89 : jv_ev d 84 89 [x0, x1, some (.int v), x3, x4] st h = jv_ev d 84 90 [x0, x1, some (.int v), x3, x4] (.int v :: st) h := jq_nx (jv_insR jm_84 dX12_goesIn_89) rfl
theorem e84_90 : jv_ev d 84 90 lc (.int v :: .ref a :: st) h = (jv_ig h a 0 0 v).bind fun w => jv_ev d 84 91 lc (.int w :: st) h := jq_iald (jv_insR jm_84 dX12_goesIn_90)
theorem e84_91 : jv_ev d 84 91 lc [z1, z0, .ref b] h = (jv_rc h b [(0, 87)]).bind fun y => (jv_cd d y [.ref b, z0, z1] h).bind fun r => jv_on r (fun v h => jv_ev d 84 94 lc (v.toList ++ []) h) (fun q h => some (.inr q, h)) := jq_V (as := [z0, z1]) (rest := []) (jv_insR jm_84 dX12_goesIn_91) jo_84 jV_1_433 rfl rfl rfl rfl
theorem e84_94 : jv_ev d 84 94 [some (.ref a), x1, x2, x3, x4] st h = jv_ev d 84 95 [some (.ref a), x1, x2, x3, x4] (.ref a :: st) h := jq_nx (jv_insR jm_84 dX12_goesIn_94) rfl
theorem e84_95 : jv_ev d 84 95 lc (.ref a :: st) h = (jv_gf h a [(0, 59, .array .int)]).bind fun r => jv_ev d 84 98 lc (r :: st) h := jq_get (jv_insR jm_84 dX12_goesIn_95) jo_84 jF_1_131
theorem e84_98 : jv_ev d 84 98 [x0, x1, some (.int v), x3, x4] st h = jv_ev d 84 99 [x0, x1, some (.int v), x3, x4] (.int v :: st) h := jq_nx (jv_insR jm_84 dX12_goesIn_98) rfl
theorem e84_99 : jv_ev d 84 99 lc (.int v :: .ref a :: st) h = (jv_ig h a 0 0 v).bind fun w => jv_ev d 84 100 lc (.int w :: st) h := jq_iald (jv_insR jm_84 dX12_goesIn_99)
theorem e84_100 : jv_ev d 84 100 lc st h = jv_ev d 84 101 lc (.int 1 :: st) h := jq_iconst (jv_insR jm_84 dX12_goesIn_100) (by decide)
theorem e84_101 : jv_ev d 84 101 lc (.int w :: .int v :: st) h = jv_ev d 84 102 lc (.int (v + w) :: st) h := jq_nx (jv_insR jm_84 dX12_goesIn_101) rfl
theorem e84_102 : jv_ev d 84 102 [x0, x1, x2, x3, x4] (.int v :: st) h = jv_ev d 84 103 [x0, x1, x2, some (.int v), x4] st h := jq_nx (jv_insR jm_84 dX12_goesIn_102) rfl
theorem e84_103 : jv_ev d 84 103 lc st h = jv_ev d 84 25 lc st h := jq_go (jv_insR jm_84 dX12_goesIn_103) (by decide)
theorem e84_106 : jv_ev d 84 106 lc st h = jv_ev d 84 107 lc (.int 1 :: st) h := jq_iconst (jv_insR jm_84 dX12_goesIn_106) (by decide)
theorem e84_107 : jv_ev d 84 107 lc [.int v] h = if narrow .boolean (.int v) = .int v then some (.inl (some (.int v)), h) else none := jq_ret (jv_insR jm_84 dX12_goesIn_107) jr_84 (by decide)
/-! 85: RainLoomModel.nextPlace(III)I -/
theorem n85 : jv_cd (d + 1) 85 [.ref a0, .int i1, .int i2, .int i3] h = jv_ev d 85 0 [some (.ref a0), some (.int i1), some (.int i2), some (.int i3), none] [] h := rfl
theorem e85_0 : jv_ev d 85 0 [x0, x1, some (.int v), x3, x4] st h = jv_ev d 85 1 [x0, x1, some (.int v), x3, x4] (.int v :: st) h := jq_nx (jv_insR jm_85 dX12_nextPlace_0) rfl
theorem e85_1 : jv_ev d 85 1 [x0, x1, x2, x3, x4] (.int v :: st) h = jv_ev d 85 3 [x0, x1, x2, x3, some (.int v)] st h := jq_nx (jv_insR jm_85 dX12_nextPlace_1) rfl
theorem e85_3 : jv_ev d 85 3 [x0, x1, x2, x3, some (.int v)] st h = jv_ev d 85 5 [x0, x1, x2, x3, some (.int v)] (.int v :: st) h := jq_nx (jv_insR jm_85 dX12_nextPlace_3) rfl
theorem e85_5 : jv_ev d 85 5 lc st h = jv_ev d 85 7 lc (.int 8 :: st) h := jq_bipush (jv_insR jm_85 dX12_nextPlace_5) (by decide)
theorem e85_7 : jv_ev d 85 7 [x0, x1, x2, some (.int v), x4] st h = jv_ev d 85 8 [x0, x1, x2, some (.int v), x4] (.int v :: st) h := jq_nx (jv_insR jm_85 dX12_nextPlace_7) rfl
theorem e85_8 : jv_ev d 85 8 [some (.ref a), x1, x2, x3, x4] st h = jv_ev d 85 9 [some (.ref a), x1, x2, x3, x4] (.ref a :: st) h := jq_nx (jv_insR jm_85 dX12_nextPlace_8) rfl
theorem e85_9 : jv_ev d 85 9 lc (.ref a :: st) h = (jv_gf h a [(0, 58, .array .int)]).bind fun r => jv_ev d 85 12 lc (r :: st) h := jq_get (jv_insR jm_85 dX12_nextPlace_9) jo_85 jF_1_128
theorem e85_12 : jv_ev d 85 12 [x0, some (.int v), x2, x3, x4] st h = jv_ev d 85 13 [x0, some (.int v), x2, x3, x4] (.int v :: st) h := jq_nx (jv_insR jm_85 dX12_nextPlace_12) rfl
theorem e85_13 : jv_ev d 85 13 lc (.int v :: .ref a :: st) h = (jv_ig h a 0 0 v).bind fun w => jv_ev d 85 14 lc (.int w :: st) h := jq_iald (jv_insR jm_85 dX12_nextPlace_13)
theorem e85_14 : jv_ev d 85 14 lc (.int w :: .int v :: st) h = jv_ev d 85 15 lc (.int (v - w) :: st) h := jq_nx (jv_insR jm_85 dX12_nextPlace_14) rfl
theorem e85_15 : jv_ev d 85 15 lc st h = jv_ev d 85 16 lc (.int 1 :: st) h := jq_iconst (jv_insR jm_85 dX12_nextPlace_15) (by decide)
theorem e85_16 : jv_ev d 85 16 lc (.int w :: .int v :: st) h = jv_ev d 85 17 lc (.int (v + w) :: st) h := jq_nx (jv_insR jm_85 dX12_nextPlace_16) rfl
theorem e85_17 : jv_ev d 85 17 lc (.int w :: .int v :: st) h = jv_ev d 85 18 lc (.int (v * w) :: st) h := jq_nx (jv_insR jm_85 dX12_nextPlace_17) rfl
theorem e85_18 : jv_ev d 85 18 lc (.int w :: .int v :: st) h = if w ≤ v then jv_ev d 85 57 lc st h else jv_ev d 85 21 lc st h := jq_if (jv_insR jm_85 dX12_nextPlace_18) rfl (by decide)
theorem e85_21 : jv_ev d 85 21 [x0, x1, x2, x3, some (.int v)] st h = jv_ev d 85 23 [x0, x1, x2, x3, some (.int v)] (.int v :: st) h := jq_nx (jv_insR jm_85 dX12_nextPlace_21) rfl
theorem e85_23 : jv_ev d 85 23 lc st h = jv_ev d 85 25 lc (.int 8 :: st) h := jq_bipush (jv_insR jm_85 dX12_nextPlace_23) (by decide)
theorem e85_25 : jv_ev d 85 25 lc (.int w :: .int v :: st) h = if w = 0 then none else jv_ev d 85 26 lc (.int (v - v / w * w) :: st) h := jq_irem (jv_insR jm_85 dX12_nextPlace_25)
theorem e85_26 : jv_ev d 85 26 [some (.ref a), x1, x2, x3, x4] st h = jv_ev d 85 27 [some (.ref a), x1, x2, x3, x4] (.ref a :: st) h := jq_nx (jv_insR jm_85 dX12_nextPlace_26) rfl
theorem e85_27 : jv_ev d 85 27 lc (.ref a :: st) h = (jv_gf h a [(0, 57, .array .int)]).bind fun r => jv_ev d 85 30 lc (r :: st) h := jq_get (jv_insR jm_85 dX12_nextPlace_27) jo_85 jF_1_125
theorem e85_30 : jv_ev d 85 30 [x0, some (.int v), x2, x3, x4] st h = jv_ev d 85 31 [x0, some (.int v), x2, x3, x4] (.int v :: st) h := jq_nx (jv_insR jm_85 dX12_nextPlace_30) rfl
theorem e85_31 : jv_ev d 85 31 lc (.int v :: .ref a :: st) h = (jv_ig h a 0 0 v).bind fun w => jv_ev d 85 32 lc (.int w :: st) h := jq_iald (jv_insR jm_85 dX12_nextPlace_31)
theorem e85_32 : jv_ev d 85 32 lc (.int w :: .int v :: st) h = jv_ev d 85 33 lc (.int (v + w) :: st) h := jq_nx (jv_insR jm_85 dX12_nextPlace_32) rfl
theorem e85_33 : jv_ev d 85 33 lc st h = jv_ev d 85 35 lc (.int 8 :: st) h := jq_bipush (jv_insR jm_85 dX12_nextPlace_33) (by decide)
theorem e85_35 : jv_ev d 85 35 lc (.int w :: .int v :: st) h = if w < v then jv_ev d 85 51 lc st h else jv_ev d 85 38 lc st h := jq_if (jv_insR jm_85 dX12_nextPlace_35) rfl (by decide)
theorem e85_38 : jv_ev d 85 38 [some (.ref a), x1, x2, x3, x4] st h = jv_ev d 85 39 [some (.ref a), x1, x2, x3, x4] (.ref a :: st) h := jq_nx (jv_insR jm_85 dX12_nextPlace_38) rfl
theorem e85_39 : jv_ev d 85 39 [x0, some (.int v), x2, x3, x4] st h = jv_ev d 85 40 [x0, some (.int v), x2, x3, x4] (.int v :: st) h := jq_nx (jv_insR jm_85 dX12_nextPlace_39) rfl
theorem e85_40 : jv_ev d 85 40 [x0, x1, x2, x3, some (.int v)] st h = jv_ev d 85 42 [x0, x1, x2, x3, some (.int v)] (.int v :: st) h := jq_nx (jv_insR jm_85 dX12_nextPlace_40) rfl
theorem e85_42 : jv_ev d 85 42 lc [z1, z0, .ref b] h = (jv_rc h b [(0, 86)]).bind fun y => (jv_cd d y [.ref b, z0, z1] h).bind fun r => jv_on r (fun v h => jv_ev d 85 45 lc (v.toList ++ []) h) (fun q h => some (.inr q, h)) := jq_V (as := [z0, z1]) (rest := []) (jv_insR jm_85 dX12_nextPlace_42) jo_85 jV_1_424 rfl rfl rfl rfl
theorem e85_45 : jv_ev d 85 45 lc (.int v :: st) h = if v = 0 then jv_ev d 85 51 lc st h else jv_ev d 85 48 lc st h := jq_if (jv_insR jm_85 dX12_nextPlace_45) rfl (by decide)
theorem e85_48 : jv_ev d 85 48 [x0, x1, x2, x3, some (.int v)] st h = jv_ev d 85 50 [x0, x1, x2, x3, some (.int v)] (.int v :: st) h := jq_nx (jv_insR jm_85 dX12_nextPlace_48) rfl
theorem e85_50 : jv_ev d 85 50 lc [.int v] h = some (.inl (some (.int v)), h) := jq_reti (jv_insR jm_85 dX12_nextPlace_50) jr_85
theorem e85_51 : jv_ev d 85 51 [x0, x1, x2, x3, some (.int v)] st h = jv_ev d 85 54 [x0, x1, x2, x3, some (.int (v + 1))] st h := jq_nx (jv_insR jm_85 dX12_nextPlace_51) rfl
theorem e85_54 : jv_ev d 85 54 lc st h = jv_ev d 85 3 lc st h := jq_go (jv_insR jm_85 dX12_nextPlace_54) (by decide)
theorem e85_57 : jv_ev d 85 57 lc st h = jv_ev d 85 58 lc (.int (-1) :: st) h := jq_iconst (jv_insR jm_85 dX12_nextPlace_57) (by decide)
theorem e85_58 : jv_ev d 85 58 lc [.int v] h = some (.inl (some (.int v)), h) := jq_reti (jv_insR jm_85 dX12_nextPlace_58) jr_85
/-! 86: RainLoomModel.isFree(II)Z -/
theorem n86 : jv_cd (d + 1) 86 [.ref a0, .int i1, .int i2] h = jv_ev d 86 0 [some (.ref a0), some (.int i1), some (.int i2), none, none] [] h := rfl
theorem e86_0 : jv_ev d 86 0 lc st h = jv_ev d 86 1 lc (.int 1 :: st) h := jq_iconst (jv_insR jm_86 dX12_isFree_0) (by decide)
theorem e86_1 : jv_ev d 86 1 [some (.ref a), x1, x2, x3, x4] st h = jv_ev d 86 2 [some (.ref a), x1, x2, x3, x4] (.ref a :: st) h := jq_nx (jv_insR jm_86 dX12_isFree_1) rfl
theorem e86_2 : jv_ev d 86 2 lc (.ref a :: st) h = (jv_gf h a [(0, 57, .array .int)]).bind fun r => jv_ev d 86 5 lc (r :: st) h := jq_get (jv_insR jm_86 dX12_isFree_2) jo_86 jF_1_125
theorem e86_5 : jv_ev d 86 5 [x0, some (.int v), x2, x3, x4] st h = jv_ev d 86 6 [x0, some (.int v), x2, x3, x4] (.int v :: st) h := jq_nx (jv_insR jm_86 dX12_isFree_5) rfl
theorem e86_6 : jv_ev d 86 6 lc (.int v :: .ref a :: st) h = (jv_ig h a 0 0 v).bind fun w => jv_ev d 86 7 lc (.int w :: st) h := jq_iald (jv_insR jm_86 dX12_isFree_6)
theorem e86_7 : jv_ev d 86 7 lc (.int w :: .int v :: st) h = jv_ev d 86 8 lc (.int (v <<< (w &&& 31)) :: st) h := jq_nx (jv_insR jm_86 dX12_isFree_7) rfl
theorem e86_8 : jv_ev d 86 8 lc st h = jv_ev d 86 9 lc (.int 1 :: st) h := jq_iconst (jv_insR jm_86 dX12_isFree_8) (by decide)
theorem e86_9 : jv_ev d 86 9 lc (.int w :: .int v :: st) h = jv_ev d 86 10 lc (.int (v - w) :: st) h := jq_nx (jv_insR jm_86 dX12_isFree_9) rfl
theorem e86_10 : jv_ev d 86 10 [x0, x1, some (.int v), x3, x4] st h = jv_ev d 86 11 [x0, x1, some (.int v), x3, x4] (.int v :: st) h := jq_nx (jv_insR jm_86 dX12_isFree_10) rfl
theorem e86_11 : jv_ev d 86 11 lc st h = jv_ev d 86 13 lc (.int 8 :: st) h := jq_bipush (jv_insR jm_86 dX12_isFree_11) (by decide)
theorem e86_13 : jv_ev d 86 13 lc (.int w :: .int v :: st) h = if w = 0 then none else jv_ev d 86 14 lc (.int (v - v / w * w) :: st) h := jq_irem (jv_insR jm_86 dX12_isFree_13)
theorem e86_14 : jv_ev d 86 14 lc (.int w :: .int v :: st) h = jv_ev d 86 15 lc (.int (v <<< (w &&& 31)) :: st) h := jq_nx (jv_insR jm_86 dX12_isFree_14) rfl
theorem e86_15 : jv_ev d 86 15 [x0, x1, x2, x3, x4] (.int v :: st) h = jv_ev d 86 16 [x0, x1, x2, some (.int v), x4] st h := jq_nx (jv_insR jm_86 dX12_isFree_15) rfl
theorem e86_16 : jv_ev d 86 16 [x0, x1, some (.int v), x3, x4] st h = jv_ev d 86 17 [x0, x1, some (.int v), x3, x4] (.int v :: st) h := jq_nx (jv_insR jm_86 dX12_isFree_16) rfl
theorem e86_17 : jv_ev d 86 17 lc st h = jv_ev d 86 19 lc (.int 8 :: st) h := jq_bipush (jv_insR jm_86 dX12_isFree_17) (by decide)
theorem e86_19 : jv_ev d 86 19 lc (.int w :: .int v :: st) h = if w = 0 then none else jv_ev d 86 20 lc (.int (v / w) :: st) h := jq_idiv (jv_insR jm_86 dX12_isFree_19)
theorem e86_20 : jv_ev d 86 20 [x0, x1, x2, x3, x4] (.int v :: st) h = jv_ev d 86 22 [x0, x1, x2, x3, some (.int v)] st h := jq_nx (jv_insR jm_86 dX12_isFree_20) rfl
theorem e86_22 : jv_ev d 86 22 [x0, x1, x2, x3, some (.int v)] st h = jv_ev d 86 24 [x0, x1, x2, x3, some (.int v)] (.int v :: st) h := jq_nx (jv_insR jm_86 dX12_isFree_22) rfl
theorem e86_24 : jv_ev d 86 24 [x0, x1, some (.int v), x3, x4] st h = jv_ev d 86 25 [x0, x1, some (.int v), x3, x4] (.int v :: st) h := jq_nx (jv_insR jm_86 dX12_isFree_24) rfl
theorem e86_25 : jv_ev d 86 25 lc st h = jv_ev d 86 27 lc (.int 8 :: st) h := jq_bipush (jv_insR jm_86 dX12_isFree_25) (by decide)
theorem e86_27 : jv_ev d 86 27 lc (.int w :: .int v :: st) h = if w = 0 then none else jv_ev d 86 28 lc (.int (v / w) :: st) h := jq_idiv (jv_insR jm_86 dX12_isFree_27)
theorem e86_28 : jv_ev d 86 28 [some (.ref a), x1, x2, x3, x4] st h = jv_ev d 86 29 [some (.ref a), x1, x2, x3, x4] (.ref a :: st) h := jq_nx (jv_insR jm_86 dX12_isFree_28) rfl
theorem e86_29 : jv_ev d 86 29 lc (.ref a :: st) h = (jv_gf h a [(0, 58, .array .int)]).bind fun r => jv_ev d 86 32 lc (r :: st) h := jq_get (jv_insR jm_86 dX12_isFree_29) jo_86 jF_1_128
theorem e86_32 : jv_ev d 86 32 [x0, some (.int v), x2, x3, x4] st h = jv_ev d 86 33 [x0, some (.int v), x2, x3, x4] (.int v :: st) h := jq_nx (jv_insR jm_86 dX12_isFree_32) rfl
theorem e86_33 : jv_ev d 86 33 lc (.int v :: .ref a :: st) h = (jv_ig h a 0 0 v).bind fun w => jv_ev d 86 34 lc (.int w :: st) h := jq_iald (jv_insR jm_86 dX12_isFree_33)
theorem e86_34 : jv_ev d 86 34 lc (.int w :: .int v :: st) h = jv_ev d 86 35 lc (.int (v + w) :: st) h := jq_nx (jv_insR jm_86 dX12_isFree_34) rfl
theorem e86_35 : jv_ev d 86 35 lc (.int w :: .int v :: st) h = if w ≤ v then jv_ev d 86 58 lc st h else jv_ev d 86 38 lc st h := jq_if (jv_insR jm_86 dX12_isFree_35) rfl (by decide)
theorem e86_38 : jv_ev d 86 38 [some (.ref a), x1, x2, x3, x4] st h = jv_ev d 86 39 [some (.ref a), x1, x2, x3, x4] (.ref a :: st) h := jq_nx (jv_insR jm_86 dX12_isFree_38) rfl
theorem e86_39 : jv_ev d 86 39 lc (.ref a :: st) h = (jv_gf h a [(0, 60, .array .int)]).bind fun r => jv_ev d 86 42 lc (r :: st) h := jq_get (jv_insR jm_86 dX12_isFree_39) jo_86 jF_1_134
theorem e86_42 : jv_ev d 86 42 [x0, x1, x2, x3, some (.int v)] st h = jv_ev d 86 44 [x0, x1, x2, x3, some (.int v)] (.int v :: st) h := jq_nx (jv_insR jm_86 dX12_isFree_42) rfl
theorem e86_44 : jv_ev d 86 44 lc (.int v :: .ref a :: st) h = (jv_ig h a 0 0 v).bind fun w => jv_ev d 86 45 lc (.int w :: st) h := jq_iald (jv_insR jm_86 dX12_isFree_44)
theorem e86_45 : jv_ev d 86 45 [x0, x1, x2, some (.int v), x4] st h = jv_ev d 86 46 [x0, x1, x2, some (.int v), x4] (.int v :: st) h := jq_nx (jv_insR jm_86 dX12_isFree_45) rfl
theorem e86_46 : jv_ev d 86 46 lc (.int w :: .int v :: st) h = jv_ev d 86 47 lc (.int (v &&& w) :: st) h := jq_nx (jv_insR jm_86 dX12_isFree_46) rfl
theorem e86_47 : jv_ev d 86 47 lc (.int v :: st) h = if v = 0 then jv_ev d 86 52 lc st h else jv_ev d 86 50 lc st h := jq_if (jv_insR jm_86 dX12_isFree_47) rfl (by decide)
theorem e86_50 : jv_ev d 86 50 lc st h = jv_ev d 86 51 lc (.int 0 :: st) h := jq_iconst (jv_insR jm_86 dX12_isFree_50) (by decide)
theorem e86_51 : jv_ev d 86 51 lc [.int v] h = if narrow .boolean (.int v) = .int v then some (.inl (some (.int v)), h) else none := jq_ret (jv_insR jm_86 dX12_isFree_51) jr_86 (by decide)
theorem e86_52 : jv_ev d 86 52 [x0, x1, x2, x3, some (.int v)] st h = jv_ev d 86 55 [x0, x1, x2, x3, some (.int (v + 1))] st h := jq_nx (jv_insR jm_86 dX12_isFree_52) rfl
theorem e86_55 : jv_ev d 86 55 lc st h = jv_ev d 86 22 lc st h := jq_go (jv_insR jm_86 dX12_isFree_55) (by decide)
theorem e86_58 : jv_ev d 86 58 lc st h = jv_ev d 86 59 lc (.int 1 :: st) h := jq_iconst (jv_insR jm_86 dX12_isFree_58) (by decide)
theorem e86_59 : jv_ev d 86 59 lc [.int v] h = if narrow .boolean (.int v) = .int v then some (.inl (some (.int v)), h) else none := jq_ret (jv_insR jm_86 dX12_isFree_59) jr_86 (by decide)
/-! 87: RainLoomModel.flips(II)V -/
theorem n87 : jv_cd (d + 1) 87 [.ref a0, .int i1, .int i2] h = jv_ev d 87 0 [some (.ref a0), some (.int i1), some (.int i2), none, none] [] h := rfl
theorem e87_0 : jv_ev d 87 0 lc st h = jv_ev d 87 1 lc (.int 1 :: st) h := jq_iconst (jv_insR jm_87 dX12_flips_0) (by decide)
theorem e87_1 : jv_ev d 87 1 [some (.ref a), x1, x2, x3, x4] st h = jv_ev d 87 2 [some (.ref a), x1, x2, x3, x4] (.ref a :: st) h := jq_nx (jv_insR jm_87 dX12_flips_1) rfl
theorem e87_2 : jv_ev d 87 2 lc (.ref a :: st) h = (jv_gf h a [(0, 57, .array .int)]).bind fun r => jv_ev d 87 5 lc (r :: st) h := jq_get (jv_insR jm_87 dX12_flips_2) jo_87 jF_1_125
theorem e87_5 : jv_ev d 87 5 [x0, some (.int v), x2, x3, x4] st h = jv_ev d 87 6 [x0, some (.int v), x2, x3, x4] (.int v :: st) h := jq_nx (jv_insR jm_87 dX12_flips_5) rfl
theorem e87_6 : jv_ev d 87 6 lc (.int v :: .ref a :: st) h = (jv_ig h a 0 0 v).bind fun w => jv_ev d 87 7 lc (.int w :: st) h := jq_iald (jv_insR jm_87 dX12_flips_6)
theorem e87_7 : jv_ev d 87 7 lc (.int w :: .int v :: st) h = jv_ev d 87 8 lc (.int (v <<< (w &&& 31)) :: st) h := jq_nx (jv_insR jm_87 dX12_flips_7) rfl
theorem e87_8 : jv_ev d 87 8 lc st h = jv_ev d 87 9 lc (.int 1 :: st) h := jq_iconst (jv_insR jm_87 dX12_flips_8) (by decide)
theorem e87_9 : jv_ev d 87 9 lc (.int w :: .int v :: st) h = jv_ev d 87 10 lc (.int (v - w) :: st) h := jq_nx (jv_insR jm_87 dX12_flips_9) rfl
theorem e87_10 : jv_ev d 87 10 [x0, x1, some (.int v), x3, x4] st h = jv_ev d 87 11 [x0, x1, some (.int v), x3, x4] (.int v :: st) h := jq_nx (jv_insR jm_87 dX12_flips_10) rfl
theorem e87_11 : jv_ev d 87 11 lc st h = jv_ev d 87 13 lc (.int 8 :: st) h := jq_bipush (jv_insR jm_87 dX12_flips_11) (by decide)
theorem e87_13 : jv_ev d 87 13 lc (.int w :: .int v :: st) h = if w = 0 then none else jv_ev d 87 14 lc (.int (v - v / w * w) :: st) h := jq_irem (jv_insR jm_87 dX12_flips_13)
theorem e87_14 : jv_ev d 87 14 lc (.int w :: .int v :: st) h = jv_ev d 87 15 lc (.int (v <<< (w &&& 31)) :: st) h := jq_nx (jv_insR jm_87 dX12_flips_14) rfl
theorem e87_15 : jv_ev d 87 15 [x0, x1, x2, x3, x4] (.int v :: st) h = jv_ev d 87 16 [x0, x1, x2, some (.int v), x4] st h := jq_nx (jv_insR jm_87 dX12_flips_15) rfl
theorem e87_16 : jv_ev d 87 16 [x0, x1, some (.int v), x3, x4] st h = jv_ev d 87 17 [x0, x1, some (.int v), x3, x4] (.int v :: st) h := jq_nx (jv_insR jm_87 dX12_flips_16) rfl
theorem e87_17 : jv_ev d 87 17 lc st h = jv_ev d 87 19 lc (.int 8 :: st) h := jq_bipush (jv_insR jm_87 dX12_flips_17) (by decide)
theorem e87_19 : jv_ev d 87 19 lc (.int w :: .int v :: st) h = if w = 0 then none else jv_ev d 87 20 lc (.int (v / w) :: st) h := jq_idiv (jv_insR jm_87 dX12_flips_19)
theorem e87_20 : jv_ev d 87 20 [x0, x1, x2, x3, x4] (.int v :: st) h = jv_ev d 87 22 [x0, x1, x2, x3, some (.int v)] st h := jq_nx (jv_insR jm_87 dX12_flips_20) rfl
theorem e87_22 : jv_ev d 87 22 [x0, x1, x2, x3, some (.int v)] st h = jv_ev d 87 24 [x0, x1, x2, x3, some (.int v)] (.int v :: st) h := jq_nx (jv_insR jm_87 dX12_flips_22) rfl
theorem e87_24 : jv_ev d 87 24 [x0, x1, some (.int v), x3, x4] st h = jv_ev d 87 25 [x0, x1, some (.int v), x3, x4] (.int v :: st) h := jq_nx (jv_insR jm_87 dX12_flips_24) rfl
theorem e87_25 : jv_ev d 87 25 lc st h = jv_ev d 87 27 lc (.int 8 :: st) h := jq_bipush (jv_insR jm_87 dX12_flips_25) (by decide)
theorem e87_27 : jv_ev d 87 27 lc (.int w :: .int v :: st) h = if w = 0 then none else jv_ev d 87 28 lc (.int (v / w) :: st) h := jq_idiv (jv_insR jm_87 dX12_flips_27)
theorem e87_28 : jv_ev d 87 28 [some (.ref a), x1, x2, x3, x4] st h = jv_ev d 87 29 [some (.ref a), x1, x2, x3, x4] (.ref a :: st) h := jq_nx (jv_insR jm_87 dX12_flips_28) rfl
theorem e87_29 : jv_ev d 87 29 lc (.ref a :: st) h = (jv_gf h a [(0, 58, .array .int)]).bind fun r => jv_ev d 87 32 lc (r :: st) h := jq_get (jv_insR jm_87 dX12_flips_29) jo_87 jF_1_128
theorem e87_32 : jv_ev d 87 32 [x0, some (.int v), x2, x3, x4] st h = jv_ev d 87 33 [x0, some (.int v), x2, x3, x4] (.int v :: st) h := jq_nx (jv_insR jm_87 dX12_flips_32) rfl
theorem e87_33 : jv_ev d 87 33 lc (.int v :: .ref a :: st) h = (jv_ig h a 0 0 v).bind fun w => jv_ev d 87 34 lc (.int w :: st) h := jq_iald (jv_insR jm_87 dX12_flips_33)
theorem e87_34 : jv_ev d 87 34 lc (.int w :: .int v :: st) h = jv_ev d 87 35 lc (.int (v + w) :: st) h := jq_nx (jv_insR jm_87 dX12_flips_34) rfl
theorem e87_35 : jv_ev d 87 35 lc (.int w :: .int v :: st) h = if w ≤ v then jv_ev d 87 55 lc st h else jv_ev d 87 38 lc st h := jq_if (jv_insR jm_87 dX12_flips_35) rfl (by decide)
theorem e87_38 : jv_ev d 87 38 [some (.ref a), x1, x2, x3, x4] st h = jv_ev d 87 39 [some (.ref a), x1, x2, x3, x4] (.ref a :: st) h := jq_nx (jv_insR jm_87 dX12_flips_38) rfl
theorem e87_39 : jv_ev d 87 39 lc (.ref a :: st) h = (jv_gf h a [(0, 60, .array .int)]).bind fun r => jv_ev d 87 42 lc (r :: st) h := jq_get (jv_insR jm_87 dX12_flips_39) jo_87 jF_1_134
theorem e87_42 : jv_ev d 87 42 [x0, x1, x2, x3, some (.int v)] st h = jv_ev d 87 44 [x0, x1, x2, x3, some (.int v)] (.int v :: st) h := jq_nx (jv_insR jm_87 dX12_flips_42) rfl
theorem e87_44 : jv_ev d 87 44 lc (.int v :: .ref b :: st) h = jv_ev d 87 45 lc (.int v :: .ref b :: .int v :: .ref b :: st) h := jq_nx (jv_insR jm_87 dX12_flips_44) rfl
theorem e87_45 : jv_ev d 87 45 lc (.int v :: .ref a :: st) h = (jv_ig h a 0 0 v).bind fun w => jv_ev d 87 46 lc (.int w :: st) h := jq_iald (jv_insR jm_87 dX12_flips_45)
theorem e87_46 : jv_ev d 87 46 [x0, x1, x2, some (.int v), x4] st h = jv_ev d 87 47 [x0, x1, x2, some (.int v), x4] (.int v :: st) h := jq_nx (jv_insR jm_87 dX12_flips_46) rfl
theorem e87_47 : jv_ev d 87 47 lc (.int w :: .int v :: st) h = jv_ev d 87 48 lc (.int (v ^^^ w) :: st) h := jq_nx (jv_insR jm_87 dX12_flips_47) rfl
theorem e87_48 : jv_ev d 87 48 lc (.int w :: .int v :: .ref a :: st) h = (jv_ip h a 0 0 v w).bind fun h => jv_ev d 87 49 lc st h := jq_iast (jv_insR jm_87 dX12_flips_48)
theorem e87_49 : jv_ev d 87 49 [x0, x1, x2, x3, some (.int v)] st h = jv_ev d 87 52 [x0, x1, x2, x3, some (.int (v + 1))] st h := jq_nx (jv_insR jm_87 dX12_flips_49) rfl
theorem e87_52 : jv_ev d 87 52 lc st h = jv_ev d 87 22 lc st h := jq_go (jv_insR jm_87 dX12_flips_52) (by decide)
theorem e87_55 : jv_ev d 87 55 lc [] h = some (.inl none, h) := jq_retv (jv_insR jm_87 dX12_flips_55) jr_87
/-! 88: RainLoomModel.then(III)I -/
theorem n88 : jv_cd (d + 1) 88 [.ref a0, .int i1, .int i2, .int i3] h = jv_ev d 88 0 [some (.ref a0), some (.int i1), some (.int i2), some (.int i3)] [] h := rfl
theorem e88_0 : jv_ev d 88 0 [some (.ref a), x1, x2, x3] st h = jv_ev d 88 1 [some (.ref a), x1, x2, x3] (.ref a :: st) h := jq_nx (jv_insR jm_88 dX12_then_0) rfl
theorem e88_1 : jv_ev d 88 1 [x0, some (.int v), x2, x3] st h = jv_ev d 88 2 [x0, some (.int v), x2, x3] (.int v :: st) h := jq_nx (jv_insR jm_88 dX12_then_1) rfl
theorem e88_2 : jv_ev d 88 2 [x0, x1, some (.int v), x3] st h = jv_ev d 88 3 [x0, x1, some (.int v), x3] (.int v :: st) h := jq_nx (jv_insR jm_88 dX12_then_2) rfl
theorem e88_3 : jv_ev d 88 3 lc [z1, z0, .ref b] h = (jv_rc h b [(0, 39)]).bind fun y => (jv_cd d y [.ref b, z0, z1] h).bind fun r => jv_on r (fun v h => jv_ev d 88 6 lc (v.toList ++ []) h) (fun q h => some (.inr q, h)) := jq_V (as := [z0, z1]) (rest := []) (jv_insR jm_88 dX12_then_3) jo_88 jV_1_343 rfl rfl rfl rfl
theorem e88_6 : jv_ev d 88 6 lc (.int v :: st) h = if v = 0 then jv_ev d 88 16 lc st h else jv_ev d 88 9 lc st h := jq_if (jv_insR jm_88 dX12_then_6) rfl (by decide)
theorem e88_9 : jv_ev d 88 9 [x0, x1, x2, some (.int v)] st h = jv_ev d 88 10 [x0, x1, x2, some (.int v)] (.int v :: st) h := jq_nx (jv_insR jm_88 dX12_then_9) rfl
theorem e88_10 : jv_ev d 88 10 lc [z0] h = (jv_cd d 89 [z0] h).bind fun r => jv_on r (fun v h => jv_ev d 88 13 lc (v.toList ++ []) h) (fun q h => some (.inr q, h)) := jq_S (as := [z0]) (rest := []) (jv_insR jm_88 dX12_then_10) jo_88 jT_1_442 rfl rfl rfl rfl
theorem e88_13 : jv_ev d 88 13 lc (.int v :: st) h = if ¬ v = 0 then jv_ev d 88 18 lc st h else jv_ev d 88 16 lc st h := jq_if (jv_insR jm_88 dX12_then_13) rfl (by decide)
theorem e88_16 : jv_ev d 88 16 lc st h = jv_ev d 88 17 lc (.int (-1) :: st) h := jq_iconst (jv_insR jm_88 dX12_then_16) (by decide)
theorem e88_17 : jv_ev d 88 17 lc [.int v] h = some (.inl (some (.int v)), h) := jq_reti (jv_insR jm_88 dX12_then_17) jr_88
theorem e88_18 : jv_ev d 88 18 [some (.ref a), x1, x2, x3] st h = jv_ev d 88 19 [some (.ref a), x1, x2, x3] (.ref a :: st) h := jq_nx (jv_insR jm_88 dX12_then_18) rfl
theorem e88_19 : jv_ev d 88 19 lc [.ref b] h = (jv_rc h b [(0, 41)]).bind fun y => (jv_cd d y [.ref b] h).bind fun r => jv_on r (fun v h => jv_ev d 88 22 lc (v.toList ++ []) h) (fun q h => some (.inr q, h)) := jq_V (as := []) (rest := []) (jv_insR jm_88 dX12_then_19) jo_88 jV_1_381 rfl rfl rfl rfl
theorem e88_22 : jv_ev d 88 22 [some (.ref a), x1, x2, x3] st h = jv_ev d 88 23 [some (.ref a), x1, x2, x3] (.ref a :: st) h := jq_nx (jv_insR jm_88 dX12_then_22) rfl
theorem e88_23 : jv_ev d 88 23 [x0, x1, x2, some (.int v)] st h = jv_ev d 88 24 [x0, x1, x2, some (.int v)] (.int v :: st) h := jq_nx (jv_insR jm_88 dX12_then_23) rfl
theorem e88_24 : jv_ev d 88 24 lc [z0, .ref b] h = (jv_rc h b [(0, 67)]).bind fun y => (jv_cd d y [.ref b, z0] h).bind fun r => jv_on r (fun v h => jv_ev d 88 27 lc (v.toList ++ []) h) (fun q h => some (.inr q, h)) := jq_V (as := [z0]) (rest := []) (jv_insR jm_88 dX12_then_24) jo_88 jV_1_402 rfl rfl rfl rfl
theorem e88_27 : jv_ev d 88 27 [some (.ref a), x1, x2, x3] st h = jv_ev d 88 28 [some (.ref a), x1, x2, x3] (.ref a :: st) h := jq_nx (jv_insR jm_88 dX12_then_27) rfl
theorem e88_28 : jv_ev d 88 28 lc (.ref a :: st) h = (jv_gf h a [(0, 51, .array .int)]).bind fun r => jv_ev d 88 31 lc (r :: st) h := jq_get (jv_insR jm_88 dX12_then_28) jo_88 jF_1_119
theorem e88_31 : jv_ev d 88 31 lc st h = jv_ev d 88 33 lc (.int 8 :: st) h := jq_bipush (jv_insR jm_88 dX12_then_31) (by decide)
theorem e88_33 : jv_ev d 88 33 [x0, x1, some (.int v), x3] st h = jv_ev d 88 34 [x0, x1, some (.int v), x3] (.int v :: st) h := jq_nx (jv_insR jm_88 dX12_then_33) rfl
theorem e88_34 : jv_ev d 88 34 lc (.int w :: .int v :: st) h = jv_ev d 88 35 lc (.int (v * w) :: st) h := jq_nx (jv_insR jm_88 dX12_then_34) rfl
theorem e88_35 : jv_ev d 88 35 [x0, some (.int v), x2, x3] st h = jv_ev d 88 36 [x0, some (.int v), x2, x3] (.int v :: st) h := jq_nx (jv_insR jm_88 dX12_then_35) rfl
theorem e88_36 : jv_ev d 88 36 lc (.int w :: .int v :: st) h = jv_ev d 88 37 lc (.int (v + w) :: st) h := jq_nx (jv_insR jm_88 dX12_then_36) rfl
theorem e88_37 : jv_ev d 88 37 lc (.int v :: .ref a :: st) h = (jv_ig h a 0 0 v).bind fun w => jv_ev d 88 38 lc (.int w :: st) h := jq_iald (jv_insR jm_88 dX12_then_37)
theorem e88_38 : jv_ev d 88 38 lc [.int v] h = some (.inl (some (.int v)), h) := jq_reti (jv_insR jm_88 dX12_then_38) jr_88
/-! 89: RainLoomModel.isLong(I)Z -/
theorem n89 : jv_cd (d + 1) 89 [.int i0] h = jv_ev d 89 0 [some (.int i0)] [] h := rfl
theorem e89_0 : jv_ev d 89 0 [some (.int v)] st h = jv_ev d 89 1 [some (.int v)] (.int v :: st) h := jq_nx (jv_insR jm_89 dX12_isLong_0) rfl
theorem e89_1 : jv_ev d 89 1 lc st h = jv_ev d 89 2 lc (.int 0 :: st) h := jq_iconst (jv_insR jm_89 dX12_isLong_1) (by decide)
theorem e89_2 : jv_ev d 89 2 lc st h = jv_ev d 89 4 lc (.int 60 :: st) h := jq_bipush (jv_insR jm_89 dX12_isLong_2) (by decide)
theorem e89_4 : jv_ev d 89 4 lc [z2, z1, z0] h = (jv_cd d 40 [z0, z1, z2] h).bind fun r => jv_on r (fun v h => jv_ev d 89 7 lc (v.toList ++ []) h) (fun q h => some (.inr q, h)) := jq_S (as := [z0, z1, z2]) (rest := []) (jv_insR jm_89 dX12_isLong_4) jo_89 jT_1_323 rfl rfl rfl rfl
theorem e89_7 : jv_ev d 89 7 lc [.int v] h = if narrow .boolean (.int v) = .int v then some (.inl (some (.int v)), h) else none := jq_ret (jv_insR jm_89 dX12_isLong_7) jr_89 (by decide)
/-! 90: RainLoomModel.all(II)I -/
theorem n90 : jv_cd (d + 1) 90 [.ref a0, .int i1, .int i2] h = jv_ev d 90 0 [some (.ref a0), some (.int i1), some (.int i2)] [] h := rfl
theorem e90_0 : jv_ev d 90 0 [x0, some (.int v), x2] st h = jv_ev d 90 1 [x0, some (.int v), x2] (.int v :: st) h := jq_nx (jv_insR jm_90 dX12_all_0) rfl
theorem e90_1 : jv_ev d 90 1 lc [z0] h = (jv_cd d 89 [z0] h).bind fun r => jv_on r (fun v h => jv_ev d 90 4 lc (v.toList ++ []) h) (fun q h => some (.inr q, h)) := jq_S (as := [z0]) (rest := []) (jv_insR jm_90 dX12_all_1) jo_90 jT_1_442 rfl rfl rfl rfl
theorem e90_4 : jv_ev d 90 4 lc (.int v :: st) h = if v = 0 then jv_ev d 90 16 lc st h else jv_ev d 90 7 lc st h := jq_if (jv_insR jm_90 dX12_all_4) rfl (by decide)
theorem e90_7 : jv_ev d 90 7 [x0, x1, some (.int v)] st h = jv_ev d 90 8 [x0, x1, some (.int v)] (.int v :: st) h := jq_nx (jv_insR jm_90 dX12_all_7) rfl
theorem e90_8 : jv_ev d 90 8 lc st h = jv_ev d 90 9 lc (.int 0 :: st) h := jq_iconst (jv_insR jm_90 dX12_all_8) (by decide)
theorem e90_9 : jv_ev d 90 9 lc st h = jv_ev d 90 10 lc (.int 2 :: st) h := jq_iconst (jv_insR jm_90 dX12_all_9) (by decide)
theorem e90_10 : jv_ev d 90 10 lc [z2, z1, z0] h = (jv_cd d 40 [z0, z1, z2] h).bind fun r => jv_on r (fun v h => jv_ev d 90 13 lc (v.toList ++ []) h) (fun q h => some (.inr q, h)) := jq_S (as := [z0, z1, z2]) (rest := []) (jv_insR jm_90 dX12_all_10) jo_90 jT_1_323 rfl rfl rfl rfl
theorem e90_13 : jv_ev d 90 13 lc (.int v :: st) h = if ¬ v = 0 then jv_ev d 90 18 lc st h else jv_ev d 90 16 lc st h := jq_if (jv_insR jm_90 dX12_all_13) rfl (by decide)
theorem e90_16 : jv_ev d 90 16 lc st h = jv_ev d 90 17 lc (.int (-1) :: st) h := jq_iconst (jv_insR jm_90 dX12_all_16) (by decide)
theorem e90_17 : jv_ev d 90 17 lc [.int v] h = some (.inl (some (.int v)), h) := jq_reti (jv_insR jm_90 dX12_all_17) jr_90
theorem e90_18 : jv_ev d 90 18 [some (.ref a), x1, x2] st h = jv_ev d 90 19 [some (.ref a), x1, x2] (.ref a :: st) h := jq_nx (jv_insR jm_90 dX12_all_18) rfl
theorem e90_19 : jv_ev d 90 19 lc [.ref b] h = (jv_rc h b [(0, 41)]).bind fun y => (jv_cd d y [.ref b] h).bind fun r => jv_on r (fun v h => jv_ev d 90 22 lc (v.toList ++ []) h) (fun q h => some (.inr q, h)) := jq_V (as := []) (rest := []) (jv_insR jm_90 dX12_all_19) jo_90 jV_1_381 rfl rfl rfl rfl
theorem e90_22 : jv_ev d 90 22 [some (.ref a), x1, x2] st h = jv_ev d 90 23 [some (.ref a), x1, x2] (.ref a :: st) h := jq_nx (jv_insR jm_90 dX12_all_22) rfl
theorem e90_23 : jv_ev d 90 23 [x0, some (.int v), x2] st h = jv_ev d 90 24 [x0, some (.int v), x2] (.int v :: st) h := jq_nx (jv_insR jm_90 dX12_all_23) rfl
theorem e90_24 : jv_ev d 90 24 lc [z0, .ref b] h = (jv_rc h b [(0, 67)]).bind fun y => (jv_cd d y [.ref b, z0] h).bind fun r => jv_on r (fun v h => jv_ev d 90 27 lc (v.toList ++ []) h) (fun q h => some (.inr q, h)) := jq_V (as := [z0]) (rest := []) (jv_insR jm_90 dX12_all_24) jo_90 jV_1_402 rfl rfl rfl rfl
theorem e90_27 : jv_ev d 90 27 [x0, x1, some (.int v)] st h = jv_ev d 90 28 [x0, x1, some (.int v)] (.int v :: st) h := jq_nx (jv_insR jm_90 dX12_all_27) rfl
theorem e90_28 : jv_ev d 90 28 lc st h = jv_ev d 90 29 lc (.int 2 :: st) h := jq_iconst (jv_insR jm_90 dX12_all_28) (by decide)
theorem e90_29 : jv_ev d 90 29 lc (.int w :: .int v :: st) h = if ¬ v = w then jv_ev d 90 42 lc st h else jv_ev d 90 32 lc st h := jq_if (jv_insR jm_90 dX12_all_29) rfl (by decide)
theorem e90_32 : jv_ev d 90 32 [some (.ref a), x1, x2] st h = jv_ev d 90 33 [some (.ref a), x1, x2] (.ref a :: st) h := jq_nx (jv_insR jm_90 dX12_all_32) rfl
theorem e90_33 : jv_ev d 90 33 lc (.ref a :: st) h = (jv_gf h a [(0, 51, .array .int)]).bind fun r => jv_ev d 90 36 lc (r :: st) h := jq_get (jv_insR jm_90 dX12_all_33) jo_90 jF_1_119
theorem e90_36 : jv_ev d 90 36 lc st h = jv_ev d 90 38 lc (.int 88 :: st) h := jq_bipush (jv_insR jm_90 dX12_all_36) (by decide)
theorem e90_38 : jv_ev d 90 38 lc (.int v :: .ref a :: st) h = (jv_ig h a 0 0 v).bind fun w => jv_ev d 90 39 lc (.int w :: st) h := jq_iald (jv_insR jm_90 dX12_all_38)
theorem e90_39 : jv_ev d 90 39 lc st h = jv_ev d 90 53 lc st h := jq_go (jv_insR jm_90 dX12_all_39) (by decide)
theorem e90_42 : jv_ev d 90 42 [some (.ref a), x1, x2] st h = jv_ev d 90 43 [some (.ref a), x1, x2] (.ref a :: st) h := jq_nx (jv_insR jm_90 dX12_all_42) rfl
theorem e90_43 : jv_ev d 90 43 lc st h = jv_ev d 90 45 lc (.int 76 :: st) h := jq_bipush (jv_insR jm_90 dX12_all_43) (by decide)
theorem e90_45 : jv_ev d 90 45 lc st h = jv_ev d 90 47 lc (.int 6 :: st) h := jq_bipush (jv_insR jm_90 dX12_all_45) (by decide)
theorem e90_47 : jv_ev d 90 47 [x0, x1, some (.int v)] st h = jv_ev d 90 48 [x0, x1, some (.int v)] (.int v :: st) h := jq_nx (jv_insR jm_90 dX12_all_47) rfl
theorem e90_48 : jv_ev d 90 48 lc (.int w :: .int v :: st) h = jv_ev d 90 49 lc (.int (v * w) :: st) h := jq_nx (jv_insR jm_90 dX12_all_48) rfl
theorem e90_49 : jv_ev d 90 49 lc (.int w :: .int v :: st) h = jv_ev d 90 50 lc (.int (v + w) :: st) h := jq_nx (jv_insR jm_90 dX12_all_49) rfl
theorem e90_50 : jv_ev d 90 50 lc [z0, .ref b] h = (jv_rc h b [(0, 91)]).bind fun y => (jv_cd d y [.ref b, z0] h).bind fun r => jv_on r (fun v h => jv_ev d 90 53 lc (v.toList ++ []) h) (fun q h => some (.inr q, h)) := jq_V (as := [z0]) (rest := []) (jv_insR jm_90 dX12_all_50) jo_90 jV_1_445 rfl rfl rfl rfl
theorem e90_53 : jv_ev d 90 53 lc [.int v] h = some (.inl (some (.int v)), h) := jq_reti (jv_insR jm_90 dX12_all_53) jr_90
/-! 91: RainLoomModel.moreIn(I)I -/
theorem n91 : jv_cd (d + 1) 91 [.ref a0, .int i1] h = jv_ev d 91 0 [some (.ref a0), some (.int i1), none, none] [] h := rfl
theorem e91_0 : jv_ev d 91 0 lc st h = jv_ev d 91 1 lc (.int 0 :: st) h := jq_iconst (jv_insR jm_91 dX12_moreIn_0) (by decide)
theorem e91_1 : jv_ev d 91 1 [x0, x1, x2, x3] (.int v :: st) h = jv_ev d 91 2 [x0, x1, some (.int v), x3] st h := jq_nx (jv_insR jm_91 dX12_moreIn_1) rfl
theorem e91_2 : jv_ev d 91 2 [x0, some (.int v), x2, x3] st h = jv_ev d 91 3 [x0, some (.int v), x2, x3] (.int v :: st) h := jq_nx (jv_insR jm_91 dX12_moreIn_2) rfl
theorem e91_3 : jv_ev d 91 3 [x0, x1, x2, x3] (.int v :: st) h = jv_ev d 91 4 [x0, x1, x2, some (.int v)] st h := jq_nx (jv_insR jm_91 dX12_moreIn_3) rfl
theorem e91_4 : jv_ev d 91 4 [x0, x1, x2, some (.int v)] st h = jv_ev d 91 5 [x0, x1, x2, some (.int v)] (.int v :: st) h := jq_nx (jv_insR jm_91 dX12_moreIn_4) rfl
theorem e91_5 : jv_ev d 91 5 [x0, some (.int v), x2, x3] st h = jv_ev d 91 6 [x0, some (.int v), x2, x3] (.int v :: st) h := jq_nx (jv_insR jm_91 dX12_moreIn_5) rfl
theorem e91_6 : jv_ev d 91 6 lc st h = jv_ev d 91 8 lc (.int 6 :: st) h := jq_bipush (jv_insR jm_91 dX12_moreIn_6) (by decide)
theorem e91_8 : jv_ev d 91 8 lc (.int w :: .int v :: st) h = jv_ev d 91 9 lc (.int (v + w) :: st) h := jq_nx (jv_insR jm_91 dX12_moreIn_8) rfl
theorem e91_9 : jv_ev d 91 9 lc (.int w :: .int v :: st) h = if w ≤ v then jv_ev d 91 34 lc st h else jv_ev d 91 12 lc st h := jq_if (jv_insR jm_91 dX12_moreIn_9) rfl (by decide)
theorem e91_12 : jv_ev d 91 12 [x0, x1, some (.int v), x3] st h = jv_ev d 91 13 [x0, x1, some (.int v), x3] (.int v :: st) h := jq_nx (jv_insR jm_91 dX12_moreIn_12) rfl
theorem e91_13 : jv_ev d 91 13 [some (.ref a), x1, x2, x3] st h = jv_ev d 91 14 [some (.ref a), x1, x2, x3] (.ref a :: st) h := jq_nx (jv_insR jm_91 dX12_moreIn_13) rfl
theorem e91_14 : jv_ev d 91 14 lc (.ref a :: st) h = (jv_gf h a [(0, 51, .array .int)]).bind fun r => jv_ev d 91 17 lc (r :: st) h := jq_get (jv_insR jm_91 dX12_moreIn_14) jo_91 jF_1_119
theorem e91_17 : jv_ev d 91 17 [x0, x1, x2, some (.int v)] st h = jv_ev d 91 18 [x0, x1, x2, some (.int v)] (.int v :: st) h := jq_nx (jv_insR jm_91 dX12_moreIn_17) rfl
theorem e91_18 : jv_ev d 91 18 lc (.int v :: .ref a :: st) h = (jv_ig h a 0 0 v).bind fun w => jv_ev d 91 19 lc (.int w :: st) h := jq_iald (jv_insR jm_91 dX12_moreIn_18)
theorem e91_19 : jv_ev d 91 19 [some (.ref a), x1, x2, x3] st h = jv_ev d 91 20 [some (.ref a), x1, x2, x3] (.ref a :: st) h := jq_nx (jv_insR jm_91 dX12_moreIn_19) rfl
theorem e91_20 : jv_ev d 91 20 lc (.ref a :: st) h = (jv_gf h a [(0, 50, .array .int)]).bind fun r => jv_ev d 91 23 lc (r :: st) h := jq_get (jv_insR jm_91 dX12_moreIn_20) jo_91 jF_1_116
theorem e91_23 : jv_ev d 91 23 [x0, x1, x2, some (.int v)] st h = jv_ev d 91 24 [x0, x1, x2, some (.int v)] (.int v :: st) h := jq_nx (jv_insR jm_91 dX12_moreIn_23) rfl
theorem e91_24 : jv_ev d 91 24 lc (.int v :: .ref a :: st) h = (jv_ig h a 0 0 v).bind fun w => jv_ev d 91 25 lc (.int w :: st) h := jq_iald (jv_insR jm_91 dX12_moreIn_24)
theorem e91_25 : jv_ev d 91 25 lc (.int w :: .int v :: st) h = jv_ev d 91 26 lc (.int (v - w) :: st) h := jq_nx (jv_insR jm_91 dX12_moreIn_25) rfl
theorem e91_26 : jv_ev d 91 26 lc (.int w :: .int v :: st) h = jv_ev d 91 27 lc (.int (v + w) :: st) h := jq_nx (jv_insR jm_91 dX12_moreIn_26) rfl
theorem e91_27 : jv_ev d 91 27 [x0, x1, x2, x3] (.int v :: st) h = jv_ev d 91 28 [x0, x1, some (.int v), x3] st h := jq_nx (jv_insR jm_91 dX12_moreIn_27) rfl
theorem e91_28 : jv_ev d 91 28 [x0, x1, x2, some (.int v)] st h = jv_ev d 91 31 [x0, x1, x2, some (.int (v + 1))] st h := jq_nx (jv_insR jm_91 dX12_moreIn_28) rfl
theorem e91_31 : jv_ev d 91 31 lc st h = jv_ev d 91 4 lc st h := jq_go (jv_insR jm_91 dX12_moreIn_31) (by decide)
theorem e91_34 : jv_ev d 91 34 [x0, x1, some (.int v), x3] st h = jv_ev d 91 35 [x0, x1, some (.int v), x3] (.int v :: st) h := jq_nx (jv_insR jm_91 dX12_moreIn_34) rfl
theorem e91_35 : jv_ev d 91 35 lc [.int v] h = some (.inl (some (.int v)), h) := jq_reti (jv_insR jm_91 dX12_moreIn_35) jr_91
/-! 92: RainLoomModel.wettest(II)I -/
theorem n92 : jv_cd (d + 1) 92 [.ref a0, .int i1, .int i2] h = jv_ev d 92 0 [some (.ref a0), some (.int i1), some (.int i2), none, none] [] h := rfl
theorem e92_0 : jv_ev d 92 0 [x0, some (.int v), x2, x3, x4] st h = jv_ev d 92 1 [x0, some (.int v), x2, x3, x4] (.int v :: st) h := jq_nx (jv_insR jm_92 dX12_wettest_0) rfl
theorem e92_1 : jv_ev d 92 1 lc [z0] h = (jv_cd d 89 [z0] h).bind fun r => jv_on r (fun v h => jv_ev d 92 4 lc (v.toList ++ []) h) (fun q h => some (.inr q, h)) := jq_S (as := [z0]) (rest := []) (jv_insR jm_92 dX12_wettest_1) jo_92 jT_1_442 rfl rfl rfl rfl
theorem e92_4 : jv_ev d 92 4 lc (.int v :: st) h = if v = 0 then jv_ev d 92 16 lc st h else jv_ev d 92 7 lc st h := jq_if (jv_insR jm_92 dX12_wettest_4) rfl (by decide)
theorem e92_7 : jv_ev d 92 7 [x0, x1, some (.int v), x3, x4] st h = jv_ev d 92 8 [x0, x1, some (.int v), x3, x4] (.int v :: st) h := jq_nx (jv_insR jm_92 dX12_wettest_7) rfl
theorem e92_8 : jv_ev d 92 8 lc st h = jv_ev d 92 9 lc (.int 0 :: st) h := jq_iconst (jv_insR jm_92 dX12_wettest_8) (by decide)
theorem e92_9 : jv_ev d 92 9 lc st h = jv_ev d 92 10 lc (.int 2 :: st) h := jq_iconst (jv_insR jm_92 dX12_wettest_9) (by decide)
theorem e92_10 : jv_ev d 92 10 lc [z2, z1, z0] h = (jv_cd d 40 [z0, z1, z2] h).bind fun r => jv_on r (fun v h => jv_ev d 92 13 lc (v.toList ++ []) h) (fun q h => some (.inr q, h)) := jq_S (as := [z0, z1, z2]) (rest := []) (jv_insR jm_92 dX12_wettest_10) jo_92 jT_1_323 rfl rfl rfl rfl
theorem e92_13 : jv_ev d 92 13 lc (.int v :: st) h = if ¬ v = 0 then jv_ev d 92 18 lc st h else jv_ev d 92 16 lc st h := jq_if (jv_insR jm_92 dX12_wettest_13) rfl (by decide)
theorem e92_16 : jv_ev d 92 16 lc st h = jv_ev d 92 17 lc (.int (-1) :: st) h := jq_iconst (jv_insR jm_92 dX12_wettest_16) (by decide)
theorem e92_17 : jv_ev d 92 17 lc [.int v] h = some (.inl (some (.int v)), h) := jq_reti (jv_insR jm_92 dX12_wettest_17) jr_92
theorem e92_18 : jv_ev d 92 18 [some (.ref a), x1, x2, x3, x4] st h = jv_ev d 92 19 [some (.ref a), x1, x2, x3, x4] (.ref a :: st) h := jq_nx (jv_insR jm_92 dX12_wettest_18) rfl
theorem e92_19 : jv_ev d 92 19 lc [.ref b] h = (jv_rc h b [(0, 41)]).bind fun y => (jv_cd d y [.ref b] h).bind fun r => jv_on r (fun v h => jv_ev d 92 22 lc (v.toList ++ []) h) (fun q h => some (.inr q, h)) := jq_V (as := []) (rest := []) (jv_insR jm_92 dX12_wettest_19) jo_92 jV_1_381 rfl rfl rfl rfl
theorem e92_22 : jv_ev d 92 22 [some (.ref a), x1, x2, x3, x4] st h = jv_ev d 92 23 [some (.ref a), x1, x2, x3, x4] (.ref a :: st) h := jq_nx (jv_insR jm_92 dX12_wettest_22) rfl
theorem e92_23 : jv_ev d 92 23 [x0, some (.int v), x2, x3, x4] st h = jv_ev d 92 24 [x0, some (.int v), x2, x3, x4] (.int v :: st) h := jq_nx (jv_insR jm_92 dX12_wettest_23) rfl
theorem e92_24 : jv_ev d 92 24 lc [z0, .ref b] h = (jv_rc h b [(0, 67)]).bind fun y => (jv_cd d y [.ref b, z0] h).bind fun r => jv_on r (fun v h => jv_ev d 92 27 lc (v.toList ++ []) h) (fun q h => some (.inr q, h)) := jq_V (as := [z0]) (rest := []) (jv_insR jm_92 dX12_wettest_24) jo_92 jV_1_402 rfl rfl rfl rfl
theorem e92_27 : jv_ev d 92 27 lc st h = jv_ev d 92 28 lc (.int (-1) :: st) h := jq_iconst (jv_insR jm_92 dX12_wettest_27) (by decide)
theorem e92_28 : jv_ev d 92 28 [x0, x1, x2, x3, x4] (.int v :: st) h = jv_ev d 92 29 [x0, x1, x2, some (.int v), x4] st h := jq_nx (jv_insR jm_92 dX12_wettest_28) rfl
theorem e92_29 : jv_ev d 92 29 lc st h = jv_ev d 92 30 lc (.int 0 :: st) h := jq_iconst (jv_insR jm_92 dX12_wettest_29) (by decide)
theorem e92_30 : jv_ev d 92 30 [x0, x1, x2, x3, x4] (.int v :: st) h = jv_ev d 92 32 [x0, x1, x2, x3, some (.int v)] st h := jq_nx (jv_insR jm_92 dX12_wettest_30) rfl
theorem e92_32 : jv_ev d 92 32 [x0, x1, x2, x3, some (.int v)] st h = jv_ev d 92 34 [x0, x1, x2, x3, some (.int v)] (.int v :: st) h := jq_nx (jv_insR jm_92 dX12_wettest_32) rfl
theorem e92_34 : jv_ev d 92 34 lc st h = jv_ev d 92 36 lc (.int 48 :: st) h := jq_bipush (jv_insR jm_92 dX12_wettest_34) (by decide)
theorem e92_36 : jv_ev d 92 36 lc (.int w :: .int v :: st) h = if w ≤ v then jv_ev d 92 77 lc st h else jv_ev d 92 39 lc st h := jq_if (jv_insR jm_92 dX12_wettest_36) rfl (by decide)
theorem e92_39 : jv_ev d 92 39 [some (.ref a), x1, x2, x3, x4] st h = jv_ev d 92 40 [some (.ref a), x1, x2, x3, x4] (.ref a :: st) h := jq_nx (jv_insR jm_92 dX12_wettest_39) rfl
theorem e92_40 : jv_ev d 92 40 [x0, x1, x2, x3, some (.int v)] st h = jv_ev d 92 42 [x0, x1, x2, x3, some (.int v)] (.int v :: st) h := jq_nx (jv_insR jm_92 dX12_wettest_40) rfl
theorem e92_42 : jv_ev d 92 42 lc [z0, .ref b] h = (jv_rc h b [(0, 50)]).bind fun y => (jv_cd d y [.ref b, z0] h).bind fun r => jv_on r (fun v h => jv_ev d 92 45 lc (v.toList ++ []) h) (fun q h => some (.inr q, h)) := jq_V (as := [z0]) (rest := []) (jv_insR jm_92 dX12_wettest_42) jo_92 jV_1_366 rfl rfl rfl rfl
theorem e92_45 : jv_ev d 92 45 lc (.int v :: st) h = if v = 0 then jv_ev d 92 71 lc st h else jv_ev d 92 48 lc st h := jq_if (jv_insR jm_92 dX12_wettest_45) rfl (by decide)
theorem e92_48 : jv_ev d 92 48 [x0, x1, x2, some (.int v), x4] st h = jv_ev d 92 49 [x0, x1, x2, some (.int v), x4] (.int v :: st) h := jq_nx (jv_insR jm_92 dX12_wettest_48) rfl
theorem e92_49 : jv_ev d 92 49 lc (.int v :: st) h = if v < 0 then jv_ev d 92 68 lc st h else jv_ev d 92 52 lc st h := jq_if (jv_insR jm_92 dX12_wettest_49) rfl (by decide)
theorem e92_52 : jv_ev d 92 52 [some (.ref a), x1, x2, x3, x4] st h = jv_ev d 92 53 [some (.ref a), x1, x2, x3, x4] (.ref a :: st) h := jq_nx (jv_insR jm_92 dX12_wettest_52) rfl
theorem e92_53 : jv_ev d 92 53 lc (.ref a :: st) h = (jv_gf h a [(0, 51, .array .int)]).bind fun r => jv_ev d 92 56 lc (r :: st) h := jq_get (jv_insR jm_92 dX12_wettest_53) jo_92 jF_1_119
theorem e92_56 : jv_ev d 92 56 [x0, x1, x2, x3, some (.int v)] st h = jv_ev d 92 58 [x0, x1, x2, x3, some (.int v)] (.int v :: st) h := jq_nx (jv_insR jm_92 dX12_wettest_56) rfl
theorem e92_58 : jv_ev d 92 58 lc (.int v :: .ref a :: st) h = (jv_ig h a 0 0 v).bind fun w => jv_ev d 92 59 lc (.int w :: st) h := jq_iald (jv_insR jm_92 dX12_wettest_58)
theorem e92_59 : jv_ev d 92 59 [some (.ref a), x1, x2, x3, x4] st h = jv_ev d 92 60 [some (.ref a), x1, x2, x3, x4] (.ref a :: st) h := jq_nx (jv_insR jm_92 dX12_wettest_59) rfl
theorem e92_60 : jv_ev d 92 60 lc (.ref a :: st) h = (jv_gf h a [(0, 51, .array .int)]).bind fun r => jv_ev d 92 63 lc (r :: st) h := jq_get (jv_insR jm_92 dX12_wettest_60) jo_92 jF_1_119
theorem e92_63 : jv_ev d 92 63 [x0, x1, x2, some (.int v), x4] st h = jv_ev d 92 64 [x0, x1, x2, some (.int v), x4] (.int v :: st) h := jq_nx (jv_insR jm_92 dX12_wettest_63) rfl
theorem e92_64 : jv_ev d 92 64 lc (.int v :: .ref a :: st) h = (jv_ig h a 0 0 v).bind fun w => jv_ev d 92 65 lc (.int w :: st) h := jq_iald (jv_insR jm_92 dX12_wettest_64)
theorem e92_65 : jv_ev d 92 65 lc (.int w :: .int v :: st) h = if v ≤ w then jv_ev d 92 71 lc st h else jv_ev d 92 68 lc st h := jq_if (jv_insR jm_92 dX12_wettest_65) rfl (by decide)
theorem e92_68 : jv_ev d 92 68 [x0, x1, x2, x3, some (.int v)] st h = jv_ev d 92 70 [x0, x1, x2, x3, some (.int v)] (.int v :: st) h := jq_nx (jv_insR jm_92 dX12_wettest_68) rfl
theorem e92_70 : jv_ev d 92 70 [x0, x1, x2, x3, x4] (.int v :: st) h = jv_ev d 92 71 [x0, x1, x2, some (.int v), x4] st h := jq_nx (jv_insR jm_92 dX12_wettest_70) rfl
theorem e92_71 : jv_ev d 92 71 [x0, x1, x2, x3, some (.int v)] st h = jv_ev d 92 74 [x0, x1, x2, x3, some (.int (v + 1))] st h := jq_nx (jv_insR jm_92 dX12_wettest_71) rfl
theorem e92_74 : jv_ev d 92 74 lc st h = jv_ev d 92 32 lc st h := jq_go (jv_insR jm_92 dX12_wettest_74) (by decide)
theorem e92_77 : jv_ev d 92 77 [x0, x1, x2, some (.int v), x4] st h = jv_ev d 92 78 [x0, x1, x2, some (.int v), x4] (.int v :: st) h := jq_nx (jv_insR jm_92 dX12_wettest_77) rfl
theorem e92_78 : jv_ev d 92 78 lc (.int v :: st) h = if 0 ≤ v then jv_ev d 92 84 lc st h else jv_ev d 92 81 lc st h := jq_if (jv_insR jm_92 dX12_wettest_78) rfl (by decide)
theorem e92_81 : jv_ev d 92 81 lc st h = jv_ev d 92 83 lc (.int (-2) :: st) h := jq_bipush (jv_insR jm_92 dX12_wettest_81) (by decide)
theorem e92_83 : jv_ev d 92 83 lc [.int v] h = some (.inl (some (.int v)), h) := jq_reti (jv_insR jm_92 dX12_wettest_83) jr_92
theorem e92_84 : jv_ev d 92 84 [x0, x1, some (.int v), x3, x4] st h = jv_ev d 92 85 [x0, x1, some (.int v), x3, x4] (.int v :: st) h := jq_nx (jv_insR jm_92 dX12_wettest_84) rfl
theorem e92_85 : jv_ev d 92 85 lc (.int v :: st) h = if ¬ v = 0 then jv_ev d 92 97 lc st h else jv_ev d 92 88 lc st h := jq_if (jv_insR jm_92 dX12_wettest_85) rfl (by decide)
theorem e92_88 : jv_ev d 92 88 [some (.ref a), x1, x2, x3, x4] st h = jv_ev d 92 89 [some (.ref a), x1, x2, x3, x4] (.ref a :: st) h := jq_nx (jv_insR jm_92 dX12_wettest_88) rfl
theorem e92_89 : jv_ev d 92 89 lc (.ref a :: st) h = (jv_gf h a [(0, 51, .array .int)]).bind fun r => jv_ev d 92 92 lc (r :: st) h := jq_get (jv_insR jm_92 dX12_wettest_89) jo_92 jF_1_119
theorem e92_92 : jv_ev d 92 92 [x0, x1, x2, some (.int v), x4] st h = jv_ev d 92 93 [x0, x1, x2, some (.int v), x4] (.int v :: st) h := jq_nx (jv_insR jm_92 dX12_wettest_92) rfl
theorem e92_93 : jv_ev d 92 93 lc (.int v :: .ref a :: st) h = (jv_ig h a 0 0 v).bind fun w => jv_ev d 92 94 lc (.int w :: st) h := jq_iald (jv_insR jm_92 dX12_wettest_93)
theorem e92_94 : jv_ev d 92 94 lc st h = jv_ev d 92 113 lc st h := jq_go (jv_insR jm_92 dX12_wettest_94) (by decide)
theorem e92_97 : jv_ev d 92 97 [x0, x1, some (.int v), x3, x4] st h = jv_ev d 92 98 [x0, x1, some (.int v), x3, x4] (.int v :: st) h := jq_nx (jv_insR jm_92 dX12_wettest_97) rfl
theorem e92_98 : jv_ev d 92 98 lc st h = jv_ev d 92 99 lc (.int 1 :: st) h := jq_iconst (jv_insR jm_92 dX12_wettest_98) (by decide)
theorem e92_99 : jv_ev d 92 99 lc (.int w :: .int v :: st) h = if ¬ v = w then jv_ev d 92 109 lc st h else jv_ev d 92 102 lc st h := jq_if (jv_insR jm_92 dX12_wettest_99) rfl (by decide)
theorem e92_102 : jv_ev d 92 102 [x0, x1, x2, some (.int v), x4] st h = jv_ev d 92 103 [x0, x1, x2, some (.int v), x4] (.int v :: st) h := jq_nx (jv_insR jm_92 dX12_wettest_102) rfl
theorem e92_103 : jv_ev d 92 103 lc st h = jv_ev d 92 105 lc (.int 8 :: st) h := jq_bipush (jv_insR jm_92 dX12_wettest_103) (by decide)
theorem e92_105 : jv_ev d 92 105 lc (.int w :: .int v :: st) h = if w = 0 then none else jv_ev d 92 106 lc (.int (v - v / w * w) :: st) h := jq_irem (jv_insR jm_92 dX12_wettest_105)
theorem e92_106 : jv_ev d 92 106 lc st h = jv_ev d 92 113 lc st h := jq_go (jv_insR jm_92 dX12_wettest_106) (by decide)
theorem e92_109 : jv_ev d 92 109 [x0, x1, x2, some (.int v), x4] st h = jv_ev d 92 110 [x0, x1, x2, some (.int v), x4] (.int v :: st) h := jq_nx (jv_insR jm_92 dX12_wettest_109) rfl
theorem e92_110 : jv_ev d 92 110 lc st h = jv_ev d 92 112 lc (.int 8 :: st) h := jq_bipush (jv_insR jm_92 dX12_wettest_110) (by decide)
theorem e92_112 : jv_ev d 92 112 lc (.int w :: .int v :: st) h = if w = 0 then none else jv_ev d 92 113 lc (.int (v / w) :: st) h := jq_idiv (jv_insR jm_92 dX12_wettest_112)
theorem e92_113 : jv_ev d 92 113 lc [.int v] h = some (.inl (some (.int v)), h) := jq_reti (jv_insR jm_92 dX12_wettest_113) jr_92
/-! 93: RainLoomModel.dry(I)I -/
theorem n93 : jv_cd (d + 1) 93 [.ref a0, .int i1] h = jv_ev d 93 0 [some (.ref a0), some (.int i1), none, none] [] h := rfl
theorem e93_0 : jv_ev d 93 0 [x0, some (.int v), x2, x3] st h = jv_ev d 93 1 [x0, some (.int v), x2, x3] (.int v :: st) h := jq_nx (jv_insR jm_93 dX12_dry_0) rfl
theorem e93_1 : jv_ev d 93 1 lc [z0] h = (jv_cd d 89 [z0] h).bind fun r => jv_on r (fun v h => jv_ev d 93 4 lc (v.toList ++ []) h) (fun q h => some (.inr q, h)) := jq_S (as := [z0]) (rest := []) (jv_insR jm_93 dX12_dry_1) jo_93 jT_1_442 rfl rfl rfl rfl
theorem e93_4 : jv_ev d 93 4 lc (.int v :: st) h = if ¬ v = 0 then jv_ev d 93 9 lc st h else jv_ev d 93 7 lc st h := jq_if (jv_insR jm_93 dX12_dry_4) rfl (by decide)
theorem e93_7 : jv_ev d 93 7 lc st h = jv_ev d 93 8 lc (.int (-1) :: st) h := jq_iconst (jv_insR jm_93 dX12_dry_7) (by decide)
theorem e93_8 : jv_ev d 93 8 lc [.int v] h = some (.inl (some (.int v)), h) := jq_reti (jv_insR jm_93 dX12_dry_8) jr_93
theorem e93_9 : jv_ev d 93 9 [some (.ref a), x1, x2, x3] st h = jv_ev d 93 10 [some (.ref a), x1, x2, x3] (.ref a :: st) h := jq_nx (jv_insR jm_93 dX12_dry_9) rfl
theorem e93_10 : jv_ev d 93 10 lc [.ref b] h = (jv_rc h b [(0, 41)]).bind fun y => (jv_cd d y [.ref b] h).bind fun r => jv_on r (fun v h => jv_ev d 93 13 lc (v.toList ++ []) h) (fun q h => some (.inr q, h)) := jq_V (as := []) (rest := []) (jv_insR jm_93 dX12_dry_10) jo_93 jV_1_381 rfl rfl rfl rfl
theorem e93_13 : jv_ev d 93 13 [some (.ref a), x1, x2, x3] st h = jv_ev d 93 14 [some (.ref a), x1, x2, x3] (.ref a :: st) h := jq_nx (jv_insR jm_93 dX12_dry_13) rfl
theorem e93_14 : jv_ev d 93 14 [x0, some (.int v), x2, x3] st h = jv_ev d 93 15 [x0, some (.int v), x2, x3] (.int v :: st) h := jq_nx (jv_insR jm_93 dX12_dry_14) rfl
theorem e93_15 : jv_ev d 93 15 lc [z0, .ref b] h = (jv_rc h b [(0, 67)]).bind fun y => (jv_cd d y [.ref b, z0] h).bind fun r => jv_on r (fun v h => jv_ev d 93 18 lc (v.toList ++ []) h) (fun q h => some (.inr q, h)) := jq_V (as := [z0]) (rest := []) (jv_insR jm_93 dX12_dry_15) jo_93 jV_1_402 rfl rfl rfl rfl
theorem e93_18 : jv_ev d 93 18 lc st h = jv_ev d 93 19 lc (.int 0 :: st) h := jq_iconst (jv_insR jm_93 dX12_dry_18) (by decide)
theorem e93_19 : jv_ev d 93 19 [x0, x1, x2, x3] (.int v :: st) h = jv_ev d 93 20 [x0, x1, some (.int v), x3] st h := jq_nx (jv_insR jm_93 dX12_dry_19) rfl
theorem e93_20 : jv_ev d 93 20 lc st h = jv_ev d 93 21 lc (.int 0 :: st) h := jq_iconst (jv_insR jm_93 dX12_dry_20) (by decide)
theorem e93_21 : jv_ev d 93 21 [x0, x1, x2, x3] (.int v :: st) h = jv_ev d 93 22 [x0, x1, x2, some (.int v)] st h := jq_nx (jv_insR jm_93 dX12_dry_21) rfl
theorem e93_22 : jv_ev d 93 22 [x0, x1, x2, some (.int v)] st h = jv_ev d 93 23 [x0, x1, x2, some (.int v)] (.int v :: st) h := jq_nx (jv_insR jm_93 dX12_dry_22) rfl
theorem e93_23 : jv_ev d 93 23 lc st h = jv_ev d 93 25 lc (.int 48 :: st) h := jq_bipush (jv_insR jm_93 dX12_dry_23) (by decide)
theorem e93_25 : jv_ev d 93 25 lc (.int w :: .int v :: st) h = if w ≤ v then jv_ev d 93 54 lc st h else jv_ev d 93 28 lc st h := jq_if (jv_insR jm_93 dX12_dry_25) rfl (by decide)
theorem e93_28 : jv_ev d 93 28 [some (.ref a), x1, x2, x3] st h = jv_ev d 93 29 [some (.ref a), x1, x2, x3] (.ref a :: st) h := jq_nx (jv_insR jm_93 dX12_dry_28) rfl
theorem e93_29 : jv_ev d 93 29 [x0, x1, x2, some (.int v)] st h = jv_ev d 93 30 [x0, x1, x2, some (.int v)] (.int v :: st) h := jq_nx (jv_insR jm_93 dX12_dry_29) rfl
theorem e93_30 : jv_ev d 93 30 lc [z0, .ref b] h = (jv_rc h b [(0, 50)]).bind fun y => (jv_cd d y [.ref b, z0] h).bind fun r => jv_on r (fun v h => jv_ev d 93 33 lc (v.toList ++ []) h) (fun q h => some (.inr q, h)) := jq_V (as := [z0]) (rest := []) (jv_insR jm_93 dX12_dry_30) jo_93 jV_1_366 rfl rfl rfl rfl
theorem e93_33 : jv_ev d 93 33 lc (.int v :: st) h = if v = 0 then jv_ev d 93 48 lc st h else jv_ev d 93 36 lc st h := jq_if (jv_insR jm_93 dX12_dry_33) rfl (by decide)
theorem e93_36 : jv_ev d 93 36 [some (.ref a), x1, x2, x3] st h = jv_ev d 93 37 [some (.ref a), x1, x2, x3] (.ref a :: st) h := jq_nx (jv_insR jm_93 dX12_dry_36) rfl
theorem e93_37 : jv_ev d 93 37 lc (.ref a :: st) h = (jv_gf h a [(0, 51, .array .int)]).bind fun r => jv_ev d 93 40 lc (r :: st) h := jq_get (jv_insR jm_93 dX12_dry_37) jo_93 jF_1_119
theorem e93_40 : jv_ev d 93 40 [x0, x1, x2, some (.int v)] st h = jv_ev d 93 41 [x0, x1, x2, some (.int v)] (.int v :: st) h := jq_nx (jv_insR jm_93 dX12_dry_40) rfl
theorem e93_41 : jv_ev d 93 41 lc (.int v :: .ref a :: st) h = (jv_ig h a 0 0 v).bind fun w => jv_ev d 93 42 lc (.int w :: st) h := jq_iald (jv_insR jm_93 dX12_dry_41)
theorem e93_42 : jv_ev d 93 42 lc (.int v :: st) h = if ¬ v = 0 then jv_ev d 93 48 lc st h else jv_ev d 93 45 lc st h := jq_if (jv_insR jm_93 dX12_dry_42) rfl (by decide)
theorem e93_45 : jv_ev d 93 45 [x0, x1, some (.int v), x3] st h = jv_ev d 93 48 [x0, x1, some (.int (v + 1)), x3] st h := jq_nx (jv_insR jm_93 dX12_dry_45) rfl
theorem e93_48 : jv_ev d 93 48 [x0, x1, x2, some (.int v)] st h = jv_ev d 93 51 [x0, x1, x2, some (.int (v + 1))] st h := jq_nx (jv_insR jm_93 dX12_dry_48) rfl
theorem e93_51 : jv_ev d 93 51 lc st h = jv_ev d 93 22 lc st h := jq_go (jv_insR jm_93 dX12_dry_51) (by decide)
theorem e93_54 : jv_ev d 93 54 [x0, x1, some (.int v), x3] st h = jv_ev d 93 55 [x0, x1, some (.int v), x3] (.int v :: st) h := jq_nx (jv_insR jm_93 dX12_dry_54) rfl
theorem e93_55 : jv_ev d 93 55 lc [.int v] h = some (.inl (some (.int v)), h) := jq_reti (jv_insR jm_93 dX12_dry_55) jr_93
/-! 94: RainLoomModel.emptyBy()I -/
theorem n94 : jv_cd (d + 1) 94 [.ref a0] h = jv_ev d 94 0 [some (.ref a0), none] [] h := rfl
theorem e94_0 : jv_ev d 94 0 [some (.ref a), x1] st h = jv_ev d 94 1 [some (.ref a), x1] (.ref a :: st) h := jq_nx (jv_insR jm_94 dX12_emptyBy_0) rfl
theorem e94_1 : jv_ev d 94 1 lc [.ref b] h = (jv_rc h b [(0, 41)]).bind fun y => (jv_cd d y [.ref b] h).bind fun r => jv_on r (fun v h => jv_ev d 94 4 lc (v.toList ++ []) h) (fun q h => some (.inr q, h)) := jq_V (as := []) (rest := []) (jv_insR jm_94 dX12_emptyBy_1) jo_94 jV_1_381 rfl rfl rfl rfl
theorem e94_4 : jv_ev d 94 4 lc st h = jv_ev d 94 5 lc (.int 0 :: st) h := jq_iconst (jv_insR jm_94 dX12_emptyBy_4) (by decide)
theorem e94_5 : jv_ev d 94 5 [x0, x1] (.int v :: st) h = jv_ev d 94 6 [x0, some (.int v)] st h := jq_nx (jv_insR jm_94 dX12_emptyBy_5) rfl
theorem e94_6 : jv_ev d 94 6 [x0, some (.int v)] st h = jv_ev d 94 7 [x0, some (.int v)] (.int v :: st) h := jq_nx (jv_insR jm_94 dX12_emptyBy_6) rfl
theorem e94_7 : jv_ev d 94 7 lc st h = jv_ev d 94 10 lc (.int 200 :: st) h := jq_sipush (jv_insR jm_94 dX12_emptyBy_7) (by decide)
theorem e94_10 : jv_ev d 94 10 lc (.int w :: .int v :: st) h = if w < v then jv_ev d 94 35 lc st h else jv_ev d 94 13 lc st h := jq_if (jv_insR jm_94 dX12_emptyBy_10) rfl (by decide)
theorem e94_13 : jv_ev d 94 13 [some (.ref a), x1] st h = jv_ev d 94 14 [some (.ref a), x1] (.ref a :: st) h := jq_nx (jv_insR jm_94 dX12_emptyBy_13) rfl
theorem e94_14 : jv_ev d 94 14 lc (.ref a :: st) h = (jv_gf h a [(0, 51, .array .int)]).bind fun r => jv_ev d 94 17 lc (r :: st) h := jq_get (jv_insR jm_94 dX12_emptyBy_14) jo_94 jF_1_119
theorem e94_17 : jv_ev d 94 17 lc st h = jv_ev d 94 19 lc (.int 88 :: st) h := jq_bipush (jv_insR jm_94 dX12_emptyBy_17) (by decide)
theorem e94_19 : jv_ev d 94 19 lc (.int v :: .ref a :: st) h = (jv_ig h a 0 0 v).bind fun w => jv_ev d 94 20 lc (.int w :: st) h := jq_iald (jv_insR jm_94 dX12_emptyBy_19)
theorem e94_20 : jv_ev d 94 20 lc (.int v :: st) h = if ¬ v = 0 then jv_ev d 94 25 lc st h else jv_ev d 94 23 lc st h := jq_if (jv_insR jm_94 dX12_emptyBy_20) rfl (by decide)
theorem e94_23 : jv_ev d 94 23 [x0, some (.int v)] st h = jv_ev d 94 24 [x0, some (.int v)] (.int v :: st) h := jq_nx (jv_insR jm_94 dX12_emptyBy_23) rfl
theorem e94_24 : jv_ev d 94 24 lc [.int v] h = some (.inl (some (.int v)), h) := jq_reti (jv_insR jm_94 dX12_emptyBy_24) jr_94
theorem e94_25 : jv_ev d 94 25 [some (.ref a), x1] st h = jv_ev d 94 26 [some (.ref a), x1] (.ref a :: st) h := jq_nx (jv_insR jm_94 dX12_emptyBy_25) rfl
theorem e94_26 : jv_ev d 94 26 lc [.ref b] h = (jv_rc h b [(0, 68)]).bind fun y => (jv_cd d y [.ref b] h).bind fun r => jv_on r (fun v h => jv_ev d 94 29 lc (v.toList ++ []) h) (fun q h => some (.inr q, h)) := jq_V (as := []) (rest := []) (jv_insR jm_94 dX12_emptyBy_26) jo_94 jV_1_378 rfl rfl rfl rfl
theorem e94_29 : jv_ev d 94 29 [x0, some (.int v)] st h = jv_ev d 94 32 [x0, some (.int (v + 1))] st h := jq_nx (jv_insR jm_94 dX12_emptyBy_29) rfl
theorem e94_32 : jv_ev d 94 32 lc st h = jv_ev d 94 6 lc st h := jq_go (jv_insR jm_94 dX12_emptyBy_32) (by decide)
theorem e94_35 : jv_ev d 94 35 lc st h = jv_ev d 94 37 lc (.int (-2) :: st) h := jq_bipush (jv_insR jm_94 dX12_emptyBy_35) (by decide)
theorem e94_37 : jv_ev d 94 37 lc [.int v] h = some (.inl (some (.int v)), h) := jq_reti (jv_insR jm_94 dX12_emptyBy_37) jr_94
/-! 95: RainLoomModel.serve(III)I -/
theorem n95 : jv_cd (d + 1) 95 [.ref a0, .int i1, .int i2, .int i3] h = jv_ev d 95 0 [some (.ref a0), some (.int i1), some (.int i2), some (.int i3), none] [] h := rfl
theorem e95_0 : jv_ev d 95 0 [x0, some (.int v), x2, x3, x4] st h = jv_ev d 95 1 [x0, some (.int v), x2, x3, x4] (.int v :: st) h := jq_nx (jv_insR jm_95 dX12_serve_0) rfl
theorem e95_1 : jv_ev d 95 1 lc st h = jv_ev d 95 2 lc (.int 1 :: st) h := jq_iconst (jv_insR jm_95 dX12_serve_1) (by decide)
theorem e95_2 : jv_ev d 95 2 lc st h = jv_ev d 95 4 lc (.int 8 :: st) h := jq_bipush (jv_insR jm_95 dX12_serve_2) (by decide)
theorem e95_4 : jv_ev d 95 4 lc [z2, z1, z0] h = (jv_cd d 40 [z0, z1, z2] h).bind fun r => jv_on r (fun v h => jv_ev d 95 7 lc (v.toList ++ []) h) (fun q h => some (.inr q, h)) := jq_S (as := [z0, z1, z2]) (rest := []) (jv_insR jm_95 dX12_serve_4) jo_95 jT_1_323 rfl rfl rfl rfl
theorem e95_7 : jv_ev d 95 7 lc (.int v :: st) h = if v = 0 then jv_ev d 95 39 lc st h else jv_ev d 95 10 lc st h := jq_if (jv_insR jm_95 dX12_serve_7) rfl (by decide)
theorem e95_10 : jv_ev d 95 10 [x0, x1, some (.int v), x3, x4] st h = jv_ev d 95 11 [x0, x1, some (.int v), x3, x4] (.int v :: st) h := jq_nx (jv_insR jm_95 dX12_serve_10) rfl
theorem e95_11 : jv_ev d 95 11 lc st h = jv_ev d 95 12 lc (.int 1 :: st) h := jq_iconst (jv_insR jm_95 dX12_serve_11) (by decide)
theorem e95_12 : jv_ev d 95 12 lc st h = jv_ev d 95 14 lc (.int 6 :: st) h := jq_bipush (jv_insR jm_95 dX12_serve_12) (by decide)
theorem e95_14 : jv_ev d 95 14 lc [z2, z1, z0] h = (jv_cd d 40 [z0, z1, z2] h).bind fun r => jv_on r (fun v h => jv_ev d 95 17 lc (v.toList ++ []) h) (fun q h => some (.inr q, h)) := jq_S (as := [z0, z1, z2]) (rest := []) (jv_insR jm_95 dX12_serve_14) jo_95 jT_1_323 rfl rfl rfl rfl
theorem e95_17 : jv_ev d 95 17 lc (.int v :: st) h = if v = 0 then jv_ev d 95 39 lc st h else jv_ev d 95 20 lc st h := jq_if (jv_insR jm_95 dX12_serve_17) rfl (by decide)
theorem e95_20 : jv_ev d 95 20 [x0, x1, x2, some (.int v), x4] st h = jv_ev d 95 21 [x0, x1, x2, some (.int v), x4] (.int v :: st) h := jq_nx (jv_insR jm_95 dX12_serve_20) rfl
theorem e95_21 : jv_ev d 95 21 lc st h = jv_ev d 95 22 lc (.int (-1) :: st) h := jq_iconst (jv_insR jm_95 dX12_serve_21) (by decide)
theorem e95_22 : jv_ev d 95 22 [some (.ref a), x1, x2, x3, x4] st h = jv_ev d 95 23 [some (.ref a), x1, x2, x3, x4] (.ref a :: st) h := jq_nx (jv_insR jm_95 dX12_serve_22) rfl
theorem e95_23 : jv_ev d 95 23 lc (.ref a :: st) h = (jv_gf h a [(0, 28, .array .int)]).bind fun r => jv_ev d 95 26 lc (r :: st) h := jq_get (jv_insR jm_95 dX12_serve_23) jo_95 jF_1_61
theorem e95_26 : jv_ev d 95 26 [some (.ref a), x1, x2, x3, x4] st h = jv_ev d 95 27 [some (.ref a), x1, x2, x3, x4] (.ref a :: st) h := jq_nx (jv_insR jm_95 dX12_serve_26) rfl
theorem e95_27 : jv_ev d 95 27 lc (.ref a :: st) h = (jv_gf h a [(0, 18, .int)]).bind fun r => jv_ev d 95 30 lc (r :: st) h := jq_get (jv_insR jm_95 dX12_serve_27) jo_95 jF_1_239
theorem e95_30 : jv_ev d 95 30 lc (.int v :: .ref a :: st) h = (jv_ig h a 0 0 v).bind fun w => jv_ev d 95 31 lc (.int w :: st) h := jq_iald (jv_insR jm_95 dX12_serve_30)
theorem e95_31 : jv_ev d 95 31 lc st h = jv_ev d 95 32 lc (.int 1 :: st) h := jq_iconst (jv_insR jm_95 dX12_serve_31) (by decide)
theorem e95_32 : jv_ev d 95 32 lc (.int w :: .int v :: st) h = jv_ev d 95 33 lc (.int (v - w) :: st) h := jq_nx (jv_insR jm_95 dX12_serve_32) rfl
theorem e95_33 : jv_ev d 95 33 lc [z2, z1, z0] h = (jv_cd d 40 [z0, z1, z2] h).bind fun r => jv_on r (fun v h => jv_ev d 95 36 lc (v.toList ++ []) h) (fun q h => some (.inr q, h)) := jq_S (as := [z0, z1, z2]) (rest := []) (jv_insR jm_95 dX12_serve_33) jo_95 jT_1_323 rfl rfl rfl rfl
theorem e95_36 : jv_ev d 95 36 lc (.int v :: st) h = if ¬ v = 0 then jv_ev d 95 41 lc st h else jv_ev d 95 39 lc st h := jq_if (jv_insR jm_95 dX12_serve_36) rfl (by decide)
theorem e95_39 : jv_ev d 95 39 lc st h = jv_ev d 95 40 lc (.int (-1) :: st) h := jq_iconst (jv_insR jm_95 dX12_serve_39) (by decide)
theorem e95_40 : jv_ev d 95 40 lc [.int v] h = some (.inl (some (.int v)), h) := jq_reti (jv_insR jm_95 dX12_serve_40) jr_95
theorem e95_41 : jv_ev d 95 41 lc st h = jv_ev d 95 42 lc (.int 0 :: st) h := jq_iconst (jv_insR jm_95 dX12_serve_41) (by decide)
theorem e95_42 : jv_ev d 95 42 [x0, x1, x2, x3, x4] (.int v :: st) h = jv_ev d 95 44 [x0, x1, x2, x3, some (.int v)] st h := jq_nx (jv_insR jm_95 dX12_serve_42) rfl
theorem e95_44 : jv_ev d 95 44 [x0, x1, x2, x3, some (.int v)] st h = jv_ev d 95 46 [x0, x1, x2, x3, some (.int v)] (.int v :: st) h := jq_nx (jv_insR jm_95 dX12_serve_44) rfl
theorem e95_46 : jv_ev d 95 46 [some (.ref a), x1, x2, x3, x4] st h = jv_ev d 95 47 [some (.ref a), x1, x2, x3, x4] (.ref a :: st) h := jq_nx (jv_insR jm_95 dX12_serve_46) rfl
theorem e95_47 : jv_ev d 95 47 lc (.ref a :: st) h = (jv_gf h a [(0, 28, .array .int)]).bind fun r => jv_ev d 95 50 lc (r :: st) h := jq_get (jv_insR jm_95 dX12_serve_47) jo_95 jF_1_61
theorem e95_50 : jv_ev d 95 50 [some (.ref a), x1, x2, x3, x4] st h = jv_ev d 95 51 [some (.ref a), x1, x2, x3, x4] (.ref a :: st) h := jq_nx (jv_insR jm_95 dX12_serve_50) rfl
theorem e95_51 : jv_ev d 95 51 lc (.ref a :: st) h = (jv_gf h a [(0, 18, .int)]).bind fun r => jv_ev d 95 54 lc (r :: st) h := jq_get (jv_insR jm_95 dX12_serve_51) jo_95 jF_1_239
theorem e95_54 : jv_ev d 95 54 lc (.int v :: .ref a :: st) h = (jv_ig h a 0 0 v).bind fun w => jv_ev d 95 55 lc (.int w :: st) h := jq_iald (jv_insR jm_95 dX12_serve_54)
theorem e95_55 : jv_ev d 95 55 lc (.int w :: .int v :: st) h = if w ≤ v then jv_ev d 95 84 lc st h else jv_ev d 95 58 lc st h := jq_if (jv_insR jm_95 dX12_serve_55) rfl (by decide)
theorem e95_58 : jv_ev d 95 58 [some (.ref a), x1, x2, x3, x4] st h = jv_ev d 95 59 [some (.ref a), x1, x2, x3, x4] (.ref a :: st) h := jq_nx (jv_insR jm_95 dX12_serve_58) rfl
theorem e95_59 : jv_ev d 95 59 lc (.ref a :: st) h = (jv_gf h a [(0, 29, .array .int)]).bind fun r => jv_ev d 95 62 lc (r :: st) h := jq_get (jv_insR jm_95 dX12_serve_59) jo_95 jF_1_64
theorem e95_62 : jv_ev d 95 62 lc st h = jv_ev d 95 63 lc (.int 4 :: st) h := jq_iconst (jv_insR jm_95 dX12_serve_62) (by decide)
theorem e95_63 : jv_ev d 95 63 [some (.ref a), x1, x2, x3, x4] st h = jv_ev d 95 64 [some (.ref a), x1, x2, x3, x4] (.ref a :: st) h := jq_nx (jv_insR jm_95 dX12_serve_63) rfl
theorem e95_64 : jv_ev d 95 64 lc (.ref a :: st) h = (jv_gf h a [(0, 18, .int)]).bind fun r => jv_ev d 95 67 lc (r :: st) h := jq_get (jv_insR jm_95 dX12_serve_64) jo_95 jF_1_239
theorem e95_67 : jv_ev d 95 67 lc (.int w :: .int v :: st) h = jv_ev d 95 68 lc (.int (v * w) :: st) h := jq_nx (jv_insR jm_95 dX12_serve_67) rfl
theorem e95_68 : jv_ev d 95 68 [x0, x1, x2, x3, some (.int v)] st h = jv_ev d 95 70 [x0, x1, x2, x3, some (.int v)] (.int v :: st) h := jq_nx (jv_insR jm_95 dX12_serve_68) rfl
theorem e95_70 : jv_ev d 95 70 lc (.int w :: .int v :: st) h = jv_ev d 95 71 lc (.int (v + w) :: st) h := jq_nx (jv_insR jm_95 dX12_serve_70) rfl
theorem e95_71 : jv_ev d 95 71 lc (.int v :: .ref a :: st) h = (jv_ig h a 0 0 v).bind fun w => jv_ev d 95 72 lc (.int w :: st) h := jq_iald (jv_insR jm_95 dX12_serve_71)
theorem e95_72 : jv_ev d 95 72 [x0, some (.int v), x2, x3, x4] st h = jv_ev d 95 73 [x0, some (.int v), x2, x3, x4] (.int v :: st) h := jq_nx (jv_insR jm_95 dX12_serve_72) rfl
theorem e95_73 : jv_ev d 95 73 lc (.int w :: .int v :: st) h = if w ≤ v then jv_ev d 95 78 lc st h else jv_ev d 95 76 lc st h := jq_if (jv_insR jm_95 dX12_serve_73) rfl (by decide)
theorem e95_76 : jv_ev d 95 76 lc st h = jv_ev d 95 77 lc (.int (-1) :: st) h := jq_iconst (jv_insR jm_95 dX12_serve_76) (by decide)
theorem e95_77 : jv_ev d 95 77 lc [.int v] h = some (.inl (some (.int v)), h) := jq_reti (jv_insR jm_95 dX12_serve_77) jr_95
theorem e95_78 : jv_ev d 95 78 [x0, x1, x2, x3, some (.int v)] st h = jv_ev d 95 81 [x0, x1, x2, x3, some (.int (v + 1))] st h := jq_nx (jv_insR jm_95 dX12_serve_78) rfl
theorem e95_81 : jv_ev d 95 81 lc st h = jv_ev d 95 44 lc st h := jq_go (jv_insR jm_95 dX12_serve_81) (by decide)
theorem e95_84 : jv_ev d 95 84 [some (.ref a), x1, x2, x3, x4] st h = jv_ev d 95 85 [some (.ref a), x1, x2, x3, x4] (.ref a :: st) h := jq_nx (jv_insR jm_95 dX12_serve_84) rfl
theorem e95_85 : jv_ev d 95 85 lc (.ref a :: st) h = (jv_gf h a [(0, 28, .array .int)]).bind fun r => jv_ev d 95 88 lc (r :: st) h := jq_get (jv_insR jm_95 dX12_serve_85) jo_95 jF_1_61
theorem e95_88 : jv_ev d 95 88 [some (.ref a), x1, x2, x3, x4] st h = jv_ev d 95 89 [some (.ref a), x1, x2, x3, x4] (.ref a :: st) h := jq_nx (jv_insR jm_95 dX12_serve_88) rfl
theorem e95_89 : jv_ev d 95 89 lc (.ref a :: st) h = (jv_gf h a [(0, 18, .int)]).bind fun r => jv_ev d 95 92 lc (r :: st) h := jq_get (jv_insR jm_95 dX12_serve_89) jo_95 jF_1_239
theorem e95_92 : jv_ev d 95 92 lc (.int v :: .ref a :: st) h = (jv_ig h a 0 0 v).bind fun w => jv_ev d 95 93 lc (.int w :: st) h := jq_iald (jv_insR jm_95 dX12_serve_92)
theorem e95_93 : jv_ev d 95 93 [some (.ref a), x1, x2, x3, x4] st h = jv_ev d 95 94 [some (.ref a), x1, x2, x3, x4] (.ref a :: st) h := jq_nx (jv_insR jm_95 dX12_serve_93) rfl
theorem e95_94 : jv_ev d 95 94 lc (.ref a :: st) h = (jv_gf h a [(0, 25, .array .int)]).bind fun r => jv_ev d 95 97 lc (r :: st) h := jq_get (jv_insR jm_95 dX12_serve_94) jo_95 jF_1_52
theorem e95_97 : jv_ev d 95 97 [some (.ref a), x1, x2, x3, x4] st h = jv_ev d 95 98 [some (.ref a), x1, x2, x3, x4] (.ref a :: st) h := jq_nx (jv_insR jm_95 dX12_serve_97) rfl
theorem e95_98 : jv_ev d 95 98 lc (.ref a :: st) h = (jv_gf h a [(0, 18, .int)]).bind fun r => jv_ev d 95 101 lc (r :: st) h := jq_get (jv_insR jm_95 dX12_serve_98) jo_95 jF_1_239
theorem e95_101 : jv_ev d 95 101 lc (.int v :: .ref a :: st) h = (jv_ig h a 0 0 v).bind fun w => jv_ev d 95 102 lc (.int w :: st) h := jq_iald (jv_insR jm_95 dX12_serve_101)
theorem e95_102 : jv_ev d 95 102 lc (.int w :: .int v :: st) h = if v ≤ w then jv_ev d 95 108 lc st h else jv_ev d 95 105 lc st h := jq_if (jv_insR jm_95 dX12_serve_102) rfl (by decide)
theorem e95_105 : jv_ev d 95 105 lc st h = jv_ev d 95 107 lc (.int (-2) :: st) h := jq_bipush (jv_insR jm_95 dX12_serve_105) (by decide)
theorem e95_107 : jv_ev d 95 107 lc [.int v] h = some (.inl (some (.int v)), h) := jq_reti (jv_insR jm_95 dX12_serve_107) jr_95
theorem e95_108 : jv_ev d 95 108 [some (.ref a), x1, x2, x3, x4] st h = jv_ev d 95 109 [some (.ref a), x1, x2, x3, x4] (.ref a :: st) h := jq_nx (jv_insR jm_95 dX12_serve_108) rfl
theorem e95_109 : jv_ev d 95 109 [x0, some (.int v), x2, x3, x4] st h = jv_ev d 95 110 [x0, some (.int v), x2, x3, x4] (.int v :: st) h := jq_nx (jv_insR jm_95 dX12_serve_109) rfl
theorem e95_110 : jv_ev d 95 110 [x0, x1, some (.int v), x3, x4] st h = jv_ev d 95 111 [x0, x1, some (.int v), x3, x4] (.int v :: st) h := jq_nx (jv_insR jm_95 dX12_serve_110) rfl
theorem e95_111 : jv_ev d 95 111 lc [z1, z0, .ref b] h = (jv_rc h b [(0, 96)]).bind fun y => (jv_cd d y [.ref b, z0, z1] h).bind fun r => jv_on r (fun v h => jv_ev d 95 114 lc (v.toList ++ []) h) (fun q h => some (.inr q, h)) := jq_V (as := [z0, z1]) (rest := []) (jv_insR jm_95 dX12_serve_111) jo_95 jV_1_464 rfl rfl rfl rfl
theorem e95_114 : jv_ev d 95 114 [x0, x1, x2, some (.int v), x4] st h = jv_ev d 95 115 [x0, x1, x2, some (.int v), x4] (.int v :: st) h := jq_nx (jv_insR jm_95 dX12_serve_114) rfl
theorem e95_115 : jv_ev d 95 115 lc st h = jv_ev d 95 116 lc (.int (-1) :: st) h := jq_iconst (jv_insR jm_95 dX12_serve_115) (by decide)
theorem e95_116 : jv_ev d 95 116 lc (.int w :: .int v :: st) h = if ¬ v = w then jv_ev d 95 126 lc st h else jv_ev d 95 119 lc st h := jq_if (jv_insR jm_95 dX12_serve_116) rfl (by decide)
theorem e95_119 : jv_ev d 95 119 [some (.ref a), x1, x2, x3, x4] st h = jv_ev d 95 120 [some (.ref a), x1, x2, x3, x4] (.ref a :: st) h := jq_nx (jv_insR jm_95 dX12_serve_119) rfl
theorem e95_120 : jv_ev d 95 120 lc (.ref a :: st) h = (jv_gf h a [(0, 62, .int)]).bind fun r => jv_ev d 95 123 lc (r :: st) h := jq_get (jv_insR jm_95 dX12_serve_120) jo_95 jF_1_461
theorem e95_123 : jv_ev d 95 123 lc st h = jv_ev d 95 150 lc st h := jq_go (jv_insR jm_95 dX12_serve_123) (by decide)
theorem e95_126 : jv_ev d 95 126 [some (.ref a), x1, x2, x3, x4] st h = jv_ev d 95 127 [some (.ref a), x1, x2, x3, x4] (.ref a :: st) h := jq_nx (jv_insR jm_95 dX12_serve_126) rfl
theorem e95_127 : jv_ev d 95 127 lc (.ref a :: st) h = (jv_gf h a [(0, 63, .int)]).bind fun r => jv_ev d 95 130 lc (r :: st) h := jq_get (jv_insR jm_95 dX12_serve_127) jo_95 jF_1_455
theorem e95_130 : jv_ev d 95 130 [some (.ref a), x1, x2, x3, x4] st h = jv_ev d 95 131 [some (.ref a), x1, x2, x3, x4] (.ref a :: st) h := jq_nx (jv_insR jm_95 dX12_serve_130) rfl
theorem e95_131 : jv_ev d 95 131 lc (.ref a :: st) h = (jv_gf h a [(0, 28, .array .int)]).bind fun r => jv_ev d 95 134 lc (r :: st) h := jq_get (jv_insR jm_95 dX12_serve_131) jo_95 jF_1_61
theorem e95_134 : jv_ev d 95 134 [some (.ref a), x1, x2, x3, x4] st h = jv_ev d 95 135 [some (.ref a), x1, x2, x3, x4] (.ref a :: st) h := jq_nx (jv_insR jm_95 dX12_serve_134) rfl
theorem e95_135 : jv_ev d 95 135 lc (.ref a :: st) h = (jv_gf h a [(0, 18, .int)]).bind fun r => jv_ev d 95 138 lc (r :: st) h := jq_get (jv_insR jm_95 dX12_serve_135) jo_95 jF_1_239
theorem e95_138 : jv_ev d 95 138 lc (.int v :: .ref a :: st) h = (jv_ig h a 0 0 v).bind fun w => jv_ev d 95 139 lc (.int w :: st) h := jq_iald (jv_insR jm_95 dX12_serve_138)
theorem e95_139 : jv_ev d 95 139 lc st h = jv_ev d 95 140 lc (.int 1 :: st) h := jq_iconst (jv_insR jm_95 dX12_serve_139) (by decide)
theorem e95_140 : jv_ev d 95 140 lc (.int w :: .int v :: st) h = jv_ev d 95 141 lc (.int (v - w) :: st) h := jq_nx (jv_insR jm_95 dX12_serve_140) rfl
theorem e95_141 : jv_ev d 95 141 [x0, x1, x2, some (.int v), x4] st h = jv_ev d 95 142 [x0, x1, x2, some (.int v), x4] (.int v :: st) h := jq_nx (jv_insR jm_95 dX12_serve_141) rfl
theorem e95_142 : jv_ev d 95 142 lc (.int w :: .int v :: st) h = jv_ev d 95 143 lc (.int (v - w) :: st) h := jq_nx (jv_insR jm_95 dX12_serve_142) rfl
theorem e95_143 : jv_ev d 95 143 lc [z0, y0] h = (jv_cd d 98 [z0] h).bind fun r => jv_on r (fun v h => jv_ev d 95 146 lc (v.toList ++ [y0]) h) (fun q h => some (.inr q, h)) := jq_S (as := [z0]) (rest := [y0]) (jv_insR jm_95 dX12_serve_143) jo_95 jT_1_448 rfl rfl rfl rfl
theorem e95_146 : jv_ev d 95 146 lc (.int w :: .int v :: st) h = if w = 0 then none else jv_ev d 95 147 lc (.int (v / w) :: st) h := jq_idiv (jv_insR jm_95 dX12_serve_146)
theorem e95_147 : jv_ev d 95 147 lc st h = jv_ev d 95 149 lc (.int 6 :: st) h := jq_bipush (jv_insR jm_95 dX12_serve_147) (by decide)
theorem e95_149 : jv_ev d 95 149 lc (.int w :: .int v :: st) h = if w = 0 then none else jv_ev d 95 150 lc (.int (v - v / w * w) :: st) h := jq_irem (jv_insR jm_95 dX12_serve_149)
theorem e95_150 : jv_ev d 95 150 lc [.int v] h = some (.inl (some (.int v)), h) := jq_reti (jv_insR jm_95 dX12_serve_150) jr_95
/-! 96: RainLoomModel.fillsServe(II)V -/
theorem n96 : jv_cd (d + 1) 96 [.ref a0, .int i1, .int i2] h = jv_ev d 96 0 [some (.ref a0), some (.int i1), some (.int i2), none, none] [] h := rfl
theorem e96_0 : jv_ev d 96 0 lc st h = jv_ev d 96 1 lc (.int 0 :: st) h := jq_iconst (jv_insR jm_96 dX12_fillsServe_0) (by decide)
theorem e96_1 : jv_ev d 96 1 [x0, x1, x2, x3, x4] (.int v :: st) h = jv_ev d 96 2 [x0, x1, x2, some (.int v), x4] st h := jq_nx (jv_insR jm_96 dX12_fillsServe_1) rfl
theorem e96_2 : jv_ev d 96 2 [x0, x1, x2, some (.int v), x4] st h = jv_ev d 96 3 [x0, x1, x2, some (.int v), x4] (.int v :: st) h := jq_nx (jv_insR jm_96 dX12_fillsServe_2) rfl
theorem e96_3 : jv_ev d 96 3 [some (.ref a), x1, x2, x3, x4] st h = jv_ev d 96 4 [some (.ref a), x1, x2, x3, x4] (.ref a :: st) h := jq_nx (jv_insR jm_96 dX12_fillsServe_3) rfl
theorem e96_4 : jv_ev d 96 4 lc (.ref a :: st) h = (jv_gf h a [(0, 28, .array .int)]).bind fun r => jv_ev d 96 7 lc (r :: st) h := jq_get (jv_insR jm_96 dX12_fillsServe_4) jo_96 jF_1_61
theorem e96_7 : jv_ev d 96 7 [some (.ref a), x1, x2, x3, x4] st h = jv_ev d 96 8 [some (.ref a), x1, x2, x3, x4] (.ref a :: st) h := jq_nx (jv_insR jm_96 dX12_fillsServe_7) rfl
theorem e96_8 : jv_ev d 96 8 lc (.ref a :: st) h = (jv_gf h a [(0, 18, .int)]).bind fun r => jv_ev d 96 11 lc (r :: st) h := jq_get (jv_insR jm_96 dX12_fillsServe_8) jo_96 jF_1_239
theorem e96_11 : jv_ev d 96 11 lc (.int v :: .ref a :: st) h = (jv_ig h a 0 0 v).bind fun w => jv_ev d 96 12 lc (.int w :: st) h := jq_iald (jv_insR jm_96 dX12_fillsServe_11)
theorem e96_12 : jv_ev d 96 12 lc (.int w :: .int v :: st) h = if w ≤ v then jv_ev d 96 65 lc st h else jv_ev d 96 15 lc st h := jq_if (jv_insR jm_96 dX12_fillsServe_12) rfl (by decide)
theorem e96_15 : jv_ev d 96 15 lc st h = jv_ev d 96 16 lc (.int 0 :: st) h := jq_iconst (jv_insR jm_96 dX12_fillsServe_15) (by decide)
theorem e96_16 : jv_ev d 96 16 [x0, x1, x2, x3, x4] (.int v :: st) h = jv_ev d 96 18 [x0, x1, x2, x3, some (.int v)] st h := jq_nx (jv_insR jm_96 dX12_fillsServe_16) rfl
theorem e96_18 : jv_ev d 96 18 [x0, x1, x2, x3, some (.int v)] st h = jv_ev d 96 20 [x0, x1, x2, x3, some (.int v)] (.int v :: st) h := jq_nx (jv_insR jm_96 dX12_fillsServe_18) rfl
theorem e96_20 : jv_ev d 96 20 [some (.ref a), x1, x2, x3, x4] st h = jv_ev d 96 21 [some (.ref a), x1, x2, x3, x4] (.ref a :: st) h := jq_nx (jv_insR jm_96 dX12_fillsServe_20) rfl
theorem e96_21 : jv_ev d 96 21 lc (.ref a :: st) h = (jv_gf h a [(0, 25, .array .int)]).bind fun r => jv_ev d 96 24 lc (r :: st) h := jq_get (jv_insR jm_96 dX12_fillsServe_21) jo_96 jF_1_52
theorem e96_24 : jv_ev d 96 24 [some (.ref a), x1, x2, x3, x4] st h = jv_ev d 96 25 [some (.ref a), x1, x2, x3, x4] (.ref a :: st) h := jq_nx (jv_insR jm_96 dX12_fillsServe_24) rfl
theorem e96_25 : jv_ev d 96 25 lc (.ref a :: st) h = (jv_gf h a [(0, 18, .int)]).bind fun r => jv_ev d 96 28 lc (r :: st) h := jq_get (jv_insR jm_96 dX12_fillsServe_25) jo_96 jF_1_239
theorem e96_28 : jv_ev d 96 28 lc (.int v :: .ref a :: st) h = (jv_ig h a 0 0 v).bind fun w => jv_ev d 96 29 lc (.int w :: st) h := jq_iald (jv_insR jm_96 dX12_fillsServe_28)
theorem e96_29 : jv_ev d 96 29 lc (.int w :: .int v :: st) h = if w ≤ v then jv_ev d 96 59 lc st h else jv_ev d 96 32 lc st h := jq_if (jv_insR jm_96 dX12_fillsServe_29) rfl (by decide)
theorem e96_32 : jv_ev d 96 32 [some (.ref a), x1, x2, x3, x4] st h = jv_ev d 96 33 [some (.ref a), x1, x2, x3, x4] (.ref a :: st) h := jq_nx (jv_insR jm_96 dX12_fillsServe_32) rfl
theorem e96_33 : jv_ev d 96 33 lc (.ref a :: st) h = (jv_gf h a [(0, 64, .array .int)]).bind fun r => jv_ev d 96 36 lc (r :: st) h := jq_get (jv_insR jm_96 dX12_fillsServe_33) jo_96 jF_1_137
theorem e96_36 : jv_ev d 96 36 lc st h = jv_ev d 96 38 lc (.int 6 :: st) h := jq_bipush (jv_insR jm_96 dX12_fillsServe_36) (by decide)
theorem e96_38 : jv_ev d 96 38 [x0, x1, x2, some (.int v), x4] st h = jv_ev d 96 39 [x0, x1, x2, some (.int v), x4] (.int v :: st) h := jq_nx (jv_insR jm_96 dX12_fillsServe_38) rfl
theorem e96_39 : jv_ev d 96 39 lc (.int w :: .int v :: st) h = jv_ev d 96 40 lc (.int (v * w) :: st) h := jq_nx (jv_insR jm_96 dX12_fillsServe_39) rfl
theorem e96_40 : jv_ev d 96 40 [x0, x1, x2, x3, some (.int v)] st h = jv_ev d 96 42 [x0, x1, x2, x3, some (.int v)] (.int v :: st) h := jq_nx (jv_insR jm_96 dX12_fillsServe_40) rfl
theorem e96_42 : jv_ev d 96 42 lc (.int w :: .int v :: st) h = jv_ev d 96 43 lc (.int (v + w) :: st) h := jq_nx (jv_insR jm_96 dX12_fillsServe_42) rfl
theorem e96_43 : jv_ev d 96 43 [some (.ref a), x1, x2, x3, x4] st h = jv_ev d 96 44 [some (.ref a), x1, x2, x3, x4] (.ref a :: st) h := jq_nx (jv_insR jm_96 dX12_fillsServe_43) rfl
theorem e96_44 : jv_ev d 96 44 [x0, x1, x2, some (.int v), x4] st h = jv_ev d 96 45 [x0, x1, x2, some (.int v), x4] (.int v :: st) h := jq_nx (jv_insR jm_96 dX12_fillsServe_44) rfl
theorem e96_45 : jv_ev d 96 45 [x0, x1, x2, x3, some (.int v)] st h = jv_ev d 96 47 [x0, x1, x2, x3, some (.int v)] (.int v :: st) h := jq_nx (jv_insR jm_96 dX12_fillsServe_45) rfl
theorem e96_47 : jv_ev d 96 47 [x0, some (.int v), x2, x3, x4] st h = jv_ev d 96 48 [x0, some (.int v), x2, x3, x4] (.int v :: st) h := jq_nx (jv_insR jm_96 dX12_fillsServe_47) rfl
theorem e96_48 : jv_ev d 96 48 [x0, x1, some (.int v), x3, x4] st h = jv_ev d 96 49 [x0, x1, some (.int v), x3, x4] (.int v :: st) h := jq_nx (jv_insR jm_96 dX12_fillsServe_48) rfl
theorem e96_49 : jv_ev d 96 49 lc [z3, z2, z1, z0, .ref b, y0, y1] h = (jv_rc h b [(0, 97)]).bind fun y => (jv_cd d y [.ref b, z0, z1, z2, z3] h).bind fun r => jv_on r (fun v h => jv_ev d 96 52 lc (v.toList ++ [y0, y1]) h) (fun q h => some (.inr q, h)) := jq_V (as := [z0, z1, z2, z3]) (rest := [y0, y1]) (jv_insR jm_96 dX12_fillsServe_49) jo_96 jV_1_451 rfl rfl rfl rfl
theorem e96_52 : jv_ev d 96 52 lc (.int w :: .int v :: .ref a :: st) h = (jv_ip h a 0 0 v w).bind fun h => jv_ev d 96 53 lc st h := jq_iast (jv_insR jm_96 dX12_fillsServe_52)
theorem e96_53 : jv_ev d 96 53 [x0, x1, x2, x3, some (.int v)] st h = jv_ev d 96 56 [x0, x1, x2, x3, some (.int (v + 1))] st h := jq_nx (jv_insR jm_96 dX12_fillsServe_53) rfl
theorem e96_56 : jv_ev d 96 56 lc st h = jv_ev d 96 18 lc st h := jq_go (jv_insR jm_96 dX12_fillsServe_56) (by decide)
theorem e96_59 : jv_ev d 96 59 [x0, x1, x2, some (.int v), x4] st h = jv_ev d 96 62 [x0, x1, x2, some (.int (v + 1)), x4] st h := jq_nx (jv_insR jm_96 dX12_fillsServe_59) rfl
theorem e96_62 : jv_ev d 96 62 lc st h = jv_ev d 96 2 lc st h := jq_go (jv_insR jm_96 dX12_fillsServe_62) (by decide)
theorem e96_65 : jv_ev d 96 65 [some (.ref a), x1, x2, x3, x4] st h = jv_ev d 96 66 [some (.ref a), x1, x2, x3, x4] (.ref a :: st) h := jq_nx (jv_insR jm_96 dX12_fillsServe_65) rfl
theorem e96_66 : jv_ev d 96 66 lc st h = jv_ev d 96 67 lc (.int (-1) :: st) h := jq_iconst (jv_insR jm_96 dX12_fillsServe_66) (by decide)
theorem e96_67 : jv_ev d 96 67 lc (r :: .ref a :: st) h = (jv_pf h a [(0, 63, .int)] r).bind fun h => jv_ev d 96 70 lc st h := jq_put (jv_insR jm_96 dX12_fillsServe_67) jo_96 ji_96 jG_1_455
theorem e96_70 : jv_ev d 96 70 lc st h = jv_ev d 96 71 lc (.int 0 :: st) h := jq_iconst (jv_insR jm_96 dX12_fillsServe_70) (by decide)
theorem e96_71 : jv_ev d 96 71 [x0, x1, x2, x3, x4] (.int v :: st) h = jv_ev d 96 72 [x0, x1, x2, some (.int v), x4] st h := jq_nx (jv_insR jm_96 dX12_fillsServe_71) rfl
theorem e96_72 : jv_ev d 96 72 [x0, x1, x2, some (.int v), x4] st h = jv_ev d 96 73 [x0, x1, x2, some (.int v), x4] (.int v :: st) h := jq_nx (jv_insR jm_96 dX12_fillsServe_72) rfl
theorem e96_73 : jv_ev d 96 73 [some (.ref a), x1, x2, x3, x4] st h = jv_ev d 96 74 [some (.ref a), x1, x2, x3, x4] (.ref a :: st) h := jq_nx (jv_insR jm_96 dX12_fillsServe_73) rfl
theorem e96_74 : jv_ev d 96 74 lc (.ref a :: st) h = (jv_gf h a [(0, 28, .array .int)]).bind fun r => jv_ev d 96 77 lc (r :: st) h := jq_get (jv_insR jm_96 dX12_fillsServe_74) jo_96 jF_1_61
theorem e96_77 : jv_ev d 96 77 [some (.ref a), x1, x2, x3, x4] st h = jv_ev d 96 78 [some (.ref a), x1, x2, x3, x4] (.ref a :: st) h := jq_nx (jv_insR jm_96 dX12_fillsServe_77) rfl
theorem e96_78 : jv_ev d 96 78 lc (.ref a :: st) h = (jv_gf h a [(0, 18, .int)]).bind fun r => jv_ev d 96 81 lc (r :: st) h := jq_get (jv_insR jm_96 dX12_fillsServe_78) jo_96 jF_1_239
theorem e96_81 : jv_ev d 96 81 lc (.int v :: .ref a :: st) h = (jv_ig h a 0 0 v).bind fun w => jv_ev d 96 82 lc (.int w :: st) h := jq_iald (jv_insR jm_96 dX12_fillsServe_81)
theorem e96_82 : jv_ev d 96 82 lc [z0, y0] h = (jv_cd d 98 [z0] h).bind fun r => jv_on r (fun v h => jv_ev d 96 85 lc (v.toList ++ [y0]) h) (fun q h => some (.inr q, h)) := jq_S (as := [z0]) (rest := [y0]) (jv_insR jm_96 dX12_fillsServe_82) jo_96 jT_1_448 rfl rfl rfl rfl
theorem e96_85 : jv_ev d 96 85 lc (.int w :: .int v :: st) h = if w ≤ v then jv_ev d 96 136 lc st h else jv_ev d 96 88 lc st h := jq_if (jv_insR jm_96 dX12_fillsServe_85) rfl (by decide)
theorem e96_88 : jv_ev d 96 88 [some (.ref a), x1, x2, x3, x4] st h = jv_ev d 96 89 [some (.ref a), x1, x2, x3, x4] (.ref a :: st) h := jq_nx (jv_insR jm_96 dX12_fillsServe_88) rfl
theorem e96_89 : jv_ev d 96 89 [x0, x1, x2, some (.int v), x4] st h = jv_ev d 96 90 [x0, x1, x2, some (.int v), x4] (.int v :: st) h := jq_nx (jv_insR jm_96 dX12_fillsServe_89) rfl
theorem e96_90 : jv_ev d 96 90 lc [z0, .ref b] h = (jv_rc h b [(0, 99)]).bind fun y => (jv_cd d y [.ref b, z0] h).bind fun r => jv_on r (fun v h => jv_ev d 96 93 lc (v.toList ++ []) h) (fun q h => some (.inr q, h)) := jq_V (as := [z0]) (rest := []) (jv_insR jm_96 dX12_fillsServe_90) jo_96 jV_1_458 rfl rfl rfl rfl
theorem e96_93 : jv_ev d 96 93 [x0, x1, x2, x3, x4] (.int v :: st) h = jv_ev d 96 95 [x0, x1, x2, x3, some (.int v)] st h := jq_nx (jv_insR jm_96 dX12_fillsServe_93) rfl
theorem e96_95 : jv_ev d 96 95 [x0, x1, x2, x3, some (.int v)] st h = jv_ev d 96 97 [x0, x1, x2, x3, some (.int v)] (.int v :: st) h := jq_nx (jv_insR jm_96 dX12_fillsServe_95) rfl
theorem e96_97 : jv_ev d 96 97 lc (.int v :: st) h = if v < 0 then jv_ev d 96 130 lc st h else jv_ev d 96 100 lc st h := jq_if (jv_insR jm_96 dX12_fillsServe_97) rfl (by decide)
theorem e96_100 : jv_ev d 96 100 [some (.ref a), x1, x2, x3, x4] st h = jv_ev d 96 101 [some (.ref a), x1, x2, x3, x4] (.ref a :: st) h := jq_nx (jv_insR jm_96 dX12_fillsServe_100) rfl
theorem e96_101 : jv_ev d 96 101 lc (.ref a :: st) h = (jv_gf h a [(0, 63, .int)]).bind fun r => jv_ev d 96 104 lc (r :: st) h := jq_get (jv_insR jm_96 dX12_fillsServe_101) jo_96 jF_1_455
theorem e96_104 : jv_ev d 96 104 lc (.int v :: st) h = if v < 0 then jv_ev d 96 119 lc st h else jv_ev d 96 107 lc st h := jq_if (jv_insR jm_96 dX12_fillsServe_104) rfl (by decide)
theorem e96_107 : jv_ev d 96 107 [x0, x1, x2, x3, some (.int v)] st h = jv_ev d 96 109 [x0, x1, x2, x3, some (.int v)] (.int v :: st) h := jq_nx (jv_insR jm_96 dX12_fillsServe_107) rfl
theorem e96_109 : jv_ev d 96 109 [some (.ref a), x1, x2, x3, x4] st h = jv_ev d 96 110 [some (.ref a), x1, x2, x3, x4] (.ref a :: st) h := jq_nx (jv_insR jm_96 dX12_fillsServe_109) rfl
theorem e96_110 : jv_ev d 96 110 lc (.ref a :: st) h = (jv_gf h a [(0, 62, .int)]).bind fun r => jv_ev d 96 113 lc (r :: st) h := jq_get (jv_insR jm_96 dX12_fillsServe_110) jo_96 jF_1_461
theorem e96_113 : jv_ev d 96 113 lc (.int w :: .int v :: st) h = if v < w then jv_ev d 96 119 lc st h else jv_ev d 96 116 lc st h := jq_if (jv_insR jm_96 dX12_fillsServe_113) rfl (by decide)
theorem e96_116 : jv_ev d 96 116 lc st h = jv_ev d 96 130 lc st h := jq_go (jv_insR jm_96 dX12_fillsServe_116) (by decide)
theorem e96_119 : jv_ev d 96 119 [some (.ref a), x1, x2, x3, x4] st h = jv_ev d 96 120 [some (.ref a), x1, x2, x3, x4] (.ref a :: st) h := jq_nx (jv_insR jm_96 dX12_fillsServe_119) rfl
theorem e96_120 : jv_ev d 96 120 [x0, x1, x2, x3, some (.int v)] st h = jv_ev d 96 122 [x0, x1, x2, x3, some (.int v)] (.int v :: st) h := jq_nx (jv_insR jm_96 dX12_fillsServe_120) rfl
theorem e96_122 : jv_ev d 96 122 lc (r :: .ref a :: st) h = (jv_pf h a [(0, 62, .int)] r).bind fun h => jv_ev d 96 125 lc st h := jq_put (jv_insR jm_96 dX12_fillsServe_122) jo_96 ji_96 jG_1_461
theorem e96_125 : jv_ev d 96 125 [some (.ref a), x1, x2, x3, x4] st h = jv_ev d 96 126 [some (.ref a), x1, x2, x3, x4] (.ref a :: st) h := jq_nx (jv_insR jm_96 dX12_fillsServe_125) rfl
theorem e96_126 : jv_ev d 96 126 [x0, x1, x2, some (.int v), x4] st h = jv_ev d 96 127 [x0, x1, x2, some (.int v), x4] (.int v :: st) h := jq_nx (jv_insR jm_96 dX12_fillsServe_126) rfl
theorem e96_127 : jv_ev d 96 127 lc (r :: .ref a :: st) h = (jv_pf h a [(0, 63, .int)] r).bind fun h => jv_ev d 96 130 lc st h := jq_put (jv_insR jm_96 dX12_fillsServe_127) jo_96 ji_96 jG_1_455
theorem e96_130 : jv_ev d 96 130 [x0, x1, x2, some (.int v), x4] st h = jv_ev d 96 133 [x0, x1, x2, some (.int (v + 1)), x4] st h := jq_nx (jv_insR jm_96 dX12_fillsServe_130) rfl
theorem e96_133 : jv_ev d 96 133 lc st h = jv_ev d 96 72 lc st h := jq_go (jv_insR jm_96 dX12_fillsServe_133) (by decide)
theorem e96_136 : jv_ev d 96 136 lc [] h = some (.inl none, h) := jq_retv (jv_insR jm_96 dX12_fillsServe_136) jr_96
/-! 97: RainLoomModel.offBy(IIII)I -/
theorem n97 : jv_cd (d + 1) 97 [.ref a0, .int i1, .int i2, .int i3, .int i4] h = jv_ev d 97 0 [some (.ref a0), some (.int i1), some (.int i2), some (.int i3), some (.int i4), none] [] h := rfl
theorem e97_0 : jv_ev d 97 0 [some (.ref a), x1, x2, x3, x4, x5] st h = jv_ev d 97 1 [some (.ref a), x1, x2, x3, x4, x5] (.ref a :: st) h := jq_nx (jv_insR jm_97 dX12_offBy_0) rfl
theorem e97_1 : jv_ev d 97 1 [x0, some (.int v), x2, x3, x4, x5] st h = jv_ev d 97 2 [x0, some (.int v), x2, x3, x4, x5] (.int v :: st) h := jq_nx (jv_insR jm_97 dX12_offBy_1) rfl
theorem e97_2 : jv_ev d 97 2 [x0, x1, x2, some (.int v), x4, x5] st h = jv_ev d 97 3 [x0, x1, x2, some (.int v), x4, x5] (.int v :: st) h := jq_nx (jv_insR jm_97 dX12_offBy_2) rfl
theorem e97_3 : jv_ev d 97 3 [x0, x1, x2, x3, some (.int v), x5] st h = jv_ev d 97 5 [x0, x1, x2, x3, some (.int v), x5] (.int v :: st) h := jq_nx (jv_insR jm_97 dX12_offBy_3) rfl
theorem e97_5 : jv_ev d 97 5 lc [z2, z1, z0, .ref b] h = (jv_rc h b [(0, 74)]).bind fun y => (jv_cd d y [.ref b, z0, z1, z2] h).bind fun r => jv_on r (fun v h => jv_ev d 97 8 lc (v.toList ++ []) h) (fun q h => some (.inr q, h)) := jq_V (as := [z0, z1, z2]) (rest := []) (jv_insR jm_97 dX12_offBy_5) jo_97 jV_1_405 rfl rfl rfl rfl
theorem e97_8 : jv_ev d 97 8 [some (.ref a), x1, x2, x3, x4, x5] st h = jv_ev d 97 9 [some (.ref a), x1, x2, x3, x4, x5] (.ref a :: st) h := jq_nx (jv_insR jm_97 dX12_offBy_8) rfl
theorem e97_9 : jv_ev d 97 9 [x0, x1, some (.int v), x3, x4, x5] st h = jv_ev d 97 10 [x0, x1, some (.int v), x3, x4, x5] (.int v :: st) h := jq_nx (jv_insR jm_97 dX12_offBy_9) rfl
theorem e97_10 : jv_ev d 97 10 lc [z0, .ref b, y0] h = (jv_rc h b [(0, 51)]).bind fun y => (jv_cd d y [.ref b, z0] h).bind fun r => jv_on r (fun v h => jv_ev d 97 13 lc (v.toList ++ [y0]) h) (fun q h => some (.inr q, h)) := jq_V (as := [z0]) (rest := [y0]) (jv_insR jm_97 dX12_offBy_10) jo_97 jV_1_390 rfl rfl rfl rfl
theorem e97_13 : jv_ev d 97 13 lc (.int w :: .int v :: st) h = jv_ev d 97 14 lc (.int (v - w) :: st) h := jq_nx (jv_insR jm_97 dX12_offBy_13) rfl
theorem e97_14 : jv_ev d 97 14 [x0, x1, x2, x3, x4, x5] (.int v :: st) h = jv_ev d 97 16 [x0, x1, x2, x3, x4, some (.int v)] st h := jq_nx (jv_insR jm_97 dX12_offBy_14) rfl
theorem e97_16 : jv_ev d 97 16 [x0, x1, x2, x3, x4, some (.int v)] st h = jv_ev d 97 18 [x0, x1, x2, x3, x4, some (.int v)] (.int v :: st) h := jq_nx (jv_insR jm_97 dX12_offBy_16) rfl
theorem e97_18 : jv_ev d 97 18 lc (.int v :: st) h = if 0 ≤ v then jv_ev d 97 27 lc st h else jv_ev d 97 21 lc st h := jq_if (jv_insR jm_97 dX12_offBy_18) rfl (by decide)
theorem e97_21 : jv_ev d 97 21 [x0, x1, x2, x3, x4, some (.int v)] st h = jv_ev d 97 23 [x0, x1, x2, x3, x4, some (.int v)] (.int v :: st) h := jq_nx (jv_insR jm_97 dX12_offBy_21) rfl
theorem e97_23 : jv_ev d 97 23 lc (.int v :: st) h = jv_ev d 97 24 lc (.int (-v) :: st) h := jq_nx (jv_insR jm_97 dX12_offBy_23) rfl
theorem e97_24 : jv_ev d 97 24 lc st h = jv_ev d 97 29 lc st h := jq_go (jv_insR jm_97 dX12_offBy_24) (by decide)
theorem e97_27 : jv_ev d 97 27 [x0, x1, x2, x3, x4, some (.int v)] st h = jv_ev d 97 29 [x0, x1, x2, x3, x4, some (.int v)] (.int v :: st) h := jq_nx (jv_insR jm_97 dX12_offBy_27) rfl
theorem e97_29 : jv_ev d 97 29 lc [.int v] h = some (.inl (some (.int v)), h) := jq_reti (jv_insR jm_97 dX12_offBy_29) jr_97
/-! 98: RainLoomModel.sixes(I)I -/
theorem n98 : jv_cd (d + 1) 98 [.int i0] h = jv_ev d 98 0 [some (.int i0), none, none] [] h := rfl
theorem e98_0 : jv_ev d 98 0 lc st h = jv_ev d 98 1 lc (.int 1 :: st) h := jq_iconst (jv_insR jm_98 dX12_sixes_0) (by decide)
theorem e98_1 : jv_ev d 98 1 [x0, x1, x2] (.int v :: st) h = jv_ev d 98 2 [x0, some (.int v), x2] st h := jq_nx (jv_insR jm_98 dX12_sixes_1) rfl
theorem e98_2 : jv_ev d 98 2 lc st h = jv_ev d 98 3 lc (.int 0 :: st) h := jq_iconst (jv_insR jm_98 dX12_sixes_2) (by decide)
theorem e98_3 : jv_ev d 98 3 [x0, x1, x2] (.int v :: st) h = jv_ev d 98 4 [x0, x1, some (.int v)] st h := jq_nx (jv_insR jm_98 dX12_sixes_3) rfl
theorem e98_4 : jv_ev d 98 4 [x0, x1, some (.int v)] st h = jv_ev d 98 5 [x0, x1, some (.int v)] (.int v :: st) h := jq_nx (jv_insR jm_98 dX12_sixes_4) rfl
theorem e98_5 : jv_ev d 98 5 [some (.int v), x1, x2] st h = jv_ev d 98 6 [some (.int v), x1, x2] (.int v :: st) h := jq_nx (jv_insR jm_98 dX12_sixes_5) rfl
theorem e98_6 : jv_ev d 98 6 lc (.int w :: .int v :: st) h = if w ≤ v then jv_ev d 98 20 lc st h else jv_ev d 98 9 lc st h := jq_if (jv_insR jm_98 dX12_sixes_6) rfl (by decide)
theorem e98_9 : jv_ev d 98 9 [x0, some (.int v), x2] st h = jv_ev d 98 10 [x0, some (.int v), x2] (.int v :: st) h := jq_nx (jv_insR jm_98 dX12_sixes_9) rfl
theorem e98_10 : jv_ev d 98 10 lc st h = jv_ev d 98 12 lc (.int 6 :: st) h := jq_bipush (jv_insR jm_98 dX12_sixes_10) (by decide)
theorem e98_12 : jv_ev d 98 12 lc (.int w :: .int v :: st) h = jv_ev d 98 13 lc (.int (v * w) :: st) h := jq_nx (jv_insR jm_98 dX12_sixes_12) rfl
theorem e98_13 : jv_ev d 98 13 [x0, x1, x2] (.int v :: st) h = jv_ev d 98 14 [x0, some (.int v), x2] st h := jq_nx (jv_insR jm_98 dX12_sixes_13) rfl
theorem e98_14 : jv_ev d 98 14 [x0, x1, some (.int v)] st h = jv_ev d 98 17 [x0, x1, some (.int (v + 1))] st h := jq_nx (jv_insR jm_98 dX12_sixes_14) rfl
theorem e98_17 : jv_ev d 98 17 lc st h = jv_ev d 98 4 lc st h := jq_go (jv_insR jm_98 dX12_sixes_17) (by decide)
theorem e98_20 : jv_ev d 98 20 [x0, some (.int v), x2] st h = jv_ev d 98 21 [x0, some (.int v), x2] (.int v :: st) h := jq_nx (jv_insR jm_98 dX12_sixes_20) rfl
theorem e98_21 : jv_ev d 98 21 lc [.int v] h = some (.inl (some (.int v)), h) := jq_reti (jv_insR jm_98 dX12_sixes_21) jr_98
/-! 99: RainLoomModel.offAll(I)I -/
theorem n99 : jv_cd (d + 1) 99 [.ref a0, .int i1] h = jv_ev d 99 0 [some (.ref a0), some (.int i1), none, none, none, none, none] [] h := rfl
theorem e99_0 : jv_ev d 99 0 lc st h = jv_ev d 99 1 lc (.int 0 :: st) h := jq_iconst (jv_insR jm_99 dX12_offAll_0) (by decide)
theorem e99_1 : jv_ev d 99 1 [x0, x1, x2, x3, x4, x5, x6] (.int v :: st) h = jv_ev d 99 2 [x0, x1, some (.int v), x3, x4, x5, x6] st h := jq_nx (jv_insR jm_99 dX12_offAll_1) rfl
theorem e99_2 : jv_ev d 99 2 lc st h = jv_ev d 99 3 lc (.int 0 :: st) h := jq_iconst (jv_insR jm_99 dX12_offAll_2) (by decide)
theorem e99_3 : jv_ev d 99 3 [x0, x1, x2, x3, x4, x5, x6] (.int v :: st) h = jv_ev d 99 4 [x0, x1, x2, some (.int v), x4, x5, x6] st h := jq_nx (jv_insR jm_99 dX12_offAll_3) rfl
theorem e99_4 : jv_ev d 99 4 [some (.ref a), x1, x2, x3, x4, x5, x6] st h = jv_ev d 99 5 [some (.ref a), x1, x2, x3, x4, x5, x6] (.ref a :: st) h := jq_nx (jv_insR jm_99 dX12_offAll_4) rfl
theorem e99_5 : jv_ev d 99 5 lc (.ref a :: st) h = (jv_gf h a [(0, 28, .array .int)]).bind fun r => jv_ev d 99 8 lc (r :: st) h := jq_get (jv_insR jm_99 dX12_offAll_5) jo_99 jF_1_61
theorem e99_8 : jv_ev d 99 8 [some (.ref a), x1, x2, x3, x4, x5, x6] st h = jv_ev d 99 9 [some (.ref a), x1, x2, x3, x4, x5, x6] (.ref a :: st) h := jq_nx (jv_insR jm_99 dX12_offAll_8) rfl
theorem e99_9 : jv_ev d 99 9 lc (.ref a :: st) h = (jv_gf h a [(0, 18, .int)]).bind fun r => jv_ev d 99 12 lc (r :: st) h := jq_get (jv_insR jm_99 dX12_offAll_9) jo_99 jF_1_239
theorem e99_12 : jv_ev d 99 12 lc (.int v :: .ref a :: st) h = (jv_ig h a 0 0 v).bind fun w => jv_ev d 99 13 lc (.int w :: st) h := jq_iald (jv_insR jm_99 dX12_offAll_12)
theorem e99_13 : jv_ev d 99 13 lc [z0] h = (jv_cd d 98 [z0] h).bind fun r => jv_on r (fun v h => jv_ev d 99 16 lc (v.toList ++ []) h) (fun q h => some (.inr q, h)) := jq_S (as := [z0]) (rest := []) (jv_insR jm_99 dX12_offAll_13) jo_99 jT_1_448 rfl rfl rfl rfl
theorem e99_16 : jv_ev d 99 16 [x0, x1, x2, x3, x4, x5, x6] (.int v :: st) h = jv_ev d 99 18 [x0, x1, x2, x3, some (.int v), x5, x6] st h := jq_nx (jv_insR jm_99 dX12_offAll_16) rfl
theorem e99_18 : jv_ev d 99 18 lc st h = jv_ev d 99 19 lc (.int 0 :: st) h := jq_iconst (jv_insR jm_99 dX12_offAll_18) (by decide)
theorem e99_19 : jv_ev d 99 19 [x0, x1, x2, x3, x4, x5, x6] (.int v :: st) h = jv_ev d 99 21 [x0, x1, x2, x3, x4, some (.int v), x6] st h := jq_nx (jv_insR jm_99 dX12_offAll_19) rfl
theorem e99_21 : jv_ev d 99 21 [x0, x1, x2, x3, x4, some (.int v), x6] st h = jv_ev d 99 23 [x0, x1, x2, x3, x4, some (.int v), x6] (.int v :: st) h := jq_nx (jv_insR jm_99 dX12_offAll_21) rfl
theorem e99_23 : jv_ev d 99 23 [some (.ref a), x1, x2, x3, x4, x5, x6] st h = jv_ev d 99 24 [some (.ref a), x1, x2, x3, x4, x5, x6] (.ref a :: st) h := jq_nx (jv_insR jm_99 dX12_offAll_23) rfl
theorem e99_24 : jv_ev d 99 24 lc (.ref a :: st) h = (jv_gf h a [(0, 28, .array .int)]).bind fun r => jv_ev d 99 27 lc (r :: st) h := jq_get (jv_insR jm_99 dX12_offAll_24) jo_99 jF_1_61
theorem e99_27 : jv_ev d 99 27 [some (.ref a), x1, x2, x3, x4, x5, x6] st h = jv_ev d 99 28 [some (.ref a), x1, x2, x3, x4, x5, x6] (.ref a :: st) h := jq_nx (jv_insR jm_99 dX12_offAll_27) rfl
theorem e99_28 : jv_ev d 99 28 lc (.ref a :: st) h = (jv_gf h a [(0, 18, .int)]).bind fun r => jv_ev d 99 31 lc (r :: st) h := jq_get (jv_insR jm_99 dX12_offAll_28) jo_99 jF_1_239
theorem e99_31 : jv_ev d 99 31 lc (.int v :: .ref a :: st) h = (jv_ig h a 0 0 v).bind fun w => jv_ev d 99 32 lc (.int w :: st) h := jq_iald (jv_insR jm_99 dX12_offAll_31)
theorem e99_32 : jv_ev d 99 32 lc (.int w :: .int v :: st) h = if w ≤ v then jv_ev d 99 101 lc st h else jv_ev d 99 35 lc st h := jq_if (jv_insR jm_99 dX12_offAll_32) rfl (by decide)
theorem e99_35 : jv_ev d 99 35 [x0, x1, x2, x3, some (.int v), x5, x6] st h = jv_ev d 99 37 [x0, x1, x2, x3, some (.int v), x5, x6] (.int v :: st) h := jq_nx (jv_insR jm_99 dX12_offAll_35) rfl
theorem e99_37 : jv_ev d 99 37 lc st h = jv_ev d 99 39 lc (.int 6 :: st) h := jq_bipush (jv_insR jm_99 dX12_offAll_37) (by decide)
theorem e99_39 : jv_ev d 99 39 lc (.int w :: .int v :: st) h = if w = 0 then none else jv_ev d 99 40 lc (.int (v / w) :: st) h := jq_idiv (jv_insR jm_99 dX12_offAll_39)
theorem e99_40 : jv_ev d 99 40 [x0, x1, x2, x3, x4, x5, x6] (.int v :: st) h = jv_ev d 99 42 [x0, x1, x2, x3, some (.int v), x5, x6] st h := jq_nx (jv_insR jm_99 dX12_offAll_40) rfl
theorem e99_42 : jv_ev d 99 42 [x0, some (.int v), x2, x3, x4, x5, x6] st h = jv_ev d 99 43 [x0, some (.int v), x2, x3, x4, x5, x6] (.int v :: st) h := jq_nx (jv_insR jm_99 dX12_offAll_42) rfl
theorem e99_43 : jv_ev d 99 43 [x0, x1, x2, x3, some (.int v), x5, x6] st h = jv_ev d 99 45 [x0, x1, x2, x3, some (.int v), x5, x6] (.int v :: st) h := jq_nx (jv_insR jm_99 dX12_offAll_43) rfl
theorem e99_45 : jv_ev d 99 45 lc (.int w :: .int v :: st) h = if w = 0 then none else jv_ev d 99 46 lc (.int (v / w) :: st) h := jq_idiv (jv_insR jm_99 dX12_offAll_45)
theorem e99_46 : jv_ev d 99 46 lc st h = jv_ev d 99 48 lc (.int 6 :: st) h := jq_bipush (jv_insR jm_99 dX12_offAll_46) (by decide)
theorem e99_48 : jv_ev d 99 48 lc (.int w :: .int v :: st) h = if w = 0 then none else jv_ev d 99 49 lc (.int (v - v / w * w) :: st) h := jq_irem (jv_insR jm_99 dX12_offAll_48)
theorem e99_49 : jv_ev d 99 49 [x0, x1, x2, x3, x4, x5, x6] (.int v :: st) h = jv_ev d 99 51 [x0, x1, x2, x3, x4, x5, some (.int v)] st h := jq_nx (jv_insR jm_99 dX12_offAll_49) rfl
theorem e99_51 : jv_ev d 99 51 [some (.ref a), x1, x2, x3, x4, x5, x6] st h = jv_ev d 99 52 [some (.ref a), x1, x2, x3, x4, x5, x6] (.ref a :: st) h := jq_nx (jv_insR jm_99 dX12_offAll_51) rfl
theorem e99_52 : jv_ev d 99 52 [x0, x1, x2, x3, x4, x5, some (.int v)] st h = jv_ev d 99 54 [x0, x1, x2, x3, x4, x5, some (.int v)] (.int v :: st) h := jq_nx (jv_insR jm_99 dX12_offAll_52) rfl
theorem e99_54 : jv_ev d 99 54 lc [z0, .ref b] h = (jv_rc h b [(0, 48)]).bind fun y => (jv_cd d y [.ref b, z0] h).bind fun r => jv_on r (fun v h => jv_ev d 99 57 lc (v.toList ++ []) h) (fun q h => some (.inr q, h)) := jq_V (as := [z0]) (rest := []) (jv_insR jm_99 dX12_offAll_54) jo_99 jV_1_387 rfl rfl rfl rfl
theorem e99_57 : jv_ev d 99 57 lc (.int v :: st) h = if v = 0 then jv_ev d 99 70 lc st h else jv_ev d 99 60 lc st h := jq_if (jv_insR jm_99 dX12_offAll_57) rfl (by decide)
theorem e99_60 : jv_ev d 99 60 [x0, x1, some (.int v), x3, x4, x5, x6] st h = jv_ev d 99 61 [x0, x1, some (.int v), x3, x4, x5, x6] (.int v :: st) h := jq_nx (jv_insR jm_99 dX12_offAll_60) rfl
theorem e99_61 : jv_ev d 99 61 [x0, x1, x2, x3, x4, x5, some (.int v)] st h = jv_ev d 99 63 [x0, x1, x2, x3, x4, x5, some (.int v)] (.int v :: st) h := jq_nx (jv_insR jm_99 dX12_offAll_61) rfl
theorem e99_63 : jv_ev d 99 63 lc (.int w :: .int v :: st) h = jv_ev d 99 64 lc (.int (v >>> (w &&& 31)) :: st) h := jq_nx (jv_insR jm_99 dX12_offAll_63) rfl
theorem e99_64 : jv_ev d 99 64 lc st h = jv_ev d 99 65 lc (.int 1 :: st) h := jq_iconst (jv_insR jm_99 dX12_offAll_64) (by decide)
theorem e99_65 : jv_ev d 99 65 lc (.int w :: .int v :: st) h = jv_ev d 99 66 lc (.int (v &&& w) :: st) h := jq_nx (jv_insR jm_99 dX12_offAll_65) rfl
theorem e99_66 : jv_ev d 99 66 lc st h = jv_ev d 99 67 lc (.int 1 :: st) h := jq_iconst (jv_insR jm_99 dX12_offAll_66) (by decide)
theorem e99_67 : jv_ev d 99 67 lc (.int w :: .int v :: st) h = if ¬ v = w then jv_ev d 99 72 lc st h else jv_ev d 99 70 lc st h := jq_if (jv_insR jm_99 dX12_offAll_67) rfl (by decide)
theorem e99_70 : jv_ev d 99 70 lc st h = jv_ev d 99 71 lc (.int (-1) :: st) h := jq_iconst (jv_insR jm_99 dX12_offAll_70) (by decide)
theorem e99_71 : jv_ev d 99 71 lc [.int v] h = some (.inl (some (.int v)), h) := jq_reti (jv_insR jm_99 dX12_offAll_71) jr_99
theorem e99_72 : jv_ev d 99 72 [x0, x1, some (.int v), x3, x4, x5, x6] st h = jv_ev d 99 73 [x0, x1, some (.int v), x3, x4, x5, x6] (.int v :: st) h := jq_nx (jv_insR jm_99 dX12_offAll_72) rfl
theorem e99_73 : jv_ev d 99 73 lc st h = jv_ev d 99 74 lc (.int 1 :: st) h := jq_iconst (jv_insR jm_99 dX12_offAll_73) (by decide)
theorem e99_74 : jv_ev d 99 74 [x0, x1, x2, x3, x4, x5, some (.int v)] st h = jv_ev d 99 76 [x0, x1, x2, x3, x4, x5, some (.int v)] (.int v :: st) h := jq_nx (jv_insR jm_99 dX12_offAll_74) rfl
theorem e99_76 : jv_ev d 99 76 lc (.int w :: .int v :: st) h = jv_ev d 99 77 lc (.int (v <<< (w &&& 31)) :: st) h := jq_nx (jv_insR jm_99 dX12_offAll_76) rfl
theorem e99_77 : jv_ev d 99 77 lc (.int w :: .int v :: st) h = jv_ev d 99 78 lc (.int (v ||| w) :: st) h := jq_nx (jv_insR jm_99 dX12_offAll_77) rfl
theorem e99_78 : jv_ev d 99 78 [x0, x1, x2, x3, x4, x5, x6] (.int v :: st) h = jv_ev d 99 79 [x0, x1, some (.int v), x3, x4, x5, x6] st h := jq_nx (jv_insR jm_99 dX12_offAll_78) rfl
theorem e99_79 : jv_ev d 99 79 [x0, x1, x2, some (.int v), x4, x5, x6] st h = jv_ev d 99 80 [x0, x1, x2, some (.int v), x4, x5, x6] (.int v :: st) h := jq_nx (jv_insR jm_99 dX12_offAll_79) rfl
theorem e99_80 : jv_ev d 99 80 [some (.ref a), x1, x2, x3, x4, x5, x6] st h = jv_ev d 99 81 [some (.ref a), x1, x2, x3, x4, x5, x6] (.ref a :: st) h := jq_nx (jv_insR jm_99 dX12_offAll_80) rfl
theorem e99_81 : jv_ev d 99 81 lc (.ref a :: st) h = (jv_gf h a [(0, 64, .array .int)]).bind fun r => jv_ev d 99 84 lc (r :: st) h := jq_get (jv_insR jm_99 dX12_offAll_81) jo_99 jF_1_137
theorem e99_84 : jv_ev d 99 84 lc st h = jv_ev d 99 86 lc (.int 6 :: st) h := jq_bipush (jv_insR jm_99 dX12_offAll_84) (by decide)
theorem e99_86 : jv_ev d 99 86 [x0, x1, x2, x3, x4, some (.int v), x6] st h = jv_ev d 99 88 [x0, x1, x2, x3, x4, some (.int v), x6] (.int v :: st) h := jq_nx (jv_insR jm_99 dX12_offAll_86) rfl
theorem e99_88 : jv_ev d 99 88 lc (.int w :: .int v :: st) h = jv_ev d 99 89 lc (.int (v * w) :: st) h := jq_nx (jv_insR jm_99 dX12_offAll_88) rfl
theorem e99_89 : jv_ev d 99 89 [x0, x1, x2, x3, x4, x5, some (.int v)] st h = jv_ev d 99 91 [x0, x1, x2, x3, x4, x5, some (.int v)] (.int v :: st) h := jq_nx (jv_insR jm_99 dX12_offAll_89) rfl
theorem e99_91 : jv_ev d 99 91 lc (.int w :: .int v :: st) h = jv_ev d 99 92 lc (.int (v + w) :: st) h := jq_nx (jv_insR jm_99 dX12_offAll_91) rfl
theorem e99_92 : jv_ev d 99 92 lc (.int v :: .ref a :: st) h = (jv_ig h a 0 0 v).bind fun w => jv_ev d 99 93 lc (.int w :: st) h := jq_iald (jv_insR jm_99 dX12_offAll_92)
theorem e99_93 : jv_ev d 99 93 lc (.int w :: .int v :: st) h = jv_ev d 99 94 lc (.int (v + w) :: st) h := jq_nx (jv_insR jm_99 dX12_offAll_93) rfl
theorem e99_94 : jv_ev d 99 94 [x0, x1, x2, x3, x4, x5, x6] (.int v :: st) h = jv_ev d 99 95 [x0, x1, x2, some (.int v), x4, x5, x6] st h := jq_nx (jv_insR jm_99 dX12_offAll_94) rfl
theorem e99_95 : jv_ev d 99 95 [x0, x1, x2, x3, x4, some (.int v), x6] st h = jv_ev d 99 98 [x0, x1, x2, x3, x4, some (.int (v + 1)), x6] st h := jq_nx (jv_insR jm_99 dX12_offAll_95) rfl
theorem e99_98 : jv_ev d 99 98 lc st h = jv_ev d 99 21 lc st h := jq_go (jv_insR jm_99 dX12_offAll_98) (by decide)
theorem e99_101 : jv_ev d 99 101 [x0, x1, x2, some (.int v), x4, x5, x6] st h = jv_ev d 99 102 [x0, x1, x2, some (.int v), x4, x5, x6] (.int v :: st) h := jq_nx (jv_insR jm_99 dX12_offAll_101) rfl
theorem e99_102 : jv_ev d 99 102 lc [.int v] h = some (.inl (some (.int v)), h) := jq_reti (jv_insR jm_99 dX12_offAll_102) jr_99
/-! 100: RainLoomModel.suits(III)I -/
theorem n100 : jv_cd (d + 1) 100 [.ref a0, .int i1, .int i2, .int i3] h = jv_ev d 100 0 [some (.ref a0), some (.int i1), some (.int i2), some (.int i3), none, none] [] h := rfl
theorem e100_0 : jv_ev d 100 0 [some (.ref a), x1, x2, x3, x4, x5] st h = jv_ev d 100 1 [some (.ref a), x1, x2, x3, x4, x5] (.ref a :: st) h := jq_nx (jv_insR jm_100 dX12_suits_0) rfl
theorem e100_1 : jv_ev d 100 1 [x0, some (.int v), x2, x3, x4, x5] st h = jv_ev d 100 2 [x0, some (.int v), x2, x3, x4, x5] (.int v :: st) h := jq_nx (jv_insR jm_100 dX12_suits_1) rfl
theorem e100_2 : jv_ev d 100 2 lc [z0, .ref b] h = (jv_rc h b [(0, 48)]).bind fun y => (jv_cd d y [.ref b, z0] h).bind fun r => jv_on r (fun v h => jv_ev d 100 5 lc (v.toList ++ []) h) (fun q h => some (.inr q, h)) := jq_V (as := [z0]) (rest := []) (jv_insR jm_100 dX12_suits_2) jo_100 jV_1_387 rfl rfl rfl rfl
theorem e100_5 : jv_ev d 100 5 lc (.int v :: st) h = if v = 0 then jv_ev d 100 28 lc st h else jv_ev d 100 8 lc st h := jq_if (jv_insR jm_100 dX12_suits_5) rfl (by decide)
theorem e100_8 : jv_ev d 100 8 [x0, x1, some (.int v), x3, x4, x5] st h = jv_ev d 100 9 [x0, x1, some (.int v), x3, x4, x5] (.int v :: st) h := jq_nx (jv_insR jm_100 dX12_suits_8) rfl
theorem e100_9 : jv_ev d 100 9 lc st h = jv_ev d 100 10 lc (.int 1 :: st) h := jq_iconst (jv_insR jm_100 dX12_suits_9) (by decide)
theorem e100_10 : jv_ev d 100 10 lc st h = jv_ev d 100 12 lc (.int 8 :: st) h := jq_bipush (jv_insR jm_100 dX12_suits_10) (by decide)
theorem e100_12 : jv_ev d 100 12 lc [z2, z1, z0] h = (jv_cd d 40 [z0, z1, z2] h).bind fun r => jv_on r (fun v h => jv_ev d 100 15 lc (v.toList ++ []) h) (fun q h => some (.inr q, h)) := jq_S (as := [z0, z1, z2]) (rest := []) (jv_insR jm_100 dX12_suits_12) jo_100 jT_1_323 rfl rfl rfl rfl
theorem e100_15 : jv_ev d 100 15 lc (.int v :: st) h = if v = 0 then jv_ev d 100 28 lc st h else jv_ev d 100 18 lc st h := jq_if (jv_insR jm_100 dX12_suits_15) rfl (by decide)
theorem e100_18 : jv_ev d 100 18 [x0, x1, x2, some (.int v), x4, x5] st h = jv_ev d 100 19 [x0, x1, x2, some (.int v), x4, x5] (.int v :: st) h := jq_nx (jv_insR jm_100 dX12_suits_18) rfl
theorem e100_19 : jv_ev d 100 19 lc st h = jv_ev d 100 20 lc (.int 1 :: st) h := jq_iconst (jv_insR jm_100 dX12_suits_19) (by decide)
theorem e100_20 : jv_ev d 100 20 lc st h = jv_ev d 100 22 lc (.int 6 :: st) h := jq_bipush (jv_insR jm_100 dX12_suits_20) (by decide)
theorem e100_22 : jv_ev d 100 22 lc [z2, z1, z0] h = (jv_cd d 40 [z0, z1, z2] h).bind fun r => jv_on r (fun v h => jv_ev d 100 25 lc (v.toList ++ []) h) (fun q h => some (.inr q, h)) := jq_S (as := [z0, z1, z2]) (rest := []) (jv_insR jm_100 dX12_suits_22) jo_100 jT_1_323 rfl rfl rfl rfl
theorem e100_25 : jv_ev d 100 25 lc (.int v :: st) h = if ¬ v = 0 then jv_ev d 100 30 lc st h else jv_ev d 100 28 lc st h := jq_if (jv_insR jm_100 dX12_suits_25) rfl (by decide)
theorem e100_28 : jv_ev d 100 28 lc st h = jv_ev d 100 29 lc (.int (-1) :: st) h := jq_iconst (jv_insR jm_100 dX12_suits_28) (by decide)
theorem e100_29 : jv_ev d 100 29 lc [.int v] h = some (.inl (some (.int v)), h) := jq_reti (jv_insR jm_100 dX12_suits_29) jr_100
theorem e100_30 : jv_ev d 100 30 lc st h = jv_ev d 100 32 lc (.int (-2) :: st) h := jq_bipush (jv_insR jm_100 dX12_suits_30) (by decide)
theorem e100_32 : jv_ev d 100 32 [x0, x1, x2, x3, x4, x5] (.int v :: st) h = jv_ev d 100 34 [x0, x1, x2, x3, some (.int v), x5] st h := jq_nx (jv_insR jm_100 dX12_suits_32) rfl
theorem e100_34 : jv_ev d 100 34 lc st h = jv_ev d 100 35 lc (.int 0 :: st) h := jq_iconst (jv_insR jm_100 dX12_suits_34) (by decide)
theorem e100_35 : jv_ev d 100 35 [x0, x1, x2, x3, x4, x5] (.int v :: st) h = jv_ev d 100 37 [x0, x1, x2, x3, x4, some (.int v)] st h := jq_nx (jv_insR jm_100 dX12_suits_35) rfl
theorem e100_37 : jv_ev d 100 37 [x0, x1, x2, x3, x4, some (.int v)] st h = jv_ev d 100 39 [x0, x1, x2, x3, x4, some (.int v)] (.int v :: st) h := jq_nx (jv_insR jm_100 dX12_suits_37) rfl
theorem e100_39 : jv_ev d 100 39 [some (.ref a), x1, x2, x3, x4, x5] st h = jv_ev d 100 40 [some (.ref a), x1, x2, x3, x4, x5] (.ref a :: st) h := jq_nx (jv_insR jm_100 dX12_suits_39) rfl
theorem e100_40 : jv_ev d 100 40 lc (.ref a :: st) h = (jv_gf h a [(0, 28, .array .int)]).bind fun r => jv_ev d 100 43 lc (r :: st) h := jq_get (jv_insR jm_100 dX12_suits_40) jo_100 jF_1_61
theorem e100_43 : jv_ev d 100 43 [some (.ref a), x1, x2, x3, x4, x5] st h = jv_ev d 100 44 [some (.ref a), x1, x2, x3, x4, x5] (.ref a :: st) h := jq_nx (jv_insR jm_100 dX12_suits_43) rfl
theorem e100_44 : jv_ev d 100 44 lc (.ref a :: st) h = (jv_gf h a [(0, 18, .int)]).bind fun r => jv_ev d 100 47 lc (r :: st) h := jq_get (jv_insR jm_100 dX12_suits_44) jo_100 jF_1_239
theorem e100_47 : jv_ev d 100 47 lc (.int v :: .ref a :: st) h = (jv_ig h a 0 0 v).bind fun w => jv_ev d 100 48 lc (.int w :: st) h := jq_iald (jv_insR jm_100 dX12_suits_47)
theorem e100_48 : jv_ev d 100 48 lc (.int w :: .int v :: st) h = if w ≤ v then jv_ev d 100 105 lc st h else jv_ev d 100 51 lc st h := jq_if (jv_insR jm_100 dX12_suits_48) rfl (by decide)
theorem e100_51 : jv_ev d 100 51 [some (.ref a), x1, x2, x3, x4, x5] st h = jv_ev d 100 52 [some (.ref a), x1, x2, x3, x4, x5] (.ref a :: st) h := jq_nx (jv_insR jm_100 dX12_suits_51) rfl
theorem e100_52 : jv_ev d 100 52 lc (.ref a :: st) h = (jv_gf h a [(0, 29, .array .int)]).bind fun r => jv_ev d 100 55 lc (r :: st) h := jq_get (jv_insR jm_100 dX12_suits_52) jo_100 jF_1_64
theorem e100_55 : jv_ev d 100 55 lc st h = jv_ev d 100 56 lc (.int 4 :: st) h := jq_iconst (jv_insR jm_100 dX12_suits_55) (by decide)
theorem e100_56 : jv_ev d 100 56 [some (.ref a), x1, x2, x3, x4, x5] st h = jv_ev d 100 57 [some (.ref a), x1, x2, x3, x4, x5] (.ref a :: st) h := jq_nx (jv_insR jm_100 dX12_suits_56) rfl
theorem e100_57 : jv_ev d 100 57 lc (.ref a :: st) h = (jv_gf h a [(0, 18, .int)]).bind fun r => jv_ev d 100 60 lc (r :: st) h := jq_get (jv_insR jm_100 dX12_suits_57) jo_100 jF_1_239
theorem e100_60 : jv_ev d 100 60 lc (.int w :: .int v :: st) h = jv_ev d 100 61 lc (.int (v * w) :: st) h := jq_nx (jv_insR jm_100 dX12_suits_60) rfl
theorem e100_61 : jv_ev d 100 61 [x0, x1, x2, x3, x4, some (.int v)] st h = jv_ev d 100 63 [x0, x1, x2, x3, x4, some (.int v)] (.int v :: st) h := jq_nx (jv_insR jm_100 dX12_suits_61) rfl
theorem e100_63 : jv_ev d 100 63 lc (.int w :: .int v :: st) h = jv_ev d 100 64 lc (.int (v + w) :: st) h := jq_nx (jv_insR jm_100 dX12_suits_63) rfl
theorem e100_64 : jv_ev d 100 64 lc (.int v :: .ref a :: st) h = (jv_ig h a 0 0 v).bind fun w => jv_ev d 100 65 lc (.int w :: st) h := jq_iald (jv_insR jm_100 dX12_suits_64)
theorem e100_65 : jv_ev d 100 65 [x0, x1, some (.int v), x3, x4, x5] st h = jv_ev d 100 66 [x0, x1, some (.int v), x3, x4, x5] (.int v :: st) h := jq_nx (jv_insR jm_100 dX12_suits_65) rfl
theorem e100_66 : jv_ev d 100 66 lc (.int w :: .int v :: st) h = if v < w then jv_ev d 100 99 lc st h else jv_ev d 100 69 lc st h := jq_if (jv_insR jm_100 dX12_suits_66) rfl (by decide)
theorem e100_69 : jv_ev d 100 69 [x0, x1, x2, x3, some (.int v), x5] st h = jv_ev d 100 71 [x0, x1, x2, x3, some (.int v), x5] (.int v :: st) h := jq_nx (jv_insR jm_100 dX12_suits_69) rfl
theorem e100_71 : jv_ev d 100 71 lc (.int v :: st) h = if v < 0 then jv_ev d 100 95 lc st h else jv_ev d 100 74 lc st h := jq_if (jv_insR jm_100 dX12_suits_71) rfl (by decide)
theorem e100_74 : jv_ev d 100 74 [some (.ref a), x1, x2, x3, x4, x5] st h = jv_ev d 100 75 [some (.ref a), x1, x2, x3, x4, x5] (.ref a :: st) h := jq_nx (jv_insR jm_100 dX12_suits_74) rfl
theorem e100_75 : jv_ev d 100 75 [x0, x1, x2, x3, x4, some (.int v)] st h = jv_ev d 100 77 [x0, x1, x2, x3, x4, some (.int v)] (.int v :: st) h := jq_nx (jv_insR jm_100 dX12_suits_75) rfl
theorem e100_77 : jv_ev d 100 77 [x0, some (.int v), x2, x3, x4, x5] st h = jv_ev d 100 78 [x0, some (.int v), x2, x3, x4, x5] (.int v :: st) h := jq_nx (jv_insR jm_100 dX12_suits_77) rfl
theorem e100_78 : jv_ev d 100 78 [x0, x1, some (.int v), x3, x4, x5] st h = jv_ev d 100 79 [x0, x1, some (.int v), x3, x4, x5] (.int v :: st) h := jq_nx (jv_insR jm_100 dX12_suits_78) rfl
theorem e100_79 : jv_ev d 100 79 [x0, x1, x2, some (.int v), x4, x5] st h = jv_ev d 100 80 [x0, x1, x2, some (.int v), x4, x5] (.int v :: st) h := jq_nx (jv_insR jm_100 dX12_suits_79) rfl
theorem e100_80 : jv_ev d 100 80 lc [z3, z2, z1, z0, .ref b] h = (jv_rc h b [(0, 97)]).bind fun y => (jv_cd d y [.ref b, z0, z1, z2, z3] h).bind fun r => jv_on r (fun v h => jv_ev d 100 83 lc (v.toList ++ []) h) (fun q h => some (.inr q, h)) := jq_V (as := [z0, z1, z2, z3]) (rest := []) (jv_insR jm_100 dX12_suits_80) jo_100 jV_1_451 rfl rfl rfl rfl
theorem e100_83 : jv_ev d 100 83 [some (.ref a), x1, x2, x3, x4, x5] st h = jv_ev d 100 84 [some (.ref a), x1, x2, x3, x4, x5] (.ref a :: st) h := jq_nx (jv_insR jm_100 dX12_suits_83) rfl
theorem e100_84 : jv_ev d 100 84 [x0, x1, x2, x3, some (.int v), x5] st h = jv_ev d 100 86 [x0, x1, x2, x3, some (.int v), x5] (.int v :: st) h := jq_nx (jv_insR jm_100 dX12_suits_84) rfl
theorem e100_86 : jv_ev d 100 86 [x0, some (.int v), x2, x3, x4, x5] st h = jv_ev d 100 87 [x0, some (.int v), x2, x3, x4, x5] (.int v :: st) h := jq_nx (jv_insR jm_100 dX12_suits_86) rfl
theorem e100_87 : jv_ev d 100 87 [x0, x1, some (.int v), x3, x4, x5] st h = jv_ev d 100 88 [x0, x1, some (.int v), x3, x4, x5] (.int v :: st) h := jq_nx (jv_insR jm_100 dX12_suits_87) rfl
theorem e100_88 : jv_ev d 100 88 [x0, x1, x2, some (.int v), x4, x5] st h = jv_ev d 100 89 [x0, x1, x2, some (.int v), x4, x5] (.int v :: st) h := jq_nx (jv_insR jm_100 dX12_suits_88) rfl
theorem e100_89 : jv_ev d 100 89 lc [z3, z2, z1, z0, .ref b, y0] h = (jv_rc h b [(0, 97)]).bind fun y => (jv_cd d y [.ref b, z0, z1, z2, z3] h).bind fun r => jv_on r (fun v h => jv_ev d 100 92 lc (v.toList ++ [y0]) h) (fun q h => some (.inr q, h)) := jq_V (as := [z0, z1, z2, z3]) (rest := [y0]) (jv_insR jm_100 dX12_suits_89) jo_100 jV_1_451 rfl rfl rfl rfl
theorem e100_92 : jv_ev d 100 92 lc (.int w :: .int v :: st) h = if w ≤ v then jv_ev d 100 99 lc st h else jv_ev d 100 95 lc st h := jq_if (jv_insR jm_100 dX12_suits_92) rfl (by decide)
theorem e100_95 : jv_ev d 100 95 [x0, x1, x2, x3, x4, some (.int v)] st h = jv_ev d 100 97 [x0, x1, x2, x3, x4, some (.int v)] (.int v :: st) h := jq_nx (jv_insR jm_100 dX12_suits_95) rfl
theorem e100_97 : jv_ev d 100 97 [x0, x1, x2, x3, x4, x5] (.int v :: st) h = jv_ev d 100 99 [x0, x1, x2, x3, some (.int v), x5] st h := jq_nx (jv_insR jm_100 dX12_suits_97) rfl
theorem e100_99 : jv_ev d 100 99 [x0, x1, x2, x3, x4, some (.int v)] st h = jv_ev d 100 102 [x0, x1, x2, x3, x4, some (.int (v + 1))] st h := jq_nx (jv_insR jm_100 dX12_suits_99) rfl
theorem e100_102 : jv_ev d 100 102 lc st h = jv_ev d 100 37 lc st h := jq_go (jv_insR jm_100 dX12_suits_102) (by decide)
theorem e100_105 : jv_ev d 100 105 [x0, x1, x2, x3, some (.int v), x5] st h = jv_ev d 100 107 [x0, x1, x2, x3, some (.int v), x5] (.int v :: st) h := jq_nx (jv_insR jm_100 dX12_suits_105) rfl
theorem e100_107 : jv_ev d 100 107 lc [.int v] h = some (.inl (some (.int v)), h) := jq_reti (jv_insR jm_100 dX12_suits_107) jr_100
/-! 101: RainLoomModel.now(IZ)I -/
theorem n101 : jv_cd (d + 1) 101 [.ref a0, .int i1, .int i2] h = jv_ev d 101 0 [some (.ref a0), some (.int i1), some (.int i2), none, none] [] h := rfl
theorem e101_0 : jv_ev d 101 0 [some (.ref a), x1, x2, x3, x4] st h = jv_ev d 101 1 [some (.ref a), x1, x2, x3, x4] (.ref a :: st) h := jq_nx (jv_insR jm_101 dX12_now_0) rfl
theorem e101_1 : jv_ev d 101 1 [x0, some (.int v), x2, x3, x4] st h = jv_ev d 101 2 [x0, some (.int v), x2, x3, x4] (.int v :: st) h := jq_nx (jv_insR jm_101 dX12_now_1) rfl
theorem e101_2 : jv_ev d 101 2 lc [z0, .ref b] h = (jv_rc h b [(0, 48)]).bind fun y => (jv_cd d y [.ref b, z0] h).bind fun r => jv_on r (fun v h => jv_ev d 101 5 lc (v.toList ++ []) h) (fun q h => some (.inr q, h)) := jq_V (as := [z0]) (rest := []) (jv_insR jm_101 dX12_now_2) jo_101 jV_1_387 rfl rfl rfl rfl
theorem e101_5 : jv_ev d 101 5 lc (.int v :: st) h = if ¬ v = 0 then jv_ev d 101 10 lc st h else jv_ev d 101 8 lc st h := jq_if (jv_insR jm_101 dX12_now_5) rfl (by decide)
theorem e101_8 : jv_ev d 101 8 lc st h = jv_ev d 101 9 lc (.int (-1) :: st) h := jq_iconst (jv_insR jm_101 dX12_now_8) (by decide)
theorem e101_9 : jv_ev d 101 9 lc [.int v] h = some (.inl (some (.int v)), h) := jq_reti (jv_insR jm_101 dX12_now_9) jr_101
theorem e101_10 : jv_ev d 101 10 [some (.ref a), x1, x2, x3, x4] st h = jv_ev d 101 11 [some (.ref a), x1, x2, x3, x4] (.ref a :: st) h := jq_nx (jv_insR jm_101 dX12_now_10) rfl
theorem e101_11 : jv_ev d 101 11 lc [.ref b] h = (jv_rc h b [(0, 41)]).bind fun y => (jv_cd d y [.ref b] h).bind fun r => jv_on r (fun v h => jv_ev d 101 14 lc (v.toList ++ []) h) (fun q h => some (.inr q, h)) := jq_V (as := []) (rest := []) (jv_insR jm_101 dX12_now_11) jo_101 jV_1_381 rfl rfl rfl rfl
theorem e101_14 : jv_ev d 101 14 lc st h = jv_ev d 101 15 lc (.int 0 :: st) h := jq_iconst (jv_insR jm_101 dX12_now_14) (by decide)
theorem e101_15 : jv_ev d 101 15 [x0, x1, x2, x3, x4] (.int v :: st) h = jv_ev d 101 16 [x0, x1, x2, some (.int v), x4] st h := jq_nx (jv_insR jm_101 dX12_now_15) rfl
theorem e101_16 : jv_ev d 101 16 lc st h = jv_ev d 101 17 lc (.int 0 :: st) h := jq_iconst (jv_insR jm_101 dX12_now_16) (by decide)
theorem e101_17 : jv_ev d 101 17 [x0, x1, x2, x3, x4] (.int v :: st) h = jv_ev d 101 19 [x0, x1, x2, x3, some (.int v)] st h := jq_nx (jv_insR jm_101 dX12_now_17) rfl
theorem e101_19 : jv_ev d 101 19 [x0, x1, x2, x3, some (.int v)] st h = jv_ev d 101 21 [x0, x1, x2, x3, some (.int v)] (.int v :: st) h := jq_nx (jv_insR jm_101 dX12_now_19) rfl
theorem e101_21 : jv_ev d 101 21 lc st h = jv_ev d 101 23 lc (.int 48 :: st) h := jq_bipush (jv_insR jm_101 dX12_now_21) (by decide)
theorem e101_23 : jv_ev d 101 23 lc (.int w :: .int v :: st) h = if w ≤ v then jv_ev d 101 79 lc st h else jv_ev d 101 26 lc st h := jq_if (jv_insR jm_101 dX12_now_23) rfl (by decide)
theorem e101_26 : jv_ev d 101 26 [some (.ref a), x1, x2, x3, x4] st h = jv_ev d 101 27 [some (.ref a), x1, x2, x3, x4] (.ref a :: st) h := jq_nx (jv_insR jm_101 dX12_now_26) rfl
theorem e101_27 : jv_ev d 101 27 [x0, x1, x2, x3, some (.int v)] st h = jv_ev d 101 29 [x0, x1, x2, x3, some (.int v)] (.int v :: st) h := jq_nx (jv_insR jm_101 dX12_now_27) rfl
theorem e101_29 : jv_ev d 101 29 lc [z0, .ref b] h = (jv_rc h b [(0, 50)]).bind fun y => (jv_cd d y [.ref b, z0] h).bind fun r => jv_on r (fun v h => jv_ev d 101 32 lc (v.toList ++ []) h) (fun q h => some (.inr q, h)) := jq_V (as := [z0]) (rest := []) (jv_insR jm_101 dX12_now_29) jo_101 jV_1_366 rfl rfl rfl rfl
theorem e101_32 : jv_ev d 101 32 lc (.int v :: st) h = if v = 0 then jv_ev d 101 73 lc st h else jv_ev d 101 35 lc st h := jq_if (jv_insR jm_101 dX12_now_32) rfl (by decide)
theorem e101_35 : jv_ev d 101 35 [some (.ref a), x1, x2, x3, x4] st h = jv_ev d 101 36 [some (.ref a), x1, x2, x3, x4] (.ref a :: st) h := jq_nx (jv_insR jm_101 dX12_now_35) rfl
theorem e101_36 : jv_ev d 101 36 [x0, x1, x2, x3, some (.int v)] st h = jv_ev d 101 38 [x0, x1, x2, x3, some (.int v)] (.int v :: st) h := jq_nx (jv_insR jm_101 dX12_now_36) rfl
theorem e101_38 : jv_ev d 101 38 lc [z0, .ref b] h = (jv_rc h b [(0, 42)]).bind fun y => (jv_cd d y [.ref b, z0] h).bind fun r => jv_on r (fun v h => jv_ev d 101 41 lc (v.toList ++ []) h) (fun q h => some (.inr q, h)) := jq_V (as := [z0]) (rest := []) (jv_insR jm_101 dX12_now_38) jo_101 jV_1_347 rfl rfl rfl rfl
theorem e101_41 : jv_ev d 101 41 [x0, some (.int v), x2, x3, x4] st h = jv_ev d 101 42 [x0, some (.int v), x2, x3, x4] (.int v :: st) h := jq_nx (jv_insR jm_101 dX12_now_41) rfl
theorem e101_42 : jv_ev d 101 42 lc (.int w :: .int v :: st) h = if ¬ v = w then jv_ev d 101 73 lc st h else jv_ev d 101 45 lc st h := jq_if (jv_insR jm_101 dX12_now_42) rfl (by decide)
theorem e101_45 : jv_ev d 101 45 [x0, x1, some (.int v), x3, x4] st h = jv_ev d 101 46 [x0, x1, some (.int v), x3, x4] (.int v :: st) h := jq_nx (jv_insR jm_101 dX12_now_45) rfl
theorem e101_46 : jv_ev d 101 46 lc (.int v :: st) h = if v = 0 then jv_ev d 101 61 lc st h else jv_ev d 101 49 lc st h := jq_if (jv_insR jm_101 dX12_now_46) rfl (by decide)
theorem e101_49 : jv_ev d 101 49 [some (.ref a), x1, x2, x3, x4] st h = jv_ev d 101 50 [some (.ref a), x1, x2, x3, x4] (.ref a :: st) h := jq_nx (jv_insR jm_101 dX12_now_49) rfl
theorem e101_50 : jv_ev d 101 50 [x0, x1, x2, x3, some (.int v)] st h = jv_ev d 101 52 [x0, x1, x2, x3, some (.int v)] (.int v :: st) h := jq_nx (jv_insR jm_101 dX12_now_50) rfl
theorem e101_52 : jv_ev d 101 52 lc [z0, .ref b] h = (jv_rc h b [(0, 45)]).bind fun y => (jv_cd d y [.ref b, z0] h).bind fun r => jv_on r (fun v h => jv_ev d 101 55 lc (v.toList ++ []) h) (fun q h => some (.inr q, h)) := jq_V (as := [z0]) (rest := []) (jv_insR jm_101 dX12_now_52) jo_101 jV_1_372 rfl rfl rfl rfl
theorem e101_55 : jv_ev d 101 55 lc (.int v :: st) h = if v = 0 then jv_ev d 101 73 lc st h else jv_ev d 101 58 lc st h := jq_if (jv_insR jm_101 dX12_now_55) rfl (by decide)
theorem e101_58 : jv_ev d 101 58 lc st h = jv_ev d 101 70 lc st h := jq_go (jv_insR jm_101 dX12_now_58) (by decide)
theorem e101_61 : jv_ev d 101 61 [some (.ref a), x1, x2, x3, x4] st h = jv_ev d 101 62 [some (.ref a), x1, x2, x3, x4] (.ref a :: st) h := jq_nx (jv_insR jm_101 dX12_now_61) rfl
theorem e101_62 : jv_ev d 101 62 [x0, x1, x2, x3, some (.int v)] st h = jv_ev d 101 64 [x0, x1, x2, x3, some (.int v)] (.int v :: st) h := jq_nx (jv_insR jm_101 dX12_now_62) rfl
theorem e101_64 : jv_ev d 101 64 lc [z0, .ref b] h = (jv_rc h b [(0, 43)]).bind fun y => (jv_cd d y [.ref b, z0] h).bind fun r => jv_on r (fun v h => jv_ev d 101 67 lc (v.toList ++ []) h) (fun q h => some (.inr q, h)) := jq_V (as := [z0]) (rest := []) (jv_insR jm_101 dX12_now_64) jo_101 jV_1_369 rfl rfl rfl rfl
theorem e101_67 : jv_ev d 101 67 lc (.int v :: st) h = if v = 0 then jv_ev d 101 73 lc st h else jv_ev d 101 70 lc st h := jq_if (jv_insR jm_101 dX12_now_67) rfl (by decide)
theorem e101_70 : jv_ev d 101 70 [x0, x1, x2, some (.int v), x4] st h = jv_ev d 101 73 [x0, x1, x2, some (.int (v + 1)), x4] st h := jq_nx (jv_insR jm_101 dX12_now_70) rfl
theorem e101_73 : jv_ev d 101 73 [x0, x1, x2, x3, some (.int v)] st h = jv_ev d 101 76 [x0, x1, x2, x3, some (.int (v + 1))] st h := jq_nx (jv_insR jm_101 dX12_now_73) rfl
theorem e101_76 : jv_ev d 101 76 lc st h = jv_ev d 101 19 lc st h := jq_go (jv_insR jm_101 dX12_now_76) (by decide)
theorem e101_79 : jv_ev d 101 79 [x0, x1, x2, some (.int v), x4] st h = jv_ev d 101 80 [x0, x1, x2, some (.int v), x4] (.int v :: st) h := jq_nx (jv_insR jm_101 dX12_now_79) rfl
theorem e101_80 : jv_ev d 101 80 lc [.int v] h = some (.inl (some (.int v)), h) := jq_reti (jv_insR jm_101 dX12_now_80) jr_101
/-! 102: RainLoomModel.year(II)I -/
theorem n102 : jv_cd (d + 1) 102 [.ref a0, .int i1, .int i2] h = jv_ev d 102 0 [some (.ref a0), some (.int i1), some (.int i2), none, none] [] h := rfl
theorem e102_0 : jv_ev d 102 0 [x0, some (.int v), x2, x3, x4] st h = jv_ev d 102 1 [x0, some (.int v), x2, x3, x4] (.int v :: st) h := jq_nx (jv_insR jm_102 dX12_year_0) rfl
theorem e102_1 : jv_ev d 102 1 lc [z0] h = (jv_cd d 89 [z0] h).bind fun r => jv_on r (fun v h => jv_ev d 102 4 lc (v.toList ++ []) h) (fun q h => some (.inr q, h)) := jq_S (as := [z0]) (rest := []) (jv_insR jm_102 dX12_year_1) jo_102 jT_1_442 rfl rfl rfl rfl
theorem e102_4 : jv_ev d 102 4 lc (.int v :: st) h = if v = 0 then jv_ev d 102 17 lc st h else jv_ev d 102 7 lc st h := jq_if (jv_insR jm_102 dX12_year_4) rfl (by decide)
theorem e102_7 : jv_ev d 102 7 [x0, x1, some (.int v), x3, x4] st h = jv_ev d 102 8 [x0, x1, some (.int v), x3, x4] (.int v :: st) h := jq_nx (jv_insR jm_102 dX12_year_7) rfl
theorem e102_8 : jv_ev d 102 8 lc st h = jv_ev d 102 9 lc (.int 1 :: st) h := jq_iconst (jv_insR jm_102 dX12_year_8) (by decide)
theorem e102_9 : jv_ev d 102 9 lc st h = jv_ev d 102 11 lc (.int 20 :: st) h := jq_bipush (jv_insR jm_102 dX12_year_9) (by decide)
theorem e102_11 : jv_ev d 102 11 lc [z2, z1, z0] h = (jv_cd d 40 [z0, z1, z2] h).bind fun r => jv_on r (fun v h => jv_ev d 102 14 lc (v.toList ++ []) h) (fun q h => some (.inr q, h)) := jq_S (as := [z0, z1, z2]) (rest := []) (jv_insR jm_102 dX12_year_11) jo_102 jT_1_323 rfl rfl rfl rfl
theorem e102_14 : jv_ev d 102 14 lc (.int v :: st) h = if ¬ v = 0 then jv_ev d 102 19 lc st h else jv_ev d 102 17 lc st h := jq_if (jv_insR jm_102 dX12_year_14) rfl (by decide)
theorem e102_17 : jv_ev d 102 17 lc st h = jv_ev d 102 18 lc (.int (-1) :: st) h := jq_iconst (jv_insR jm_102 dX12_year_17) (by decide)
theorem e102_18 : jv_ev d 102 18 lc [.int v] h = some (.inl (some (.int v)), h) := jq_reti (jv_insR jm_102 dX12_year_18) jr_102
theorem e102_19 : jv_ev d 102 19 lc st h = jv_ev d 102 20 lc (.int 0 :: st) h := jq_iconst (jv_insR jm_102 dX12_year_19) (by decide)
theorem e102_20 : jv_ev d 102 20 [x0, x1, x2, x3, x4] (.int v :: st) h = jv_ev d 102 21 [x0, x1, x2, some (.int v), x4] st h := jq_nx (jv_insR jm_102 dX12_year_20) rfl
theorem e102_21 : jv_ev d 102 21 lc st h = jv_ev d 102 22 lc (.int 0 :: st) h := jq_iconst (jv_insR jm_102 dX12_year_21) (by decide)
theorem e102_22 : jv_ev d 102 22 [x0, x1, x2, x3, x4] (.int v :: st) h = jv_ev d 102 24 [x0, x1, x2, x3, some (.int v)] st h := jq_nx (jv_insR jm_102 dX12_year_22) rfl
theorem e102_24 : jv_ev d 102 24 [x0, x1, x2, x3, some (.int v)] st h = jv_ev d 102 26 [x0, x1, x2, x3, some (.int v)] (.int v :: st) h := jq_nx (jv_insR jm_102 dX12_year_24) rfl
theorem e102_26 : jv_ev d 102 26 [x0, x1, some (.int v), x3, x4] st h = jv_ev d 102 27 [x0, x1, some (.int v), x3, x4] (.int v :: st) h := jq_nx (jv_insR jm_102 dX12_year_26) rfl
theorem e102_27 : jv_ev d 102 27 lc (.int w :: .int v :: st) h = if w ≤ v then jv_ev d 102 65 lc st h else jv_ev d 102 30 lc st h := jq_if (jv_insR jm_102 dX12_year_27) rfl (by decide)
theorem e102_30 : jv_ev d 102 30 [some (.ref a), x1, x2, x3, x4] st h = jv_ev d 102 31 [some (.ref a), x1, x2, x3, x4] (.ref a :: st) h := jq_nx (jv_insR jm_102 dX12_year_30) rfl
theorem e102_31 : jv_ev d 102 31 lc [.ref b] h = (jv_rc h b [(0, 41)]).bind fun y => (jv_cd d y [.ref b] h).bind fun r => jv_on r (fun v h => jv_ev d 102 34 lc (v.toList ++ []) h) (fun q h => some (.inr q, h)) := jq_V (as := []) (rest := []) (jv_insR jm_102 dX12_year_31) jo_102 jV_1_381 rfl rfl rfl rfl
theorem e102_34 : jv_ev d 102 34 [some (.ref a), x1, x2, x3, x4] st h = jv_ev d 102 35 [some (.ref a), x1, x2, x3, x4] (.ref a :: st) h := jq_nx (jv_insR jm_102 dX12_year_34) rfl
theorem e102_35 : jv_ev d 102 35 lc (.ref a :: st) h = jv_ev d 102 36 lc (.ref a :: .ref a :: st) h := jq_nx (jv_insR jm_102 dX12_year_35) rfl
theorem e102_36 : jv_ev d 102 36 lc (.ref a :: st) h = (jv_gf h a [(0, 52, .int)]).bind fun r => jv_ev d 102 39 lc (r :: st) h := jq_get (jv_insR jm_102 dX12_year_36) jo_102 jF_1_327
theorem e102_39 : jv_ev d 102 39 [x0, x1, x2, x3, some (.int v)] st h = jv_ev d 102 41 [x0, x1, x2, x3, some (.int v)] (.int v :: st) h := jq_nx (jv_insR jm_102 dX12_year_39) rfl
theorem e102_41 : jv_ev d 102 41 lc (.int w :: .int v :: st) h = jv_ev d 102 42 lc (.int (v + w) :: st) h := jq_nx (jv_insR jm_102 dX12_year_41) rfl
theorem e102_42 : jv_ev d 102 42 lc (r :: .ref a :: st) h = (jv_pf h a [(0, 52, .int)] r).bind fun h => jv_ev d 102 45 lc st h := jq_put (jv_insR jm_102 dX12_year_42) jo_102 ji_102 jG_1_327
theorem e102_45 : jv_ev d 102 45 [some (.ref a), x1, x2, x3, x4] st h = jv_ev d 102 46 [some (.ref a), x1, x2, x3, x4] (.ref a :: st) h := jq_nx (jv_insR jm_102 dX12_year_45) rfl
theorem e102_46 : jv_ev d 102 46 [x0, some (.int v), x2, x3, x4] st h = jv_ev d 102 47 [x0, some (.int v), x2, x3, x4] (.int v :: st) h := jq_nx (jv_insR jm_102 dX12_year_46) rfl
theorem e102_47 : jv_ev d 102 47 lc [z0, .ref b] h = (jv_rc h b [(0, 67)]).bind fun y => (jv_cd d y [.ref b, z0] h).bind fun r => jv_on r (fun v h => jv_ev d 102 50 lc (v.toList ++ []) h) (fun q h => some (.inr q, h)) := jq_V (as := [z0]) (rest := []) (jv_insR jm_102 dX12_year_47) jo_102 jV_1_402 rfl rfl rfl rfl
theorem e102_50 : jv_ev d 102 50 [x0, x1, x2, some (.int v), x4] st h = jv_ev d 102 51 [x0, x1, x2, some (.int v), x4] (.int v :: st) h := jq_nx (jv_insR jm_102 dX12_year_50) rfl
theorem e102_51 : jv_ev d 102 51 [some (.ref a), x1, x2, x3, x4] st h = jv_ev d 102 52 [some (.ref a), x1, x2, x3, x4] (.ref a :: st) h := jq_nx (jv_insR jm_102 dX12_year_51) rfl
theorem e102_52 : jv_ev d 102 52 lc st h = jv_ev d 102 54 lc (.int 76 :: st) h := jq_bipush (jv_insR jm_102 dX12_year_52) (by decide)
theorem e102_54 : jv_ev d 102 54 lc [z0, .ref b, y0] h = (jv_rc h b [(0, 91)]).bind fun y => (jv_cd d y [.ref b, z0] h).bind fun r => jv_on r (fun v h => jv_ev d 102 57 lc (v.toList ++ [y0]) h) (fun q h => some (.inr q, h)) := jq_V (as := [z0]) (rest := [y0]) (jv_insR jm_102 dX12_year_54) jo_102 jV_1_445 rfl rfl rfl rfl
theorem e102_57 : jv_ev d 102 57 lc (.int w :: .int v :: st) h = jv_ev d 102 58 lc (.int (v + w) :: st) h := jq_nx (jv_insR jm_102 dX12_year_57) rfl
theorem e102_58 : jv_ev d 102 58 [x0, x1, x2, x3, x4] (.int v :: st) h = jv_ev d 102 59 [x0, x1, x2, some (.int v), x4] st h := jq_nx (jv_insR jm_102 dX12_year_58) rfl
theorem e102_59 : jv_ev d 102 59 [x0, x1, x2, x3, some (.int v)] st h = jv_ev d 102 62 [x0, x1, x2, x3, some (.int (v + 1))] st h := jq_nx (jv_insR jm_102 dX12_year_59) rfl
theorem e102_62 : jv_ev d 102 62 lc st h = jv_ev d 102 24 lc st h := jq_go (jv_insR jm_102 dX12_year_62) (by decide)
theorem e102_65 : jv_ev d 102 65 [x0, x1, x2, some (.int v), x4] st h = jv_ev d 102 66 [x0, x1, x2, some (.int v), x4] (.int v :: st) h := jq_nx (jv_insR jm_102 dX12_year_65) rfl
theorem e102_66 : jv_ev d 102 66 lc [.int v] h = some (.inl (some (.int v)), h) := jq_reti (jv_insR jm_102 dX12_year_66) jr_102
/-! 103: RainLoomModel.tell(III)I -/
theorem n103 : jv_cd (d + 1) 103 [.ref a0, .int i1, .int i2, .int i3] h = jv_ev d 103 0 [some (.ref a0), some (.int i1), some (.int i2), some (.int i3)] [] h := rfl
theorem e103_0 : jv_ev d 103 0 [some (.ref a), x1, x2, x3] st h = jv_ev d 103 1 [some (.ref a), x1, x2, x3] (.ref a :: st) h := jq_nx (jv_insR jm_103 dX12_tell_0) rfl
theorem e103_1 : jv_ev d 103 1 lc (.ref a :: st) h = (jv_gf h a [(0, 65, .int)]).bind fun r => jv_ev d 103 4 lc (r :: st) h := jq_get (jv_insR jm_103 dX12_tell_1) jo_103 jF_1_268
theorem e103_4 : jv_ev d 103 4 lc st h = jv_ev d 103 6 lc (.int 20 :: st) h := jq_bipush (jv_insR jm_103 dX12_tell_4) (by decide)
theorem e103_6 : jv_ev d 103 6 lc (.int w :: .int v :: st) h = if v = w then jv_ev d 103 29 lc st h else jv_ev d 103 9 lc st h := jq_if (jv_insR jm_103 dX12_tell_6) rfl (by decide)
theorem e103_9 : jv_ev d 103 9 [some (.ref a), x1, x2, x3] st h = jv_ev d 103 10 [some (.ref a), x1, x2, x3] (.ref a :: st) h := jq_nx (jv_insR jm_103 dX12_tell_9) rfl
theorem e103_10 : jv_ev d 103 10 [x0, some (.int v), x2, x3] st h = jv_ev d 103 11 [x0, some (.int v), x2, x3] (.int v :: st) h := jq_nx (jv_insR jm_103 dX12_tell_10) rfl
theorem e103_11 : jv_ev d 103 11 [x0, x1, some (.int v), x3] st h = jv_ev d 103 12 [x0, x1, some (.int v), x3] (.int v :: st) h := jq_nx (jv_insR jm_103 dX12_tell_11) rfl
theorem e103_12 : jv_ev d 103 12 lc [z1, z0, .ref b] h = (jv_rc h b [(0, 39)]).bind fun y => (jv_cd d y [.ref b, z0, z1] h).bind fun r => jv_on r (fun v h => jv_ev d 103 15 lc (v.toList ++ []) h) (fun q h => some (.inr q, h)) := jq_V (as := [z0, z1]) (rest := []) (jv_insR jm_103 dX12_tell_12) jo_103 jV_1_343 rfl rfl rfl rfl
theorem e103_15 : jv_ev d 103 15 lc (.int v :: st) h = if v = 0 then jv_ev d 103 29 lc st h else jv_ev d 103 18 lc st h := jq_if (jv_insR jm_103 dX12_tell_15) rfl (by decide)
theorem e103_18 : jv_ev d 103 18 [x0, x1, x2, some (.int v)] st h = jv_ev d 103 19 [x0, x1, x2, some (.int v)] (.int v :: st) h := jq_nx (jv_insR jm_103 dX12_tell_18) rfl
theorem e103_19 : jv_ev d 103 19 lc st h = jv_ev d 103 20 lc (.int 0 :: st) h := jq_iconst (jv_insR jm_103 dX12_tell_19) (by decide)
theorem e103_20 : jv_ev d 103 20 lc st h = jv_ev d 103 23 lc (.int 999 :: st) h := jq_sipush (jv_insR jm_103 dX12_tell_20) (by decide)
theorem e103_23 : jv_ev d 103 23 lc [z2, z1, z0] h = (jv_cd d 40 [z0, z1, z2] h).bind fun r => jv_on r (fun v h => jv_ev d 103 26 lc (v.toList ++ []) h) (fun q h => some (.inr q, h)) := jq_S (as := [z0, z1, z2]) (rest := []) (jv_insR jm_103 dX12_tell_23) jo_103 jT_1_323 rfl rfl rfl rfl
theorem e103_26 : jv_ev d 103 26 lc (.int v :: st) h = if ¬ v = 0 then jv_ev d 103 31 lc st h else jv_ev d 103 29 lc st h := jq_if (jv_insR jm_103 dX12_tell_26) rfl (by decide)
theorem e103_29 : jv_ev d 103 29 lc st h = jv_ev d 103 30 lc (.int (-1) :: st) h := jq_iconst (jv_insR jm_103 dX12_tell_29) (by decide)
theorem e103_30 : jv_ev d 103 30 lc [.int v] h = some (.inl (some (.int v)), h) := jq_reti (jv_insR jm_103 dX12_tell_30) jr_103
theorem e103_31 : jv_ev d 103 31 [some (.ref a), x1, x2, x3] st h = jv_ev d 103 32 [some (.ref a), x1, x2, x3] (.ref a :: st) h := jq_nx (jv_insR jm_103 dX12_tell_31) rfl
theorem e103_32 : jv_ev d 103 32 lc (.ref a :: st) h = (jv_gf h a [(0, 66, .array .int)]).bind fun r => jv_ev d 103 35 lc (r :: st) h := jq_get (jv_insR jm_103 dX12_tell_32) jo_103 jF_1_140
theorem e103_35 : jv_ev d 103 35 [some (.ref a), x1, x2, x3] st h = jv_ev d 103 36 [some (.ref a), x1, x2, x3] (.ref a :: st) h := jq_nx (jv_insR jm_103 dX12_tell_35) rfl
theorem e103_36 : jv_ev d 103 36 lc (.ref a :: st) h = (jv_gf h a [(0, 65, .int)]).bind fun r => jv_ev d 103 39 lc (r :: st) h := jq_get (jv_insR jm_103 dX12_tell_36) jo_103 jF_1_268
theorem e103_39 : jv_ev d 103 39 lc st h = jv_ev d 103 41 lc (.int 8 :: st) h := jq_bipush (jv_insR jm_103 dX12_tell_39) (by decide)
theorem e103_41 : jv_ev d 103 41 [x0, x1, some (.int v), x3] st h = jv_ev d 103 42 [x0, x1, some (.int v), x3] (.int v :: st) h := jq_nx (jv_insR jm_103 dX12_tell_41) rfl
theorem e103_42 : jv_ev d 103 42 lc (.int w :: .int v :: st) h = jv_ev d 103 43 lc (.int (v * w) :: st) h := jq_nx (jv_insR jm_103 dX12_tell_42) rfl
theorem e103_43 : jv_ev d 103 43 [x0, some (.int v), x2, x3] st h = jv_ev d 103 44 [x0, some (.int v), x2, x3] (.int v :: st) h := jq_nx (jv_insR jm_103 dX12_tell_43) rfl
theorem e103_44 : jv_ev d 103 44 lc (.int w :: .int v :: st) h = jv_ev d 103 45 lc (.int (v + w) :: st) h := jq_nx (jv_insR jm_103 dX12_tell_44) rfl
theorem e103_45 : jv_ev d 103 45 lc (.int w :: .int v :: .ref a :: st) h = (jv_ip h a 0 0 v w).bind fun h => jv_ev d 103 46 lc st h := jq_iast (jv_insR jm_103 dX12_tell_45)
theorem e103_46 : jv_ev d 103 46 [some (.ref a), x1, x2, x3] st h = jv_ev d 103 47 [some (.ref a), x1, x2, x3] (.ref a :: st) h := jq_nx (jv_insR jm_103 dX12_tell_46) rfl
theorem e103_47 : jv_ev d 103 47 lc (.ref a :: st) h = (jv_gf h a [(0, 67, .array .int)]).bind fun r => jv_ev d 103 50 lc (r :: st) h := jq_get (jv_insR jm_103 dX12_tell_47) jo_103 jF_1_143
theorem e103_50 : jv_ev d 103 50 [some (.ref a), x1, x2, x3] st h = jv_ev d 103 51 [some (.ref a), x1, x2, x3] (.ref a :: st) h := jq_nx (jv_insR jm_103 dX12_tell_50) rfl
theorem e103_51 : jv_ev d 103 51 lc (.ref a :: st) h = (jv_gf h a [(0, 65, .int)]).bind fun r => jv_ev d 103 54 lc (r :: st) h := jq_get (jv_insR jm_103 dX12_tell_51) jo_103 jF_1_268
theorem e103_54 : jv_ev d 103 54 [x0, x1, x2, some (.int v)] st h = jv_ev d 103 55 [x0, x1, x2, some (.int v)] (.int v :: st) h := jq_nx (jv_insR jm_103 dX12_tell_54) rfl
theorem e103_55 : jv_ev d 103 55 lc (.int w :: .int v :: .ref a :: st) h = (jv_ip h a 0 0 v w).bind fun h => jv_ev d 103 56 lc st h := jq_iast (jv_insR jm_103 dX12_tell_55)
theorem e103_56 : jv_ev d 103 56 [some (.ref a), x1, x2, x3] st h = jv_ev d 103 57 [some (.ref a), x1, x2, x3] (.ref a :: st) h := jq_nx (jv_insR jm_103 dX12_tell_56) rfl
theorem e103_57 : jv_ev d 103 57 lc (.ref a :: st) h = jv_ev d 103 58 lc (.ref a :: .ref a :: st) h := jq_nx (jv_insR jm_103 dX12_tell_57) rfl
theorem e103_58 : jv_ev d 103 58 lc (.ref a :: st) h = (jv_gf h a [(0, 65, .int)]).bind fun r => jv_ev d 103 61 lc (r :: st) h := jq_get (jv_insR jm_103 dX12_tell_58) jo_103 jF_1_268
theorem e103_61 : jv_ev d 103 61 lc st h = jv_ev d 103 62 lc (.int 1 :: st) h := jq_iconst (jv_insR jm_103 dX12_tell_61) (by decide)
theorem e103_62 : jv_ev d 103 62 lc (.int w :: .int v :: st) h = jv_ev d 103 63 lc (.int (v + w) :: st) h := jq_nx (jv_insR jm_103 dX12_tell_62) rfl
theorem e103_63 : jv_ev d 103 63 lc (r :: .ref a :: st) h = (jv_pf h a [(0, 65, .int)] r).bind fun h => jv_ev d 103 66 lc st h := jq_put (jv_insR jm_103 dX12_tell_63) jo_103 ji_103 jG_1_268
theorem e103_66 : jv_ev d 103 66 [some (.ref a), x1, x2, x3] st h = jv_ev d 103 67 [some (.ref a), x1, x2, x3] (.ref a :: st) h := jq_nx (jv_insR jm_103 dX12_tell_66) rfl
theorem e103_67 : jv_ev d 103 67 lc (.ref a :: st) h = (jv_gf h a [(0, 65, .int)]).bind fun r => jv_ev d 103 70 lc (r :: st) h := jq_get (jv_insR jm_103 dX12_tell_67) jo_103 jF_1_268
theorem e103_70 : jv_ev d 103 70 lc st h = jv_ev d 103 71 lc (.int 1 :: st) h := jq_iconst (jv_insR jm_103 dX12_tell_70) (by decide)
theorem e103_71 : jv_ev d 103 71 lc (.int w :: .int v :: st) h = jv_ev d 103 72 lc (.int (v - w) :: st) h := jq_nx (jv_insR jm_103 dX12_tell_71) rfl
theorem e103_72 : jv_ev d 103 72 lc [.int v] h = some (.inl (some (.int v)), h) := jq_reti (jv_insR jm_103 dX12_tell_72) jr_103
/-! 104: RainLoomModel.forget()I -/
theorem n104 : jv_cd (d + 1) 104 [.ref a0] h = jv_ev d 104 0 [some (.ref a0), none] [] h := rfl
theorem e104_0 : jv_ev d 104 0 [some (.ref a), x1] st h = jv_ev d 104 1 [some (.ref a), x1] (.ref a :: st) h := jq_nx (jv_insR jm_104 dX12_forget_0) rfl
theorem e104_1 : jv_ev d 104 1 lc (.ref a :: st) h = (jv_gf h a [(0, 65, .int)]).bind fun r => jv_ev d 104 4 lc (r :: st) h := jq_get (jv_insR jm_104 dX12_forget_1) jo_104 jF_1_268
theorem e104_4 : jv_ev d 104 4 [x0, x1] (.int v :: st) h = jv_ev d 104 5 [x0, some (.int v)] st h := jq_nx (jv_insR jm_104 dX12_forget_4) rfl
theorem e104_5 : jv_ev d 104 5 [some (.ref a), x1] st h = jv_ev d 104 6 [some (.ref a), x1] (.ref a :: st) h := jq_nx (jv_insR jm_104 dX12_forget_5) rfl
theorem e104_6 : jv_ev d 104 6 lc st h = jv_ev d 104 7 lc (.int 0 :: st) h := jq_iconst (jv_insR jm_104 dX12_forget_6) (by decide)
theorem e104_7 : jv_ev d 104 7 lc (r :: .ref a :: st) h = (jv_pf h a [(0, 65, .int)] r).bind fun h => jv_ev d 104 10 lc st h := jq_put (jv_insR jm_104 dX12_forget_7) jo_104 ji_104 jG_1_268
theorem e104_10 : jv_ev d 104 10 [x0, some (.int v)] st h = jv_ev d 104 11 [x0, some (.int v)] (.int v :: st) h := jq_nx (jv_insR jm_104 dX12_forget_10) rfl
theorem e104_11 : jv_ev d 104 11 lc [.int v] h = some (.inl (some (.int v)), h) := jq_reti (jv_insR jm_104 dX12_forget_11) jr_104
/-! 105: RainLoomModel.fell(IIII)I -/
theorem n105 : jv_cd (d + 1) 105 [.ref a0, .int i1, .int i2, .int i3, .int i4] h = jv_ev d 105 0 [some (.ref a0), some (.int i1), some (.int i2), some (.int i3), some (.int i4), none, none] [] h := rfl
theorem e105_0 : jv_ev d 105 0 [some (.ref a), x1, x2, x3, x4, x5, x6] st h = jv_ev d 105 1 [some (.ref a), x1, x2, x3, x4, x5, x6] (.ref a :: st) h := jq_nx (jv_insR jm_105 dX12_fell_0) rfl
theorem e105_1 : jv_ev d 105 1 [x0, some (.int v), x2, x3, x4, x5, x6] st h = jv_ev d 105 2 [x0, some (.int v), x2, x3, x4, x5, x6] (.int v :: st) h := jq_nx (jv_insR jm_105 dX12_fell_1) rfl
theorem e105_2 : jv_ev d 105 2 [x0, x1, some (.int v), x3, x4, x5, x6] st h = jv_ev d 105 3 [x0, x1, some (.int v), x3, x4, x5, x6] (.int v :: st) h := jq_nx (jv_insR jm_105 dX12_fell_2) rfl
theorem e105_3 : jv_ev d 105 3 [x0, x1, x2, some (.int v), x4, x5, x6] st h = jv_ev d 105 4 [x0, x1, x2, some (.int v), x4, x5, x6] (.int v :: st) h := jq_nx (jv_insR jm_105 dX12_fell_3) rfl
theorem e105_4 : jv_ev d 105 4 lc [z2, z1, z0, .ref b] h = (jv_rc h b [(0, 106)]).bind fun y => (jv_cd d y [.ref b, z0, z1, z2] h).bind fun r => jv_on r (fun v h => jv_ev d 105 7 lc (v.toList ++ []) h) (fun q h => some (.inr q, h)) := jq_V (as := [z0, z1, z2]) (rest := []) (jv_insR jm_105 dX12_fell_4) jo_105 jV_1_470 rfl rfl rfl rfl
theorem e105_7 : jv_ev d 105 7 lc (.int v :: st) h = if v = 0 then jv_ev d 105 16 lc st h else jv_ev d 105 10 lc st h := jq_if (jv_insR jm_105 dX12_fell_7) rfl (by decide)
theorem e105_10 : jv_ev d 105 10 [x0, x1, x2, x3, some (.int v), x5, x6] st h = jv_ev d 105 12 [x0, x1, x2, x3, some (.int v), x5, x6] (.int v :: st) h := jq_nx (jv_insR jm_105 dX12_fell_10) rfl
theorem e105_12 : jv_ev d 105 12 lc st h = jv_ev d 105 13 lc (.int (-1) :: st) h := jq_iconst (jv_insR jm_105 dX12_fell_12) (by decide)
theorem e105_13 : jv_ev d 105 13 lc (.int w :: .int v :: st) h = if w ≤ v then jv_ev d 105 18 lc st h else jv_ev d 105 16 lc st h := jq_if (jv_insR jm_105 dX12_fell_13) rfl (by decide)
theorem e105_16 : jv_ev d 105 16 lc st h = jv_ev d 105 17 lc (.int (-1) :: st) h := jq_iconst (jv_insR jm_105 dX12_fell_16) (by decide)
theorem e105_17 : jv_ev d 105 17 lc [.int v] h = some (.inl (some (.int v)), h) := jq_reti (jv_insR jm_105 dX12_fell_17) jr_105
theorem e105_18 : jv_ev d 105 18 lc st h = jv_ev d 105 19 lc (.int 0 :: st) h := jq_iconst (jv_insR jm_105 dX12_fell_18) (by decide)
theorem e105_19 : jv_ev d 105 19 [x0, x1, x2, x3, x4, x5, x6] (.int v :: st) h = jv_ev d 105 21 [x0, x1, x2, x3, x4, some (.int v), x6] st h := jq_nx (jv_insR jm_105 dX12_fell_19) rfl
theorem e105_21 : jv_ev d 105 21 lc st h = jv_ev d 105 22 lc (.int 0 :: st) h := jq_iconst (jv_insR jm_105 dX12_fell_21) (by decide)
theorem e105_22 : jv_ev d 105 22 [x0, x1, x2, x3, x4, x5, x6] (.int v :: st) h = jv_ev d 105 24 [x0, x1, x2, x3, x4, x5, some (.int v)] st h := jq_nx (jv_insR jm_105 dX12_fell_22) rfl
theorem e105_24 : jv_ev d 105 24 [x0, x1, x2, x3, x4, x5, some (.int v)] st h = jv_ev d 105 26 [x0, x1, x2, x3, x4, x5, some (.int v)] (.int v :: st) h := jq_nx (jv_insR jm_105 dX12_fell_24) rfl
theorem e105_26 : jv_ev d 105 26 lc st h = jv_ev d 105 29 lc (.int 256 :: st) h := jq_sipush (jv_insR jm_105 dX12_fell_26) (by decide)
theorem e105_29 : jv_ev d 105 29 lc (.int w :: .int v :: st) h = if w ≤ v then jv_ev d 105 90 lc st h else jv_ev d 105 32 lc st h := jq_if (jv_insR jm_105 dX12_fell_29) rfl (by decide)
theorem e105_32 : jv_ev d 105 32 [some (.ref a), x1, x2, x3, x4, x5, x6] st h = jv_ev d 105 33 [some (.ref a), x1, x2, x3, x4, x5, x6] (.ref a :: st) h := jq_nx (jv_insR jm_105 dX12_fell_32) rfl
theorem e105_33 : jv_ev d 105 33 [x0, x1, x2, x3, x4, x5, some (.int v)] st h = jv_ev d 105 35 [x0, x1, x2, x3, x4, x5, some (.int v)] (.int v :: st) h := jq_nx (jv_insR jm_105 dX12_fell_33) rfl
theorem e105_35 : jv_ev d 105 35 [x0, x1, some (.int v), x3, x4, x5, x6] st h = jv_ev d 105 36 [x0, x1, some (.int v), x3, x4, x5, x6] (.int v :: st) h := jq_nx (jv_insR jm_105 dX12_fell_35) rfl
theorem e105_36 : jv_ev d 105 36 [x0, x1, x2, some (.int v), x4, x5, x6] st h = jv_ev d 105 37 [x0, x1, x2, some (.int v), x4, x5, x6] (.int v :: st) h := jq_nx (jv_insR jm_105 dX12_fell_36) rfl
theorem e105_37 : jv_ev d 105 37 [x0, some (.int v), x2, x3, x4, x5, x6] st h = jv_ev d 105 38 [x0, some (.int v), x2, x3, x4, x5, x6] (.int v :: st) h := jq_nx (jv_insR jm_105 dX12_fell_37) rfl
theorem e105_38 : jv_ev d 105 38 lc [z3, z2, z1, z0, .ref b] h = (jv_rc h b [(0, 107)]).bind fun y => (jv_cd d y [.ref b, z0, z1, z2, z3] h).bind fun r => jv_on r (fun v h => jv_ev d 105 41 lc (v.toList ++ []) h) (fun q h => some (.inr q, h)) := jq_V (as := [z0, z1, z2, z3]) (rest := []) (jv_insR jm_105 dX12_fell_38) jo_105 jV_1_473 rfl rfl rfl rfl
theorem e105_41 : jv_ev d 105 41 lc (.int v :: st) h = if ¬ v = 0 then jv_ev d 105 47 lc st h else jv_ev d 105 44 lc st h := jq_if (jv_insR jm_105 dX12_fell_41) rfl (by decide)
theorem e105_44 : jv_ev d 105 44 lc st h = jv_ev d 105 84 lc st h := jq_go (jv_insR jm_105 dX12_fell_44) (by decide)
theorem e105_47 : jv_ev d 105 47 [x0, x1, x2, x3, x4, some (.int v), x6] st h = jv_ev d 105 49 [x0, x1, x2, x3, x4, some (.int v), x6] (.int v :: st) h := jq_nx (jv_insR jm_105 dX12_fell_47) rfl
theorem e105_49 : jv_ev d 105 49 [x0, x1, x2, x3, some (.int v), x5, x6] st h = jv_ev d 105 51 [x0, x1, x2, x3, some (.int v), x5, x6] (.int v :: st) h := jq_nx (jv_insR jm_105 dX12_fell_49) rfl
theorem e105_51 : jv_ev d 105 51 lc (.int w :: .int v :: st) h = if ¬ v = w then jv_ev d 105 81 lc st h else jv_ev d 105 54 lc st h := jq_if (jv_insR jm_105 dX12_fell_51) rfl (by decide)
theorem e105_54 : jv_ev d 105 54 lc st h = jv_ev d 105 56 lc (.int 100 :: st) h := jq_bipush (jv_insR jm_105 dX12_fell_54) (by decide)
theorem e105_56 : jv_ev d 105 56 [x0, x1, x2, x3, x4, x5, some (.int v)] st h = jv_ev d 105 58 [x0, x1, x2, x3, x4, x5, some (.int v)] (.int v :: st) h := jq_nx (jv_insR jm_105 dX12_fell_56) rfl
theorem e105_58 : jv_ev d 105 58 lc st h = jv_ev d 105 60 lc (.int 64 :: st) h := jq_bipush (jv_insR jm_105 dX12_fell_58) (by decide)
theorem e105_60 : jv_ev d 105 60 lc (.int w :: .int v :: st) h = if w = 0 then none else jv_ev d 105 61 lc (.int (v / w) :: st) h := jq_idiv (jv_insR jm_105 dX12_fell_60)
theorem e105_61 : jv_ev d 105 61 lc (.int w :: .int v :: st) h = jv_ev d 105 62 lc (.int (v * w) :: st) h := jq_nx (jv_insR jm_105 dX12_fell_61) rfl
theorem e105_62 : jv_ev d 105 62 lc st h = jv_ev d 105 64 lc (.int 10 :: st) h := jq_bipush (jv_insR jm_105 dX12_fell_62) (by decide)
theorem e105_64 : jv_ev d 105 64 [x0, x1, x2, x3, x4, x5, some (.int v)] st h = jv_ev d 105 66 [x0, x1, x2, x3, x4, x5, some (.int v)] (.int v :: st) h := jq_nx (jv_insR jm_105 dX12_fell_64) rfl
theorem e105_66 : jv_ev d 105 66 lc st h = jv_ev d 105 68 lc (.int 8 :: st) h := jq_bipush (jv_insR jm_105 dX12_fell_66) (by decide)
theorem e105_68 : jv_ev d 105 68 lc (.int w :: .int v :: st) h = if w = 0 then none else jv_ev d 105 69 lc (.int (v / w) :: st) h := jq_idiv (jv_insR jm_105 dX12_fell_68)
theorem e105_69 : jv_ev d 105 69 lc st h = jv_ev d 105 71 lc (.int 8 :: st) h := jq_bipush (jv_insR jm_105 dX12_fell_69) (by decide)
theorem e105_71 : jv_ev d 105 71 lc (.int w :: .int v :: st) h = if w = 0 then none else jv_ev d 105 72 lc (.int (v - v / w * w) :: st) h := jq_irem (jv_insR jm_105 dX12_fell_71)
theorem e105_72 : jv_ev d 105 72 lc (.int w :: .int v :: st) h = jv_ev d 105 73 lc (.int (v * w) :: st) h := jq_nx (jv_insR jm_105 dX12_fell_72) rfl
theorem e105_73 : jv_ev d 105 73 lc (.int w :: .int v :: st) h = jv_ev d 105 74 lc (.int (v + w) :: st) h := jq_nx (jv_insR jm_105 dX12_fell_73) rfl
theorem e105_74 : jv_ev d 105 74 [x0, x1, x2, x3, x4, x5, some (.int v)] st h = jv_ev d 105 76 [x0, x1, x2, x3, x4, x5, some (.int v)] (.int v :: st) h := jq_nx (jv_insR jm_105 dX12_fell_74) rfl
theorem e105_76 : jv_ev d 105 76 lc st h = jv_ev d 105 78 lc (.int 8 :: st) h := jq_bipush (jv_insR jm_105 dX12_fell_76) (by decide)
theorem e105_78 : jv_ev d 105 78 lc (.int w :: .int v :: st) h = if w = 0 then none else jv_ev d 105 79 lc (.int (v - v / w * w) :: st) h := jq_irem (jv_insR jm_105 dX12_fell_78)
theorem e105_79 : jv_ev d 105 79 lc (.int w :: .int v :: st) h = jv_ev d 105 80 lc (.int (v + w) :: st) h := jq_nx (jv_insR jm_105 dX12_fell_79) rfl
theorem e105_80 : jv_ev d 105 80 lc [.int v] h = some (.inl (some (.int v)), h) := jq_reti (jv_insR jm_105 dX12_fell_80) jr_105
theorem e105_81 : jv_ev d 105 81 [x0, x1, x2, x3, x4, some (.int v), x6] st h = jv_ev d 105 84 [x0, x1, x2, x3, x4, some (.int (v + 1)), x6] st h := jq_nx (jv_insR jm_105 dX12_fell_81) rfl
theorem e105_84 : jv_ev d 105 84 [x0, x1, x2, x3, x4, x5, some (.int v)] st h = jv_ev d 105 87 [x0, x1, x2, x3, x4, x5, some (.int (v + 1))] st h := jq_nx (jv_insR jm_105 dX12_fell_84) rfl
theorem e105_87 : jv_ev d 105 87 lc st h = jv_ev d 105 24 lc st h := jq_go (jv_insR jm_105 dX12_fell_87) (by decide)
theorem e105_90 : jv_ev d 105 90 [x0, x1, x2, x3, some (.int v), x5, x6] st h = jv_ev d 105 92 [x0, x1, x2, x3, some (.int v), x5, x6] (.int v :: st) h := jq_nx (jv_insR jm_105 dX12_fell_90) rfl
theorem e105_92 : jv_ev d 105 92 lc st h = jv_ev d 105 93 lc (.int (-1) :: st) h := jq_iconst (jv_insR jm_105 dX12_fell_92) (by decide)
theorem e105_93 : jv_ev d 105 93 lc (.int w :: .int v :: st) h = if ¬ v = w then jv_ev d 105 101 lc st h else jv_ev d 105 96 lc st h := jq_if (jv_insR jm_105 dX12_fell_93) rfl (by decide)
theorem e105_96 : jv_ev d 105 96 [x0, x1, x2, x3, x4, some (.int v), x6] st h = jv_ev d 105 98 [x0, x1, x2, x3, x4, some (.int v), x6] (.int v :: st) h := jq_nx (jv_insR jm_105 dX12_fell_96) rfl
theorem e105_98 : jv_ev d 105 98 lc st h = jv_ev d 105 102 lc st h := jq_go (jv_insR jm_105 dX12_fell_98) (by decide)
theorem e105_101 : jv_ev d 105 101 lc st h = jv_ev d 105 102 lc (.int (-1) :: st) h := jq_iconst (jv_insR jm_105 dX12_fell_101) (by decide)
theorem e105_102 : jv_ev d 105 102 lc [.int v] h = some (.inl (some (.int v)), h) := jq_reti (jv_insR jm_105 dX12_fell_102) jr_105
/-! 106: RainLoomModel.isAsked(III)Z -/
theorem n106 : jv_cd (d + 1) 106 [.ref a0, .int i1, .int i2, .int i3] h = jv_ev d 106 0 [some (.ref a0), some (.int i1), some (.int i2), some (.int i3)] [] h := rfl
theorem e106_0 : jv_ev d 106 0 [x0, some (.int v), x2, x3] st h = jv_ev d 106 1 [x0, some (.int v), x2, x3] (.int v :: st) h := jq_nx (jv_insR jm_106 dX12_isAsked_0) rfl
theorem e106_1 : jv_ev d 106 1 lc st h = jv_ev d 106 2 lc (.int 0 :: st) h := jq_iconst (jv_insR jm_106 dX12_isAsked_1) (by decide)
theorem e106_2 : jv_ev d 106 2 [some (.ref a), x1, x2, x3] st h = jv_ev d 106 3 [some (.ref a), x1, x2, x3] (.ref a :: st) h := jq_nx (jv_insR jm_106 dX12_isAsked_2) rfl
theorem e106_3 : jv_ev d 106 3 lc (.ref a :: st) h = (jv_gf h a [(0, 65, .int)]).bind fun r => jv_ev d 106 6 lc (r :: st) h := jq_get (jv_insR jm_106 dX12_isAsked_3) jo_106 jF_1_268
theorem e106_6 : jv_ev d 106 6 lc [z2, z1, z0] h = (jv_cd d 40 [z0, z1, z2] h).bind fun r => jv_on r (fun v h => jv_ev d 106 9 lc (v.toList ++ []) h) (fun q h => some (.inr q, h)) := jq_S (as := [z0, z1, z2]) (rest := []) (jv_insR jm_106 dX12_isAsked_6) jo_106 jT_1_323 rfl rfl rfl rfl
theorem e106_9 : jv_ev d 106 9 lc (.int v :: st) h = if v = 0 then jv_ev d 106 36 lc st h else jv_ev d 106 12 lc st h := jq_if (jv_insR jm_106 dX12_isAsked_9) rfl (by decide)
theorem e106_12 : jv_ev d 106 12 [x0, x1, some (.int v), x3] st h = jv_ev d 106 13 [x0, x1, some (.int v), x3] (.int v :: st) h := jq_nx (jv_insR jm_106 dX12_isAsked_12) rfl
theorem e106_13 : jv_ev d 106 13 lc st h = jv_ev d 106 14 lc (.int 1 :: st) h := jq_iconst (jv_insR jm_106 dX12_isAsked_13) (by decide)
theorem e106_14 : jv_ev d 106 14 lc st h = jv_ev d 106 16 lc (.int 8 :: st) h := jq_bipush (jv_insR jm_106 dX12_isAsked_14) (by decide)
theorem e106_16 : jv_ev d 106 16 lc [z2, z1, z0] h = (jv_cd d 40 [z0, z1, z2] h).bind fun r => jv_on r (fun v h => jv_ev d 106 19 lc (v.toList ++ []) h) (fun q h => some (.inr q, h)) := jq_S (as := [z0, z1, z2]) (rest := []) (jv_insR jm_106 dX12_isAsked_16) jo_106 jT_1_323 rfl rfl rfl rfl
theorem e106_19 : jv_ev d 106 19 lc (.int v :: st) h = if v = 0 then jv_ev d 106 36 lc st h else jv_ev d 106 22 lc st h := jq_if (jv_insR jm_106 dX12_isAsked_19) rfl (by decide)
theorem e106_22 : jv_ev d 106 22 [x0, x1, x2, some (.int v)] st h = jv_ev d 106 23 [x0, x1, x2, some (.int v)] (.int v :: st) h := jq_nx (jv_insR jm_106 dX12_isAsked_22) rfl
theorem e106_23 : jv_ev d 106 23 lc st h = jv_ev d 106 24 lc (.int 1 :: st) h := jq_iconst (jv_insR jm_106 dX12_isAsked_23) (by decide)
theorem e106_24 : jv_ev d 106 24 lc st h = jv_ev d 106 26 lc (.int 6 :: st) h := jq_bipush (jv_insR jm_106 dX12_isAsked_24) (by decide)
theorem e106_26 : jv_ev d 106 26 lc [z2, z1, z0] h = (jv_cd d 40 [z0, z1, z2] h).bind fun r => jv_on r (fun v h => jv_ev d 106 29 lc (v.toList ++ []) h) (fun q h => some (.inr q, h)) := jq_S (as := [z0, z1, z2]) (rest := []) (jv_insR jm_106 dX12_isAsked_26) jo_106 jT_1_323 rfl rfl rfl rfl
theorem e106_29 : jv_ev d 106 29 lc (.int v :: st) h = if v = 0 then jv_ev d 106 36 lc st h else jv_ev d 106 32 lc st h := jq_if (jv_insR jm_106 dX12_isAsked_29) rfl (by decide)
theorem e106_32 : jv_ev d 106 32 lc st h = jv_ev d 106 33 lc (.int 1 :: st) h := jq_iconst (jv_insR jm_106 dX12_isAsked_32) (by decide)
theorem e106_33 : jv_ev d 106 33 lc st h = jv_ev d 106 37 lc st h := jq_go (jv_insR jm_106 dX12_isAsked_33) (by decide)
theorem e106_36 : jv_ev d 106 36 lc st h = jv_ev d 106 37 lc (.int 0 :: st) h := jq_iconst (jv_insR jm_106 dX12_isAsked_36) (by decide)
theorem e106_37 : jv_ev d 106 37 lc [.int v] h = if narrow .boolean (.int v) = .int v then some (.inl (some (.int v)), h) else none := jq_ret (jv_insR jm_106 dX12_isAsked_37) jr_106 (by decide)
/-! 107: RainLoomModel.isWay(IIII)Z -/
theorem n107 : jv_cd (d + 1) 107 [.ref a0, .int i1, .int i2, .int i3, .int i4] h = jv_ev d 107 0 [some (.ref a0), some (.int i1), some (.int i2), some (.int i3), some (.int i4), none] [] h := rfl
theorem e107_0 : jv_ev d 107 0 [some (.ref a), x1, x2, x3, x4, x5] st h = jv_ev d 107 1 [some (.ref a), x1, x2, x3, x4, x5] (.ref a :: st) h := jq_nx (jv_insR jm_107 dX12_isWay_0) rfl
theorem e107_1 : jv_ev d 107 1 [x0, some (.int v), x2, x3, x4, x5] st h = jv_ev d 107 2 [x0, some (.int v), x2, x3, x4, x5] (.int v :: st) h := jq_nx (jv_insR jm_107 dX12_isWay_1) rfl
theorem e107_2 : jv_ev d 107 2 lc st h = jv_ev d 107 4 lc (.int 64 :: st) h := jq_bipush (jv_insR jm_107 dX12_isWay_2) (by decide)
theorem e107_4 : jv_ev d 107 4 lc (.int w :: .int v :: st) h = if w = 0 then none else jv_ev d 107 5 lc (.int (v / w) :: st) h := jq_idiv (jv_insR jm_107 dX12_isWay_4)
theorem e107_5 : jv_ev d 107 5 lc [z0, .ref b] h = (jv_rc h b [(0, 53)]).bind fun y => (jv_cd d y [.ref b, z0] h).bind fun r => jv_on r (fun v h => jv_ev d 107 8 lc (v.toList ++ []) h) (fun q h => some (.inr q, h)) := jq_V (as := [z0]) (rest := []) (jv_insR jm_107 dX12_isWay_5) jo_107 jV_1_393 rfl rfl rfl rfl
theorem e107_8 : jv_ev d 107 8 lc (.int v :: st) h = if v = 0 then jv_ev d 107 70 lc st h else jv_ev d 107 11 lc st h := jq_if (jv_insR jm_107 dX12_isWay_8) rfl (by decide)
theorem e107_11 : jv_ev d 107 11 [some (.ref a), x1, x2, x3, x4, x5] st h = jv_ev d 107 12 [some (.ref a), x1, x2, x3, x4, x5] (.ref a :: st) h := jq_nx (jv_insR jm_107 dX12_isWay_11) rfl
theorem e107_12 : jv_ev d 107 12 lc (.ref a :: st) h = (jv_gf h a [(0, 29, .array .int)]).bind fun r => jv_ev d 107 15 lc (r :: st) h := jq_get (jv_insR jm_107 dX12_isWay_12) jo_107 jF_1_64
theorem e107_15 : jv_ev d 107 15 lc st h = jv_ev d 107 16 lc (.int 4 :: st) h := jq_iconst (jv_insR jm_107 dX12_isWay_15) (by decide)
theorem e107_16 : jv_ev d 107 16 [some (.ref a), x1, x2, x3, x4, x5] st h = jv_ev d 107 17 [some (.ref a), x1, x2, x3, x4, x5] (.ref a :: st) h := jq_nx (jv_insR jm_107 dX12_isWay_16) rfl
theorem e107_17 : jv_ev d 107 17 lc (.ref a :: st) h = (jv_gf h a [(0, 18, .int)]).bind fun r => jv_ev d 107 20 lc (r :: st) h := jq_get (jv_insR jm_107 dX12_isWay_17) jo_107 jF_1_239
theorem e107_20 : jv_ev d 107 20 lc (.int w :: .int v :: st) h = jv_ev d 107 21 lc (.int (v * w) :: st) h := jq_nx (jv_insR jm_107 dX12_isWay_20) rfl
theorem e107_21 : jv_ev d 107 21 [x0, some (.int v), x2, x3, x4, x5] st h = jv_ev d 107 22 [x0, some (.int v), x2, x3, x4, x5] (.int v :: st) h := jq_nx (jv_insR jm_107 dX12_isWay_21) rfl
theorem e107_22 : jv_ev d 107 22 lc st h = jv_ev d 107 24 lc (.int 64 :: st) h := jq_bipush (jv_insR jm_107 dX12_isWay_22) (by decide)
theorem e107_24 : jv_ev d 107 24 lc (.int w :: .int v :: st) h = if w = 0 then none else jv_ev d 107 25 lc (.int (v / w) :: st) h := jq_idiv (jv_insR jm_107 dX12_isWay_24)
theorem e107_25 : jv_ev d 107 25 lc (.int w :: .int v :: st) h = jv_ev d 107 26 lc (.int (v + w) :: st) h := jq_nx (jv_insR jm_107 dX12_isWay_25) rfl
theorem e107_26 : jv_ev d 107 26 lc (.int v :: .ref a :: st) h = (jv_ig h a 0 0 v).bind fun w => jv_ev d 107 27 lc (.int w :: st) h := jq_iald (jv_insR jm_107 dX12_isWay_26)
theorem e107_27 : jv_ev d 107 27 [x0, x1, some (.int v), x3, x4, x5] st h = jv_ev d 107 28 [x0, x1, some (.int v), x3, x4, x5] (.int v :: st) h := jq_nx (jv_insR jm_107 dX12_isWay_27) rfl
theorem e107_28 : jv_ev d 107 28 lc (.int w :: .int v :: st) h = if v < w then jv_ev d 107 70 lc st h else jv_ev d 107 31 lc st h := jq_if (jv_insR jm_107 dX12_isWay_28) rfl (by decide)
theorem e107_31 : jv_ev d 107 31 [x0, some (.int v), x2, x3, x4, x5] st h = jv_ev d 107 32 [x0, some (.int v), x2, x3, x4, x5] (.int v :: st) h := jq_nx (jv_insR jm_107 dX12_isWay_31) rfl
theorem e107_32 : jv_ev d 107 32 lc st h = jv_ev d 107 34 lc (.int 8 :: st) h := jq_bipush (jv_insR jm_107 dX12_isWay_32) (by decide)
theorem e107_34 : jv_ev d 107 34 lc (.int w :: .int v :: st) h = if w = 0 then none else jv_ev d 107 35 lc (.int (v - v / w * w) :: st) h := jq_irem (jv_insR jm_107 dX12_isWay_34)
theorem e107_35 : jv_ev d 107 35 [x0, x1, some (.int v), x3, x4, x5] st h = jv_ev d 107 36 [x0, x1, some (.int v), x3, x4, x5] (.int v :: st) h := jq_nx (jv_insR jm_107 dX12_isWay_35) rfl
theorem e107_36 : jv_ev d 107 36 lc (.int w :: .int v :: st) h = jv_ev d 107 37 lc (.int (v + w) :: st) h := jq_nx (jv_insR jm_107 dX12_isWay_36) rfl
theorem e107_37 : jv_ev d 107 37 [some (.ref a), x1, x2, x3, x4, x5] st h = jv_ev d 107 38 [some (.ref a), x1, x2, x3, x4, x5] (.ref a :: st) h := jq_nx (jv_insR jm_107 dX12_isWay_37) rfl
theorem e107_38 : jv_ev d 107 38 lc (.ref a :: st) h = (jv_gf h a [(0, 23, .array .int)]).bind fun r => jv_ev d 107 41 lc (r :: st) h := jq_get (jv_insR jm_107 dX12_isWay_38) jo_107 jF_1_46
theorem e107_41 : jv_ev d 107 41 [some (.ref a), x1, x2, x3, x4, x5] st h = jv_ev d 107 42 [some (.ref a), x1, x2, x3, x4, x5] (.ref a :: st) h := jq_nx (jv_insR jm_107 dX12_isWay_41) rfl
theorem e107_42 : jv_ev d 107 42 lc (.ref a :: st) h = (jv_gf h a [(0, 18, .int)]).bind fun r => jv_ev d 107 45 lc (r :: st) h := jq_get (jv_insR jm_107 dX12_isWay_42) jo_107 jF_1_239
theorem e107_45 : jv_ev d 107 45 lc (.int v :: .ref a :: st) h = (jv_ig h a 0 0 v).bind fun w => jv_ev d 107 46 lc (.int w :: st) h := jq_iald (jv_insR jm_107 dX12_isWay_45)
theorem e107_46 : jv_ev d 107 46 lc (.int w :: .int v :: st) h = if w < v then jv_ev d 107 70 lc st h else jv_ev d 107 49 lc st h := jq_if (jv_insR jm_107 dX12_isWay_46) rfl (by decide)
theorem e107_49 : jv_ev d 107 49 [x0, some (.int v), x2, x3, x4, x5] st h = jv_ev d 107 50 [x0, some (.int v), x2, x3, x4, x5] (.int v :: st) h := jq_nx (jv_insR jm_107 dX12_isWay_49) rfl
theorem e107_50 : jv_ev d 107 50 lc st h = jv_ev d 107 52 lc (.int 8 :: st) h := jq_bipush (jv_insR jm_107 dX12_isWay_50) (by decide)
theorem e107_52 : jv_ev d 107 52 lc (.int w :: .int v :: st) h = if w = 0 then none else jv_ev d 107 53 lc (.int (v / w) :: st) h := jq_idiv (jv_insR jm_107 dX12_isWay_52)
theorem e107_53 : jv_ev d 107 53 lc st h = jv_ev d 107 55 lc (.int 8 :: st) h := jq_bipush (jv_insR jm_107 dX12_isWay_53) (by decide)
theorem e107_55 : jv_ev d 107 55 lc (.int w :: .int v :: st) h = if w = 0 then none else jv_ev d 107 56 lc (.int (v - v / w * w) :: st) h := jq_irem (jv_insR jm_107 dX12_isWay_55)
theorem e107_56 : jv_ev d 107 56 [x0, x1, x2, some (.int v), x4, x5] st h = jv_ev d 107 57 [x0, x1, x2, some (.int v), x4, x5] (.int v :: st) h := jq_nx (jv_insR jm_107 dX12_isWay_56) rfl
theorem e107_57 : jv_ev d 107 57 lc (.int w :: .int v :: st) h = jv_ev d 107 58 lc (.int (v + w) :: st) h := jq_nx (jv_insR jm_107 dX12_isWay_57) rfl
theorem e107_58 : jv_ev d 107 58 [some (.ref a), x1, x2, x3, x4, x5] st h = jv_ev d 107 59 [some (.ref a), x1, x2, x3, x4, x5] (.ref a :: st) h := jq_nx (jv_insR jm_107 dX12_isWay_58) rfl
theorem e107_59 : jv_ev d 107 59 lc (.ref a :: st) h = (jv_gf h a [(0, 22, .array .int)]).bind fun r => jv_ev d 107 62 lc (r :: st) h := jq_get (jv_insR jm_107 dX12_isWay_59) jo_107 jF_1_43
theorem e107_62 : jv_ev d 107 62 [some (.ref a), x1, x2, x3, x4, x5] st h = jv_ev d 107 63 [some (.ref a), x1, x2, x3, x4, x5] (.ref a :: st) h := jq_nx (jv_insR jm_107 dX12_isWay_62) rfl
theorem e107_63 : jv_ev d 107 63 lc (.ref a :: st) h = (jv_gf h a [(0, 18, .int)]).bind fun r => jv_ev d 107 66 lc (r :: st) h := jq_get (jv_insR jm_107 dX12_isWay_63) jo_107 jF_1_239
theorem e107_66 : jv_ev d 107 66 lc (.int v :: .ref a :: st) h = (jv_ig h a 0 0 v).bind fun w => jv_ev d 107 67 lc (.int w :: st) h := jq_iald (jv_insR jm_107 dX12_isWay_66)
theorem e107_67 : jv_ev d 107 67 lc (.int w :: .int v :: st) h = if v ≤ w then jv_ev d 107 72 lc st h else jv_ev d 107 70 lc st h := jq_if (jv_insR jm_107 dX12_isWay_67) rfl (by decide)
theorem e107_70 : jv_ev d 107 70 lc st h = jv_ev d 107 71 lc (.int 0 :: st) h := jq_iconst (jv_insR jm_107 dX12_isWay_70) (by decide)
theorem e107_71 : jv_ev d 107 71 lc [.int v] h = if narrow .boolean (.int v) = .int v then some (.inl (some (.int v)), h) else none := jq_ret (jv_insR jm_107 dX12_isWay_71) jr_107 (by decide)
theorem e107_72 : jv_ev d 107 72 lc st h = jv_ev d 107 73 lc (.int 0 :: st) h := jq_iconst (jv_insR jm_107 dX12_isWay_72) (by decide)
theorem e107_73 : jv_ev d 107 73 [x0, x1, x2, x3, x4, x5] (.int v :: st) h = jv_ev d 107 75 [x0, x1, x2, x3, x4, some (.int v)] st h := jq_nx (jv_insR jm_107 dX12_isWay_73) rfl
theorem e107_75 : jv_ev d 107 75 [x0, x1, x2, x3, x4, some (.int v)] st h = jv_ev d 107 77 [x0, x1, x2, x3, x4, some (.int v)] (.int v :: st) h := jq_nx (jv_insR jm_107 dX12_isWay_75) rfl
theorem e107_77 : jv_ev d 107 77 [x0, x1, x2, x3, some (.int v), x5] st h = jv_ev d 107 79 [x0, x1, x2, x3, some (.int v), x5] (.int v :: st) h := jq_nx (jv_insR jm_107 dX12_isWay_77) rfl
theorem e107_79 : jv_ev d 107 79 lc (.int w :: .int v :: st) h = if w ≤ v then jv_ev d 107 114 lc st h else jv_ev d 107 82 lc st h := jq_if (jv_insR jm_107 dX12_isWay_79) rfl (by decide)
theorem e107_82 : jv_ev d 107 82 [some (.ref a), x1, x2, x3, x4, x5] st h = jv_ev d 107 83 [some (.ref a), x1, x2, x3, x4, x5] (.ref a :: st) h := jq_nx (jv_insR jm_107 dX12_isWay_82) rfl
theorem e107_83 : jv_ev d 107 83 [x0, some (.int v), x2, x3, x4, x5] st h = jv_ev d 107 84 [x0, some (.int v), x2, x3, x4, x5] (.int v :: st) h := jq_nx (jv_insR jm_107 dX12_isWay_83) rfl
theorem e107_84 : jv_ev d 107 84 [x0, x1, some (.int v), x3, x4, x5] st h = jv_ev d 107 85 [x0, x1, some (.int v), x3, x4, x5] (.int v :: st) h := jq_nx (jv_insR jm_107 dX12_isWay_84) rfl
theorem e107_85 : jv_ev d 107 85 [x0, x1, x2, some (.int v), x4, x5] st h = jv_ev d 107 86 [x0, x1, x2, some (.int v), x4, x5] (.int v :: st) h := jq_nx (jv_insR jm_107 dX12_isWay_85) rfl
theorem e107_86 : jv_ev d 107 86 [some (.ref a), x1, x2, x3, x4, x5] st h = jv_ev d 107 87 [some (.ref a), x1, x2, x3, x4, x5] (.ref a :: st) h := jq_nx (jv_insR jm_107 dX12_isWay_86) rfl
theorem e107_87 : jv_ev d 107 87 lc (.ref a :: st) h = (jv_gf h a [(0, 66, .array .int)]).bind fun r => jv_ev d 107 90 lc (r :: st) h := jq_get (jv_insR jm_107 dX12_isWay_87) jo_107 jF_1_140
theorem e107_90 : jv_ev d 107 90 [x0, x1, x2, x3, x4, some (.int v)] st h = jv_ev d 107 92 [x0, x1, x2, x3, x4, some (.int v)] (.int v :: st) h := jq_nx (jv_insR jm_107 dX12_isWay_90) rfl
theorem e107_92 : jv_ev d 107 92 lc (.int v :: .ref a :: st) h = (jv_ig h a 0 0 v).bind fun w => jv_ev d 107 93 lc (.int w :: st) h := jq_iald (jv_insR jm_107 dX12_isWay_92)
theorem e107_93 : jv_ev d 107 93 lc [z3, z2, z1, z0, .ref b] h = (jv_rc h b [(0, 108)]).bind fun y => (jv_cd d y [.ref b, z0, z1, z2, z3] h).bind fun r => jv_on r (fun v h => jv_ev d 107 96 lc (v.toList ++ []) h) (fun q h => some (.inr q, h)) := jq_V (as := [z0, z1, z2, z3]) (rest := []) (jv_insR jm_107 dX12_isWay_93) jo_107 jV_1_467 rfl rfl rfl rfl
theorem e107_96 : jv_ev d 107 96 [some (.ref a), x1, x2, x3, x4, x5] st h = jv_ev d 107 97 [some (.ref a), x1, x2, x3, x4, x5] (.ref a :: st) h := jq_nx (jv_insR jm_107 dX12_isWay_96) rfl
theorem e107_97 : jv_ev d 107 97 lc (.ref a :: st) h = (jv_gf h a [(0, 67, .array .int)]).bind fun r => jv_ev d 107 100 lc (r :: st) h := jq_get (jv_insR jm_107 dX12_isWay_97) jo_107 jF_1_143
theorem e107_100 : jv_ev d 107 100 [x0, x1, x2, x3, x4, some (.int v)] st h = jv_ev d 107 102 [x0, x1, x2, x3, x4, some (.int v)] (.int v :: st) h := jq_nx (jv_insR jm_107 dX12_isWay_100) rfl
theorem e107_102 : jv_ev d 107 102 lc (.int v :: .ref a :: st) h = (jv_ig h a 0 0 v).bind fun w => jv_ev d 107 103 lc (.int w :: st) h := jq_iald (jv_insR jm_107 dX12_isWay_102)
theorem e107_103 : jv_ev d 107 103 lc (.int w :: .int v :: st) h = if v = w then jv_ev d 107 108 lc st h else jv_ev d 107 106 lc st h := jq_if (jv_insR jm_107 dX12_isWay_103) rfl (by decide)
theorem e107_106 : jv_ev d 107 106 lc st h = jv_ev d 107 107 lc (.int 0 :: st) h := jq_iconst (jv_insR jm_107 dX12_isWay_106) (by decide)
theorem e107_107 : jv_ev d 107 107 lc [.int v] h = if narrow .boolean (.int v) = .int v then some (.inl (some (.int v)), h) else none := jq_ret (jv_insR jm_107 dX12_isWay_107) jr_107 (by decide)
theorem e107_108 : jv_ev d 107 108 [x0, x1, x2, x3, x4, some (.int v)] st h = jv_ev d 107 111 [x0, x1, x2, x3, x4, some (.int (v + 1))] st h := jq_nx (jv_insR jm_107 dX12_isWay_108) rfl
theorem e107_111 : jv_ev d 107 111 lc st h = jv_ev d 107 75 lc st h := jq_go (jv_insR jm_107 dX12_isWay_111) (by decide)
theorem e107_114 : jv_ev d 107 114 lc st h = jv_ev d 107 115 lc (.int 1 :: st) h := jq_iconst (jv_insR jm_107 dX12_isWay_114) (by decide)
theorem e107_115 : jv_ev d 107 115 lc [.int v] h = if narrow .boolean (.int v) = .int v then some (.inl (some (.int v)), h) else none := jq_ret (jv_insR jm_107 dX12_isWay_115) jr_107 (by decide)
/-! 108: RainLoomModel.wetBy(IIII)I -/
theorem n108 : jv_cd (d + 1) 108 [.ref a0, .int i1, .int i2, .int i3, .int i4] h = jv_ev d 108 0 [some (.ref a0), some (.int i1), some (.int i2), some (.int i3), some (.int i4), none, none] [] h := rfl
theorem e108_0 : jv_ev d 108 0 [x0, x1, x2, x3, some (.int v), x5, x6] st h = jv_ev d 108 2 [x0, x1, x2, x3, some (.int v), x5, x6] (.int v :: st) h := jq_nx (jv_insR jm_108 dX12_wetBy_0) rfl
theorem e108_2 : jv_ev d 108 2 lc st h = jv_ev d 108 4 lc (.int 8 :: st) h := jq_bipush (jv_insR jm_108 dX12_wetBy_2) (by decide)
theorem e108_4 : jv_ev d 108 4 lc (.int w :: .int v :: st) h = if w = 0 then none else jv_ev d 108 5 lc (.int (v - v / w * w) :: st) h := jq_irem (jv_insR jm_108 dX12_wetBy_4)
theorem e108_5 : jv_ev d 108 5 [x0, some (.int v), x2, x3, x4, x5, x6] st h = jv_ev d 108 6 [x0, some (.int v), x2, x3, x4, x5, x6] (.int v :: st) h := jq_nx (jv_insR jm_108 dX12_wetBy_5) rfl
theorem e108_6 : jv_ev d 108 6 lc st h = jv_ev d 108 8 lc (.int 8 :: st) h := jq_bipush (jv_insR jm_108 dX12_wetBy_6) (by decide)
theorem e108_8 : jv_ev d 108 8 lc (.int w :: .int v :: st) h = if w = 0 then none else jv_ev d 108 9 lc (.int (v - v / w * w) :: st) h := jq_irem (jv_insR jm_108 dX12_wetBy_8)
theorem e108_9 : jv_ev d 108 9 lc (.int w :: .int v :: st) h = jv_ev d 108 10 lc (.int (v - w) :: st) h := jq_nx (jv_insR jm_108 dX12_wetBy_9) rfl
theorem e108_10 : jv_ev d 108 10 [x0, x1, x2, x3, x4, x5, x6] (.int v :: st) h = jv_ev d 108 12 [x0, x1, x2, x3, x4, some (.int v), x6] st h := jq_nx (jv_insR jm_108 dX12_wetBy_10) rfl
theorem e108_12 : jv_ev d 108 12 [x0, x1, x2, x3, some (.int v), x5, x6] st h = jv_ev d 108 14 [x0, x1, x2, x3, some (.int v), x5, x6] (.int v :: st) h := jq_nx (jv_insR jm_108 dX12_wetBy_12) rfl
theorem e108_14 : jv_ev d 108 14 lc st h = jv_ev d 108 16 lc (.int 8 :: st) h := jq_bipush (jv_insR jm_108 dX12_wetBy_14) (by decide)
theorem e108_16 : jv_ev d 108 16 lc (.int w :: .int v :: st) h = if w = 0 then none else jv_ev d 108 17 lc (.int (v / w) :: st) h := jq_idiv (jv_insR jm_108 dX12_wetBy_16)
theorem e108_17 : jv_ev d 108 17 [x0, some (.int v), x2, x3, x4, x5, x6] st h = jv_ev d 108 18 [x0, some (.int v), x2, x3, x4, x5, x6] (.int v :: st) h := jq_nx (jv_insR jm_108 dX12_wetBy_17) rfl
theorem e108_18 : jv_ev d 108 18 lc st h = jv_ev d 108 20 lc (.int 8 :: st) h := jq_bipush (jv_insR jm_108 dX12_wetBy_18) (by decide)
theorem e108_20 : jv_ev d 108 20 lc (.int w :: .int v :: st) h = if w = 0 then none else jv_ev d 108 21 lc (.int (v / w) :: st) h := jq_idiv (jv_insR jm_108 dX12_wetBy_20)
theorem e108_21 : jv_ev d 108 21 lc st h = jv_ev d 108 23 lc (.int 8 :: st) h := jq_bipush (jv_insR jm_108 dX12_wetBy_21) (by decide)
theorem e108_23 : jv_ev d 108 23 lc (.int w :: .int v :: st) h = if w = 0 then none else jv_ev d 108 24 lc (.int (v - v / w * w) :: st) h := jq_irem (jv_insR jm_108 dX12_wetBy_23)
theorem e108_24 : jv_ev d 108 24 lc (.int w :: .int v :: st) h = jv_ev d 108 25 lc (.int (v - w) :: st) h := jq_nx (jv_insR jm_108 dX12_wetBy_24) rfl
theorem e108_25 : jv_ev d 108 25 [x0, x1, x2, x3, x4, x5, x6] (.int v :: st) h = jv_ev d 108 27 [x0, x1, x2, x3, x4, x5, some (.int v)] st h := jq_nx (jv_insR jm_108 dX12_wetBy_25) rfl
theorem e108_27 : jv_ev d 108 27 [x0, x1, x2, x3, x4, some (.int v), x6] st h = jv_ev d 108 29 [x0, x1, x2, x3, x4, some (.int v), x6] (.int v :: st) h := jq_nx (jv_insR jm_108 dX12_wetBy_27) rfl
theorem e108_29 : jv_ev d 108 29 lc st h = jv_ev d 108 30 lc (.int 0 :: st) h := jq_iconst (jv_insR jm_108 dX12_wetBy_29) (by decide)
theorem e108_30 : jv_ev d 108 30 [x0, x1, some (.int v), x3, x4, x5, x6] st h = jv_ev d 108 31 [x0, x1, some (.int v), x3, x4, x5, x6] (.int v :: st) h := jq_nx (jv_insR jm_108 dX12_wetBy_30) rfl
theorem e108_31 : jv_ev d 108 31 lc st h = jv_ev d 108 32 lc (.int 1 :: st) h := jq_iconst (jv_insR jm_108 dX12_wetBy_31) (by decide)
theorem e108_32 : jv_ev d 108 32 lc (.int w :: .int v :: st) h = jv_ev d 108 33 lc (.int (v - w) :: st) h := jq_nx (jv_insR jm_108 dX12_wetBy_32) rfl
theorem e108_33 : jv_ev d 108 33 lc [z2, z1, z0] h = (jv_cd d 40 [z0, z1, z2] h).bind fun r => jv_on r (fun v h => jv_ev d 108 36 lc (v.toList ++ []) h) (fun q h => some (.inr q, h)) := jq_S (as := [z0, z1, z2]) (rest := []) (jv_insR jm_108 dX12_wetBy_33) jo_108 jT_1_323 rfl rfl rfl rfl
theorem e108_36 : jv_ev d 108 36 lc (.int v :: st) h = if v = 0 then jv_ev d 108 79 lc st h else jv_ev d 108 39 lc st h := jq_if (jv_insR jm_108 dX12_wetBy_36) rfl (by decide)
theorem e108_39 : jv_ev d 108 39 [x0, x1, x2, x3, x4, x5, some (.int v)] st h = jv_ev d 108 41 [x0, x1, x2, x3, x4, x5, some (.int v)] (.int v :: st) h := jq_nx (jv_insR jm_108 dX12_wetBy_39) rfl
theorem e108_41 : jv_ev d 108 41 lc st h = jv_ev d 108 42 lc (.int 0 :: st) h := jq_iconst (jv_insR jm_108 dX12_wetBy_41) (by decide)
theorem e108_42 : jv_ev d 108 42 [x0, x1, x2, some (.int v), x4, x5, x6] st h = jv_ev d 108 43 [x0, x1, x2, some (.int v), x4, x5, x6] (.int v :: st) h := jq_nx (jv_insR jm_108 dX12_wetBy_42) rfl
theorem e108_43 : jv_ev d 108 43 lc st h = jv_ev d 108 44 lc (.int 1 :: st) h := jq_iconst (jv_insR jm_108 dX12_wetBy_43) (by decide)
theorem e108_44 : jv_ev d 108 44 lc (.int w :: .int v :: st) h = jv_ev d 108 45 lc (.int (v - w) :: st) h := jq_nx (jv_insR jm_108 dX12_wetBy_44) rfl
theorem e108_45 : jv_ev d 108 45 lc [z2, z1, z0] h = (jv_cd d 40 [z0, z1, z2] h).bind fun r => jv_on r (fun v h => jv_ev d 108 48 lc (v.toList ++ []) h) (fun q h => some (.inr q, h)) := jq_S (as := [z0, z1, z2]) (rest := []) (jv_insR jm_108 dX12_wetBy_45) jo_108 jT_1_323 rfl rfl rfl rfl
theorem e108_48 : jv_ev d 108 48 lc (.int v :: st) h = if v = 0 then jv_ev d 108 79 lc st h else jv_ev d 108 51 lc st h := jq_if (jv_insR jm_108 dX12_wetBy_48) rfl (by decide)
theorem e108_51 : jv_ev d 108 51 [some (.ref a), x1, x2, x3, x4, x5, x6] st h = jv_ev d 108 52 [some (.ref a), x1, x2, x3, x4, x5, x6] (.ref a :: st) h := jq_nx (jv_insR jm_108 dX12_wetBy_51) rfl
theorem e108_52 : jv_ev d 108 52 [x0, some (.int v), x2, x3, x4, x5, x6] st h = jv_ev d 108 53 [x0, some (.int v), x2, x3, x4, x5, x6] (.int v :: st) h := jq_nx (jv_insR jm_108 dX12_wetBy_52) rfl
theorem e108_53 : jv_ev d 108 53 lc st h = jv_ev d 108 55 lc (.int 64 :: st) h := jq_bipush (jv_insR jm_108 dX12_wetBy_53) (by decide)
theorem e108_55 : jv_ev d 108 55 lc (.int w :: .int v :: st) h = if w = 0 then none else jv_ev d 108 56 lc (.int (v / w) :: st) h := jq_idiv (jv_insR jm_108 dX12_wetBy_55)
theorem e108_56 : jv_ev d 108 56 [x0, x1, x2, x3, x4, some (.int v), x6] st h = jv_ev d 108 58 [x0, x1, x2, x3, x4, some (.int v), x6] (.int v :: st) h := jq_nx (jv_insR jm_108 dX12_wetBy_56) rfl
theorem e108_58 : jv_ev d 108 58 [some (.ref a), x1, x2, x3, x4, x5, x6] st h = jv_ev d 108 59 [some (.ref a), x1, x2, x3, x4, x5, x6] (.ref a :: st) h := jq_nx (jv_insR jm_108 dX12_wetBy_58) rfl
theorem e108_59 : jv_ev d 108 59 lc (.ref a :: st) h = (jv_gf h a [(0, 50, .array .int)]).bind fun r => jv_ev d 108 62 lc (r :: st) h := jq_get (jv_insR jm_108 dX12_wetBy_59) jo_108 jF_1_116
theorem e108_62 : jv_ev d 108 62 lc st h = jv_ev d 108 64 lc (.int 48 :: st) h := jq_bipush (jv_insR jm_108 dX12_wetBy_62) (by decide)
theorem e108_64 : jv_ev d 108 64 [x0, some (.int v), x2, x3, x4, x5, x6] st h = jv_ev d 108 65 [x0, some (.int v), x2, x3, x4, x5, x6] (.int v :: st) h := jq_nx (jv_insR jm_108 dX12_wetBy_64) rfl
theorem e108_65 : jv_ev d 108 65 lc st h = jv_ev d 108 67 lc (.int 64 :: st) h := jq_bipush (jv_insR jm_108 dX12_wetBy_65) (by decide)
theorem e108_67 : jv_ev d 108 67 lc (.int w :: .int v :: st) h = if w = 0 then none else jv_ev d 108 68 lc (.int (v / w) :: st) h := jq_idiv (jv_insR jm_108 dX12_wetBy_67)
theorem e108_68 : jv_ev d 108 68 lc (.int w :: .int v :: st) h = jv_ev d 108 69 lc (.int (v + w) :: st) h := jq_nx (jv_insR jm_108 dX12_wetBy_68) rfl
theorem e108_69 : jv_ev d 108 69 lc (.int v :: .ref a :: st) h = (jv_ig h a 0 0 v).bind fun w => jv_ev d 108 70 lc (.int w :: st) h := jq_iald (jv_insR jm_108 dX12_wetBy_69)
theorem e108_70 : jv_ev d 108 70 [x0, x1, x2, x3, x4, x5, some (.int v)] st h = jv_ev d 108 72 [x0, x1, x2, x3, x4, x5, some (.int v)] (.int v :: st) h := jq_nx (jv_insR jm_108 dX12_wetBy_70) rfl
theorem e108_72 : jv_ev d 108 72 lc (.int w :: .int v :: st) h = jv_ev d 108 73 lc (.int (v + w) :: st) h := jq_nx (jv_insR jm_108 dX12_wetBy_72) rfl
theorem e108_73 : jv_ev d 108 73 lc [z2, z1, z0, .ref b] h = (jv_rc h b [(0, 55)]).bind fun y => (jv_cd d y [.ref b, z0, z1, z2] h).bind fun r => jv_on r (fun v h => jv_ev d 108 76 lc (v.toList ++ []) h) (fun q h => some (.inr q, h)) := jq_V (as := [z0, z1, z2]) (rest := []) (jv_insR jm_108 dX12_wetBy_73) jo_108 jV_1_356 rfl rfl rfl rfl
theorem e108_76 : jv_ev d 108 76 lc st h = jv_ev d 108 80 lc st h := jq_go (jv_insR jm_108 dX12_wetBy_76) (by decide)
theorem e108_79 : jv_ev d 108 79 lc st h = jv_ev d 108 80 lc (.int 0 :: st) h := jq_iconst (jv_insR jm_108 dX12_wetBy_79) (by decide)
theorem e108_80 : jv_ev d 108 80 lc [.int v] h = some (.inl (some (.int v)), h) := jq_reti (jv_insR jm_108 dX12_wetBy_80) jr_108
/-! 109: RainLoomModel.look(III)I -/
theorem n109 : jv_cd (d + 1) 109 [.ref a0, .int i1, .int i2, .int i3] h = jv_ev d 109 0 [some (.ref a0), some (.int i1), some (.int i2), some (.int i3), none, none, none, none] [] h := rfl
theorem e109_0 : jv_ev d 109 0 [some (.ref a), x1, x2, x3, x4, x5, x6, x7] st h = jv_ev d 109 1 [some (.ref a), x1, x2, x3, x4, x5, x6, x7] (.ref a :: st) h := jq_nx (jv_insR jm_109 dX12_look_0) rfl
theorem e109_1 : jv_ev d 109 1 [x0, some (.int v), x2, x3, x4, x5, x6, x7] st h = jv_ev d 109 2 [x0, some (.int v), x2, x3, x4, x5, x6, x7] (.int v :: st) h := jq_nx (jv_insR jm_109 dX12_look_1) rfl
theorem e109_2 : jv_ev d 109 2 [x0, x1, some (.int v), x3, x4, x5, x6, x7] st h = jv_ev d 109 3 [x0, x1, some (.int v), x3, x4, x5, x6, x7] (.int v :: st) h := jq_nx (jv_insR jm_109 dX12_look_2) rfl
theorem e109_3 : jv_ev d 109 3 [x0, x1, x2, some (.int v), x4, x5, x6, x7] st h = jv_ev d 109 4 [x0, x1, x2, some (.int v), x4, x5, x6, x7] (.int v :: st) h := jq_nx (jv_insR jm_109 dX12_look_3) rfl
theorem e109_4 : jv_ev d 109 4 lc [z2, z1, z0, .ref b] h = (jv_rc h b [(0, 106)]).bind fun y => (jv_cd d y [.ref b, z0, z1, z2] h).bind fun r => jv_on r (fun v h => jv_ev d 109 7 lc (v.toList ++ []) h) (fun q h => some (.inr q, h)) := jq_V (as := [z0, z1, z2]) (rest := []) (jv_insR jm_109 dX12_look_4) jo_109 jV_1_470 rfl rfl rfl rfl
theorem e109_7 : jv_ev d 109 7 lc (.int v :: st) h = if ¬ v = 0 then jv_ev d 109 12 lc st h else jv_ev d 109 10 lc st h := jq_if (jv_insR jm_109 dX12_look_7) rfl (by decide)
theorem e109_10 : jv_ev d 109 10 lc st h = jv_ev d 109 11 lc (.int (-1) :: st) h := jq_iconst (jv_insR jm_109 dX12_look_10) (by decide)
theorem e109_11 : jv_ev d 109 11 lc [.int v] h = some (.inl (some (.int v)), h) := jq_reti (jv_insR jm_109 dX12_look_11) jr_109
theorem e109_12 : jv_ev d 109 12 lc st h = jv_ev d 109 13 lc (.int 0 :: st) h := jq_iconst (jv_insR jm_109 dX12_look_12) (by decide)
theorem e109_13 : jv_ev d 109 13 [x0, x1, x2, x3, x4, x5, x6, x7] (.int v :: st) h = jv_ev d 109 15 [x0, x1, x2, x3, some (.int v), x5, x6, x7] st h := jq_nx (jv_insR jm_109 dX12_look_13) rfl
theorem e109_15 : jv_ev d 109 15 [x0, x1, x2, x3, some (.int v), x5, x6, x7] st h = jv_ev d 109 17 [x0, x1, x2, x3, some (.int v), x5, x6, x7] (.int v :: st) h := jq_nx (jv_insR jm_109 dX12_look_15) rfl
theorem e109_17 : jv_ev d 109 17 lc st h = jv_ev d 109 20 lc (.int 256 :: st) h := jq_sipush (jv_insR jm_109 dX12_look_17) (by decide)
theorem e109_20 : jv_ev d 109 20 lc (.int w :: .int v :: st) h = if w ≤ v then jv_ev d 109 45 lc st h else jv_ev d 109 23 lc st h := jq_if (jv_insR jm_109 dX12_look_20) rfl (by decide)
theorem e109_23 : jv_ev d 109 23 [some (.ref a), x1, x2, x3, x4, x5, x6, x7] st h = jv_ev d 109 24 [some (.ref a), x1, x2, x3, x4, x5, x6, x7] (.ref a :: st) h := jq_nx (jv_insR jm_109 dX12_look_23) rfl
theorem e109_24 : jv_ev d 109 24 lc (.ref a :: st) h = (jv_gf h a [(0, 68, .array .boolean)]).bind fun r => jv_ev d 109 27 lc (r :: st) h := jq_get (jv_insR jm_109 dX12_look_24) jo_109 jF_1_146
theorem e109_27 : jv_ev d 109 27 [x0, x1, x2, x3, some (.int v), x5, x6, x7] st h = jv_ev d 109 29 [x0, x1, x2, x3, some (.int v), x5, x6, x7] (.int v :: st) h := jq_nx (jv_insR jm_109 dX12_look_27) rfl
theorem e109_29 : jv_ev d 109 29 [some (.ref a), x1, x2, x3, x4, x5, x6, x7] st h = jv_ev d 109 30 [some (.ref a), x1, x2, x3, x4, x5, x6, x7] (.ref a :: st) h := jq_nx (jv_insR jm_109 dX12_look_29) rfl
theorem e109_30 : jv_ev d 109 30 [x0, x1, x2, x3, some (.int v), x5, x6, x7] st h = jv_ev d 109 32 [x0, x1, x2, x3, some (.int v), x5, x6, x7] (.int v :: st) h := jq_nx (jv_insR jm_109 dX12_look_30) rfl
theorem e109_32 : jv_ev d 109 32 [x0, x1, some (.int v), x3, x4, x5, x6, x7] st h = jv_ev d 109 33 [x0, x1, some (.int v), x3, x4, x5, x6, x7] (.int v :: st) h := jq_nx (jv_insR jm_109 dX12_look_32) rfl
theorem e109_33 : jv_ev d 109 33 [x0, x1, x2, some (.int v), x4, x5, x6, x7] st h = jv_ev d 109 34 [x0, x1, x2, some (.int v), x4, x5, x6, x7] (.int v :: st) h := jq_nx (jv_insR jm_109 dX12_look_33) rfl
theorem e109_34 : jv_ev d 109 34 [x0, some (.int v), x2, x3, x4, x5, x6, x7] st h = jv_ev d 109 35 [x0, some (.int v), x2, x3, x4, x5, x6, x7] (.int v :: st) h := jq_nx (jv_insR jm_109 dX12_look_34) rfl
theorem e109_35 : jv_ev d 109 35 lc [z3, z2, z1, z0, .ref b, y0, y1] h = (jv_rc h b [(0, 107)]).bind fun y => (jv_cd d y [.ref b, z0, z1, z2, z3] h).bind fun r => jv_on r (fun v h => jv_ev d 109 38 lc (v.toList ++ [y0, y1]) h) (fun q h => some (.inr q, h)) := jq_V (as := [z0, z1, z2, z3]) (rest := [y0, y1]) (jv_insR jm_109 dX12_look_35) jo_109 jV_1_473 rfl rfl rfl rfl
theorem e109_38 : jv_ev d 109 38 lc (.int w :: .int v :: .ref a :: st) h = (jv_ip h a 1 2 v w).bind fun h => jv_ev d 109 39 lc st h := jq_bast (jv_insR jm_109 dX12_look_38)
theorem e109_39 : jv_ev d 109 39 [x0, x1, x2, x3, some (.int v), x5, x6, x7] st h = jv_ev d 109 42 [x0, x1, x2, x3, some (.int (v + 1)), x5, x6, x7] st h := jq_nx (jv_insR jm_109 dX12_look_39) rfl
theorem e109_42 : jv_ev d 109 42 lc st h = jv_ev d 109 15 lc st h := jq_go (jv_insR jm_109 dX12_look_42) (by decide)
theorem e109_45 : jv_ev d 109 45 lc st h = jv_ev d 109 47 lc (.int (-2) :: st) h := jq_bipush (jv_insR jm_109 dX12_look_45) (by decide)
theorem e109_47 : jv_ev d 109 47 [x0, x1, x2, x3, x4, x5, x6, x7] (.int v :: st) h = jv_ev d 109 49 [x0, x1, x2, x3, some (.int v), x5, x6, x7] st h := jq_nx (jv_insR jm_109 dX12_look_47) rfl
theorem e109_49 : jv_ev d 109 49 lc st h = jv_ev d 109 50 lc (.int 0 :: st) h := jq_iconst (jv_insR jm_109 dX12_look_49) (by decide)
theorem e109_50 : jv_ev d 109 50 [x0, x1, x2, x3, x4, x5, x6, x7] (.int v :: st) h = jv_ev d 109 52 [x0, x1, x2, x3, x4, some (.int v), x6, x7] st h := jq_nx (jv_insR jm_109 dX12_look_50) rfl
theorem e109_52 : jv_ev d 109 52 lc st h = jv_ev d 109 53 lc (.int 0 :: st) h := jq_iconst (jv_insR jm_109 dX12_look_52) (by decide)
theorem e109_53 : jv_ev d 109 53 [x0, x1, x2, x3, x4, x5, x6, x7] (.int v :: st) h = jv_ev d 109 55 [x0, x1, x2, x3, x4, x5, some (.int v), x7] st h := jq_nx (jv_insR jm_109 dX12_look_53) rfl
theorem e109_55 : jv_ev d 109 55 [x0, x1, x2, x3, x4, x5, some (.int v), x7] st h = jv_ev d 109 57 [x0, x1, x2, x3, x4, x5, some (.int v), x7] (.int v :: st) h := jq_nx (jv_insR jm_109 dX12_look_55) rfl
theorem e109_57 : jv_ev d 109 57 lc st h = jv_ev d 109 59 lc (.int 48 :: st) h := jq_bipush (jv_insR jm_109 dX12_look_57) (by decide)
theorem e109_59 : jv_ev d 109 59 lc (.int w :: .int v :: st) h = if w ≤ v then jv_ev d 109 125 lc st h else jv_ev d 109 62 lc st h := jq_if (jv_insR jm_109 dX12_look_59) rfl (by decide)
theorem e109_62 : jv_ev d 109 62 [some (.ref a), x1, x2, x3, x4, x5, x6, x7] st h = jv_ev d 109 63 [some (.ref a), x1, x2, x3, x4, x5, x6, x7] (.ref a :: st) h := jq_nx (jv_insR jm_109 dX12_look_62) rfl
theorem e109_63 : jv_ev d 109 63 [x0, x1, x2, x3, x4, x5, some (.int v), x7] st h = jv_ev d 109 65 [x0, x1, x2, x3, x4, x5, some (.int v), x7] (.int v :: st) h := jq_nx (jv_insR jm_109 dX12_look_63) rfl
theorem e109_65 : jv_ev d 109 65 lc [z0, .ref b] h = (jv_rc h b [(0, 50)]).bind fun y => (jv_cd d y [.ref b, z0] h).bind fun r => jv_on r (fun v h => jv_ev d 109 68 lc (v.toList ++ []) h) (fun q h => some (.inr q, h)) := jq_V (as := [z0]) (rest := []) (jv_insR jm_109 dX12_look_65) jo_109 jV_1_366 rfl rfl rfl rfl
theorem e109_68 : jv_ev d 109 68 lc (.int v :: st) h = if ¬ v = 0 then jv_ev d 109 74 lc st h else jv_ev d 109 71 lc st h := jq_if (jv_insR jm_109 dX12_look_68) rfl (by decide)
theorem e109_71 : jv_ev d 109 71 lc st h = jv_ev d 109 119 lc st h := jq_go (jv_insR jm_109 dX12_look_71) (by decide)
theorem e109_74 : jv_ev d 109 74 [some (.ref a), x1, x2, x3, x4, x5, x6, x7] st h = jv_ev d 109 75 [some (.ref a), x1, x2, x3, x4, x5, x6, x7] (.ref a :: st) h := jq_nx (jv_insR jm_109 dX12_look_74) rfl
theorem e109_75 : jv_ev d 109 75 [x0, x1, x2, x3, x4, x5, some (.int v), x7] st h = jv_ev d 109 77 [x0, x1, x2, x3, x4, x5, some (.int v), x7] (.int v :: st) h := jq_nx (jv_insR jm_109 dX12_look_75) rfl
theorem e109_77 : jv_ev d 109 77 [x0, x1, some (.int v), x3, x4, x5, x6, x7] st h = jv_ev d 109 78 [x0, x1, some (.int v), x3, x4, x5, x6, x7] (.int v :: st) h := jq_nx (jv_insR jm_109 dX12_look_77) rfl
theorem e109_78 : jv_ev d 109 78 [x0, x1, x2, some (.int v), x4, x5, x6, x7] st h = jv_ev d 109 79 [x0, x1, x2, some (.int v), x4, x5, x6, x7] (.int v :: st) h := jq_nx (jv_insR jm_109 dX12_look_78) rfl
theorem e109_79 : jv_ev d 109 79 lc [z2, z1, z0, .ref b] h = (jv_rc h b [(0, 110)]).bind fun y => (jv_cd d y [.ref b, z0, z1, z2] h).bind fun r => jv_on r (fun v h => jv_ev d 109 82 lc (v.toList ++ []) h) (fun q h => some (.inr q, h)) := jq_V (as := [z0, z1, z2]) (rest := []) (jv_insR jm_109 dX12_look_79) jo_109 jV_1_477 rfl rfl rfl rfl
theorem e109_82 : jv_ev d 109 82 [x0, x1, x2, x3, x4, x5, x6, x7] (.int v :: st) h = jv_ev d 109 84 [x0, x1, x2, x3, x4, x5, x6, some (.int v)] st h := jq_nx (jv_insR jm_109 dX12_look_82) rfl
theorem e109_84 : jv_ev d 109 84 [x0, x1, x2, x3, some (.int v), x5, x6, x7] st h = jv_ev d 109 86 [x0, x1, x2, x3, some (.int v), x5, x6, x7] (.int v :: st) h := jq_nx (jv_insR jm_109 dX12_look_84) rfl
theorem e109_86 : jv_ev d 109 86 lc (.int v :: st) h = if v < 0 then jv_ev d 109 99 lc st h else jv_ev d 109 89 lc st h := jq_if (jv_insR jm_109 dX12_look_86) rfl (by decide)
theorem e109_89 : jv_ev d 109 89 [x0, x1, x2, x3, x4, x5, x6, some (.int v)] st h = jv_ev d 109 91 [x0, x1, x2, x3, x4, x5, x6, some (.int v)] (.int v :: st) h := jq_nx (jv_insR jm_109 dX12_look_89) rfl
theorem e109_91 : jv_ev d 109 91 [x0, x1, x2, x3, x4, some (.int v), x6, x7] st h = jv_ev d 109 93 [x0, x1, x2, x3, x4, some (.int v), x6, x7] (.int v :: st) h := jq_nx (jv_insR jm_109 dX12_look_91) rfl
theorem e109_93 : jv_ev d 109 93 lc (.int w :: .int v :: st) h = if v < w then jv_ev d 109 99 lc st h else jv_ev d 109 96 lc st h := jq_if (jv_insR jm_109 dX12_look_93) rfl (by decide)
theorem e109_96 : jv_ev d 109 96 lc st h = jv_ev d 109 119 lc st h := jq_go (jv_insR jm_109 dX12_look_96) (by decide)
theorem e109_99 : jv_ev d 109 99 [x0, x1, x2, x3, x4, x5, some (.int v), x7] st h = jv_ev d 109 101 [x0, x1, x2, x3, x4, x5, some (.int v), x7] (.int v :: st) h := jq_nx (jv_insR jm_109 dX12_look_99) rfl
theorem e109_101 : jv_ev d 109 101 lc st h = jv_ev d 109 103 lc (.int 8 :: st) h := jq_bipush (jv_insR jm_109 dX12_look_101) (by decide)
theorem e109_103 : jv_ev d 109 103 lc (.int w :: .int v :: st) h = if w = 0 then none else jv_ev d 109 104 lc (.int (v / w) :: st) h := jq_idiv (jv_insR jm_109 dX12_look_103)
theorem e109_104 : jv_ev d 109 104 lc st h = jv_ev d 109 106 lc (.int 10 :: st) h := jq_bipush (jv_insR jm_109 dX12_look_104) (by decide)
theorem e109_106 : jv_ev d 109 106 lc (.int w :: .int v :: st) h = jv_ev d 109 107 lc (.int (v * w) :: st) h := jq_nx (jv_insR jm_109 dX12_look_106) rfl
theorem e109_107 : jv_ev d 109 107 [x0, x1, x2, x3, x4, x5, some (.int v), x7] st h = jv_ev d 109 109 [x0, x1, x2, x3, x4, x5, some (.int v), x7] (.int v :: st) h := jq_nx (jv_insR jm_109 dX12_look_107) rfl
theorem e109_109 : jv_ev d 109 109 lc st h = jv_ev d 109 111 lc (.int 8 :: st) h := jq_bipush (jv_insR jm_109 dX12_look_109) (by decide)
theorem e109_111 : jv_ev d 109 111 lc (.int w :: .int v :: st) h = if w = 0 then none else jv_ev d 109 112 lc (.int (v - v / w * w) :: st) h := jq_irem (jv_insR jm_109 dX12_look_111)
theorem e109_112 : jv_ev d 109 112 lc (.int w :: .int v :: st) h = jv_ev d 109 113 lc (.int (v + w) :: st) h := jq_nx (jv_insR jm_109 dX12_look_112) rfl
theorem e109_113 : jv_ev d 109 113 [x0, x1, x2, x3, x4, x5, x6, x7] (.int v :: st) h = jv_ev d 109 115 [x0, x1, x2, x3, some (.int v), x5, x6, x7] st h := jq_nx (jv_insR jm_109 dX12_look_113) rfl
theorem e109_115 : jv_ev d 109 115 [x0, x1, x2, x3, x4, x5, x6, some (.int v)] st h = jv_ev d 109 117 [x0, x1, x2, x3, x4, x5, x6, some (.int v)] (.int v :: st) h := jq_nx (jv_insR jm_109 dX12_look_115) rfl
theorem e109_117 : jv_ev d 109 117 [x0, x1, x2, x3, x4, x5, x6, x7] (.int v :: st) h = jv_ev d 109 119 [x0, x1, x2, x3, x4, some (.int v), x6, x7] st h := jq_nx (jv_insR jm_109 dX12_look_117) rfl
theorem e109_119 : jv_ev d 109 119 [x0, x1, x2, x3, x4, x5, some (.int v), x7] st h = jv_ev d 109 122 [x0, x1, x2, x3, x4, x5, some (.int (v + 1)), x7] st h := jq_nx (jv_insR jm_109 dX12_look_119) rfl
theorem e109_122 : jv_ev d 109 122 lc st h = jv_ev d 109 55 lc st h := jq_go (jv_insR jm_109 dX12_look_122) (by decide)
theorem e109_125 : jv_ev d 109 125 [x0, x1, x2, x3, some (.int v), x5, x6, x7] st h = jv_ev d 109 127 [x0, x1, x2, x3, some (.int v), x5, x6, x7] (.int v :: st) h := jq_nx (jv_insR jm_109 dX12_look_125) rfl
theorem e109_127 : jv_ev d 109 127 lc [.int v] h = some (.inl (some (.int v)), h) := jq_reti (jv_insR jm_109 dX12_look_127) jr_109
/-! 110: RainLoomModel.worstAt(III)I -/
theorem n110 : jv_cd (d + 1) 110 [.ref a0, .int i1, .int i2, .int i3] h = jv_ev d 110 0 [some (.ref a0), some (.int i1), some (.int i2), some (.int i3), none, none] [] h := rfl
theorem e110_0 : jv_ev d 110 0 lc st h = jv_ev d 110 1 lc (.int 0 :: st) h := jq_iconst (jv_insR jm_110 dX12_worstAt_0) (by decide)
theorem e110_1 : jv_ev d 110 1 [x0, x1, x2, x3, x4, x5] (.int v :: st) h = jv_ev d 110 3 [x0, x1, x2, x3, some (.int v), x5] st h := jq_nx (jv_insR jm_110 dX12_worstAt_1) rfl
theorem e110_3 : jv_ev d 110 3 [x0, x1, x2, x3, some (.int v), x5] st h = jv_ev d 110 5 [x0, x1, x2, x3, some (.int v), x5] (.int v :: st) h := jq_nx (jv_insR jm_110 dX12_worstAt_3) rfl
theorem e110_5 : jv_ev d 110 5 lc st h = jv_ev d 110 7 lc (.int 10 :: st) h := jq_bipush (jv_insR jm_110 dX12_worstAt_5) (by decide)
theorem e110_7 : jv_ev d 110 7 lc (.int w :: .int v :: st) h = if w ≤ v then jv_ev d 110 24 lc st h else jv_ev d 110 10 lc st h := jq_if (jv_insR jm_110 dX12_worstAt_7) rfl (by decide)
theorem e110_10 : jv_ev d 110 10 [some (.ref a), x1, x2, x3, x4, x5] st h = jv_ev d 110 11 [some (.ref a), x1, x2, x3, x4, x5] (.ref a :: st) h := jq_nx (jv_insR jm_110 dX12_worstAt_10) rfl
theorem e110_11 : jv_ev d 110 11 lc (.ref a :: st) h = (jv_gf h a [(0, 69, .array .int)]).bind fun r => jv_ev d 110 14 lc (r :: st) h := jq_get (jv_insR jm_110 dX12_worstAt_11) jo_110 jF_1_149
theorem e110_14 : jv_ev d 110 14 [x0, x1, x2, x3, some (.int v), x5] st h = jv_ev d 110 16 [x0, x1, x2, x3, some (.int v), x5] (.int v :: st) h := jq_nx (jv_insR jm_110 dX12_worstAt_14) rfl
theorem e110_16 : jv_ev d 110 16 lc st h = jv_ev d 110 17 lc (.int 0 :: st) h := jq_iconst (jv_insR jm_110 dX12_worstAt_16) (by decide)
theorem e110_17 : jv_ev d 110 17 lc (.int w :: .int v :: .ref a :: st) h = (jv_ip h a 0 0 v w).bind fun h => jv_ev d 110 18 lc st h := jq_iast (jv_insR jm_110 dX12_worstAt_17)
theorem e110_18 : jv_ev d 110 18 [x0, x1, x2, x3, some (.int v), x5] st h = jv_ev d 110 21 [x0, x1, x2, x3, some (.int (v + 1)), x5] st h := jq_nx (jv_insR jm_110 dX12_worstAt_18) rfl
theorem e110_21 : jv_ev d 110 21 lc st h = jv_ev d 110 3 lc st h := jq_go (jv_insR jm_110 dX12_worstAt_21) (by decide)
theorem e110_24 : jv_ev d 110 24 lc st h = jv_ev d 110 25 lc (.int 0 :: st) h := jq_iconst (jv_insR jm_110 dX12_worstAt_24) (by decide)
theorem e110_25 : jv_ev d 110 25 [x0, x1, x2, x3, x4, x5] (.int v :: st) h = jv_ev d 110 27 [x0, x1, x2, x3, some (.int v), x5] st h := jq_nx (jv_insR jm_110 dX12_worstAt_25) rfl
theorem e110_27 : jv_ev d 110 27 [x0, x1, x2, x3, some (.int v), x5] st h = jv_ev d 110 29 [x0, x1, x2, x3, some (.int v), x5] (.int v :: st) h := jq_nx (jv_insR jm_110 dX12_worstAt_27) rfl
theorem e110_29 : jv_ev d 110 29 lc st h = jv_ev d 110 32 lc (.int 256 :: st) h := jq_sipush (jv_insR jm_110 dX12_worstAt_29) (by decide)
theorem e110_32 : jv_ev d 110 32 lc (.int w :: .int v :: st) h = if w ≤ v then jv_ev d 110 69 lc st h else jv_ev d 110 35 lc st h := jq_if (jv_insR jm_110 dX12_worstAt_32) rfl (by decide)
theorem e110_35 : jv_ev d 110 35 [some (.ref a), x1, x2, x3, x4, x5] st h = jv_ev d 110 36 [some (.ref a), x1, x2, x3, x4, x5] (.ref a :: st) h := jq_nx (jv_insR jm_110 dX12_worstAt_35) rfl
theorem e110_36 : jv_ev d 110 36 lc (.ref a :: st) h = (jv_gf h a [(0, 68, .array .boolean)]).bind fun r => jv_ev d 110 39 lc (r :: st) h := jq_get (jv_insR jm_110 dX12_worstAt_36) jo_110 jF_1_146
theorem e110_39 : jv_ev d 110 39 [x0, x1, x2, x3, some (.int v), x5] st h = jv_ev d 110 41 [x0, x1, x2, x3, some (.int v), x5] (.int v :: st) h := jq_nx (jv_insR jm_110 dX12_worstAt_39) rfl
theorem e110_41 : jv_ev d 110 41 lc (.int v :: .ref a :: st) h = (jv_ig h a 1 2 v).bind fun w => jv_ev d 110 42 lc (.int w :: st) h := jq_bald (jv_insR jm_110 dX12_worstAt_41)
theorem e110_42 : jv_ev d 110 42 lc (.int v :: st) h = if v = 0 then jv_ev d 110 63 lc st h else jv_ev d 110 45 lc st h := jq_if (jv_insR jm_110 dX12_worstAt_42) rfl (by decide)
theorem e110_45 : jv_ev d 110 45 [some (.ref a), x1, x2, x3, x4, x5] st h = jv_ev d 110 46 [some (.ref a), x1, x2, x3, x4, x5] (.ref a :: st) h := jq_nx (jv_insR jm_110 dX12_worstAt_45) rfl
theorem e110_46 : jv_ev d 110 46 lc (.ref a :: st) h = (jv_gf h a [(0, 69, .array .int)]).bind fun r => jv_ev d 110 49 lc (r :: st) h := jq_get (jv_insR jm_110 dX12_worstAt_46) jo_110 jF_1_149
theorem e110_49 : jv_ev d 110 49 [some (.ref a), x1, x2, x3, x4, x5] st h = jv_ev d 110 50 [some (.ref a), x1, x2, x3, x4, x5] (.ref a :: st) h := jq_nx (jv_insR jm_110 dX12_worstAt_49) rfl
theorem e110_50 : jv_ev d 110 50 [x0, x1, x2, x3, some (.int v), x5] st h = jv_ev d 110 52 [x0, x1, x2, x3, some (.int v), x5] (.int v :: st) h := jq_nx (jv_insR jm_110 dX12_worstAt_50) rfl
theorem e110_52 : jv_ev d 110 52 [x0, x1, some (.int v), x3, x4, x5] st h = jv_ev d 110 53 [x0, x1, some (.int v), x3, x4, x5] (.int v :: st) h := jq_nx (jv_insR jm_110 dX12_worstAt_52) rfl
theorem e110_53 : jv_ev d 110 53 [x0, x1, x2, some (.int v), x4, x5] st h = jv_ev d 110 54 [x0, x1, x2, some (.int v), x4, x5] (.int v :: st) h := jq_nx (jv_insR jm_110 dX12_worstAt_53) rfl
theorem e110_54 : jv_ev d 110 54 [x0, some (.int v), x2, x3, x4, x5] st h = jv_ev d 110 55 [x0, some (.int v), x2, x3, x4, x5] (.int v :: st) h := jq_nx (jv_insR jm_110 dX12_worstAt_54) rfl
theorem e110_55 : jv_ev d 110 55 lc [z3, z2, z1, z0, .ref b, y0] h = (jv_rc h b [(0, 108)]).bind fun y => (jv_cd d y [.ref b, z0, z1, z2, z3] h).bind fun r => jv_on r (fun v h => jv_ev d 110 58 lc (v.toList ++ [y0]) h) (fun q h => some (.inr q, h)) := jq_V (as := [z0, z1, z2, z3]) (rest := [y0]) (jv_insR jm_110 dX12_worstAt_55) jo_110 jV_1_467 rfl rfl rfl rfl
theorem e110_58 : jv_ev d 110 58 lc (.int v :: .ref b :: st) h = jv_ev d 110 59 lc (.int v :: .ref b :: .int v :: .ref b :: st) h := jq_nx (jv_insR jm_110 dX12_worstAt_58) rfl
theorem e110_59 : jv_ev d 110 59 lc (.int v :: .ref a :: st) h = (jv_ig h a 0 0 v).bind fun w => jv_ev d 110 60 lc (.int w :: st) h := jq_iald (jv_insR jm_110 dX12_worstAt_59)
theorem e110_60 : jv_ev d 110 60 lc st h = jv_ev d 110 61 lc (.int 1 :: st) h := jq_iconst (jv_insR jm_110 dX12_worstAt_60) (by decide)
theorem e110_61 : jv_ev d 110 61 lc (.int w :: .int v :: st) h = jv_ev d 110 62 lc (.int (v + w) :: st) h := jq_nx (jv_insR jm_110 dX12_worstAt_61) rfl
theorem e110_62 : jv_ev d 110 62 lc (.int w :: .int v :: .ref a :: st) h = (jv_ip h a 0 0 v w).bind fun h => jv_ev d 110 63 lc st h := jq_iast (jv_insR jm_110 dX12_worstAt_62)
theorem e110_63 : jv_ev d 110 63 [x0, x1, x2, x3, some (.int v), x5] st h = jv_ev d 110 66 [x0, x1, x2, x3, some (.int (v + 1)), x5] st h := jq_nx (jv_insR jm_110 dX12_worstAt_63) rfl
theorem e110_66 : jv_ev d 110 66 lc st h = jv_ev d 110 27 lc st h := jq_go (jv_insR jm_110 dX12_worstAt_66) (by decide)
theorem e110_69 : jv_ev d 110 69 lc st h = jv_ev d 110 70 lc (.int 0 :: st) h := jq_iconst (jv_insR jm_110 dX12_worstAt_69) (by decide)
theorem e110_70 : jv_ev d 110 70 [x0, x1, x2, x3, x4, x5] (.int v :: st) h = jv_ev d 110 72 [x0, x1, x2, x3, some (.int v), x5] st h := jq_nx (jv_insR jm_110 dX12_worstAt_70) rfl
theorem e110_72 : jv_ev d 110 72 lc st h = jv_ev d 110 73 lc (.int 0 :: st) h := jq_iconst (jv_insR jm_110 dX12_worstAt_72) (by decide)
theorem e110_73 : jv_ev d 110 73 [x0, x1, x2, x3, x4, x5] (.int v :: st) h = jv_ev d 110 75 [x0, x1, x2, x3, x4, some (.int v)] st h := jq_nx (jv_insR jm_110 dX12_worstAt_73) rfl
theorem e110_75 : jv_ev d 110 75 [x0, x1, x2, x3, x4, some (.int v)] st h = jv_ev d 110 77 [x0, x1, x2, x3, x4, some (.int v)] (.int v :: st) h := jq_nx (jv_insR jm_110 dX12_worstAt_75) rfl
theorem e110_77 : jv_ev d 110 77 lc st h = jv_ev d 110 79 lc (.int 10 :: st) h := jq_bipush (jv_insR jm_110 dX12_worstAt_77) (by decide)
theorem e110_79 : jv_ev d 110 79 lc (.int w :: .int v :: st) h = if w ≤ v then jv_ev d 110 109 lc st h else jv_ev d 110 82 lc st h := jq_if (jv_insR jm_110 dX12_worstAt_79) rfl (by decide)
theorem e110_82 : jv_ev d 110 82 [some (.ref a), x1, x2, x3, x4, x5] st h = jv_ev d 110 83 [some (.ref a), x1, x2, x3, x4, x5] (.ref a :: st) h := jq_nx (jv_insR jm_110 dX12_worstAt_82) rfl
theorem e110_83 : jv_ev d 110 83 lc (.ref a :: st) h = (jv_gf h a [(0, 69, .array .int)]).bind fun r => jv_ev d 110 86 lc (r :: st) h := jq_get (jv_insR jm_110 dX12_worstAt_83) jo_110 jF_1_149
theorem e110_86 : jv_ev d 110 86 [x0, x1, x2, x3, x4, some (.int v)] st h = jv_ev d 110 88 [x0, x1, x2, x3, x4, some (.int v)] (.int v :: st) h := jq_nx (jv_insR jm_110 dX12_worstAt_86) rfl
theorem e110_88 : jv_ev d 110 88 lc (.int v :: .ref a :: st) h = (jv_ig h a 0 0 v).bind fun w => jv_ev d 110 89 lc (.int w :: st) h := jq_iald (jv_insR jm_110 dX12_worstAt_88)
theorem e110_89 : jv_ev d 110 89 [x0, x1, x2, x3, some (.int v), x5] st h = jv_ev d 110 91 [x0, x1, x2, x3, some (.int v), x5] (.int v :: st) h := jq_nx (jv_insR jm_110 dX12_worstAt_89) rfl
theorem e110_91 : jv_ev d 110 91 lc (.int w :: .int v :: st) h = if v ≤ w then jv_ev d 110 103 lc st h else jv_ev d 110 94 lc st h := jq_if (jv_insR jm_110 dX12_worstAt_91) rfl (by decide)
theorem e110_94 : jv_ev d 110 94 [some (.ref a), x1, x2, x3, x4, x5] st h = jv_ev d 110 95 [some (.ref a), x1, x2, x3, x4, x5] (.ref a :: st) h := jq_nx (jv_insR jm_110 dX12_worstAt_94) rfl
theorem e110_95 : jv_ev d 110 95 lc (.ref a :: st) h = (jv_gf h a [(0, 69, .array .int)]).bind fun r => jv_ev d 110 98 lc (r :: st) h := jq_get (jv_insR jm_110 dX12_worstAt_95) jo_110 jF_1_149
theorem e110_98 : jv_ev d 110 98 [x0, x1, x2, x3, x4, some (.int v)] st h = jv_ev d 110 100 [x0, x1, x2, x3, x4, some (.int v)] (.int v :: st) h := jq_nx (jv_insR jm_110 dX12_worstAt_98) rfl
theorem e110_100 : jv_ev d 110 100 lc (.int v :: .ref a :: st) h = (jv_ig h a 0 0 v).bind fun w => jv_ev d 110 101 lc (.int w :: st) h := jq_iald (jv_insR jm_110 dX12_worstAt_100)
theorem e110_101 : jv_ev d 110 101 [x0, x1, x2, x3, x4, x5] (.int v :: st) h = jv_ev d 110 103 [x0, x1, x2, x3, some (.int v), x5] st h := jq_nx (jv_insR jm_110 dX12_worstAt_101) rfl
theorem e110_103 : jv_ev d 110 103 [x0, x1, x2, x3, x4, some (.int v)] st h = jv_ev d 110 106 [x0, x1, x2, x3, x4, some (.int (v + 1))] st h := jq_nx (jv_insR jm_110 dX12_worstAt_103) rfl
theorem e110_106 : jv_ev d 110 106 lc st h = jv_ev d 110 75 lc st h := jq_go (jv_insR jm_110 dX12_worstAt_106) (by decide)
theorem e110_109 : jv_ev d 110 109 [x0, x1, x2, x3, some (.int v), x5] st h = jv_ev d 110 111 [x0, x1, x2, x3, some (.int v), x5] (.int v :: st) h := jq_nx (jv_insR jm_110 dX12_worstAt_109) rfl
theorem e110_111 : jv_ev d 110 111 lc [.int v] h = some (.inl (some (.int v)), h) := jq_reti (jv_insR jm_110 dX12_worstAt_111) jr_110
/-! 111: RainLoomModel.hold(I)Z -/
theorem n111 : jv_cd (d + 1) 111 [.ref a0, .int i1] h = jv_ev d 111 0 [some (.ref a0), some (.int i1), none] [] h := rfl
theorem e111_0 : jv_ev d 111 0 [x0, some (.int v), x2] st h = jv_ev d 111 1 [x0, some (.int v), x2] (.int v :: st) h := jq_nx (jv_insR jm_111 dX12_hold_0) rfl
theorem e111_1 : jv_ev d 111 1 lc st h = jv_ev d 111 2 lc (.int 0 :: st) h := jq_iconst (jv_insR jm_111 dX12_hold_1) (by decide)
theorem e111_2 : jv_ev d 111 2 lc st h = jv_ev d 111 3 lc (.int 2 :: st) h := jq_iconst (jv_insR jm_111 dX12_hold_2) (by decide)
theorem e111_3 : jv_ev d 111 3 lc [z2, z1, z0] h = (jv_cd d 40 [z0, z1, z2] h).bind fun r => jv_on r (fun v h => jv_ev d 111 6 lc (v.toList ++ []) h) (fun q h => some (.inr q, h)) := jq_S (as := [z0, z1, z2]) (rest := []) (jv_insR jm_111 dX12_hold_3) jo_111 jT_1_323 rfl rfl rfl rfl
theorem e111_6 : jv_ev d 111 6 lc (.int v :: st) h = if ¬ v = 0 then jv_ev d 111 11 lc st h else jv_ev d 111 9 lc st h := jq_if (jv_insR jm_111 dX12_hold_6) rfl (by decide)
theorem e111_9 : jv_ev d 111 9 lc st h = jv_ev d 111 10 lc (.int 0 :: st) h := jq_iconst (jv_insR jm_111 dX12_hold_9) (by decide)
theorem e111_10 : jv_ev d 111 10 lc [.int v] h = if narrow .boolean (.int v) = .int v then some (.inl (some (.int v)), h) else none := jq_ret (jv_insR jm_111 dX12_hold_10) jr_111 (by decide)
theorem e111_11 : jv_ev d 111 11 [some (.ref a), x1, x2] st h = jv_ev d 111 12 [some (.ref a), x1, x2] (.ref a :: st) h := jq_nx (jv_insR jm_111 dX12_hold_11) rfl
theorem e111_12 : jv_ev d 111 12 lc (.ref a :: st) h = (jv_gf h a [(0, 70, .array .boolean)]).bind fun r => jv_ev d 111 15 lc (r :: st) h := jq_get (jv_insR jm_111 dX12_hold_12) jo_111 jF_1_152
theorem e111_15 : jv_ev d 111 15 [x0, some (.int v), x2] st h = jv_ev d 111 16 [x0, some (.int v), x2] (.int v :: st) h := jq_nx (jv_insR jm_111 dX12_hold_15) rfl
theorem e111_16 : jv_ev d 111 16 lc st h = jv_ev d 111 17 lc (.int 1 :: st) h := jq_iconst (jv_insR jm_111 dX12_hold_16) (by decide)
theorem e111_17 : jv_ev d 111 17 lc (.int w :: .int v :: .ref a :: st) h = (jv_ip h a 1 2 v w).bind fun h => jv_ev d 111 18 lc st h := jq_bast (jv_insR jm_111 dX12_hold_17)
theorem e111_18 : jv_ev d 111 18 lc st h = jv_ev d 111 19 lc (.int 0 :: st) h := jq_iconst (jv_insR jm_111 dX12_hold_18) (by decide)
theorem e111_19 : jv_ev d 111 19 [x0, x1, x2] (.int v :: st) h = jv_ev d 111 20 [x0, x1, some (.int v)] st h := jq_nx (jv_insR jm_111 dX12_hold_19) rfl
theorem e111_20 : jv_ev d 111 20 [x0, x1, some (.int v)] st h = jv_ev d 111 21 [x0, x1, some (.int v)] (.int v :: st) h := jq_nx (jv_insR jm_111 dX12_hold_20) rfl
theorem e111_21 : jv_ev d 111 21 lc st h = jv_ev d 111 23 lc (.int 92 :: st) h := jq_bipush (jv_insR jm_111 dX12_hold_21) (by decide)
theorem e111_23 : jv_ev d 111 23 lc (.int w :: .int v :: st) h = if w ≤ v then jv_ev d 111 49 lc st h else jv_ev d 111 26 lc st h := jq_if (jv_insR jm_111 dX12_hold_23) rfl (by decide)
theorem e111_26 : jv_ev d 111 26 [some (.ref a), x1, x2] st h = jv_ev d 111 27 [some (.ref a), x1, x2] (.ref a :: st) h := jq_nx (jv_insR jm_111 dX12_hold_26) rfl
theorem e111_27 : jv_ev d 111 27 lc (.ref a :: st) h = (jv_gf h a [(0, 71, .array .int)]).bind fun r => jv_ev d 111 30 lc (r :: st) h := jq_get (jv_insR jm_111 dX12_hold_27) jo_111 jF_1_155
theorem e111_30 : jv_ev d 111 30 lc st h = jv_ev d 111 32 lc (.int 92 :: st) h := jq_bipush (jv_insR jm_111 dX12_hold_30) (by decide)
theorem e111_32 : jv_ev d 111 32 [x0, some (.int v), x2] st h = jv_ev d 111 33 [x0, some (.int v), x2] (.int v :: st) h := jq_nx (jv_insR jm_111 dX12_hold_32) rfl
theorem e111_33 : jv_ev d 111 33 lc (.int w :: .int v :: st) h = jv_ev d 111 34 lc (.int (v * w) :: st) h := jq_nx (jv_insR jm_111 dX12_hold_33) rfl
theorem e111_34 : jv_ev d 111 34 [x0, x1, some (.int v)] st h = jv_ev d 111 35 [x0, x1, some (.int v)] (.int v :: st) h := jq_nx (jv_insR jm_111 dX12_hold_34) rfl
theorem e111_35 : jv_ev d 111 35 lc (.int w :: .int v :: st) h = jv_ev d 111 36 lc (.int (v + w) :: st) h := jq_nx (jv_insR jm_111 dX12_hold_35) rfl
theorem e111_36 : jv_ev d 111 36 [some (.ref a), x1, x2] st h = jv_ev d 111 37 [some (.ref a), x1, x2] (.ref a :: st) h := jq_nx (jv_insR jm_111 dX12_hold_36) rfl
theorem e111_37 : jv_ev d 111 37 lc (.ref a :: st) h = (jv_gf h a [(0, 50, .array .int)]).bind fun r => jv_ev d 111 40 lc (r :: st) h := jq_get (jv_insR jm_111 dX12_hold_37) jo_111 jF_1_116
theorem e111_40 : jv_ev d 111 40 [x0, x1, some (.int v)] st h = jv_ev d 111 41 [x0, x1, some (.int v)] (.int v :: st) h := jq_nx (jv_insR jm_111 dX12_hold_40) rfl
theorem e111_41 : jv_ev d 111 41 lc (.int v :: .ref a :: st) h = (jv_ig h a 0 0 v).bind fun w => jv_ev d 111 42 lc (.int w :: st) h := jq_iald (jv_insR jm_111 dX12_hold_41)
theorem e111_42 : jv_ev d 111 42 lc (.int w :: .int v :: .ref a :: st) h = (jv_ip h a 0 0 v w).bind fun h => jv_ev d 111 43 lc st h := jq_iast (jv_insR jm_111 dX12_hold_42)
theorem e111_43 : jv_ev d 111 43 [x0, x1, some (.int v)] st h = jv_ev d 111 46 [x0, x1, some (.int (v + 1))] st h := jq_nx (jv_insR jm_111 dX12_hold_43) rfl
theorem e111_46 : jv_ev d 111 46 lc st h = jv_ev d 111 20 lc st h := jq_go (jv_insR jm_111 dX12_hold_46) (by decide)
theorem e111_49 : jv_ev d 111 49 lc st h = jv_ev d 111 50 lc (.int 1 :: st) h := jq_iconst (jv_insR jm_111 dX12_hold_49) (by decide)
theorem e111_50 : jv_ev d 111 50 lc [.int v] h = if narrow .boolean (.int v) = .int v then some (.inl (some (.int v)), h) else none := jq_ret (jv_insR jm_111 dX12_hold_50) jr_111 (by decide)
/-! 112: RainLoomModel.restore(I)Z -/
theorem n112 : jv_cd (d + 1) 112 [.ref a0, .int i1] h = jv_ev d 112 0 [some (.ref a0), some (.int i1), none] [] h := rfl
theorem e112_0 : jv_ev d 112 0 [x0, some (.int v), x2] st h = jv_ev d 112 1 [x0, some (.int v), x2] (.int v :: st) h := jq_nx (jv_insR jm_112 dX12_restore_0) rfl
theorem e112_1 : jv_ev d 112 1 lc st h = jv_ev d 112 2 lc (.int 0 :: st) h := jq_iconst (jv_insR jm_112 dX12_restore_1) (by decide)
theorem e112_2 : jv_ev d 112 2 lc st h = jv_ev d 112 3 lc (.int 2 :: st) h := jq_iconst (jv_insR jm_112 dX12_restore_2) (by decide)
theorem e112_3 : jv_ev d 112 3 lc [z2, z1, z0] h = (jv_cd d 40 [z0, z1, z2] h).bind fun r => jv_on r (fun v h => jv_ev d 112 6 lc (v.toList ++ []) h) (fun q h => some (.inr q, h)) := jq_S (as := [z0, z1, z2]) (rest := []) (jv_insR jm_112 dX12_restore_3) jo_112 jT_1_323 rfl rfl rfl rfl
theorem e112_6 : jv_ev d 112 6 lc (.int v :: st) h = if v = 0 then jv_ev d 112 18 lc st h else jv_ev d 112 9 lc st h := jq_if (jv_insR jm_112 dX12_restore_6) rfl (by decide)
theorem e112_9 : jv_ev d 112 9 [some (.ref a), x1, x2] st h = jv_ev d 112 10 [some (.ref a), x1, x2] (.ref a :: st) h := jq_nx (jv_insR jm_112 dX12_restore_9) rfl
theorem e112_10 : jv_ev d 112 10 lc (.ref a :: st) h = (jv_gf h a [(0, 70, .array .boolean)]).bind fun r => jv_ev d 112 13 lc (r :: st) h := jq_get (jv_insR jm_112 dX12_restore_10) jo_112 jF_1_152
theorem e112_13 : jv_ev d 112 13 [x0, some (.int v), x2] st h = jv_ev d 112 14 [x0, some (.int v), x2] (.int v :: st) h := jq_nx (jv_insR jm_112 dX12_restore_13) rfl
theorem e112_14 : jv_ev d 112 14 lc (.int v :: .ref a :: st) h = (jv_ig h a 1 2 v).bind fun w => jv_ev d 112 15 lc (.int w :: st) h := jq_bald (jv_insR jm_112 dX12_restore_14)
theorem e112_15 : jv_ev d 112 15 lc (.int v :: st) h = if ¬ v = 0 then jv_ev d 112 20 lc st h else jv_ev d 112 18 lc st h := jq_if (jv_insR jm_112 dX12_restore_15) rfl (by decide)
theorem e112_18 : jv_ev d 112 18 lc st h = jv_ev d 112 19 lc (.int 0 :: st) h := jq_iconst (jv_insR jm_112 dX12_restore_18) (by decide)
theorem e112_19 : jv_ev d 112 19 lc [.int v] h = if narrow .boolean (.int v) = .int v then some (.inl (some (.int v)), h) else none := jq_ret (jv_insR jm_112 dX12_restore_19) jr_112 (by decide)
theorem e112_20 : jv_ev d 112 20 lc st h = jv_ev d 112 21 lc (.int 0 :: st) h := jq_iconst (jv_insR jm_112 dX12_restore_20) (by decide)
theorem e112_21 : jv_ev d 112 21 [x0, x1, x2] (.int v :: st) h = jv_ev d 112 22 [x0, x1, some (.int v)] st h := jq_nx (jv_insR jm_112 dX12_restore_21) rfl
theorem e112_22 : jv_ev d 112 22 [x0, x1, some (.int v)] st h = jv_ev d 112 23 [x0, x1, some (.int v)] (.int v :: st) h := jq_nx (jv_insR jm_112 dX12_restore_22) rfl
theorem e112_23 : jv_ev d 112 23 lc st h = jv_ev d 112 25 lc (.int 92 :: st) h := jq_bipush (jv_insR jm_112 dX12_restore_23) (by decide)
theorem e112_25 : jv_ev d 112 25 lc (.int w :: .int v :: st) h = if w ≤ v then jv_ev d 112 51 lc st h else jv_ev d 112 28 lc st h := jq_if (jv_insR jm_112 dX12_restore_25) rfl (by decide)
theorem e112_28 : jv_ev d 112 28 [some (.ref a), x1, x2] st h = jv_ev d 112 29 [some (.ref a), x1, x2] (.ref a :: st) h := jq_nx (jv_insR jm_112 dX12_restore_28) rfl
theorem e112_29 : jv_ev d 112 29 lc (.ref a :: st) h = (jv_gf h a [(0, 50, .array .int)]).bind fun r => jv_ev d 112 32 lc (r :: st) h := jq_get (jv_insR jm_112 dX12_restore_29) jo_112 jF_1_116
theorem e112_32 : jv_ev d 112 32 [x0, x1, some (.int v)] st h = jv_ev d 112 33 [x0, x1, some (.int v)] (.int v :: st) h := jq_nx (jv_insR jm_112 dX12_restore_32) rfl
theorem e112_33 : jv_ev d 112 33 [some (.ref a), x1, x2] st h = jv_ev d 112 34 [some (.ref a), x1, x2] (.ref a :: st) h := jq_nx (jv_insR jm_112 dX12_restore_33) rfl
theorem e112_34 : jv_ev d 112 34 lc (.ref a :: st) h = (jv_gf h a [(0, 71, .array .int)]).bind fun r => jv_ev d 112 37 lc (r :: st) h := jq_get (jv_insR jm_112 dX12_restore_34) jo_112 jF_1_155
theorem e112_37 : jv_ev d 112 37 lc st h = jv_ev d 112 39 lc (.int 92 :: st) h := jq_bipush (jv_insR jm_112 dX12_restore_37) (by decide)
theorem e112_39 : jv_ev d 112 39 [x0, some (.int v), x2] st h = jv_ev d 112 40 [x0, some (.int v), x2] (.int v :: st) h := jq_nx (jv_insR jm_112 dX12_restore_39) rfl
theorem e112_40 : jv_ev d 112 40 lc (.int w :: .int v :: st) h = jv_ev d 112 41 lc (.int (v * w) :: st) h := jq_nx (jv_insR jm_112 dX12_restore_40) rfl
theorem e112_41 : jv_ev d 112 41 [x0, x1, some (.int v)] st h = jv_ev d 112 42 [x0, x1, some (.int v)] (.int v :: st) h := jq_nx (jv_insR jm_112 dX12_restore_41) rfl
theorem e112_42 : jv_ev d 112 42 lc (.int w :: .int v :: st) h = jv_ev d 112 43 lc (.int (v + w) :: st) h := jq_nx (jv_insR jm_112 dX12_restore_42) rfl
theorem e112_43 : jv_ev d 112 43 lc (.int v :: .ref a :: st) h = (jv_ig h a 0 0 v).bind fun w => jv_ev d 112 44 lc (.int w :: st) h := jq_iald (jv_insR jm_112 dX12_restore_43)
theorem e112_44 : jv_ev d 112 44 lc (.int w :: .int v :: .ref a :: st) h = (jv_ip h a 0 0 v w).bind fun h => jv_ev d 112 45 lc st h := jq_iast (jv_insR jm_112 dX12_restore_44)
theorem e112_45 : jv_ev d 112 45 [x0, x1, some (.int v)] st h = jv_ev d 112 48 [x0, x1, some (.int (v + 1))] st h := jq_nx (jv_insR jm_112 dX12_restore_45) rfl
theorem e112_48 : jv_ev d 112 48 lc st h = jv_ev d 112 22 lc st h := jq_go (jv_insR jm_112 dX12_restore_48) (by decide)
theorem e112_51 : jv_ev d 112 51 [some (.ref a), x1, x2] st h = jv_ev d 112 52 [some (.ref a), x1, x2] (.ref a :: st) h := jq_nx (jv_insR jm_112 dX12_restore_51) rfl
theorem e112_52 : jv_ev d 112 52 lc st h = jv_ev d 112 53 lc (.int 0 :: st) h := jq_iconst (jv_insR jm_112 dX12_restore_52) (by decide)
theorem e112_53 : jv_ev d 112 53 lc (r :: .ref a :: st) h = (jv_pf h a [(0, 53, .int)] r).bind fun h => jv_ev d 112 56 lc st h := jq_put (jv_insR jm_112 dX12_restore_53) jo_112 ji_112 jG_1_265
theorem e112_56 : jv_ev d 112 56 lc st h = jv_ev d 112 57 lc (.int 1 :: st) h := jq_iconst (jv_insR jm_112 dX12_restore_56) (by decide)
theorem e112_57 : jv_ev d 112 57 lc [.int v] h = if narrow .boolean (.int v) = .int v then some (.inl (some (.int v)), h) else none := jq_ret (jv_insR jm_112 dX12_restore_57) jr_112 (by decide)
/-! 113: RainLoomModel.count(I)I -/
theorem n113 : jv_cd (d + 1) 113 [.ref a0, .int i1] h = jv_ev d 113 0 [some (.ref a0), some (.int i1)] [] h := rfl
theorem e113_0 : jv_ev d 113 0 [x0, some (.int v)] st h = jv_ev d 113 1 [x0, some (.int v)] (.int v :: st) h := jq_nx (jv_insR jm_113 dX12_count_0) rfl
theorem e113_1 : jv_ev d 113 1 lc (.int v :: st) h = jv_tsl (fun t => jv_ev d 113 t lc st h) v [(0, 72), (1, 82), (2, 92), (3, 102), (4, 112), (5, 120), (6, 128), (7, 136), (8, 144), (9, 149), (10, 154), (11, 159), (12, 204), (13, 213)] 222 := jq_ts (jv_insR jm_113 dX12_count_1) [(0, 72), (1, 82), (2, 92), (3, 102), (4, 112), (5, 120), (6, 128), (7, 136), (8, 144), (9, 149), (10, 154), (11, 159), (12, 204), (13, 213)] 222 (by decide) (by decide) (by decide) (by decide)
theorem e113_72 : jv_ev d 113 72 [some (.ref a), x1] st h = jv_ev d 113 73 [some (.ref a), x1] (.ref a :: st) h := jq_nx (jv_insR jm_113 dX12_count_72) rfl
theorem e113_73 : jv_ev d 113 73 lc (.ref a :: st) h = (jv_gf h a [(0, 23, .array .int)]).bind fun r => jv_ev d 113 76 lc (r :: st) h := jq_get (jv_insR jm_113 dX12_count_73) jo_113 jF_1_46
theorem e113_76 : jv_ev d 113 76 [some (.ref a), x1] st h = jv_ev d 113 77 [some (.ref a), x1] (.ref a :: st) h := jq_nx (jv_insR jm_113 dX12_count_76) rfl
theorem e113_77 : jv_ev d 113 77 lc (.ref a :: st) h = (jv_gf h a [(0, 18, .int)]).bind fun r => jv_ev d 113 80 lc (r :: st) h := jq_get (jv_insR jm_113 dX12_count_77) jo_113 jF_1_239
theorem e113_80 : jv_ev d 113 80 lc (.int v :: .ref a :: st) h = (jv_ig h a 0 0 v).bind fun w => jv_ev d 113 81 lc (.int w :: st) h := jq_iald (jv_insR jm_113 dX12_count_80)
theorem e113_81 : jv_ev d 113 81 lc [.int v] h = some (.inl (some (.int v)), h) := jq_reti (jv_insR jm_113 dX12_count_81) jr_113
theorem e113_82 : jv_ev d 113 82 [some (.ref a), x1] st h = jv_ev d 113 83 [some (.ref a), x1] (.ref a :: st) h := jq_nx (jv_insR jm_113 dX12_count_82) rfl
theorem e113_83 : jv_ev d 113 83 lc (.ref a :: st) h = (jv_gf h a [(0, 22, .array .int)]).bind fun r => jv_ev d 113 86 lc (r :: st) h := jq_get (jv_insR jm_113 dX12_count_83) jo_113 jF_1_43
theorem e113_86 : jv_ev d 113 86 [some (.ref a), x1] st h = jv_ev d 113 87 [some (.ref a), x1] (.ref a :: st) h := jq_nx (jv_insR jm_113 dX12_count_86) rfl
theorem e113_87 : jv_ev d 113 87 lc (.ref a :: st) h = (jv_gf h a [(0, 18, .int)]).bind fun r => jv_ev d 113 90 lc (r :: st) h := jq_get (jv_insR jm_113 dX12_count_87) jo_113 jF_1_239
theorem e113_90 : jv_ev d 113 90 lc (.int v :: .ref a :: st) h = (jv_ig h a 0 0 v).bind fun w => jv_ev d 113 91 lc (.int w :: st) h := jq_iald (jv_insR jm_113 dX12_count_90)
theorem e113_91 : jv_ev d 113 91 lc [.int v] h = some (.inl (some (.int v)), h) := jq_reti (jv_insR jm_113 dX12_count_91) jr_113
theorem e113_92 : jv_ev d 113 92 [some (.ref a), x1] st h = jv_ev d 113 93 [some (.ref a), x1] (.ref a :: st) h := jq_nx (jv_insR jm_113 dX12_count_92) rfl
theorem e113_93 : jv_ev d 113 93 lc (.ref a :: st) h = (jv_gf h a [(0, 25, .array .int)]).bind fun r => jv_ev d 113 96 lc (r :: st) h := jq_get (jv_insR jm_113 dX12_count_93) jo_113 jF_1_52
theorem e113_96 : jv_ev d 113 96 [some (.ref a), x1] st h = jv_ev d 113 97 [some (.ref a), x1] (.ref a :: st) h := jq_nx (jv_insR jm_113 dX12_count_96) rfl
theorem e113_97 : jv_ev d 113 97 lc (.ref a :: st) h = (jv_gf h a [(0, 18, .int)]).bind fun r => jv_ev d 113 100 lc (r :: st) h := jq_get (jv_insR jm_113 dX12_count_97) jo_113 jF_1_239
theorem e113_100 : jv_ev d 113 100 lc (.int v :: .ref a :: st) h = (jv_ig h a 0 0 v).bind fun w => jv_ev d 113 101 lc (.int w :: st) h := jq_iald (jv_insR jm_113 dX12_count_100)
theorem e113_101 : jv_ev d 113 101 lc [.int v] h = some (.inl (some (.int v)), h) := jq_reti (jv_insR jm_113 dX12_count_101) jr_113
theorem e113_102 : jv_ev d 113 102 [some (.ref a), x1] st h = jv_ev d 113 103 [some (.ref a), x1] (.ref a :: st) h := jq_nx (jv_insR jm_113 dX12_count_102) rfl
theorem e113_103 : jv_ev d 113 103 lc (.ref a :: st) h = (jv_gf h a [(0, 28, .array .int)]).bind fun r => jv_ev d 113 106 lc (r :: st) h := jq_get (jv_insR jm_113 dX12_count_103) jo_113 jF_1_61
theorem e113_106 : jv_ev d 113 106 [some (.ref a), x1] st h = jv_ev d 113 107 [some (.ref a), x1] (.ref a :: st) h := jq_nx (jv_insR jm_113 dX12_count_106) rfl
theorem e113_107 : jv_ev d 113 107 lc (.ref a :: st) h = (jv_gf h a [(0, 18, .int)]).bind fun r => jv_ev d 113 110 lc (r :: st) h := jq_get (jv_insR jm_113 dX12_count_107) jo_113 jF_1_239
theorem e113_110 : jv_ev d 113 110 lc (.int v :: .ref a :: st) h = (jv_ig h a 0 0 v).bind fun w => jv_ev d 113 111 lc (.int w :: st) h := jq_iald (jv_insR jm_113 dX12_count_110)
theorem e113_111 : jv_ev d 113 111 lc [.int v] h = some (.inl (some (.int v)), h) := jq_reti (jv_insR jm_113 dX12_count_111) jr_113
theorem e113_112 : jv_ev d 113 112 [some (.ref a), x1] st h = jv_ev d 113 113 [some (.ref a), x1] (.ref a :: st) h := jq_nx (jv_insR jm_113 dX12_count_112) rfl
theorem e113_113 : jv_ev d 113 113 lc (.ref a :: st) h = (jv_gf h a [(0, 50, .array .int)]).bind fun r => jv_ev d 113 116 lc (r :: st) h := jq_get (jv_insR jm_113 dX12_count_113) jo_113 jF_1_116
theorem e113_116 : jv_ev d 113 116 lc st h = jv_ev d 113 118 lc (.int 89 :: st) h := jq_bipush (jv_insR jm_113 dX12_count_116) (by decide)
theorem e113_118 : jv_ev d 113 118 lc (.int v :: .ref a :: st) h = (jv_ig h a 0 0 v).bind fun w => jv_ev d 113 119 lc (.int w :: st) h := jq_iald (jv_insR jm_113 dX12_count_118)
theorem e113_119 : jv_ev d 113 119 lc [.int v] h = some (.inl (some (.int v)), h) := jq_reti (jv_insR jm_113 dX12_count_119) jr_113
theorem e113_120 : jv_ev d 113 120 [some (.ref a), x1] st h = jv_ev d 113 121 [some (.ref a), x1] (.ref a :: st) h := jq_nx (jv_insR jm_113 dX12_count_120) rfl
theorem e113_121 : jv_ev d 113 121 lc (.ref a :: st) h = (jv_gf h a [(0, 50, .array .int)]).bind fun r => jv_ev d 113 124 lc (r :: st) h := jq_get (jv_insR jm_113 dX12_count_121) jo_113 jF_1_116
theorem e113_124 : jv_ev d 113 124 lc st h = jv_ev d 113 126 lc (.int 88 :: st) h := jq_bipush (jv_insR jm_113 dX12_count_124) (by decide)
theorem e113_126 : jv_ev d 113 126 lc (.int v :: .ref a :: st) h = (jv_ig h a 0 0 v).bind fun w => jv_ev d 113 127 lc (.int w :: st) h := jq_iald (jv_insR jm_113 dX12_count_126)
theorem e113_127 : jv_ev d 113 127 lc [.int v] h = some (.inl (some (.int v)), h) := jq_reti (jv_insR jm_113 dX12_count_127) jr_113
theorem e113_128 : jv_ev d 113 128 [some (.ref a), x1] st h = jv_ev d 113 129 [some (.ref a), x1] (.ref a :: st) h := jq_nx (jv_insR jm_113 dX12_count_128) rfl
theorem e113_129 : jv_ev d 113 129 lc st h = jv_ev d 113 130 lc (.int 0 :: st) h := jq_iconst (jv_insR jm_113 dX12_count_129) (by decide)
theorem e113_130 : jv_ev d 113 130 lc st h = jv_ev d 113 132 lc (.int 48 :: st) h := jq_bipush (jv_insR jm_113 dX12_count_130) (by decide)
theorem e113_132 : jv_ev d 113 132 lc [z1, z0, .ref b] h = (jv_rc h b [(0, 114)]).bind fun y => (jv_cd d y [.ref b, z0, z1] h).bind fun r => jv_on r (fun v h => jv_ev d 113 135 lc (v.toList ++ []) h) (fun q h => some (.inr q, h)) := jq_V (as := [z0, z1]) (rest := []) (jv_insR jm_113 dX12_count_132) jo_113 jV_1_480 rfl rfl rfl rfl
theorem e113_135 : jv_ev d 113 135 lc [.int v] h = some (.inl (some (.int v)), h) := jq_reti (jv_insR jm_113 dX12_count_135) jr_113
theorem e113_136 : jv_ev d 113 136 [some (.ref a), x1] st h = jv_ev d 113 137 [some (.ref a), x1] (.ref a :: st) h := jq_nx (jv_insR jm_113 dX12_count_136) rfl
theorem e113_137 : jv_ev d 113 137 lc (.ref a :: st) h = (jv_gf h a [(0, 50, .array .int)]).bind fun r => jv_ev d 113 140 lc (r :: st) h := jq_get (jv_insR jm_113 dX12_count_137) jo_113 jF_1_116
theorem e113_140 : jv_ev d 113 140 lc st h = jv_ev d 113 142 lc (.int 90 :: st) h := jq_bipush (jv_insR jm_113 dX12_count_140) (by decide)
theorem e113_142 : jv_ev d 113 142 lc (.int v :: .ref a :: st) h = (jv_ig h a 0 0 v).bind fun w => jv_ev d 113 143 lc (.int w :: st) h := jq_iald (jv_insR jm_113 dX12_count_142)
theorem e113_143 : jv_ev d 113 143 lc [.int v] h = some (.inl (some (.int v)), h) := jq_reti (jv_insR jm_113 dX12_count_143) jr_113
theorem e113_144 : jv_ev d 113 144 [some (.ref a), x1] st h = jv_ev d 113 145 [some (.ref a), x1] (.ref a :: st) h := jq_nx (jv_insR jm_113 dX12_count_144) rfl
theorem e113_145 : jv_ev d 113 145 lc (.ref a :: st) h = (jv_gf h a [(0, 2, .int)]).bind fun r => jv_ev d 113 148 lc (r :: st) h := jq_get (jv_insR jm_113 dX12_count_145) jo_113 jF_1_172
theorem e113_148 : jv_ev d 113 148 lc [.int v] h = some (.inl (some (.int v)), h) := jq_reti (jv_insR jm_113 dX12_count_148) jr_113
theorem e113_149 : jv_ev d 113 149 [some (.ref a), x1] st h = jv_ev d 113 150 [some (.ref a), x1] (.ref a :: st) h := jq_nx (jv_insR jm_113 dX12_count_149) rfl
theorem e113_150 : jv_ev d 113 150 lc (.ref a :: st) h = (jv_gf h a [(0, 53, .int)]).bind fun r => jv_ev d 113 153 lc (r :: st) h := jq_get (jv_insR jm_113 dX12_count_150) jo_113 jF_1_265
theorem e113_153 : jv_ev d 113 153 lc [.int v] h = some (.inl (some (.int v)), h) := jq_reti (jv_insR jm_113 dX12_count_153) jr_113
theorem e113_154 : jv_ev d 113 154 [some (.ref a), x1] st h = jv_ev d 113 155 [some (.ref a), x1] (.ref a :: st) h := jq_nx (jv_insR jm_113 dX12_count_154) rfl
theorem e113_155 : jv_ev d 113 155 lc (.ref a :: st) h = (jv_gf h a [(0, 65, .int)]).bind fun r => jv_ev d 113 158 lc (r :: st) h := jq_get (jv_insR jm_113 dX12_count_155) jo_113 jF_1_268
theorem e113_158 : jv_ev d 113 158 lc [.int v] h = some (.inl (some (.int v)), h) := jq_reti (jv_insR jm_113 dX12_count_158) jr_113
theorem e113_159 : jv_ev d 113 159 [some (.ref a), x1] st h = jv_ev d 113 160 [some (.ref a), x1] (.ref a :: st) h := jq_nx (jv_insR jm_113 dX12_count_159) rfl
theorem e113_160 : jv_ev d 113 160 lc (.ref a :: st) h = (jv_gf h a [(0, 70, .array .boolean)]).bind fun r => jv_ev d 113 163 lc (r :: st) h := jq_get (jv_insR jm_113 dX12_count_160) jo_113 jF_1_152
theorem e113_163 : jv_ev d 113 163 lc st h = jv_ev d 113 164 lc (.int 0 :: st) h := jq_iconst (jv_insR jm_113 dX12_count_163) (by decide)
theorem e113_164 : jv_ev d 113 164 lc (.int v :: .ref a :: st) h = (jv_ig h a 1 2 v).bind fun w => jv_ev d 113 165 lc (.int w :: st) h := jq_bald (jv_insR jm_113 dX12_count_164)
theorem e113_165 : jv_ev d 113 165 lc (.int v :: st) h = if v = 0 then jv_ev d 113 172 lc st h else jv_ev d 113 168 lc st h := jq_if (jv_insR jm_113 dX12_count_165) rfl (by decide)
theorem e113_168 : jv_ev d 113 168 lc st h = jv_ev d 113 169 lc (.int 1 :: st) h := jq_iconst (jv_insR jm_113 dX12_count_168) (by decide)
theorem e113_169 : jv_ev d 113 169 lc st h = jv_ev d 113 173 lc st h := jq_go (jv_insR jm_113 dX12_count_169) (by decide)
theorem e113_172 : jv_ev d 113 172 lc st h = jv_ev d 113 173 lc (.int 0 :: st) h := jq_iconst (jv_insR jm_113 dX12_count_172) (by decide)
theorem e113_173 : jv_ev d 113 173 [some (.ref a), x1] st h = jv_ev d 113 174 [some (.ref a), x1] (.ref a :: st) h := jq_nx (jv_insR jm_113 dX12_count_173) rfl
theorem e113_174 : jv_ev d 113 174 lc (.ref a :: st) h = (jv_gf h a [(0, 70, .array .boolean)]).bind fun r => jv_ev d 113 177 lc (r :: st) h := jq_get (jv_insR jm_113 dX12_count_174) jo_113 jF_1_152
theorem e113_177 : jv_ev d 113 177 lc st h = jv_ev d 113 178 lc (.int 1 :: st) h := jq_iconst (jv_insR jm_113 dX12_count_177) (by decide)
theorem e113_178 : jv_ev d 113 178 lc (.int v :: .ref a :: st) h = (jv_ig h a 1 2 v).bind fun w => jv_ev d 113 179 lc (.int w :: st) h := jq_bald (jv_insR jm_113 dX12_count_178)
theorem e113_179 : jv_ev d 113 179 lc (.int v :: st) h = if v = 0 then jv_ev d 113 186 lc st h else jv_ev d 113 182 lc st h := jq_if (jv_insR jm_113 dX12_count_179) rfl (by decide)
theorem e113_182 : jv_ev d 113 182 lc st h = jv_ev d 113 183 lc (.int 1 :: st) h := jq_iconst (jv_insR jm_113 dX12_count_182) (by decide)
theorem e113_183 : jv_ev d 113 183 lc st h = jv_ev d 113 187 lc st h := jq_go (jv_insR jm_113 dX12_count_183) (by decide)
theorem e113_186 : jv_ev d 113 186 lc st h = jv_ev d 113 187 lc (.int 0 :: st) h := jq_iconst (jv_insR jm_113 dX12_count_186) (by decide)
theorem e113_187 : jv_ev d 113 187 lc (.int w :: .int v :: st) h = jv_ev d 113 188 lc (.int (v + w) :: st) h := jq_nx (jv_insR jm_113 dX12_count_187) rfl
theorem e113_188 : jv_ev d 113 188 [some (.ref a), x1] st h = jv_ev d 113 189 [some (.ref a), x1] (.ref a :: st) h := jq_nx (jv_insR jm_113 dX12_count_188) rfl
theorem e113_189 : jv_ev d 113 189 lc (.ref a :: st) h = (jv_gf h a [(0, 70, .array .boolean)]).bind fun r => jv_ev d 113 192 lc (r :: st) h := jq_get (jv_insR jm_113 dX12_count_189) jo_113 jF_1_152
theorem e113_192 : jv_ev d 113 192 lc st h = jv_ev d 113 193 lc (.int 2 :: st) h := jq_iconst (jv_insR jm_113 dX12_count_192) (by decide)
theorem e113_193 : jv_ev d 113 193 lc (.int v :: .ref a :: st) h = (jv_ig h a 1 2 v).bind fun w => jv_ev d 113 194 lc (.int w :: st) h := jq_bald (jv_insR jm_113 dX12_count_193)
theorem e113_194 : jv_ev d 113 194 lc (.int v :: st) h = if v = 0 then jv_ev d 113 201 lc st h else jv_ev d 113 197 lc st h := jq_if (jv_insR jm_113 dX12_count_194) rfl (by decide)
theorem e113_197 : jv_ev d 113 197 lc st h = jv_ev d 113 198 lc (.int 1 :: st) h := jq_iconst (jv_insR jm_113 dX12_count_197) (by decide)
theorem e113_198 : jv_ev d 113 198 lc st h = jv_ev d 113 202 lc st h := jq_go (jv_insR jm_113 dX12_count_198) (by decide)
theorem e113_201 : jv_ev d 113 201 lc st h = jv_ev d 113 202 lc (.int 0 :: st) h := jq_iconst (jv_insR jm_113 dX12_count_201) (by decide)
theorem e113_202 : jv_ev d 113 202 lc (.int w :: .int v :: st) h = jv_ev d 113 203 lc (.int (v + w) :: st) h := jq_nx (jv_insR jm_113 dX12_count_202) rfl
theorem e113_203 : jv_ev d 113 203 lc [.int v] h = some (.inl (some (.int v)), h) := jq_reti (jv_insR jm_113 dX12_count_203) jr_113
theorem e113_204 : jv_ev d 113 204 [some (.ref a), x1] st h = jv_ev d 113 205 [some (.ref a), x1] (.ref a :: st) h := jq_nx (jv_insR jm_113 dX12_count_204) rfl
theorem e113_205 : jv_ev d 113 205 lc st h = jv_ev d 113 207 lc (.int 76 :: st) h := jq_bipush (jv_insR jm_113 dX12_count_205) (by decide)
theorem e113_207 : jv_ev d 113 207 lc st h = jv_ev d 113 209 lc (.int 6 :: st) h := jq_bipush (jv_insR jm_113 dX12_count_207) (by decide)
theorem e113_209 : jv_ev d 113 209 lc [z1, z0, .ref b] h = (jv_rc h b [(0, 114)]).bind fun y => (jv_cd d y [.ref b, z0, z1] h).bind fun r => jv_on r (fun v h => jv_ev d 113 212 lc (v.toList ++ []) h) (fun q h => some (.inr q, h)) := jq_V (as := [z0, z1]) (rest := []) (jv_insR jm_113 dX12_count_209) jo_113 jV_1_480 rfl rfl rfl rfl
theorem e113_212 : jv_ev d 113 212 lc [.int v] h = some (.inl (some (.int v)), h) := jq_reti (jv_insR jm_113 dX12_count_212) jr_113
theorem e113_213 : jv_ev d 113 213 [some (.ref a), x1] st h = jv_ev d 113 214 [some (.ref a), x1] (.ref a :: st) h := jq_nx (jv_insR jm_113 dX12_count_213) rfl
theorem e113_214 : jv_ev d 113 214 lc st h = jv_ev d 113 216 lc (.int 82 :: st) h := jq_bipush (jv_insR jm_113 dX12_count_214) (by decide)
theorem e113_216 : jv_ev d 113 216 lc st h = jv_ev d 113 218 lc (.int 6 :: st) h := jq_bipush (jv_insR jm_113 dX12_count_216) (by decide)
theorem e113_218 : jv_ev d 113 218 lc [z1, z0, .ref b] h = (jv_rc h b [(0, 114)]).bind fun y => (jv_cd d y [.ref b, z0, z1] h).bind fun r => jv_on r (fun v h => jv_ev d 113 221 lc (v.toList ++ []) h) (fun q h => some (.inr q, h)) := jq_V (as := [z0, z1]) (rest := []) (jv_insR jm_113 dX12_count_218) jo_113 jV_1_480 rfl rfl rfl rfl
theorem e113_221 : jv_ev d 113 221 lc [.int v] h = some (.inl (some (.int v)), h) := jq_reti (jv_insR jm_113 dX12_count_221) jr_113
theorem e113_222 : jv_ev d 113 222 lc st h = jv_ev d 113 223 lc (.int (-1) :: st) h := jq_iconst (jv_insR jm_113 dX12_count_222) (by decide)
theorem e113_223 : jv_ev d 113 223 lc [.int v] h = some (.inl (some (.int v)), h) := jq_reti (jv_insR jm_113 dX12_count_223) jr_113
/-! 114: RainLoomModel.sumNow(II)I -/
theorem n114 : jv_cd (d + 1) 114 [.ref a0, .int i1, .int i2] h = jv_ev d 114 0 [some (.ref a0), some (.int i1), some (.int i2), none, none] [] h := rfl
theorem e114_0 : jv_ev d 114 0 lc st h = jv_ev d 114 1 lc (.int 0 :: st) h := jq_iconst (jv_insR jm_114 dX12_sumNow_0) (by decide)
theorem e114_1 : jv_ev d 114 1 [x0, x1, x2, x3, x4] (.int v :: st) h = jv_ev d 114 2 [x0, x1, x2, some (.int v), x4] st h := jq_nx (jv_insR jm_114 dX12_sumNow_1) rfl
theorem e114_2 : jv_ev d 114 2 [x0, some (.int v), x2, x3, x4] st h = jv_ev d 114 3 [x0, some (.int v), x2, x3, x4] (.int v :: st) h := jq_nx (jv_insR jm_114 dX12_sumNow_2) rfl
theorem e114_3 : jv_ev d 114 3 [x0, x1, x2, x3, x4] (.int v :: st) h = jv_ev d 114 5 [x0, x1, x2, x3, some (.int v)] st h := jq_nx (jv_insR jm_114 dX12_sumNow_3) rfl
theorem e114_5 : jv_ev d 114 5 [x0, x1, x2, x3, some (.int v)] st h = jv_ev d 114 7 [x0, x1, x2, x3, some (.int v)] (.int v :: st) h := jq_nx (jv_insR jm_114 dX12_sumNow_5) rfl
theorem e114_7 : jv_ev d 114 7 [x0, some (.int v), x2, x3, x4] st h = jv_ev d 114 8 [x0, some (.int v), x2, x3, x4] (.int v :: st) h := jq_nx (jv_insR jm_114 dX12_sumNow_7) rfl
theorem e114_8 : jv_ev d 114 8 [x0, x1, some (.int v), x3, x4] st h = jv_ev d 114 9 [x0, x1, some (.int v), x3, x4] (.int v :: st) h := jq_nx (jv_insR jm_114 dX12_sumNow_8) rfl
theorem e114_9 : jv_ev d 114 9 lc (.int w :: .int v :: st) h = jv_ev d 114 10 lc (.int (v + w) :: st) h := jq_nx (jv_insR jm_114 dX12_sumNow_9) rfl
theorem e114_10 : jv_ev d 114 10 lc (.int w :: .int v :: st) h = if w ≤ v then jv_ev d 114 29 lc st h else jv_ev d 114 13 lc st h := jq_if (jv_insR jm_114 dX12_sumNow_10) rfl (by decide)
theorem e114_13 : jv_ev d 114 13 [x0, x1, x2, some (.int v), x4] st h = jv_ev d 114 14 [x0, x1, x2, some (.int v), x4] (.int v :: st) h := jq_nx (jv_insR jm_114 dX12_sumNow_13) rfl
theorem e114_14 : jv_ev d 114 14 [some (.ref a), x1, x2, x3, x4] st h = jv_ev d 114 15 [some (.ref a), x1, x2, x3, x4] (.ref a :: st) h := jq_nx (jv_insR jm_114 dX12_sumNow_14) rfl
theorem e114_15 : jv_ev d 114 15 lc (.ref a :: st) h = (jv_gf h a [(0, 50, .array .int)]).bind fun r => jv_ev d 114 18 lc (r :: st) h := jq_get (jv_insR jm_114 dX12_sumNow_15) jo_114 jF_1_116
theorem e114_18 : jv_ev d 114 18 [x0, x1, x2, x3, some (.int v)] st h = jv_ev d 114 20 [x0, x1, x2, x3, some (.int v)] (.int v :: st) h := jq_nx (jv_insR jm_114 dX12_sumNow_18) rfl
theorem e114_20 : jv_ev d 114 20 lc (.int v :: .ref a :: st) h = (jv_ig h a 0 0 v).bind fun w => jv_ev d 114 21 lc (.int w :: st) h := jq_iald (jv_insR jm_114 dX12_sumNow_20)
theorem e114_21 : jv_ev d 114 21 lc (.int w :: .int v :: st) h = jv_ev d 114 22 lc (.int (v + w) :: st) h := jq_nx (jv_insR jm_114 dX12_sumNow_21) rfl
theorem e114_22 : jv_ev d 114 22 [x0, x1, x2, x3, x4] (.int v :: st) h = jv_ev d 114 23 [x0, x1, x2, some (.int v), x4] st h := jq_nx (jv_insR jm_114 dX12_sumNow_22) rfl
theorem e114_23 : jv_ev d 114 23 [x0, x1, x2, x3, some (.int v)] st h = jv_ev d 114 26 [x0, x1, x2, x3, some (.int (v + 1))] st h := jq_nx (jv_insR jm_114 dX12_sumNow_23) rfl
theorem e114_26 : jv_ev d 114 26 lc st h = jv_ev d 114 5 lc st h := jq_go (jv_insR jm_114 dX12_sumNow_26) (by decide)
theorem e114_29 : jv_ev d 114 29 [x0, x1, x2, some (.int v), x4] st h = jv_ev d 114 30 [x0, x1, x2, some (.int v), x4] (.int v :: st) h := jq_nx (jv_insR jm_114 dX12_sumNow_29) rfl
theorem e114_30 : jv_ev d 114 30 lc [.int v] h = some (.inl (some (.int v)), h) := jq_reti (jv_insR jm_114 dX12_sumNow_30) jr_114
end
