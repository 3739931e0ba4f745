/-! equations, an instruction a row: printed by gen_eq.py -/
set_option maxRecDepth 100000
section
variable {d : Nat} {h : jv_H} {lc : jv_L} {st : List Value} {u v w : Int32} {lv lw : Int64} {a b : Nat} {r : Value} {x0 x1 x2 x3 x4 x5 x6 x7 x8 x9 x10 x11 x12 x13 x14 x15 x16 x17 x18 x19 x20 x21 x22 x23 x24 x25 x26 x27 x28 x29 : Option Value} {y0 y1 y2 y3 y4 y5 y6 y7 z0 z1 z2 z3 z4 z5 z6 z7 z8 : Value} {a0 a1 a2 a3 a4 a5 a6 a7 a8 : Nat} {i0 i1 i2 i3 i4 i5 i6 i7 i8 : Int32} {l0 l1 l2 l3 l4 l5 l6 l7 l8 : Int64}
theorem jm_174 : jt_M[174]? = some (3, yX1_init, cX1_init, 1, (Option.none : Option Jvm.ClassFile.FieldType), []) := rfl
theorem jo_174 : jv_own 174 = 3 := rfl
theorem ji_174 : jv_init 174 = true := rfl
theorem jr_174 : jv_ret 174 = (Option.none : Option Jvm.ClassFile.FieldType) := rfl
theorem jm_175 : jt_M[175]? = some (3, yX1_of, cX1_of, 3, (Option.some (Jvm.ClassFile.FieldType.object "RainLoom$Fault")), []) := rfl
theorem jo_175 : jv_own 175 = 3 := rfl
theorem ji_175 : jv_init 175 = false := rfl
theorem jr_175 : jv_ret 175 = (Option.some (Jvm.ClassFile.FieldType.object "RainLoom$Fault")) := rfl
theorem jm_176 : jt_M[176]? = some (4, yX2_init, cX2_init, 1, (Option.none : Option Jvm.ClassFile.FieldType), []) := rfl
theorem jo_176 : jv_own 176 = 4 := rfl
theorem ji_176 : jv_init 176 = true := rfl
theorem jr_176 : jv_ret 176 = (Option.none : Option Jvm.ClassFile.FieldType) := rfl
theorem jm_177 : jt_M[177]? = some (4, yX2_read, cX2_read, 7, (Option.none : Option Jvm.ClassFile.FieldType), []) := rfl
theorem jo_177 : jv_own 177 = 4 := rfl
theorem ji_177 : jv_init 177 = false := rfl
theorem jr_177 : jv_ret 177 = (Option.none : Option Jvm.ClassFile.FieldType) := rfl
theorem jm_178 : jt_M[178]? = some (4, yX2_isLetter, cX2_isLetter, 2, (Option.some Jvm.ClassFile.FieldType.boolean), []) := rfl
theorem jo_178 : jv_own 178 = 4 := rfl
theorem ji_178 : jv_init 178 = false := rfl
theorem jr_178 : jv_ret 178 = (Option.some Jvm.ClassFile.FieldType.boolean) := rfl
theorem jm_179 : jt_M[179]? = some (4, yX2_at, cX2_at, 2, (Option.some Jvm.ClassFile.FieldType.int), []) := rfl
theorem jo_179 : jv_own 179 = 4 := rfl
theorem ji_179 : jv_init 179 = false := rfl
theorem jr_179 : jv_ret 179 = (Option.some Jvm.ClassFile.FieldType.int) := rfl
theorem jm_180 : jt_M[180]? = some (4, yX2_word, cX2_word, 6, (Option.some Jvm.ClassFile.FieldType.int), []) := rfl
theorem jo_180 : jv_own 180 = 4 := rfl
theorem ji_180 : jv_init 180 = false := rfl
theorem jr_180 : jv_ret 180 = (Option.some Jvm.ClassFile.FieldType.int) := rfl
theorem jm_181 : jt_M[181]? = some (4, yX2_isDigit, cX2_isDigit, 2, (Option.some Jvm.ClassFile.FieldType.boolean), []) := rfl
theorem jo_181 : jv_own 181 = 4 := rfl
theorem ji_181 : jv_init 181 = false := rfl
theorem jr_181 : jv_ret 181 = (Option.some Jvm.ClassFile.FieldType.boolean) := rfl
theorem jm_182 : jt_M[182]? = some (4, yX2_sign, cX2_sign, 3, (Option.some Jvm.ClassFile.FieldType.int), []) := rfl
theorem jo_182 : jv_own 182 = 4 := rfl
theorem ji_182 : jv_init 182 = false := rfl
theorem jr_182 : jv_ret 182 = (Option.some Jvm.ClassFile.FieldType.int) := rfl
theorem jm_183 : jt_M[183]? = some (4, yX2_add, cX2_add, 5, (Option.none : Option Jvm.ClassFile.FieldType), []) := rfl
theorem jo_183 : jv_own 183 = 4 := rfl
theorem ji_183 : jv_init 183 = false := rfl
theorem jr_183 : jv_ret 183 = (Option.none : Option Jvm.ClassFile.FieldType) := rfl
theorem jm_184 : jt_M[184]? = some (4, yX2_number, cX2_number, 4, (Option.some Jvm.ClassFile.FieldType.int), []) := rfl
theorem jo_184 : jv_own 184 = 4 := rfl
theorem ji_184 : jv_init 184 = false := rfl
theorem jr_184 : jv_ret 184 = (Option.some Jvm.ClassFile.FieldType.int) := rfl
theorem jm_185 : jt_M[185]? = some (4, yX2_text, cX2_text, 4, (Option.some (Jvm.ClassFile.FieldType.object "java/lang/String")), []) := rfl
theorem jo_185 : jv_own 185 = 4 := rfl
theorem ji_185 : jv_init 185 = false := rfl
theorem jr_185 : jv_ret 185 = (Option.some (Jvm.ClassFile.FieldType.object "java/lang/String")) := rfl
theorem jm_186 : jt_M[186]? = some (5, yX3_init, cX3_init, 3, (Option.none : Option Jvm.ClassFile.FieldType), []) := rfl
theorem jo_186 : jv_own 186 = 5 := rfl
theorem ji_186 : jv_init 186 = true := rfl
theorem jr_186 : jv_ret 186 = (Option.none : Option Jvm.ClassFile.FieldType) := rfl
theorem jm_187 : jt_M[187]? = some (5, yX3_read, cX3_read, 1, (Option.some (Jvm.ClassFile.FieldType.object "RainLoom$Text")), []) := rfl
theorem jo_187 : jv_own 187 = 5 := rfl
theorem ji_187 : jv_init 187 = false := rfl
theorem jr_187 : jv_ret 187 = (Option.some (Jvm.ClassFile.FieldType.object "RainLoom$Text")) := rfl
theorem jm_188 : jt_M[188]? = some (5, yX3_sort, cX3_sort, 1, (Option.some Jvm.ClassFile.FieldType.int), []) := rfl
theorem jo_188 : jv_own 188 = 5 := rfl
theorem ji_188 : jv_init 188 = false := rfl
theorem jr_188 : jv_ret 188 = (Option.some Jvm.ClassFile.FieldType.int) := rfl
theorem jm_189 : jt_M[189]? = some (5, yX3_wrong, cX3_wrong, 2, (Option.some (Jvm.ClassFile.FieldType.object "RainLoom$Fault")), []) := rfl
theorem jo_189 : jv_own 189 = 5 := rfl
theorem ji_189 : jv_init 189 = false := rfl
theorem jr_189 : jv_ret 189 = (Option.some (Jvm.ClassFile.FieldType.object "RainLoom$Fault")) := rfl
theorem jm_190 : jt_M[190]? = some (5, yX3_wrongAt, cX3_wrongAt, 3, (Option.some (Jvm.ClassFile.FieldType.object "RainLoom$Fault")), []) := rfl
theorem jo_190 : jv_own 190 = 5 := rfl
theorem ji_190 : jv_init 190 = false := rfl
theorem jr_190 : jv_ret 190 = (Option.some (Jvm.ClassFile.FieldType.object "RainLoom$Fault")) := rfl
theorem jm_191 : jt_M[191]? = some (5, yX3_told, cX3_told, 3, (Option.none : Option Jvm.ClassFile.FieldType), []) := rfl
theorem jo_191 : jv_own 191 = 5 := rfl
theorem ji_191 : jv_init 191 = false := rfl
theorem jr_191 : jv_ret 191 = (Option.none : Option Jvm.ClassFile.FieldType) := rfl
theorem jm_192 : jt_M[192]? = some (5, yX3_pass, cX3_pass, 1, (Option.none : Option Jvm.ClassFile.FieldType), []) := rfl
theorem jo_192 : jv_own 192 = 5 := rfl
theorem ji_192 : jv_init 192 = false := rfl
theorem jr_192 : jv_ret 192 = (Option.none : Option Jvm.ClassFile.FieldType) := rfl
theorem jm_193 : jt_M[193]? = some (5, yX3_law, cX3_law, 2, (Option.some (Jvm.ClassFile.FieldType.object "RainLoom$Law")), []) := rfl
theorem jo_193 : jv_own 193 = 5 := rfl
theorem ji_193 : jv_init 193 = false := rfl
theorem jr_193 : jv_ret 193 = (Option.some (Jvm.ClassFile.FieldType.object "RainLoom$Law")) := rfl
theorem jm_194 : jt_M[194]? = some (5, yX3_sign, cX3_sign, 2, (Option.none : Option Jvm.ClassFile.FieldType), []) := rfl
theorem jo_194 : jv_own 194 = 5 := rfl
theorem ji_194 : jv_init 194 = false := rfl
theorem jr_194 : jv_ret 194 = (Option.none : Option Jvm.ClassFile.FieldType) := rfl
theorem jm_195 : jt_M[195]? = some (5, yX3_isSign, cX3_isSign, 2, (Option.some Jvm.ClassFile.FieldType.boolean), []) := rfl
theorem jo_195 : jv_own 195 = 5 := rfl
theorem ji_195 : jv_init 195 = false := rfl
theorem jr_195 : jv_ret 195 = (Option.some Jvm.ClassFile.FieldType.boolean) := rfl
theorem jm_196 : jt_M[196]? = some (5, yX3_isWord, cX3_isWord, 2, (Option.some Jvm.ClassFile.FieldType.boolean), []) := rfl
theorem jo_196 : jv_own 196 = 5 := rfl
theorem ji_196 : jv_init 196 = false := rfl
theorem jr_196 : jv_ret 196 = (Option.some Jvm.ClassFile.FieldType.boolean) := rfl
theorem jm_197 : jt_M[197]? = some (5, yX3_begins, cX3_begins, 3, (Option.none : Option Jvm.ClassFile.FieldType), []) := rfl
theorem jo_197 : jv_own 197 = 5 := rfl
theorem ji_197 : jv_init 197 = false := rfl
theorem jr_197 : jv_ret 197 = (Option.none : Option Jvm.ClassFile.FieldType) := rfl
theorem jm_198 : jt_M[198]? = some (5, yX3_sum, cX3_sum, 3, (Option.some (Jvm.ClassFile.FieldType.object "RainLoom$Sum")), []) := rfl
theorem jo_198 : jv_own 198 = 5 := rfl
theorem ji_198 : jv_init 198 = false := rfl
theorem jr_198 : jv_ret 198 = (Option.some (Jvm.ClassFile.FieldType.object "RainLoom$Sum")) := rfl
theorem jm_199 : jt_M[199]? = some (5, yX3_part, cX3_part, 3, (Option.some (Jvm.ClassFile.FieldType.object "RainLoom$Sum")), []) := rfl
theorem jo_199 : jv_own 199 = 5 := rfl
theorem ji_199 : jv_init 199 = false := rfl
theorem jr_199 : jv_ret 199 = (Option.some (Jvm.ClassFile.FieldType.object "RainLoom$Sum")) := rfl
theorem jm_200 : jt_M[200]? = some (5, yX3_unit, cX3_unit, 2, (Option.some (Jvm.ClassFile.FieldType.object "RainLoom$Sum")), []) := rfl
theorem jo_200 : jv_own 200 = 5 := rfl
theorem ji_200 : jv_init 200 = false := rfl
theorem jr_200 : jv_ret 200 = (Option.some (Jvm.ClassFile.FieldType.object "RainLoom$Sum")) := rfl
theorem jm_201 : jt_M[201]? = some (5, yX3_word, cX3_word, 2, (Option.none : Option Jvm.ClassFile.FieldType), []) := rfl
theorem jo_201 : jv_own 201 = 5 := rfl
theorem ji_201 : jv_init 201 = false := rfl
theorem jr_201 : jv_ret 201 = (Option.none : Option Jvm.ClassFile.FieldType) := rfl
theorem jm_202 : jt_M[202]? = some (5, yX3_rowTold, cX3_rowTold, 6, (Option.none : Option Jvm.ClassFile.FieldType), []) := rfl
theorem jo_202 : jv_own 202 = 5 := rfl
theorem ji_202 : jv_init 202 = false := rfl
theorem jr_202 : jv_ret 202 = (Option.none : Option Jvm.ClassFile.FieldType) := rfl
theorem jm_203 : jt_M[203]? = some (5, yX3_take, cX3_take, 2, (Option.some Jvm.ClassFile.FieldType.int), []) := rfl
theorem jo_203 : jv_own 203 = 5 := rfl
theorem ji_203 : jv_init 203 = false := rfl
theorem jr_203 : jv_ret 203 = (Option.some Jvm.ClassFile.FieldType.int) := rfl
theorem jm_204 : jt_M[204]? = some (5, yX3_tell, cX3_tell, 3, (Option.none : Option Jvm.ClassFile.FieldType), []) := rfl
theorem jo_204 : jv_own 204 = 5 := rfl
theorem ji_204 : jv_init 204 = false := rfl
theorem jr_204 : jv_ret 204 = (Option.none : Option Jvm.ClassFile.FieldType) := rfl
theorem jm_205 : jt_M[205]? = some (5, yX3_name, cX3_name, 3, (Option.some (Jvm.ClassFile.FieldType.object "java/lang/String")), []) := rfl
theorem jo_205 : jv_own 205 = 5 := rfl
theorem ji_205 : jv_init 205 = false := rfl
theorem jr_205 : jv_ret 205 = (Option.some (Jvm.ClassFile.FieldType.object "java/lang/String")) := rfl
theorem jm_206 : jt_M[206]? = some (5, yX3_number, cX3_number, 5, (Option.some Jvm.ClassFile.FieldType.int), []) := rfl
theorem jo_206 : jv_own 206 = 5 := rfl
theorem ji_206 : jv_init 206 = false := rfl
theorem jr_206 : jv_ret 206 = (Option.some Jvm.ClassFile.FieldType.int) := rfl
theorem jm_207 : jt_M[207]? = some (6, yX4_init, cX4_init, 1, (Option.none : Option Jvm.ClassFile.FieldType), []) := rfl
theorem jo_207 : jv_own 207 = 6 := rfl
theorem ji_207 : jv_init 207 = true := rfl
theorem jr_207 : jv_ret 207 = (Option.none : Option Jvm.ClassFile.FieldType) := rfl
theorem jm_208 : jt_M[208]? = some (6, yX4_has, cX4_has, 2, (Option.some Jvm.ClassFile.FieldType.boolean), []) := rfl
theorem jo_208 : jv_own 208 = 6 := rfl
theorem ji_208 : jv_init 208 = false := rfl
theorem jr_208 : jv_ret 208 = (Option.some Jvm.ClassFile.FieldType.boolean) := rfl
theorem jm_209 : jt_M[209]? = some (6, yX4_isIn, cX4_isIn, 3, (Option.some Jvm.ClassFile.FieldType.boolean), []) := rfl
theorem jo_209 : jv_own 209 = 6 := rfl
theorem ji_209 : jv_init 209 = false := rfl
theorem jr_209 : jv_ret 209 = (Option.some Jvm.ClassFile.FieldType.boolean) := rfl
theorem jm_210 : jt_M[210]? = some (6, yX4_isWhole, cX4_isWhole, 2, (Option.some Jvm.ClassFile.FieldType.boolean), []) := rfl
theorem jo_210 : jv_own 210 = 6 := rfl
theorem ji_210 : jv_init 210 = false := rfl
theorem jr_210 : jv_ret 210 = (Option.some Jvm.ClassFile.FieldType.boolean) := rfl
theorem jm_211 : jt_M[211]? = some (6, yX4_isOn, cX4_isOn, 2, (Option.some Jvm.ClassFile.FieldType.boolean), []) := rfl
theorem jo_211 : jv_own 211 = 6 := rfl
theorem ji_211 : jv_init 211 = false := rfl
theorem jr_211 : jv_ret 211 = (Option.some Jvm.ClassFile.FieldType.boolean) := rfl
theorem jm_212 : jt_M[212]? = some (6, yX4_isCell, cX4_isCell, 3, (Option.some Jvm.ClassFile.FieldType.boolean), []) := rfl
theorem jo_212 : jv_own 212 = 6 := rfl
theorem ji_212 : jv_init 212 = false := rfl
theorem jr_212 : jv_ret 212 = (Option.some Jvm.ClassFile.FieldType.boolean) := rfl
theorem jm_213 : jt_M[213]? = some (6, yX4_needs, cX4_needs, 2, (Option.some Jvm.ClassFile.FieldType.int), []) := rfl
theorem jo_213 : jv_own 213 = 6 := rfl
theorem ji_213 : jv_init 213 = false := rfl
theorem jr_213 : jv_ret 213 = (Option.some Jvm.ClassFile.FieldType.int) := rfl
theorem jm_214 : jt_M[214]? = some (6, yX4_drowns, cX4_drowns, 2, (Option.some Jvm.ClassFile.FieldType.int), []) := rfl
theorem jo_214 : jv_own 214 = 6 := rfl
theorem ji_214 : jv_init 214 = false := rfl
theorem jr_214 : jv_ret 214 = (Option.some Jvm.ClassFile.FieldType.int) := rfl
theorem jm_215 : jt_M[215]? = some (6, yX4_needsOf, cX4_needsOf, 4, (Option.some Jvm.ClassFile.FieldType.int), []) := rfl
theorem jo_215 : jv_own 215 = 6 := rfl
theorem ji_215 : jv_init 215 = false := rfl
theorem jr_215 : jv_ret 215 = (Option.some Jvm.ClassFile.FieldType.int) := rfl
theorem jm_216 : jt_M[216]? = some (7, yX5_init, cX5_init, 1, (Option.none : Option Jvm.ClassFile.FieldType), []) := rfl
theorem jo_216 : jv_own 216 = 7 := rfl
theorem ji_216 : jv_init 216 = true := rfl
theorem jr_216 : jv_ret 216 = (Option.none : Option Jvm.ClassFile.FieldType) := rfl
theorem jm_217 : jt_M[217]? = some (7, yX5_begins, cX5_begins, 3, (Option.none : Option Jvm.ClassFile.FieldType), []) := rfl
theorem jo_217 : jv_own 217 = 7 := rfl
theorem ji_217 : jv_init 217 = false := rfl
theorem jr_217 : jv_ret 217 = (Option.none : Option Jvm.ClassFile.FieldType) := rfl
theorem jm_218 : jt_M[218]? = some (7, yX5_stops, cX5_stops, 2, (Option.none : Option Jvm.ClassFile.FieldType), []) := rfl
theorem jo_218 : jv_own 218 = 7 := rfl
theorem ji_218 : jv_init 218 = false := rfl
theorem jr_218 : jv_ret 218 = (Option.none : Option Jvm.ClassFile.FieldType) := rfl
theorem jm_219 : jt_M[219]? = some (7, yX5_isLacking, cX5_isLacking, 3, (Option.some Jvm.ClassFile.FieldType.boolean), []) := rfl
theorem jo_219 : jv_own 219 = 7 := rfl
theorem ji_219 : jv_init 219 = false := rfl
theorem jr_219 : jv_ret 219 = (Option.some Jvm.ClassFile.FieldType.boolean) := rfl
theorem jm_220 : jt_M[220]? = some (7, yX5_isFlooded, cX5_isFlooded, 3, (Option.some Jvm.ClassFile.FieldType.boolean), []) := rfl
theorem jo_220 : jv_own 220 = 7 := rfl
theorem ji_220 : jv_init 220 = false := rfl
theorem jr_220 : jv_ret 220 = (Option.some Jvm.ClassFile.FieldType.boolean) := rfl
theorem jm_221 : jt_M[221]? = some (7, yX5_thread, cX5_thread, 6, (Option.some Jvm.ClassFile.FieldType.int), []) := rfl
theorem jo_221 : jv_own 221 = 7 := rfl
theorem ji_221 : jv_init 221 = false := rfl
theorem jr_221 : jv_ret 221 = (Option.some Jvm.ClassFile.FieldType.int) := rfl
theorem jm_222 : jt_M[222]? = some (7, yX5_begun, cX5_begun, 2, (Option.some (Jvm.ClassFile.FieldType.object "RainLoom$Asked")), []) := rfl
theorem jo_222 : jv_own 222 = 7 := rfl
theorem ji_222 : jv_init 222 = false := rfl
theorem jr_222 : jv_ret 222 = (Option.some (Jvm.ClassFile.FieldType.object "RainLoom$Asked")) := rfl
theorem jm_223 : jt_M[223]? = some (7, yX5_takes, cX5_takes, 2, (Option.none : Option Jvm.ClassFile.FieldType), []) := rfl
theorem jo_223 : jv_own 223 = 7 := rfl
theorem ji_223 : jv_init 223 = false := rfl
theorem jr_223 : jv_ret 223 = (Option.none : Option Jvm.ClassFile.FieldType) := rfl
theorem jm_224 : jt_M[224]? = some (7, yX5_copies, cX5_copies, 2, (Option.none : Option Jvm.ClassFile.FieldType), []) := rfl
theorem jo_224 : jv_own 224 = 7 := rfl
theorem ji_224 : jv_init 224 = false := rfl
theorem jr_224 : jv_ret 224 = (Option.none : Option Jvm.ClassFile.FieldType) := rfl
theorem jm_225 : jt_M[225]? = some (7, yX5_falls, cX5_falls, 14, (Option.some Jvm.ClassFile.FieldType.int), []) := rfl
theorem jo_225 : jv_own 225 = 7 := rfl
theorem ji_225 : jv_init 225 = false := rfl
theorem jr_225 : jv_ret 225 = (Option.some Jvm.ClassFile.FieldType.int) := rfl
theorem jm_226 : jt_M[226]? = some (7, yX5_dries, cX5_dries, 4, (Option.some Jvm.ClassFile.FieldType.int), []) := rfl
theorem jo_226 : jv_own 226 = 7 := rfl
theorem ji_226 : jv_init 226 = false := rfl
theorem jr_226 : jv_ret 226 = (Option.some Jvm.ClassFile.FieldType.int) := rfl
theorem jm_227 : jt_M[227]? = some (7, yX5_gathers, cX5_gathers, 3, (Option.some Jvm.ClassFile.FieldType.int), []) := rfl
theorem jo_227 : jv_own 227 = 7 := rfl
theorem ji_227 : jv_init 227 = false := rfl
theorem jr_227 : jv_ret 227 = (Option.some Jvm.ClassFile.FieldType.int) := rfl
theorem jm_228 : jt_M[228]? = some (7, yX5_sum, cX5_sum, 3, (Option.some Jvm.ClassFile.FieldType.int), []) := rfl
theorem jo_228 : jv_own 228 = 7 := rfl
theorem ji_228 : jv_init 228 = false := rfl
theorem jr_228 : jv_ret 228 = (Option.some Jvm.ClassFile.FieldType.int) := rfl
theorem jm_229 : jt_M[229]? = some (8, yX6_init, cX6_init, 1, (Option.none : Option Jvm.ClassFile.FieldType), []) := rfl
theorem jo_229 : jv_own 229 = 8 := rfl
theorem ji_229 : jv_init 229 = true := rfl
theorem jr_229 : jv_ret 229 = (Option.none : Option Jvm.ClassFile.FieldType) := rfl
theorem jm_230 : jt_M[230]? = some (9, yX7_init, cX7_init, 1, (Option.none : Option Jvm.ClassFile.FieldType), []) := rfl
theorem jo_230 : jv_own 230 = 9 := rfl
theorem ji_230 : jv_init 230 = true := rfl
theorem jr_230 : jv_ret 230 = (Option.none : Option Jvm.ClassFile.FieldType) := rfl
theorem jm_231 : jt_M[231]? = some (10, yX8_init, cX8_init, 1, (Option.none : Option Jvm.ClassFile.FieldType), []) := rfl
theorem jo_231 : jv_own 231 = 10 := rfl
theorem ji_231 : jv_init 231 = true := rfl
theorem jr_231 : jv_ret 231 = (Option.none : Option Jvm.ClassFile.FieldType) := rfl
theorem jm_232 : jt_M[232]? = some (10, yX8_goes, cX8_goes, 6, (Option.none : Option Jvm.ClassFile.FieldType), []) := rfl
theorem jo_232 : jv_own 232 = 10 := rfl
theorem ji_232 : jv_init 232 = false := rfl
theorem jr_232 : jv_ret 232 = (Option.none : Option Jvm.ClassFile.FieldType) := rfl
theorem jm_233 : jt_M[233]? = some (11, yX9_init, cX9_init, 1, (Option.none : Option Jvm.ClassFile.FieldType), []) := rfl
theorem jo_233 : jv_own 233 = 11 := rfl
theorem ji_233 : jv_init 233 = true := rfl
theorem jr_233 : jv_ret 233 = (Option.none : Option Jvm.ClassFile.FieldType) := rfl
theorem jm_234 : jt_M[234]? = some (11, yX9_goes, cX9_goes, 4, (Option.none : Option Jvm.ClassFile.FieldType), []) := rfl
theorem jo_234 : jv_own 234 = 11 := rfl
theorem ji_234 : jv_init 234 = false := rfl
theorem jr_234 : jv_ret 234 = (Option.none : Option Jvm.ClassFile.FieldType) := rfl
theorem jm_235 : jt_M[235]? = some (12, yX10_init, cX10_init, 1, (Option.none : Option Jvm.ClassFile.FieldType), []) := rfl
theorem jo_235 : jv_own 235 = 12 := rfl
theorem ji_235 : jv_init 235 = true := rfl
theorem jr_235 : jv_ret 235 = (Option.none : Option Jvm.ClassFile.FieldType) := rfl
theorem jm_236 : jt_M[236]? = some (12, yX10_goes, cX10_goes, 4, (Option.none : Option Jvm.ClassFile.FieldType), []) := rfl
theorem jo_236 : jv_own 236 = 12 := rfl
theorem ji_236 : jv_init 236 = false := rfl
theorem jr_236 : jv_ret 236 = (Option.none : Option Jvm.ClassFile.FieldType) := rfl
theorem jm_237 : jt_M[237]? = some (13, yX11_init, cX11_init, 1, (Option.none : Option Jvm.ClassFile.FieldType), []) := rfl
theorem jo_237 : jv_own 237 = 13 := rfl
theorem ji_237 : jv_init 237 = true := rfl
theorem jr_237 : jv_ret 237 = (Option.none : Option Jvm.ClassFile.FieldType) := rfl
theorem jm_238 : jt_M[238]? = some (13, yX11_goes, cX11_goes, 3, (Option.none : Option Jvm.ClassFile.FieldType), []) := rfl
theorem jo_238 : jv_own 238 = 13 := rfl
theorem ji_238 : jv_init 238 = false := rfl
theorem jr_238 : jv_ret 238 = (Option.none : Option Jvm.ClassFile.FieldType) := rfl
theorem jm_239 : jt_M[239]? = some (14, yX13_init, cX13_init, 1, (Option.none : Option Jvm.ClassFile.FieldType), []) := rfl
theorem jo_239 : jv_own 239 = 14 := rfl
theorem ji_239 : jv_init 239 = true := rfl
theorem jr_239 : jv_ret 239 = (Option.none : Option Jvm.ClassFile.FieldType) := rfl
theorem jm_240 : jt_M[240]? = some (14, yX13_of, cX13_of, 4, (Option.some Jvm.ClassFile.FieldType.int), []) := rfl
theorem jo_240 : jv_own 240 = 14 := rfl
theorem ji_240 : jv_init 240 = false := rfl
theorem jr_240 : jv_ret 240 = (Option.some Jvm.ClassFile.FieldType.int) := rfl
theorem jm_241 : jt_M[241]? = some (15, yX14_init, cX14_init, 1, (Option.none : Option Jvm.ClassFile.FieldType), []) := rfl
theorem jo_241 : jv_own 241 = 15 := rfl
theorem ji_241 : jv_init 241 = true := rfl
theorem jr_241 : jv_ret 241 = (Option.none : Option Jvm.ClassFile.FieldType) := rfl
theorem jm_242 : jt_M[242]? = some (16, yX15_init, cX15_init, 2, (Option.none : Option Jvm.ClassFile.FieldType), []) := rfl
theorem jo_242 : jv_own 242 = 16 := rfl
theorem ji_242 : jv_init 242 = true := rfl
theorem jr_242 : jv_ret 242 = (Option.none : Option Jvm.ClassFile.FieldType) := rfl
theorem jm_243 : jt_M[243]? = some (16, yX15_of, cX15_of, 2, (Option.some Jvm.ClassFile.FieldType.int), []) := rfl
theorem jo_243 : jv_own 243 = 16 := rfl
theorem ji_243 : jv_init 243 = false := rfl
theorem jr_243 : jv_ret 243 = (Option.some Jvm.ClassFile.FieldType.int) := rfl
theorem jm_244 : jt_M[244]? = some (17, yX16_init, cX16_init, 2, (Option.none : Option Jvm.ClassFile.FieldType), []) := rfl
theorem jo_244 : jv_own 244 = 17 := rfl
theorem ji_244 : jv_init 244 = true := rfl
theorem jr_244 : jv_ret 244 = (Option.none : Option Jvm.ClassFile.FieldType) := rfl
theorem jm_245 : jt_M[245]? = some (17, yX16_of, cX16_of, 2, (Option.some Jvm.ClassFile.FieldType.int), []) := rfl
theorem jo_245 : jv_own 245 = 17 := rfl
theorem ji_245 : jv_init 245 = false := rfl
theorem jr_245 : jv_ret 245 = (Option.some Jvm.ClassFile.FieldType.int) := rfl
theorem jm_246 : jt_M[246]? = some (18, yX17_init, cX17_init, 4, (Option.none : Option Jvm.ClassFile.FieldType), []) := rfl
theorem jo_246 : jv_own 246 = 18 := rfl
theorem ji_246 : jv_init 246 = true := rfl
theorem jr_246 : jv_ret 246 = (Option.none : Option Jvm.ClassFile.FieldType) := rfl
theorem jm_247 : jt_M[247]? = some (18, yX17_of, cX17_of, 4, (Option.some Jvm.ClassFile.FieldType.int), []) := rfl
theorem jo_247 : jv_own 247 = 18 := rfl
theorem ji_247 : jv_init 247 = false := rfl
theorem jr_247 : jv_ret 247 = (Option.some Jvm.ClassFile.FieldType.int) := rfl
theorem jm_248 : jt_M[248]? = some (19, yX18_init, cX18_init, 2, (Option.none : Option Jvm.ClassFile.FieldType), []) := rfl
theorem jo_248 : jv_own 248 = 19 := rfl
theorem ji_248 : jv_init 248 = true := rfl
theorem jr_248 : jv_ret 248 = (Option.none : Option Jvm.ClassFile.FieldType) := rfl
theorem jm_249 : jt_M[249]? = some (20, yX19_init, cX19_init, 2, (Option.none : Option Jvm.ClassFile.FieldType), []) := rfl
theorem jo_249 : jv_own 249 = 20 := rfl
theorem ji_249 : jv_init 249 = true := rfl
theorem jr_249 : jv_ret 249 = (Option.none : Option Jvm.ClassFile.FieldType) := rfl
theorem jm_250 : jt_M[250]? = some (21, yX20_init, cX20_init, 2, (Option.none : Option Jvm.ClassFile.FieldType), []) := rfl
theorem jo_250 : jv_own 250 = 21 := rfl
theorem ji_250 : jv_init 250 = true := rfl
theorem jr_250 : jv_ret 250 = (Option.none : Option Jvm.ClassFile.FieldType) := rfl
theorem jA_14_9 : jv_find jt_AN 14 9 = some (8) := rfl
theorem jA_4_9 : jv_find jt_AN 4 9 = some (5) := rfl
theorem jA_6_25 : jv_find jt_AN 6 25 = some (7) := rfl
theorem jF_10_19 : jv_F 10 19 = [(6, 6, .array .int)] := rfl
theorem jF_10_25 : jv_F 10 25 = [(6, 12, .int)] := rfl
theorem jF_10_29 : jv_F 10 29 = [(6, 11, .int)] := rfl
theorem jF_10_38 : jv_F 10 38 = [(5, 7, .int)] := rfl
theorem jF_10_41 : jv_F 10 41 = [(6, 7, .array .int)] := rfl
theorem jF_10_44 : jv_F 10 44 = [(6, 8, .array .int)] := rfl
theorem jF_10_47 : jv_F 10 47 = [(6, 9, .array .int)] := rfl
theorem jF_10_7 : jv_F 10 7 = [(5, 2, .object "java/util/ArrayList")] := rfl
theorem jF_11_21 : jv_F 11 21 = [(6, 1, .array .int)] := rfl
theorem jF_11_25 : jv_F 11 25 = [(5, 0, .array .int)] := rfl
theorem jF_11_31 : jv_F 11 31 = [(6, 2, .array .int)] := rfl
theorem jF_12_15 : jv_F 12 15 = [(6, 0, .array .int)] := rfl
theorem jF_13_25 : jv_F 13 25 = [(6, 11, .int)] := rfl
theorem jF_13_9 : jv_F 13 9 = [(6, 10, .int)] := rfl
theorem jF_14_11 : jv_F 14 11 = [(12, 0, .array (.object "RainLoom$Sum"))] := rfl
theorem jF_14_17 : jv_F 14 17 = [(12, 1, .array (.object "RainLoom$Sum"))] := rfl
theorem jF_14_20 : jv_F 14 20 = [(12, 2, .array (.object "RainLoom$Sum"))] := rfl
theorem jF_14_23 : jv_F 14 23 = [(7, 1, .boolean)] := rfl
theorem jF_14_29 : jv_F 14 29 = [(12, 3, .int)] := rfl
theorem jF_16_7 : jv_F 16 7 = [(13, 0, .int)] := rfl
theorem jF_17_13 : jv_F 17 13 = [(7, 0, .array .int)] := rfl
theorem jF_17_7 : jv_F 17 7 = [(14, 0, .int)] := rfl
theorem jF_18_13 : jv_F 18 13 = [(15, 1, .object "RainLoom$Sum")] := rfl
theorem jF_18_17 : jv_F 18 17 = [(15, 2, .object "RainLoom$Sum")] := rfl
theorem jF_18_7 : jv_F 18 7 = [(15, 0, .int)] := rfl
theorem jF_4_53 : jv_F 4 53 = [(3, 0, .array (.object "java/lang/String"))] := rfl
theorem jF_4_59 : jv_F 4 59 = [(3, 1, .array .byte)] := rfl
theorem jF_4_63 : jv_F 4 63 = [(3, 3, .array .byte)] := rfl
theorem jF_4_66 : jv_F 4 66 = [(3, 4, .array .short)] := rfl
theorem jF_4_70 : jv_F 4 70 = [(3, 5, .array .short)] := rfl
theorem jF_4_73 : jv_F 4 73 = [(3, 6, .array .short)] := rfl
theorem jF_4_76 : jv_F 4 76 = [(3, 2, .int)] := rfl
theorem jF_4_84 : jv_F 4 84 = [(3, 7, .int)] := rfl
theorem jF_5_110 : jv_F 5 110 = [(5, 3, .array (.object "RainLoom$Law"))] := rfl
theorem jF_5_121 : jv_F 5 121 = [(5, 1, .object "java/util/ArrayList")] := rfl
theorem jF_5_15 : jv_F 5 15 = [(4, 1, .object "RainLoom$Fault")] := rfl
theorem jF_5_155 : jv_F 5 155 = [(5, 2, .object "java/util/ArrayList")] := rfl
theorem jF_5_176 : jv_F 5 176 = [(5, 4, .int)] := rfl
theorem jF_5_184 : jv_F 5 184 = [(5, 5, .int)] := rfl
theorem jF_5_189 : jv_F 5 189 = [(5, 0, .array .int)] := rfl
theorem jF_5_19 : jv_F 5 19 = [(3, 4, .array .short)] := rfl
theorem jF_5_196 : jv_F 5 196 = [(12, 3, .int)] := rfl
theorem jF_5_199 : jv_F 5 199 = [(12, 0, .array (.object "RainLoom$Sum"))] := rfl
theorem jF_5_207 : jv_F 5 207 = [(12, 1, .array (.object "RainLoom$Sum"))] := rfl
theorem jF_5_213 : jv_F 5 213 = [(12, 2, .array (.object "RainLoom$Sum"))] := rfl
theorem jF_5_31 : jv_F 5 31 = [(4, 3, .int)] := rfl
theorem jF_5_38 : jv_F 5 38 = [(4, 5, .int)] := rfl
theorem jF_5_41 : jv_F 5 41 = [(4, 6, .int)] := rfl
theorem jF_5_44 : jv_F 5 44 = [(3, 3, .array .byte)] := rfl
theorem jF_5_52 : jv_F 5 52 = [(3, 6, .array .short)] := rfl
theorem jF_5_83 : jv_F 5 83 = [(4, 2, .object "RainLoom$Text")] := rfl
theorem jF_5_9 : jv_F 5 9 = [(4, 0, .object "RainLoom$Tokens")] := rfl
theorem jF_5_96 : jv_F 5 96 = [(4, 4, .int)] := rfl
theorem jF_6_18 : jv_F 6 18 = [(5, 1, .object "java/util/ArrayList")] := rfl
theorem jF_6_22 : jv_F 6 22 = [(5, 2, .object "java/util/ArrayList")] := rfl
theorem jF_6_45 : jv_F 6 45 = [(16, 0, .object "java/lang/String"), (17, 0, .object "java/lang/String")] := rfl
theorem jF_6_59 : jv_F 6 59 = [(5, 5, .int)] := rfl
theorem jF_6_62 : jv_F 6 62 = [(5, 4, .int)] := rfl
theorem jF_6_75 : jv_F 6 75 = [(16, 1, .int)] := rfl
theorem jF_6_78 : jv_F 6 78 = [(16, 2, .int)] := rfl
theorem jF_6_9 : jv_F 6 9 = [(5, 0, .array .int)] := rfl
theorem jF_7_106 : jv_F 7 106 = [(17, 1, .int)] := rfl
theorem jF_7_135 : jv_F 7 135 = [(5, 0, .array .int)] := rfl
theorem jF_7_15 : jv_F 7 15 = [(6, 1, .array .int)] := rfl
theorem jF_7_18 : jv_F 7 18 = [(6, 2, .array .int)] := rfl
theorem jF_7_21 : jv_F 7 21 = [(6, 3, .array .int)] := rfl
theorem jF_7_24 : jv_F 7 24 = [(6, 4, .array .int)] := rfl
theorem jF_7_27 : jv_F 7 27 = [(6, 5, .array .int)] := rfl
theorem jF_7_30 : jv_F 7 30 = [(6, 6, .array .int)] := rfl
theorem jF_7_33 : jv_F 7 33 = [(6, 7, .array .int)] := rfl
theorem jF_7_36 : jv_F 7 36 = [(6, 8, .array .int)] := rfl
theorem jF_7_39 : jv_F 7 39 = [(6, 9, .array .int)] := rfl
theorem jF_7_45 : jv_F 7 45 = [(6, 13, .object "RainLoom$Asked")] := rfl
theorem jF_7_49 : jv_F 7 49 = [(5, 2, .object "java/util/ArrayList")] := rfl
theorem jF_7_67 : jv_F 7 67 = [(17, 2, .int)] := rfl
theorem jF_7_74 : jv_F 7 74 = [(5, 6, .int)] := rfl
theorem jF_7_77 : jv_F 7 77 = [(6, 10, .int)] := rfl
theorem jF_7_78 : jv_F 7 78 = [(6, 11, .int)] := rfl
theorem jF_7_81 : jv_F 7 81 = [(5, 8, .int)] := rfl
theorem jF_7_84 : jv_F 7 84 = [(6, 12, .int)] := rfl
theorem jF_7_9 : jv_F 7 9 = [(6, 0, .array .int)] := rfl
theorem jF_7_95 : jv_F 7 95 = [(7, 0, .array .int)] := rfl
theorem jF_7_98 : jv_F 7 98 = [(5, 3, .array (.object "RainLoom$Law"))] := rfl
theorem jG_13_25 : jv_FP 13 false 25 = [(6, 11, .int)] := rfl
theorem jG_13_9 : jv_FP 13 false 9 = [(6, 10, .int)] := rfl
theorem jG_14_11i : jv_FP 14 true 11 = [(12, 0, .array (.object "RainLoom$Sum"))] := rfl
theorem jG_14_17i : jv_FP 14 true 17 = [(12, 1, .array (.object "RainLoom$Sum"))] := rfl
theorem jG_14_20i : jv_FP 14 true 20 = [(12, 2, .array (.object "RainLoom$Sum"))] := rfl
theorem jG_14_23 : jv_FP 14 false 23 = [(7, 1, .boolean)] := rfl
theorem jG_16_7i : jv_FP 16 true 7 = [(13, 0, .int)] := rfl
theorem jG_17_7i : jv_FP 17 true 7 = [(14, 0, .int)] := rfl
theorem jG_18_13i : jv_FP 18 true 13 = [(15, 1, .object "RainLoom$Sum")] := rfl
theorem jG_18_17i : jv_FP 18 true 17 = [(15, 2, .object "RainLoom$Sum")] := rfl
theorem jG_18_24 : jv_FP 18 false 24 = [(7, 1, .boolean)] := rfl
theorem jG_18_7i : jv_FP 18 true 7 = [(15, 0, .int)] := rfl
theorem jG_19_7i : jv_FP 19 true 7 = [(16, 0, .object "java/lang/String"), (17, 0, .object "java/lang/String")] := rfl
theorem jG_3_15 : jv_FP 3 false 15 = [(2, 7, .int)] := rfl
theorem jG_3_9 : jv_FP 3 false 9 = [(2, 6, .int)] := rfl
theorem jG_4_53i : jv_FP 4 true 53 = [(3, 0, .array (.object "java/lang/String"))] := rfl
theorem jG_4_59i : jv_FP 4 true 59 = [(3, 1, .array .byte)] := rfl
theorem jG_4_63i : jv_FP 4 true 63 = [(3, 3, .array .byte)] := rfl
theorem jG_4_66i : jv_FP 4 true 66 = [(3, 4, .array .short)] := rfl
theorem jG_4_70i : jv_FP 4 true 70 = [(3, 5, .array .short)] := rfl
theorem jG_4_73i : jv_FP 4 true 73 = [(3, 6, .array .short)] := rfl
theorem jG_4_84 : jv_FP 4 false 84 = [(3, 7, .int)] := rfl
theorem jG_5_145 : jv_FP 5 false 145 = [(16, 1, .int)] := rfl
theorem jG_5_148 : jv_FP 5 false 148 = [(16, 2, .int)] := rfl
theorem jG_5_15i : jv_FP 5 true 15 = [(4, 1, .object "RainLoom$Fault")] := rfl
theorem jG_5_161 : jv_FP 5 false 161 = [(17, 1, .int)] := rfl
theorem jG_5_164 : jv_FP 5 false 164 = [(17, 2, .int)] := rfl
theorem jG_5_167 : jv_FP 5 false 167 = [(5, 6, .int)] := rfl
theorem jG_5_170 : jv_FP 5 false 170 = [(5, 7, .int)] := rfl
theorem jG_5_173 : jv_FP 5 false 173 = [(5, 8, .int)] := rfl
theorem jG_5_176 : jv_FP 5 false 176 = [(5, 4, .int)] := rfl
theorem jG_5_184 : jv_FP 5 false 184 = [(5, 5, .int)] := rfl
theorem jG_5_196 : jv_FP 5 false 196 = [(12, 3, .int)] := rfl
theorem jG_5_31 : jv_FP 5 false 31 = [(4, 3, .int)] := rfl
theorem jG_5_38 : jv_FP 5 false 38 = [(4, 5, .int)] := rfl
theorem jG_5_41 : jv_FP 5 false 41 = [(4, 6, .int)] := rfl
theorem jG_5_83 : jv_FP 5 false 83 = [(4, 2, .object "RainLoom$Text")] := rfl
theorem jG_5_9i : jv_FP 5 true 9 = [(4, 0, .object "RainLoom$Tokens")] := rfl
theorem jG_5_96 : jv_FP 5 false 96 = [(4, 4, .int)] := rfl
theorem jG_6_18i : jv_FP 6 true 18 = [(5, 1, .object "java/util/ArrayList")] := rfl
theorem jG_6_22i : jv_FP 6 true 22 = [(5, 2, .object "java/util/ArrayList")] := rfl
theorem jG_6_27i : jv_FP 6 true 27 = [(5, 3, .array (.object "RainLoom$Law"))] := rfl
theorem jG_6_31i : jv_FP 6 true 31 = [(5, 6, .int)] := rfl
theorem jG_6_9i : jv_FP 6 true 9 = [(5, 0, .array .int)] := rfl
theorem jG_7_15i : jv_FP 7 true 15 = [(6, 1, .array .int)] := rfl
theorem jG_7_18i : jv_FP 7 true 18 = [(6, 2, .array .int)] := rfl
theorem jG_7_21i : jv_FP 7 true 21 = [(6, 3, .array .int)] := rfl
theorem jG_7_24i : jv_FP 7 true 24 = [(6, 4, .array .int)] := rfl
theorem jG_7_27i : jv_FP 7 true 27 = [(6, 5, .array .int)] := rfl
theorem jG_7_30i : jv_FP 7 true 30 = [(6, 6, .array .int)] := rfl
theorem jG_7_33i : jv_FP 7 true 33 = [(6, 7, .array .int)] := rfl
theorem jG_7_36i : jv_FP 7 true 36 = [(6, 8, .array .int)] := rfl
theorem jG_7_39i : jv_FP 7 true 39 = [(6, 9, .array .int)] := rfl
theorem jG_7_45i : jv_FP 7 true 45 = [(6, 13, .object "RainLoom$Asked")] := rfl
theorem jG_7_77 : jv_FP 7 false 77 = [(6, 10, .int)] := rfl
theorem jG_7_78 : jv_FP 7 false 78 = [(6, 11, .int)] := rfl
theorem jG_7_84 : jv_FP 7 false 84 = [(6, 12, .int)] := rfl
theorem jG_7_9i : jv_FP 7 true 9 = [(6, 0, .array .int)] := rfl
theorem jG_8_7i : jv_FP 8 true 7 = [(7, 0, .array .int)] := rfl
theorem jK_3_1 : jv_find jt_K 3 1 = some (.ref 1) := rfl
theorem jK_4_11 : jv_find jt_K 4 11 = some (.ref 2) := rfl
theorem jK_4_13 : jv_find jt_K 4 13 = some (.ref 3) := rfl
theorem jK_4_15 : jv_find jt_K 4 15 = some (.ref 4) := rfl
theorem jK_4_17 : jv_find jt_K 4 17 = some (.ref 5) := rfl
theorem jK_4_19 : jv_find jt_K 4 19 = some (.ref 6) := rfl
theorem jK_4_21 : jv_find jt_K 4 21 = some (.ref 7) := rfl
theorem jK_4_23 : jv_find jt_K 4 23 = some (.ref 8) := rfl
theorem jK_4_25 : jv_find jt_K 4 25 = some (.ref 9) := rfl
theorem jK_4_27 : jv_find jt_K 4 27 = some (.ref 10) := rfl
theorem jK_4_29 : jv_find jt_K 4 29 = some (.ref 11) := rfl
theorem jK_4_31 : jv_find jt_K 4 31 = some (.ref 12) := rfl
theorem jK_4_33 : jv_find jt_K 4 33 = some (.ref 13) := rfl
theorem jK_4_35 : jv_find jt_K 4 35 = some (.ref 14) := rfl
theorem jK_4_37 : jv_find jt_K 4 37 = some (.ref 15) := rfl
theorem jK_4_39 : jv_find jt_K 4 39 = some (.ref 16) := rfl
theorem jK_4_41 : jv_find jt_K 4 41 = some (.ref 17) := rfl
theorem jK_4_43 : jv_find jt_K 4 43 = some (.ref 18) := rfl
theorem jK_4_45 : jv_find jt_K 4 45 = some (.ref 19) := rfl
theorem jK_4_47 : jv_find jt_K 4 47 = some (.ref 20) := rfl
theorem jK_4_49 : jv_find jt_K 4 49 = some (.ref 21) := rfl
theorem jK_4_51 : jv_find jt_K 4 51 = some (.ref 22) := rfl
theorem jN_4_113 : jv_find jt_N 4 113 = some (20) := rfl
theorem jN_5_133 : jv_find jt_N 5 133 = some (16) := rfl
theorem jN_5_158 : jv_find jt_N 5 158 = some (17) := rfl
theorem jN_5_193 : jv_find jt_N 5 193 = some (12) := rfl
theorem jN_5_219 : jv_find jt_N 5 219 = some (15) := rfl
theorem jN_5_227 : jv_find jt_N 5 227 = some (13) := rfl
theorem jN_5_231 : jv_find jt_N 5 231 = some (14) := rfl
theorem jN_5_87 : jv_find jt_N 5 87 = some (5) := rfl
theorem jN_6_15 : jv_find jt_N 6 15 = some (18) := rfl
theorem jN_7_42 : jv_find jt_N 7 42 = some (7) := rfl
theorem jP_10_1 : jv_find jt_P 10 1 = some ((0, some 230)) := rfl
theorem jP_11_3 : jv_find jt_P 11 3 = some ((0, some 230)) := rfl
theorem jP_12_3 : jv_find jt_P 12 3 = some ((0, some 230)) := rfl
theorem jP_13_3 : jv_find jt_P 13 3 = some ((0, some 230)) := rfl
theorem jP_14_3 : jv_find jt_P 14 3 = some ((0, none)) := rfl
theorem jP_15_1 : jv_find jt_P 15 1 = some ((0, none)) := rfl
theorem jP_16_1 : jv_find jt_P 16 1 = some ((0, some 241)) := rfl
theorem jP_17_1 : jv_find jt_P 17 1 = some ((0, some 241)) := rfl
theorem jP_18_1 : jv_find jt_P 18 1 = some ((0, some 241)) := rfl
theorem jP_19_1 : jv_find jt_P 19 1 = some ((0, none)) := rfl
theorem jP_20_1 : jv_find jt_P 20 1 = some ((1, some 248)) := rfl
theorem jP_21_1 : jv_find jt_P 21 1 = some ((1, some 248)) := rfl
theorem jP_3_3 : jv_find jt_P 3 3 = some ((4, some 254)) := rfl
theorem jP_4_115 : jv_find jt_P 4 115 = some ((0, some 302)) := rfl
theorem jP_4_3 : jv_find jt_P 4 3 = some ((0, none)) := rfl
theorem jP_5_139 : jv_find jt_P 5 139 = some ((1, some 249)) := rfl
theorem jP_5_160 : jv_find jt_P 5 160 = some ((1, some 250)) := rfl
theorem jP_5_195 : jv_find jt_P 5 195 = some ((0, some 239)) := rfl
theorem jP_5_221 : jv_find jt_P 5 221 = some ((3, some 246)) := rfl
theorem jP_5_229 : jv_find jt_P 5 229 = some ((1, some 242)) := rfl
theorem jP_5_233 : jv_find jt_P 5 233 = some ((1, some 244)) := rfl
theorem jP_5_3 : jv_find jt_P 5 3 = some ((0, none)) := rfl
theorem jP_5_95 : jv_find jt_P 5 95 = some ((0, some 207)) := rfl
theorem jP_6_17 : jv_find jt_P 6 17 = some ((0, some 257)) := rfl
theorem jP_6_3 : jv_find jt_P 6 3 = some ((0, none)) := rfl
theorem jP_7_3 : jv_find jt_P 7 3 = some ((0, none)) := rfl
theorem jP_7_44 : jv_find jt_P 7 44 = some ((0, some 229)) := rfl
theorem jP_8_1 : jv_find jt_P 8 1 = some ((0, none)) := rfl
theorem jP_9_1 : jv_find jt_P 9 1 = some ((0, none)) := rfl
theorem jT_10_32 : jv_find jt_S 10 32 = some ((3, some 139)) := rfl
theorem jT_12_25 : jv_find jt_S 12 25 = some ((2, some 308)) := rfl
theorem jT_13_19 : jv_find jt_S 13 19 = some ((2, some 309)) := rfl
theorem jT_14_37 : jv_find jt_S 14 37 = some ((2, some 308)) := rfl
theorem jT_6_55 : jv_find jt_S 6 55 = some ((2, some 209)) := rfl
theorem jT_7_114 : jv_find jt_S 7 114 = some ((2, some 309)) := rfl
theorem jT_7_85 : jv_find jt_S 7 85 = some ((5, none)) := rfl
theorem jT_7_91 : jv_find jt_S 7 91 = some ((2, some 224)) := rfl
theorem jV_10_13 : jv_find jt_V 10 13 = some ((0, [(18, 258)])) := rfl
theorem jV_10_50 : jv_find jt_V 10 50 = some ((6, [(6, 225)])) := rfl
theorem jV_11_15 : jv_find jt_V 11 15 = some ((2, [(6, 219)])) := rfl
theorem jV_11_28 : jv_find jt_V 11 28 = some ((2, [(6, 220)])) := rfl
theorem jV_11_9 : jv_find jt_V 11 9 = some ((1, [(5, 211)])) := rfl
theorem jV_12_21 : jv_find jt_V 12 21 = some ((2, [(6, 226)])) := rfl
theorem jV_12_9 : jv_find jt_V 12 9 = some ((1, [(5, 211)])) := rfl
theorem jV_13_15 : jv_find jt_V 13 15 = some ((1, [(6, 227)])) := rfl
theorem jV_14_33 : jv_find jt_V 14 33 = some ((1, [(15, 247), (13, 243), (14, 245)])) := rfl
theorem jV_18_20 : jv_find jt_V 18 20 = some ((1, [(15, 247), (13, 243), (14, 245)])) := rfl
theorem jV_4_103 : jv_find jt_V 4 103 = some ((1, [(3, 181)])) := rfl
theorem jV_4_106 : jv_find jt_V 4 106 = some ((1, [(3, 182)])) := rfl
theorem jV_4_109 : jv_find jt_V 4 109 = some ((4, [(3, 183)])) := rfl
theorem jV_4_116 : jv_find jt_V 4 116 = some ((1, [(20, 303)])) := rfl
theorem jV_4_120 : jv_find jt_V 4 120 = some ((0, [(20, 304)])) := rfl
theorem jV_4_80 : jv_find jt_V 4 80 = some ((1, [(3, 179)])) := rfl
theorem jV_4_87 : jv_find jt_V 4 87 = some ((0, [(19, 268)])) := rfl
theorem jV_4_91 : jv_find jt_V 4 91 = some ((1, [(19, 270)])) := rfl
theorem jV_4_95 : jv_find jt_V 4 95 = some ((1, [(3, 178)])) := rfl
theorem jV_4_99 : jv_find jt_V 4 99 = some ((2, [(3, 180)])) := rfl
theorem jV_5_102 : jv_find jt_V 5 102 = some ((1, [(4, 194)])) := rfl
theorem jV_5_106 : jv_find jt_V 5 106 = some ((0, [(5, 210)])) := rfl
theorem jV_5_114 : jv_find jt_V 5 114 = some ((0, [(4, 193)])) := rfl
theorem jV_5_118 : jv_find jt_V 5 118 = some ((0, [(4, 202)])) := rfl
theorem jV_5_125 : jv_find jt_V 5 125 = some ((0, [(18, 258)])) := rfl
theorem jV_5_130 : jv_find jt_V 5 130 = some ((2, [(4, 197)])) := rfl
theorem jV_5_135 : jv_find jt_V 5 135 = some ((0, [(4, 205)])) := rfl
theorem jV_5_142 : jv_find jt_V 5 142 = some ((2, [(4, 206)])) := rfl
theorem jV_5_151 : jv_find jt_V 5 151 = some ((1, [(18, 261)])) := rfl
theorem jV_5_179 : jv_find jt_V 5 179 = some ((0, [(19, 268)])) := rfl
theorem jV_5_185 : jv_find jt_V 5 185 = some ((1, [(19, 270)])) := rfl
theorem jV_5_203 : jv_find jt_V 5 203 = some ((0, [(4, 198)])) := rfl
theorem jV_5_210 : jv_find jt_V 5 210 = some ((1, [(4, 201)])) := rfl
theorem jV_5_216 : jv_find jt_V 5 216 = some ((0, [(4, 199)])) := rfl
theorem jV_5_224 : jv_find jt_V 5 224 = some ((0, [(4, 200)])) := rfl
theorem jV_5_25 : jv_find jt_V 5 25 = some ((2, [(2, 175)])) := rfl
theorem jV_5_35 : jv_find jt_V 5 35 = some ((2, [(4, 190)])) := rfl
theorem jV_5_48 : jv_find jt_V 5 48 = some ((1, [(4, 189)])) := rfl
theorem jV_5_55 : jv_find jt_V 5 55 = some ((1, [(4, 195)])) := rfl
theorem jV_5_59 : jv_find jt_V 5 59 = some ((0, [(4, 192)])) := rfl
theorem jV_5_62 : jv_find jt_V 5 62 = some ((1, [(4, 196)])) := rfl
theorem jV_5_65 : jv_find jt_V 5 65 = some ((0, [(4, 188)])) := rfl
theorem jV_5_68 : jv_find jt_V 5 68 = some ((1, [(4, 203)])) := rfl
theorem jV_5_72 : jv_find jt_V 5 72 = some ((1, [(3, 184)])) := rfl
theorem jV_5_75 : jv_find jt_V 5 75 = some ((2, [(4, 204)])) := rfl
theorem jV_5_79 : jv_find jt_V 5 79 = some ((1, [(3, 185)])) := rfl
theorem jV_5_86 : jv_find jt_V 5 86 = some ((1, [(5, 208)])) := rfl
theorem jV_5_92 : jv_find jt_V 5 92 = some ((0, [(3, 177)])) := rfl
theorem jV_5_99 : jv_find jt_V 5 99 = some ((0, [(4, 191)])) := rfl
theorem jV_6_35 : jv_find jt_V 6 35 = some ((0, [(18, 258)])) := rfl
theorem jV_6_39 : jv_find jt_V 6 39 = some ((1, [(18, 259)])) := rfl
theorem jV_6_49 : jv_find jt_V 6 49 = some ((1, [(19, 276)])) := rfl
theorem jV_6_65 : jv_find jt_V 6 65 = some ((2, [(5, 212)])) := rfl
theorem jV_6_69 : jv_find jt_V 6 69 = some ((1, [(5, 211)])) := rfl
theorem jV_6_81 : jv_find jt_V 6 81 = some ((1, [(5, 213)])) := rfl
theorem jV_7_102 : jv_find jt_V 7 102 = some ((0, [(6, 222)])) := rfl
theorem jV_7_108 : jv_find jt_V 7 108 = some ((1, [(12, 240)])) := rfl
theorem jV_7_120 : jv_find jt_V 7 120 = some ((1, [(5, 213)])) := rfl
theorem jV_7_124 : jv_find jt_V 7 124 = some ((1, [(5, 214)])) := rfl
theorem jV_7_127 : jv_find jt_V 7 127 = some ((4, [(6, 221)])) := rfl
theorem jV_7_131 : jv_find jt_V 7 131 = some ((2, [(5, 212)])) := rfl
theorem jV_7_55 : jv_find jt_V 7 55 = some ((0, [(18, 258)])) := rfl
theorem jV_7_61 : jv_find jt_V 7 61 = some ((1, [(18, 259)])) := rfl
theorem jV_7_70 : jv_find jt_V 7 70 = some ((1, [(6, 218)])) := rfl
/-! 174: RainLoom$Fault.<init>()V -/
theorem n174 : jv_cd (d + 1) 174 [.ref a0] h = jv_ev d 174 0 [some (.ref a0)] [] h := rfl
theorem e174_0 : jv_ev d 174 0 [some (.ref a)] st h = jv_ev d 174 1 [some (.ref a)] (.ref a :: st) h := jq_nx (jv_insR jm_174 dX1_init_0) rfl
theorem e174_1 : jv_ev d 174 1 lc st h = jv_ev d 174 3 lc (.ref 1 :: st) h := jq_ldc (jv_insR jm_174 dX1_init_1) jo_174 jK_3_1 rfl
theorem e174_3 : jv_ev d 174 3 lc st h = jv_ev d 174 4 lc (.null :: st) h := jq_nx (jv_insR jm_174 dX1_init_3) rfl
theorem e174_4 : jv_ev d 174 4 lc st h = jv_ev d 174 5 lc (.int 0 :: st) h := jq_iconst (jv_insR jm_174 dX1_init_4) (by decide)
theorem e174_5 : jv_ev d 174 5 lc st h = jv_ev d 174 6 lc (.int 0 :: st) h := jq_iconst (jv_insR jm_174 dX1_init_5) (by decide)
theorem e174_6 : jv_ev d 174 6 lc [z3, z2, z1, z0, .ref b] h = if jt_off ≤ b ∧ (jt_SU.contains 254 = false ∨ jv_cls h b = some 20) then ((jv_cd d 254 [.ref b, z0, z1, z2, z3] h).bind fun r => jv_on r (fun v h => jv_ev d 174 9 lc (v.toList ++ []) h) (fun q h => some (.inr q, h))) else none := jq_P (as := [z0, z1, z2, z3]) (rest := []) (jv_insR jm_174 dX1_init_6) jo_174 jP_3_3 rfl rfl rfl rfl
theorem e174_9 : jv_ev d 174 9 lc [] h = some (.inl none, h) := jq_retv (jv_insR jm_174 dX1_init_9) jr_174
/-! 175: RainLoom$Fault.of(II)LRainLoom$Fault; -/
theorem n175 : jv_cd (d + 1) 175 [.ref a0, .int i1, .int i2] h = jv_ev d 175 0 [some (.ref a0), some (.int i1), some (.int i2)] [] h := rfl
theorem e175_0 : jv_ev d 175 0 [some (.ref a), x1, x2] st h = jv_ev d 175 1 [some (.ref a), x1, x2] (.ref a :: st) h := jq_nx (jv_insR jm_175 dX1_of_0) rfl
theorem e175_1 : jv_ev d 175 1 [x0, some (.int v), x2] st h = jv_ev d 175 2 [x0, some (.int v), x2] (.int v :: st) h := jq_nx (jv_insR jm_175 dX1_of_1) rfl
theorem e175_2 : jv_ev d 175 2 lc (r :: .ref a :: st) h = (jv_pf h a [(2, 6, .int)] r).bind fun h => jv_ev d 175 5 lc st h := jq_put (jv_insR jm_175 dX1_of_2) jo_175 ji_175 jG_3_9
theorem e175_5 : jv_ev d 175 5 [some (.ref a), x1, x2] st h = jv_ev d 175 6 [some (.ref a), x1, x2] (.ref a :: st) h := jq_nx (jv_insR jm_175 dX1_of_5) rfl
theorem e175_6 : jv_ev d 175 6 [x0, x1, some (.int v)] st h = jv_ev d 175 7 [x0, x1, some (.int v)] (.int v :: st) h := jq_nx (jv_insR jm_175 dX1_of_6) rfl
theorem e175_7 : jv_ev d 175 7 lc (r :: .ref a :: st) h = (jv_pf h a [(2, 7, .int)] r).bind fun h => jv_ev d 175 10 lc st h := jq_put (jv_insR jm_175 dX1_of_7) jo_175 ji_175 jG_3_15
theorem e175_10 : jv_ev d 175 10 [some (.ref a), x1, x2] st h = jv_ev d 175 11 [some (.ref a), x1, x2] (.ref a :: st) h := jq_nx (jv_insR jm_175 dX1_of_10) rfl
theorem e175_11 : jv_ev d 175 11 lc [.ref a] h = some (.inl (some (.ref a)), h) := jq_reta (jv_insR jm_175 dX1_of_11) jr_175 rfl
/-! 176: RainLoom$Tokens.<init>()V -/
theorem n176 : jv_cd (d + 1) 176 [.ref a0] h = jv_ev d 176 0 [some (.ref a0)] [] h := rfl
theorem e176_0 : jv_ev d 176 0 [some (.ref a)] st h = jv_ev d 176 1 [some (.ref a)] (.ref a :: st) h := jq_nx (jv_insR jm_176 dX2_init_0) rfl
theorem e176_1 : jv_ev d 176 1 lc [.ref b] h = if jt_off ≤ b then jv_ev d 176 4 lc [] h else none := jq_O (jv_insR jm_176 dX2_init_1) jo_176 jP_4_3 (Nat.le_of_ble_eq_true rfl)
theorem e176_4 : jv_ev d 176 4 [some (.ref a)] st h = jv_ev d 176 5 [some (.ref a)] (.ref a :: st) h := jq_nx (jv_insR jm_176 dX2_init_4) rfl
theorem e176_5 : jv_ev d 176 5 lc st h = jv_ev d 176 7 lc (.int 21 :: st) h := jq_bipush (jv_insR jm_176 dX2_init_5) (by decide)
theorem e176_7 : jv_ev d 176 7 lc (.int v :: st) h = if v < 0 ∨ 100000 < v.toNatClampNeg then none else jv_ev d 176 10 lc (.ref h.length :: st) (h ++ [.inl (5, v.toNatClampNeg, .inr (.inr (.inr (.inr (fun _ => none)))))]) := jq_anew (jv_insR jm_176 dX2_init_7) jo_176 jA_4_9
theorem e176_10 : jv_ev d 176 10 lc (.ref a :: st) h = jv_ev d 176 11 lc (.ref a :: .ref a :: st) h := jq_nx (jv_insR jm_176 dX2_init_10) rfl
theorem e176_11 : jv_ev d 176 11 lc st h = jv_ev d 176 12 lc (.int 0 :: st) h := jq_iconst (jv_insR jm_176 dX2_init_11) (by decide)
theorem e176_12 : jv_ev d 176 12 lc st h = jv_ev d 176 14 lc (.ref 2 :: st) h := jq_ldc (jv_insR jm_176 dX2_init_12) jo_176 jK_4_11 rfl
theorem e176_14 : jv_ev d 176 14 lc (.ref b :: .int v :: .ref a :: st) h = (jv_rp h a v b).bind fun h => jv_ev d 176 15 lc st h := jq_aast (jv_insR jm_176 dX2_init_14)
theorem e176_15 : jv_ev d 176 15 lc (.ref a :: st) h = jv_ev d 176 16 lc (.ref a :: .ref a :: st) h := jq_nx (jv_insR jm_176 dX2_init_15) rfl
theorem e176_16 : jv_ev d 176 16 lc st h = jv_ev d 176 17 lc (.int 1 :: st) h := jq_iconst (jv_insR jm_176 dX2_init_16) (by decide)
theorem e176_17 : jv_ev d 176 17 lc st h = jv_ev d 176 19 lc (.ref 3 :: st) h := jq_ldc (jv_insR jm_176 dX2_init_17) jo_176 jK_4_13 rfl
theorem e176_19 : jv_ev d 176 19 lc (.ref b :: .int v :: .ref a :: st) h = (jv_rp h a v b).bind fun h => jv_ev d 176 20 lc st h := jq_aast (jv_insR jm_176 dX2_init_19)
theorem e176_20 : jv_ev d 176 20 lc (.ref a :: st) h = jv_ev d 176 21 lc (.ref a :: .ref a :: st) h := jq_nx (jv_insR jm_176 dX2_init_20) rfl
theorem e176_21 : jv_ev d 176 21 lc st h = jv_ev d 176 22 lc (.int 2 :: st) h := jq_iconst (jv_insR jm_176 dX2_init_21) (by decide)
theorem e176_22 : jv_ev d 176 22 lc st h = jv_ev d 176 24 lc (.ref 4 :: st) h := jq_ldc (jv_insR jm_176 dX2_init_22) jo_176 jK_4_15 rfl
theorem e176_24 : jv_ev d 176 24 lc (.ref b :: .int v :: .ref a :: st) h = (jv_rp h a v b).bind fun h => jv_ev d 176 25 lc st h := jq_aast (jv_insR jm_176 dX2_init_24)
theorem e176_25 : jv_ev d 176 25 lc (.ref a :: st) h = jv_ev d 176 26 lc (.ref a :: .ref a :: st) h := jq_nx (jv_insR jm_176 dX2_init_25) rfl
theorem e176_26 : jv_ev d 176 26 lc st h = jv_ev d 176 27 lc (.int 3 :: st) h := jq_iconst (jv_insR jm_176 dX2_init_26) (by decide)
theorem e176_27 : jv_ev d 176 27 lc st h = jv_ev d 176 29 lc (.ref 5 :: st) h := jq_ldc (jv_insR jm_176 dX2_init_27) jo_176 jK_4_17 rfl
theorem e176_29 : jv_ev d 176 29 lc (.ref b :: .int v :: .ref a :: st) h = (jv_rp h a v b).bind fun h => jv_ev d 176 30 lc st h := jq_aast (jv_insR jm_176 dX2_init_29)
theorem e176_30 : jv_ev d 176 30 lc (.ref a :: st) h = jv_ev d 176 31 lc (.ref a :: .ref a :: st) h := jq_nx (jv_insR jm_176 dX2_init_30) rfl
theorem e176_31 : jv_ev d 176 31 lc st h = jv_ev d 176 32 lc (.int 4 :: st) h := jq_iconst (jv_insR jm_176 dX2_init_31) (by decide)
theorem e176_32 : jv_ev d 176 32 lc st h = jv_ev d 176 34 lc (.ref 6 :: st) h := jq_ldc (jv_insR jm_176 dX2_init_32) jo_176 jK_4_19 rfl
theorem e176_34 : jv_ev d 176 34 lc (.ref b :: .int v :: .ref a :: st) h = (jv_rp h a v b).bind fun h => jv_ev d 176 35 lc st h := jq_aast (jv_insR jm_176 dX2_init_34)
theorem e176_35 : jv_ev d 176 35 lc (.ref a :: st) h = jv_ev d 176 36 lc (.ref a :: .ref a :: st) h := jq_nx (jv_insR jm_176 dX2_init_35) rfl
theorem e176_36 : jv_ev d 176 36 lc st h = jv_ev d 176 37 lc (.int 5 :: st) h := jq_iconst (jv_insR jm_176 dX2_init_36) (by decide)
theorem e176_37 : jv_ev d 176 37 lc st h = jv_ev d 176 39 lc (.ref 7 :: st) h := jq_ldc (jv_insR jm_176 dX2_init_37) jo_176 jK_4_21 rfl
theorem e176_39 : jv_ev d 176 39 lc (.ref b :: .int v :: .ref a :: st) h = (jv_rp h a v b).bind fun h => jv_ev d 176 40 lc st h := jq_aast (jv_insR jm_176 dX2_init_39)
theorem e176_40 : jv_ev d 176 40 lc (.ref a :: st) h = jv_ev d 176 41 lc (.ref a :: .ref a :: st) h := jq_nx (jv_insR jm_176 dX2_init_40) rfl
theorem e176_41 : jv_ev d 176 41 lc st h = jv_ev d 176 43 lc (.int 6 :: st) h := jq_bipush (jv_insR jm_176 dX2_init_41) (by decide)
theorem e176_43 : jv_ev d 176 43 lc st h = jv_ev d 176 45 lc (.ref 8 :: st) h := jq_ldc (jv_insR jm_176 dX2_init_43) jo_176 jK_4_23 rfl
theorem e176_45 : jv_ev d 176 45 lc (.ref b :: .int v :: .ref a :: st) h = (jv_rp h a v b).bind fun h => jv_ev d 176 46 lc st h := jq_aast (jv_insR jm_176 dX2_init_45)
theorem e176_46 : jv_ev d 176 46 lc (.ref a :: st) h = jv_ev d 176 47 lc (.ref a :: .ref a :: st) h := jq_nx (jv_insR jm_176 dX2_init_46) rfl
theorem e176_47 : jv_ev d 176 47 lc st h = jv_ev d 176 49 lc (.int 7 :: st) h := jq_bipush (jv_insR jm_176 dX2_init_47) (by decide)
theorem e176_49 : jv_ev d 176 49 lc st h = jv_ev d 176 51 lc (.ref 9 :: st) h := jq_ldc (jv_insR jm_176 dX2_init_49) jo_176 jK_4_25 rfl
theorem e176_51 : jv_ev d 176 51 lc (.ref b :: .int v :: .ref a :: st) h = (jv_rp h a v b).bind fun h => jv_ev d 176 52 lc st h := jq_aast (jv_insR jm_176 dX2_init_51)
theorem e176_52 : jv_ev d 176 52 lc (.ref a :: st) h = jv_ev d 176 53 lc (.ref a :: .ref a :: st) h := jq_nx (jv_insR jm_176 dX2_init_52) rfl
theorem e176_53 : jv_ev d 176 53 lc st h = jv_ev d 176 55 lc (.int 8 :: st) h := jq_bipush (jv_insR jm_176 dX2_init_53) (by decide)
theorem e176_55 : jv_ev d 176 55 lc st h = jv_ev d 176 57 lc (.ref 10 :: st) h := jq_ldc (jv_insR jm_176 dX2_init_55) jo_176 jK_4_27 rfl
theorem e176_57 : jv_ev d 176 57 lc (.ref b :: .int v :: .ref a :: st) h = (jv_rp h a v b).bind fun h => jv_ev d 176 58 lc st h := jq_aast (jv_insR jm_176 dX2_init_57)
theorem e176_58 : jv_ev d 176 58 lc (.ref a :: st) h = jv_ev d 176 59 lc (.ref a :: .ref a :: st) h := jq_nx (jv_insR jm_176 dX2_init_58) rfl
theorem e176_59 : jv_ev d 176 59 lc st h = jv_ev d 176 61 lc (.int 9 :: st) h := jq_bipush (jv_insR jm_176 dX2_init_59) (by decide)
theorem e176_61 : jv_ev d 176 61 lc st h = jv_ev d 176 63 lc (.ref 11 :: st) h := jq_ldc (jv_insR jm_176 dX2_init_61) jo_176 jK_4_29 rfl
theorem e176_63 : jv_ev d 176 63 lc (.ref b :: .int v :: .ref a :: st) h = (jv_rp h a v b).bind fun h => jv_ev d 176 64 lc st h := jq_aast (jv_insR jm_176 dX2_init_63)
theorem e176_64 : jv_ev d 176 64 lc (.ref a :: st) h = jv_ev d 176 65 lc (.ref a :: .ref a :: st) h := jq_nx (jv_insR jm_176 dX2_init_64) rfl
theorem e176_65 : jv_ev d 176 65 lc st h = jv_ev d 176 67 lc (.int 10 :: st) h := jq_bipush (jv_insR jm_176 dX2_init_65) (by decide)
theorem e176_67 : jv_ev d 176 67 lc st h = jv_ev d 176 69 lc (.ref 12 :: st) h := jq_ldc (jv_insR jm_176 dX2_init_67) jo_176 jK_4_31 rfl
theorem e176_69 : jv_ev d 176 69 lc (.ref b :: .int v :: .ref a :: st) h = (jv_rp h a v b).bind fun h => jv_ev d 176 70 lc st h := jq_aast (jv_insR jm_176 dX2_init_69)
theorem e176_70 : jv_ev d 176 70 lc (.ref a :: st) h = jv_ev d 176 71 lc (.ref a :: .ref a :: st) h := jq_nx (jv_insR jm_176 dX2_init_70) rfl
theorem e176_71 : jv_ev d 176 71 lc st h = jv_ev d 176 73 lc (.int 11 :: st) h := jq_bipush (jv_insR jm_176 dX2_init_71) (by decide)
theorem e176_73 : jv_ev d 176 73 lc st h = jv_ev d 176 75 lc (.ref 13 :: st) h := jq_ldc (jv_insR jm_176 dX2_init_73) jo_176 jK_4_33 rfl
theorem e176_75 : jv_ev d 176 75 lc (.ref b :: .int v :: .ref a :: st) h = (jv_rp h a v b).bind fun h => jv_ev d 176 76 lc st h := jq_aast (jv_insR jm_176 dX2_init_75)
theorem e176_76 : jv_ev d 176 76 lc (.ref a :: st) h = jv_ev d 176 77 lc (.ref a :: .ref a :: st) h := jq_nx (jv_insR jm_176 dX2_init_76) rfl
theorem e176_77 : jv_ev d 176 77 lc st h = jv_ev d 176 79 lc (.int 12 :: st) h := jq_bipush (jv_insR jm_176 dX2_init_77) (by decide)
theorem e176_79 : jv_ev d 176 79 lc st h = jv_ev d 176 81 lc (.ref 14 :: st) h := jq_ldc (jv_insR jm_176 dX2_init_79) jo_176 jK_4_35 rfl
theorem e176_81 : jv_ev d 176 81 lc (.ref b :: .int v :: .ref a :: st) h = (jv_rp h a v b).bind fun h => jv_ev d 176 82 lc st h := jq_aast (jv_insR jm_176 dX2_init_81)
theorem e176_82 : jv_ev d 176 82 lc (.ref a :: st) h = jv_ev d 176 83 lc (.ref a :: .ref a :: st) h := jq_nx (jv_insR jm_176 dX2_init_82) rfl
theorem e176_83 : jv_ev d 176 83 lc st h = jv_ev d 176 85 lc (.int 13 :: st) h := jq_bipush (jv_insR jm_176 dX2_init_83) (by decide)
theorem e176_85 : jv_ev d 176 85 lc st h = jv_ev d 176 87 lc (.ref 15 :: st) h := jq_ldc (jv_insR jm_176 dX2_init_85) jo_176 jK_4_37 rfl
theorem e176_87 : jv_ev d 176 87 lc (.ref b :: .int v :: .ref a :: st) h = (jv_rp h a v b).bind fun h => jv_ev d 176 88 lc st h := jq_aast (jv_insR jm_176 dX2_init_87)
theorem e176_88 : jv_ev d 176 88 lc (.ref a :: st) h = jv_ev d 176 89 lc (.ref a :: .ref a :: st) h := jq_nx (jv_insR jm_176 dX2_init_88) rfl
theorem e176_89 : jv_ev d 176 89 lc st h = jv_ev d 176 91 lc (.int 14 :: st) h := jq_bipush (jv_insR jm_176 dX2_init_89) (by decide)
theorem e176_91 : jv_ev d 176 91 lc st h = jv_ev d 176 93 lc (.ref 16 :: st) h := jq_ldc (jv_insR jm_176 dX2_init_91) jo_176 jK_4_39 rfl
theorem e176_93 : jv_ev d 176 93 lc (.ref b :: .int v :: .ref a :: st) h = (jv_rp h a v b).bind fun h => jv_ev d 176 94 lc st h := jq_aast (jv_insR jm_176 dX2_init_93)
theorem e176_94 : jv_ev d 176 94 lc (.ref a :: st) h = jv_ev d 176 95 lc (.ref a :: .ref a :: st) h := jq_nx (jv_insR jm_176 dX2_init_94) rfl
theorem e176_95 : jv_ev d 176 95 lc st h = jv_ev d 176 97 lc (.int 15 :: st) h := jq_bipush (jv_insR jm_176 dX2_init_95) (by decide)
theorem e176_97 : jv_ev d 176 97 lc st h = jv_ev d 176 99 lc (.ref 17 :: st) h := jq_ldc (jv_insR jm_176 dX2_init_97) jo_176 jK_4_41 rfl
theorem e176_99 : jv_ev d 176 99 lc (.ref b :: .int v :: .ref a :: st) h = (jv_rp h a v b).bind fun h => jv_ev d 176 100 lc st h := jq_aast (jv_insR jm_176 dX2_init_99)
theorem e176_100 : jv_ev d 176 100 lc (.ref a :: st) h = jv_ev d 176 101 lc (.ref a :: .ref a :: st) h := jq_nx (jv_insR jm_176 dX2_init_100) rfl
theorem e176_101 : jv_ev d 176 101 lc st h = jv_ev d 176 103 lc (.int 16 :: st) h := jq_bipush (jv_insR jm_176 dX2_init_101) (by decide)
theorem e176_103 : jv_ev d 176 103 lc st h = jv_ev d 176 105 lc (.ref 18 :: st) h := jq_ldc (jv_insR jm_176 dX2_init_103) jo_176 jK_4_43 rfl
theorem e176_105 : jv_ev d 176 105 lc (.ref b :: .int v :: .ref a :: st) h = (jv_rp h a v b).bind fun h => jv_ev d 176 106 lc st h := jq_aast (jv_insR jm_176 dX2_init_105)
theorem e176_106 : jv_ev d 176 106 lc (.ref a :: st) h = jv_ev d 176 107 lc (.ref a :: .ref a :: st) h := jq_nx (jv_insR jm_176 dX2_init_106) rfl
theorem e176_107 : jv_ev d 176 107 lc st h = jv_ev d 176 109 lc (.int 17 :: st) h := jq_bipush (jv_insR jm_176 dX2_init_107) (by decide)
theorem e176_109 : jv_ev d 176 109 lc st h = jv_ev d 176 111 lc (.ref 19 :: st) h := jq_ldc (jv_insR jm_176 dX2_init_109) jo_176 jK_4_45 rfl
theorem e176_111 : jv_ev d 176 111 lc (.ref b :: .int v :: .ref a :: st) h = (jv_rp h a v b).bind fun h => jv_ev d 176 112 lc st h := jq_aast (jv_insR jm_176 dX2_init_111)
theorem e176_112 : jv_ev d 176 112 lc (.ref a :: st) h = jv_ev d 176 113 lc (.ref a :: .ref a :: st) h := jq_nx (jv_insR jm_176 dX2_init_112) rfl
theorem e176_113 : jv_ev d 176 113 lc st h = jv_ev d 176 115 lc (.int 18 :: st) h := jq_bipush (jv_insR jm_176 dX2_init_113) (by decide)
theorem e176_115 : jv_ev d 176 115 lc st h = jv_ev d 176 117 lc (.ref 20 :: st) h := jq_ldc (jv_insR jm_176 dX2_init_115) jo_176 jK_4_47 rfl
theorem e176_117 : jv_ev d 176 117 lc (.ref b :: .int v :: .ref a :: st) h = (jv_rp h a v b).bind fun h => jv_ev d 176 118 lc st h := jq_aast (jv_insR jm_176 dX2_init_117)
theorem e176_118 : jv_ev d 176 118 lc (.ref a :: st) h = jv_ev d 176 119 lc (.ref a :: .ref a :: st) h := jq_nx (jv_insR jm_176 dX2_init_118) rfl
theorem e176_119 : jv_ev d 176 119 lc st h = jv_ev d 176 121 lc (.int 19 :: st) h := jq_bipush (jv_insR jm_176 dX2_init_119) (by decide)
theorem e176_121 : jv_ev d 176 121 lc st h = jv_ev d 176 123 lc (.ref 21 :: st) h := jq_ldc (jv_insR jm_176 dX2_init_121) jo_176 jK_4_49 rfl
theorem e176_123 : jv_ev d 176 123 lc (.ref b :: .int v :: .ref a :: st) h = (jv_rp h a v b).bind fun h => jv_ev d 176 124 lc st h := jq_aast (jv_insR jm_176 dX2_init_123)
theorem e176_124 : jv_ev d 176 124 lc (.ref a :: st) h = jv_ev d 176 125 lc (.ref a :: .ref a :: st) h := jq_nx (jv_insR jm_176 dX2_init_124) rfl
theorem e176_125 : jv_ev d 176 125 lc st h = jv_ev d 176 127 lc (.int 20 :: st) h := jq_bipush (jv_insR jm_176 dX2_init_125) (by decide)
theorem e176_127 : jv_ev d 176 127 lc st h = jv_ev d 176 129 lc (.ref 22 :: st) h := jq_ldc (jv_insR jm_176 dX2_init_127) jo_176 jK_4_51 rfl
theorem e176_129 : jv_ev d 176 129 lc (.ref b :: .int v :: .ref a :: st) h = (jv_rp h a v b).bind fun h => jv_ev d 176 130 lc st h := jq_aast (jv_insR jm_176 dX2_init_129)
theorem e176_130 : jv_ev d 176 130 lc (r :: .ref a :: st) h = (jv_pf h a [(3, 0, .array (.object "java/lang/String"))] r).bind fun h => jv_ev d 176 133 lc st h := jq_put (jv_insR jm_176 dX2_init_130) jo_176 ji_176 jG_4_53i
theorem e176_133 : jv_ev d 176 133 [some (.ref a)] st h = jv_ev d 176 134 [some (.ref a)] (.ref a :: st) h := jq_nx (jv_insR jm_176 dX2_init_133) rfl
theorem e176_134 : jv_ev d 176 134 lc st h = jv_ev d 176 137 lc (.int 2000 :: st) h := jq_sipush (jv_insR jm_176 dX2_init_134) (by decide)
theorem e176_137 : jv_ev d 176 137 lc (.int v :: st) h = if v < 0 ∨ 100000 < v.toNatClampNeg then none else jv_ev d 176 139 lc (.ref h.length :: st) (h ++ [.inl (1, v.toNatClampNeg, .inl (fun _ => 0))]) := jq_newa (jv_insR jm_176 dX2_init_137)
theorem e176_139 : jv_ev d 176 139 lc (r :: .ref a :: st) h = (jv_pf h a [(3, 1, .array .byte)] r).bind fun h => jv_ev d 176 142 lc st h := jq_put (jv_insR jm_176 dX2_init_139) jo_176 ji_176 jG_4_59i
theorem e176_142 : jv_ev d 176 142 [some (.ref a)] st h = jv_ev d 176 143 [some (.ref a)] (.ref a :: st) h := jq_nx (jv_insR jm_176 dX2_init_142) rfl
theorem e176_143 : jv_ev d 176 143 lc st h = jv_ev d 176 146 lc (.int 2001 :: st) h := jq_sipush (jv_insR jm_176 dX2_init_143) (by decide)
theorem e176_146 : jv_ev d 176 146 lc (.int v :: st) h = if v < 0 ∨ 100000 < v.toNatClampNeg then none else jv_ev d 176 148 lc (.ref h.length :: st) (h ++ [.inl (1, v.toNatClampNeg, .inl (fun _ => 0))]) := jq_newa (jv_insR jm_176 dX2_init_146)
theorem e176_148 : jv_ev d 176 148 lc (r :: .ref a :: st) h = (jv_pf h a [(3, 3, .array .byte)] r).bind fun h => jv_ev d 176 151 lc st h := jq_put (jv_insR jm_176 dX2_init_148) jo_176 ji_176 jG_4_63i
theorem e176_151 : jv_ev d 176 151 [some (.ref a)] st h = jv_ev d 176 152 [some (.ref a)] (.ref a :: st) h := jq_nx (jv_insR jm_176 dX2_init_151) rfl
theorem e176_152 : jv_ev d 176 152 lc st h = jv_ev d 176 155 lc (.int 2001 :: st) h := jq_sipush (jv_insR jm_176 dX2_init_152) (by decide)
theorem e176_155 : jv_ev d 176 155 lc (.int v :: st) h = if v < 0 ∨ 100000 < v.toNatClampNeg then none else jv_ev d 176 157 lc (.ref h.length :: st) (h ++ [.inl (3, v.toNatClampNeg, .inl (fun _ => 0))]) := jq_newa (jv_insR jm_176 dX2_init_155)
theorem e176_157 : jv_ev d 176 157 lc (r :: .ref a :: st) h = (jv_pf h a [(3, 4, .array .short)] r).bind fun h => jv_ev d 176 160 lc st h := jq_put (jv_insR jm_176 dX2_init_157) jo_176 ji_176 jG_4_66i
theorem e176_160 : jv_ev d 176 160 [some (.ref a)] st h = jv_ev d 176 161 [some (.ref a)] (.ref a :: st) h := jq_nx (jv_insR jm_176 dX2_init_160) rfl
theorem e176_161 : jv_ev d 176 161 lc st h = jv_ev d 176 164 lc (.int 2001 :: st) h := jq_sipush (jv_insR jm_176 dX2_init_161) (by decide)
theorem e176_164 : jv_ev d 176 164 lc (.int v :: st) h = if v < 0 ∨ 100000 < v.toNatClampNeg then none else jv_ev d 176 166 lc (.ref h.length :: st) (h ++ [.inl (3, v.toNatClampNeg, .inl (fun _ => 0))]) := jq_newa (jv_insR jm_176 dX2_init_164)
theorem e176_166 : jv_ev d 176 166 lc (r :: .ref a :: st) h = (jv_pf h a [(3, 5, .array .short)] r).bind fun h => jv_ev d 176 169 lc st h := jq_put (jv_insR jm_176 dX2_init_166) jo_176 ji_176 jG_4_70i
theorem e176_169 : jv_ev d 176 169 [some (.ref a)] st h = jv_ev d 176 170 [some (.ref a)] (.ref a :: st) h := jq_nx (jv_insR jm_176 dX2_init_169) rfl
theorem e176_170 : jv_ev d 176 170 lc st h = jv_ev d 176 173 lc (.int 2001 :: st) h := jq_sipush (jv_insR jm_176 dX2_init_170) (by decide)
theorem e176_173 : jv_ev d 176 173 lc (.int v :: st) h = if v < 0 ∨ 100000 < v.toNatClampNeg then none else jv_ev d 176 175 lc (.ref h.length :: st) (h ++ [.inl (3, v.toNatClampNeg, .inl (fun _ => 0))]) := jq_newa (jv_insR jm_176 dX2_init_173)
theorem e176_175 : jv_ev d 176 175 lc (r :: .ref a :: st) h = (jv_pf h a [(3, 6, .array .short)] r).bind fun h => jv_ev d 176 178 lc st h := jq_put (jv_insR jm_176 dX2_init_175) jo_176 ji_176 jG_4_73i
theorem e176_178 : jv_ev d 176 178 lc [] h = some (.inl none, h) := jq_retv (jv_insR jm_176 dX2_init_178) jr_176
/-! 177: RainLoom$Tokens.read()V -/
theorem n177 : jv_cd (d + 1) 177 [.ref a0] h = jv_ev d 177 0 [some (.ref a0), none, none, none, none, none, none] [] h := rfl
theorem e177_0 : jv_ev d 177 0 [some (.ref a), x1, x2, x3, x4, x5, x6] st h = jv_ev d 177 1 [some (.ref a), x1, x2, x3, x4, x5, x6] (.ref a :: st) h := jq_nx (jv_insR jm_177 dX2_read_0) rfl
theorem e177_1 : jv_ev d 177 1 lc st h = jv_ev d 177 2 lc (.int 0 :: st) h := jq_iconst (jv_insR jm_177 dX2_read_1) (by decide)
theorem e177_2 : jv_ev d 177 2 lc (r :: .ref a :: st) h = (jv_pf h a [(3, 7, .int)] r).bind fun h => jv_ev d 177 5 lc st h := jq_put (jv_insR jm_177 dX2_read_2) jo_177 ji_177 jG_4_84
theorem e177_5 : jv_ev d 177 5 lc st h = jv_ev d 177 6 lc (.int 0 :: st) h := jq_iconst (jv_insR jm_177 dX2_read_5) (by decide)
theorem e177_6 : jv_ev d 177 6 [x0, x1, x2, x3, x4, x5, x6] (.int v :: st) h = jv_ev d 177 7 [x0, some (.int v), x2, x3, x4, x5, x6] st h := jq_nx (jv_insR jm_177 dX2_read_6) rfl
theorem e177_7 : jv_ev d 177 7 lc st h = jv_ev d 177 8 lc (.int 1 :: st) h := jq_iconst (jv_insR jm_177 dX2_read_7) (by decide)
theorem e177_8 : jv_ev d 177 8 [x0, x1, x2, x3, x4, x5, x6] (.int v :: st) h = jv_ev d 177 9 [x0, x1, some (.int v), x3, x4, x5, x6] st h := jq_nx (jv_insR jm_177 dX2_read_8) rfl
theorem e177_9 : jv_ev d 177 9 [x0, some (.int v), x2, x3, x4, x5, x6] st h = jv_ev d 177 10 [x0, some (.int v), x2, x3, x4, x5, x6] (.int v :: st) h := jq_nx (jv_insR jm_177 dX2_read_9) rfl
theorem e177_10 : jv_ev d 177 10 [some (.ref a), x1, x2, x3, x4, x5, x6] st h = jv_ev d 177 11 [some (.ref a), x1, x2, x3, x4, x5, x6] (.ref a :: st) h := jq_nx (jv_insR jm_177 dX2_read_10) rfl
theorem e177_11 : jv_ev d 177 11 lc (.ref a :: st) h = (jv_gf h a [(3, 2, .int)]).bind fun r => jv_ev d 177 14 lc (r :: st) h := jq_get (jv_insR jm_177 dX2_read_11) jo_177 jF_4_76
theorem e177_14 : jv_ev d 177 14 lc (.int w :: .int v :: st) h = if w ≤ v then jv_ev d 177 215 lc st h else jv_ev d 177 17 lc st h := jq_if (jv_insR jm_177 dX2_read_14) rfl (by decide)
theorem e177_17 : jv_ev d 177 17 [x0, x1, some (.int v), x3, x4, x5, x6] st h = jv_ev d 177 18 [x0, x1, some (.int v), x3, x4, x5, x6] (.int v :: st) h := jq_nx (jv_insR jm_177 dX2_read_17) rfl
theorem e177_18 : jv_ev d 177 18 lc (.int v :: st) h = if v = 0 then jv_ev d 177 215 lc st h else jv_ev d 177 21 lc st h := jq_if (jv_insR jm_177 dX2_read_18) rfl (by decide)
theorem e177_21 : jv_ev d 177 21 [some (.ref a), x1, x2, x3, x4, x5, x6] st h = jv_ev d 177 22 [some (.ref a), x1, x2, x3, x4, x5, x6] (.ref a :: st) h := jq_nx (jv_insR jm_177 dX2_read_21) rfl
theorem e177_22 : jv_ev d 177 22 lc (.ref a :: st) h = (jv_gf h a [(3, 1, .array .byte)]).bind fun r => jv_ev d 177 25 lc (r :: st) h := jq_get (jv_insR jm_177 dX2_read_22) jo_177 jF_4_59
theorem e177_25 : jv_ev d 177 25 [x0, some (.int v), x2, x3, x4, x5, x6] st h = jv_ev d 177 26 [x0, some (.int v), x2, x3, x4, x5, x6] (.int v :: st) h := jq_nx (jv_insR jm_177 dX2_read_25) rfl
theorem e177_26 : jv_ev d 177 26 lc (.int v :: .ref a :: st) h = (jv_ig h a 1 2 v).bind fun w => jv_ev d 177 27 lc (.int w :: st) h := jq_bald (jv_insR jm_177 dX2_read_26)
theorem e177_27 : jv_ev d 177 27 [x0, x1, x2, x3, x4, x5, x6] (.int v :: st) h = jv_ev d 177 28 [x0, x1, x2, some (.int v), x4, x5, x6] st h := jq_nx (jv_insR jm_177 dX2_read_27) rfl
theorem e177_28 : jv_ev d 177 28 [x0, some (.int v), x2, x3, x4, x5, x6] st h = jv_ev d 177 29 [x0, some (.int v), x2, x3, x4, x5, x6] (.int v :: st) h := jq_nx (jv_insR jm_177 dX2_read_28) rfl
theorem e177_29 : jv_ev d 177 29 lc st h = jv_ev d 177 30 lc (.int 1 :: st) h := jq_iconst (jv_insR jm_177 dX2_read_29) (by decide)
theorem e177_30 : jv_ev d 177 30 lc (.int w :: .int v :: st) h = jv_ev d 177 31 lc (.int (v + w) :: st) h := jq_nx (jv_insR jm_177 dX2_read_30) rfl
theorem e177_31 : jv_ev d 177 31 [x0, x1, x2, x3, x4, x5, x6] (.int v :: st) h = jv_ev d 177 33 [x0, x1, x2, x3, some (.int v), x5, x6] st h := jq_nx (jv_insR jm_177 dX2_read_31) rfl
theorem e177_33 : jv_ev d 177 33 [x0, x1, x2, some (.int v), x4, x5, x6] st h = jv_ev d 177 34 [x0, x1, x2, some (.int v), x4, x5, x6] (.int v :: st) h := jq_nx (jv_insR jm_177 dX2_read_33) rfl
theorem e177_34 : jv_ev d 177 34 lc st h = jv_ev d 177 36 lc (.int 32 :: st) h := jq_bipush (jv_insR jm_177 dX2_read_34) (by decide)
theorem e177_36 : jv_ev d 177 36 lc (.int w :: .int v :: st) h = if v = w then jv_ev d 177 57 lc st h else jv_ev d 177 39 lc st h := jq_if (jv_insR jm_177 dX2_read_36) rfl (by decide)
theorem e177_39 : jv_ev d 177 39 [x0, x1, x2, some (.int v), x4, x5, x6] st h = jv_ev d 177 40 [x0, x1, x2, some (.int v), x4, x5, x6] (.int v :: st) h := jq_nx (jv_insR jm_177 dX2_read_39) rfl
theorem e177_40 : jv_ev d 177 40 lc st h = jv_ev d 177 42 lc (.int 9 :: st) h := jq_bipush (jv_insR jm_177 dX2_read_40) (by decide)
theorem e177_42 : jv_ev d 177 42 lc (.int w :: .int v :: st) h = if v = w then jv_ev d 177 57 lc st h else jv_ev d 177 45 lc st h := jq_if (jv_insR jm_177 dX2_read_42) rfl (by decide)
theorem e177_45 : jv_ev d 177 45 [x0, x1, x2, some (.int v), x4, x5, x6] st h = jv_ev d 177 46 [x0, x1, x2, some (.int v), x4, x5, x6] (.int v :: st) h := jq_nx (jv_insR jm_177 dX2_read_45) rfl
theorem e177_46 : jv_ev d 177 46 lc st h = jv_ev d 177 48 lc (.int 10 :: st) h := jq_bipush (jv_insR jm_177 dX2_read_46) (by decide)
theorem e177_48 : jv_ev d 177 48 lc (.int w :: .int v :: st) h = if v = w then jv_ev d 177 57 lc st h else jv_ev d 177 51 lc st h := jq_if (jv_insR jm_177 dX2_read_48) rfl (by decide)
theorem e177_51 : jv_ev d 177 51 [x0, x1, x2, some (.int v), x4, x5, x6] st h = jv_ev d 177 52 [x0, x1, x2, some (.int v), x4, x5, x6] (.int v :: st) h := jq_nx (jv_insR jm_177 dX2_read_51) rfl
theorem e177_52 : jv_ev d 177 52 lc st h = jv_ev d 177 54 lc (.int 13 :: st) h := jq_bipush (jv_insR jm_177 dX2_read_52) (by decide)
theorem e177_54 : jv_ev d 177 54 lc (.int w :: .int v :: st) h = if ¬ v = w then jv_ev d 177 63 lc st h else jv_ev d 177 57 lc st h := jq_if (jv_insR jm_177 dX2_read_54) rfl (by decide)
theorem e177_57 : jv_ev d 177 57 [x0, some (.int v), x2, x3, x4, x5, x6] st h = jv_ev d 177 60 [x0, some (.int (v + 1)), x2, x3, x4, x5, x6] st h := jq_nx (jv_insR jm_177 dX2_read_57) rfl
theorem e177_60 : jv_ev d 177 60 lc st h = jv_ev d 177 9 lc st h := jq_go (jv_insR jm_177 dX2_read_60) (by decide)
theorem e177_63 : jv_ev d 177 63 lc st h = jv_ev d 177 64 lc (.int 0 :: st) h := jq_iconst (jv_insR jm_177 dX2_read_63) (by decide)
theorem e177_64 : jv_ev d 177 64 [x0, x1, x2, x3, x4, x5, x6] (.int v :: st) h = jv_ev d 177 66 [x0, x1, x2, x3, x4, x5, some (.int v)] st h := jq_nx (jv_insR jm_177 dX2_read_64) rfl
theorem e177_66 : jv_ev d 177 66 [some (.ref a), x1, x2, x3, x4, x5, x6] st h = jv_ev d 177 67 [some (.ref a), x1, x2, x3, x4, x5, x6] (.ref a :: st) h := jq_nx (jv_insR jm_177 dX2_read_66) rfl
theorem e177_67 : jv_ev d 177 67 [x0, some (.int v), x2, x3, x4, x5, x6] st h = jv_ev d 177 68 [x0, some (.int v), x2, x3, x4, x5, x6] (.int v :: st) h := jq_nx (jv_insR jm_177 dX2_read_67) rfl
theorem e177_68 : jv_ev d 177 68 lc [z0, .ref b] h = (jv_rc h b [(3, 178)]).bind fun y => (jv_cd d y [.ref b, z0] h).bind fun r => jv_on r (fun v h => jv_ev d 177 71 lc (v.toList ++ []) h) (fun q h => some (.inr q, h)) := jq_V (as := [z0]) (rest := []) (jv_insR jm_177 dX2_read_68) jo_177 jV_4_95 rfl rfl rfl rfl
theorem e177_71 : jv_ev d 177 71 lc (.int v :: st) h = if v = 0 then jv_ev d 177 126 lc st h else jv_ev d 177 74 lc st h := jq_if (jv_insR jm_177 dX2_read_71) rfl (by decide)
theorem e177_74 : jv_ev d 177 74 [some (.ref a), x1, x2, x3, x4, x5, x6] st h = jv_ev d 177 75 [some (.ref a), x1, x2, x3, x4, x5, x6] (.ref a :: st) h := jq_nx (jv_insR jm_177 dX2_read_74) rfl
theorem e177_75 : jv_ev d 177 75 [x0, x1, x2, x3, some (.int v), x5, x6] st h = jv_ev d 177 77 [x0, x1, x2, x3, some (.int v), x5, x6] (.int v :: st) h := jq_nx (jv_insR jm_177 dX2_read_75) rfl
theorem e177_77 : jv_ev d 177 77 lc [z0, .ref b] h = (jv_rc h b [(3, 178)]).bind fun y => (jv_cd d y [.ref b, z0] h).bind fun r => jv_on r (fun v h => jv_ev d 177 80 lc (v.toList ++ []) h) (fun q h => some (.inr q, h)) := jq_V (as := [z0]) (rest := []) (jv_insR jm_177 dX2_read_77) jo_177 jV_4_95 rfl rfl rfl rfl
theorem e177_80 : jv_ev d 177 80 lc (.int v :: st) h = if v = 0 then jv_ev d 177 89 lc st h else jv_ev d 177 83 lc st h := jq_if (jv_insR jm_177 dX2_read_80) rfl (by decide)
theorem e177_83 : jv_ev d 177 83 [x0, x1, x2, x3, some (.int v), x5, x6] st h = jv_ev d 177 86 [x0, x1, x2, x3, some (.int (v + 1)), x5, x6] st h := jq_nx (jv_insR jm_177 dX2_read_83) rfl
theorem e177_86 : jv_ev d 177 86 lc st h = jv_ev d 177 74 lc st h := jq_go (jv_insR jm_177 dX2_read_86) (by decide)
theorem e177_89 : jv_ev d 177 89 [some (.ref a), x1, x2, x3, x4, x5, x6] st h = jv_ev d 177 90 [some (.ref a), x1, x2, x3, x4, x5, x6] (.ref a :: st) h := jq_nx (jv_insR jm_177 dX2_read_89) rfl
theorem e177_90 : jv_ev d 177 90 [x0, some (.int v), x2, x3, x4, x5, x6] st h = jv_ev d 177 91 [x0, some (.int v), x2, x3, x4, x5, x6] (.int v :: st) h := jq_nx (jv_insR jm_177 dX2_read_90) rfl
theorem e177_91 : jv_ev d 177 91 [x0, x1, x2, x3, some (.int v), x5, x6] st h = jv_ev d 177 93 [x0, x1, x2, x3, some (.int v), x5, x6] (.int v :: st) h := jq_nx (jv_insR jm_177 dX2_read_91) rfl
theorem e177_93 : jv_ev d 177 93 lc [z1, z0, .ref b] h = (jv_rc h b [(3, 180)]).bind fun y => (jv_cd d y [.ref b, z0, z1] h).bind fun r => jv_on r (fun v h => jv_ev d 177 96 lc (v.toList ++ []) h) (fun q h => some (.inr q, h)) := jq_V (as := [z0, z1]) (rest := []) (jv_insR jm_177 dX2_read_93) jo_177 jV_4_99 rfl rfl rfl rfl
theorem e177_96 : jv_ev d 177 96 [x0, x1, x2, x3, x4, x5, x6] (.int v :: st) h = jv_ev d 177 98 [x0, x1, x2, x3, x4, x5, some (.int v)] st h := jq_nx (jv_insR jm_177 dX2_read_96) rfl
theorem e177_98 : jv_ev d 177 98 [x0, x1, x2, x3, x4, x5, some (.int v)] st h = jv_ev d 177 100 [x0, x1, x2, x3, x4, x5, some (.int v)] (.int v :: st) h := jq_nx (jv_insR jm_177 dX2_read_98) rfl
theorem e177_100 : jv_ev d 177 100 lc (.int v :: st) h = if v < 0 then jv_ev d 177 107 lc st h else jv_ev d 177 103 lc st h := jq_if (jv_insR jm_177 dX2_read_100) rfl (by decide)
theorem e177_103 : jv_ev d 177 103 lc st h = jv_ev d 177 104 lc (.int 3 :: st) h := jq_iconst (jv_insR jm_177 dX2_read_103) (by decide)
theorem e177_104 : jv_ev d 177 104 lc st h = jv_ev d 177 121 lc st h := jq_go (jv_insR jm_177 dX2_read_104) (by decide)
theorem e177_107 : jv_ev d 177 107 [x0, x1, x2, x3, some (.int v), x5, x6] st h = jv_ev d 177 109 [x0, x1, x2, x3, some (.int v), x5, x6] (.int v :: st) h := jq_nx (jv_insR jm_177 dX2_read_107) rfl
theorem e177_109 : jv_ev d 177 109 [x0, some (.int v), x2, x3, x4, x5, x6] st h = jv_ev d 177 110 [x0, some (.int v), x2, x3, x4, x5, x6] (.int v :: st) h := jq_nx (jv_insR jm_177 dX2_read_109) rfl
theorem e177_110 : jv_ev d 177 110 lc (.int w :: .int v :: st) h = jv_ev d 177 111 lc (.int (v - w) :: st) h := jq_nx (jv_insR jm_177 dX2_read_110) rfl
theorem e177_111 : jv_ev d 177 111 lc st h = jv_ev d 177 113 lc (.int 8 :: st) h := jq_bipush (jv_insR jm_177 dX2_read_111) (by decide)
theorem e177_113 : jv_ev d 177 113 lc (.int w :: .int v :: st) h = if v ≤ w then jv_ev d 177 120 lc st h else jv_ev d 177 116 lc st h := jq_if (jv_insR jm_177 dX2_read_113) rfl (by decide)
theorem e177_116 : jv_ev d 177 116 lc st h = jv_ev d 177 117 lc (.int 5 :: st) h := jq_iconst (jv_insR jm_177 dX2_read_116) (by decide)
theorem e177_117 : jv_ev d 177 117 lc st h = jv_ev d 177 121 lc st h := jq_go (jv_insR jm_177 dX2_read_117) (by decide)
theorem e177_120 : jv_ev d 177 120 lc st h = jv_ev d 177 121 lc (.int 0 :: st) h := jq_iconst (jv_insR jm_177 dX2_read_120) (by decide)
theorem e177_121 : jv_ev d 177 121 [x0, x1, x2, x3, x4, x5, x6] (.int v :: st) h = jv_ev d 177 123 [x0, x1, x2, x3, x4, some (.int v), x6] st h := jq_nx (jv_insR jm_177 dX2_read_121) rfl
theorem e177_123 : jv_ev d 177 123 lc st h = jv_ev d 177 186 lc st h := jq_go (jv_insR jm_177 dX2_read_123) (by decide)
theorem e177_126 : jv_ev d 177 126 [some (.ref a), x1, x2, x3, x4, x5, x6] st h = jv_ev d 177 127 [some (.ref a), x1, x2, x3, x4, x5, x6] (.ref a :: st) h := jq_nx (jv_insR jm_177 dX2_read_126) rfl
theorem e177_127 : jv_ev d 177 127 [x0, some (.int v), x2, x3, x4, x5, x6] st h = jv_ev d 177 128 [x0, some (.int v), x2, x3, x4, x5, x6] (.int v :: st) h := jq_nx (jv_insR jm_177 dX2_read_127) rfl
theorem e177_128 : jv_ev d 177 128 lc [z0, .ref b] h = (jv_rc h b [(3, 181)]).bind fun y => (jv_cd d y [.ref b, z0] h).bind fun r => jv_on r (fun v h => jv_ev d 177 131 lc (v.toList ++ []) h) (fun q h => some (.inr q, h)) := jq_V (as := [z0]) (rest := []) (jv_insR jm_177 dX2_read_128) jo_177 jV_4_103 rfl rfl rfl rfl
theorem e177_131 : jv_ev d 177 131 lc (.int v :: st) h = if v = 0 then jv_ev d 177 167 lc st h else jv_ev d 177 134 lc st h := jq_if (jv_insR jm_177 dX2_read_131) rfl (by decide)
theorem e177_134 : jv_ev d 177 134 [some (.ref a), x1, x2, x3, x4, x5, x6] st h = jv_ev d 177 135 [some (.ref a), x1, x2, x3, x4, x5, x6] (.ref a :: st) h := jq_nx (jv_insR jm_177 dX2_read_134) rfl
theorem e177_135 : jv_ev d 177 135 [x0, x1, x2, x3, some (.int v), x5, x6] st h = jv_ev d 177 137 [x0, x1, x2, x3, some (.int v), x5, x6] (.int v :: st) h := jq_nx (jv_insR jm_177 dX2_read_135) rfl
theorem e177_137 : jv_ev d 177 137 lc [z0, .ref b] h = (jv_rc h b [(3, 181)]).bind fun y => (jv_cd d y [.ref b, z0] h).bind fun r => jv_on r (fun v h => jv_ev d 177 140 lc (v.toList ++ []) h) (fun q h => some (.inr q, h)) := jq_V (as := [z0]) (rest := []) (jv_insR jm_177 dX2_read_137) jo_177 jV_4_103 rfl rfl rfl rfl
theorem e177_140 : jv_ev d 177 140 lc (.int v :: st) h = if v = 0 then jv_ev d 177 149 lc st h else jv_ev d 177 143 lc st h := jq_if (jv_insR jm_177 dX2_read_140) rfl (by decide)
theorem e177_143 : jv_ev d 177 143 [x0, x1, x2, x3, some (.int v), x5, x6] st h = jv_ev d 177 146 [x0, x1, x2, x3, some (.int (v + 1)), x5, x6] st h := jq_nx (jv_insR jm_177 dX2_read_143) rfl
theorem e177_146 : jv_ev d 177 146 lc st h = jv_ev d 177 134 lc st h := jq_go (jv_insR jm_177 dX2_read_146) (by decide)
theorem e177_149 : jv_ev d 177 149 [x0, x1, x2, x3, some (.int v), x5, x6] st h = jv_ev d 177 151 [x0, x1, x2, x3, some (.int v), x5, x6] (.int v :: st) h := jq_nx (jv_insR jm_177 dX2_read_149) rfl
theorem e177_151 : jv_ev d 177 151 [x0, some (.int v), x2, x3, x4, x5, x6] st h = jv_ev d 177 152 [x0, some (.int v), x2, x3, x4, x5, x6] (.int v :: st) h := jq_nx (jv_insR jm_177 dX2_read_151) rfl
theorem e177_152 : jv_ev d 177 152 lc (.int w :: .int v :: st) h = jv_ev d 177 153 lc (.int (v - w) :: st) h := jq_nx (jv_insR jm_177 dX2_read_152) rfl
theorem e177_153 : jv_ev d 177 153 lc st h = jv_ev d 177 154 lc (.int 4 :: st) h := jq_iconst (jv_insR jm_177 dX2_read_153) (by decide)
theorem e177_154 : jv_ev d 177 154 lc (.int w :: .int v :: st) h = if v ≤ w then jv_ev d 177 161 lc st h else jv_ev d 177 157 lc st h := jq_if (jv_insR jm_177 dX2_read_154) rfl (by decide)
theorem e177_157 : jv_ev d 177 157 lc st h = jv_ev d 177 158 lc (.int 5 :: st) h := jq_iconst (jv_insR jm_177 dX2_read_157) (by decide)
theorem e177_158 : jv_ev d 177 158 lc st h = jv_ev d 177 162 lc st h := jq_go (jv_insR jm_177 dX2_read_158) (by decide)
theorem e177_161 : jv_ev d 177 161 lc st h = jv_ev d 177 162 lc (.int 1 :: st) h := jq_iconst (jv_insR jm_177 dX2_read_161) (by decide)
theorem e177_162 : jv_ev d 177 162 [x0, x1, x2, x3, x4, x5, x6] (.int v :: st) h = jv_ev d 177 164 [x0, x1, x2, x3, x4, some (.int v), x6] st h := jq_nx (jv_insR jm_177 dX2_read_162) rfl
theorem e177_164 : jv_ev d 177 164 lc st h = jv_ev d 177 186 lc st h := jq_go (jv_insR jm_177 dX2_read_164) (by decide)
theorem e177_167 : jv_ev d 177 167 [some (.ref a), x1, x2, x3, x4, x5, x6] st h = jv_ev d 177 168 [some (.ref a), x1, x2, x3, x4, x5, x6] (.ref a :: st) h := jq_nx (jv_insR jm_177 dX2_read_167) rfl
theorem e177_168 : jv_ev d 177 168 [x0, some (.int v), x2, x3, x4, x5, x6] st h = jv_ev d 177 169 [x0, some (.int v), x2, x3, x4, x5, x6] (.int v :: st) h := jq_nx (jv_insR jm_177 dX2_read_168) rfl
theorem e177_169 : jv_ev d 177 169 lc [z0, .ref b] h = (jv_rc h b [(3, 182)]).bind fun y => (jv_cd d y [.ref b, z0] h).bind fun r => jv_on r (fun v h => jv_ev d 177 172 lc (v.toList ++ []) h) (fun q h => some (.inr q, h)) := jq_V (as := [z0]) (rest := []) (jv_insR jm_177 dX2_read_169) jo_177 jV_4_106 rfl rfl rfl rfl
theorem e177_172 : jv_ev d 177 172 [x0, x1, x2, x3, x4, x5, x6] (.int v :: st) h = jv_ev d 177 174 [x0, x1, x2, x3, x4, x5, some (.int v)] st h := jq_nx (jv_insR jm_177 dX2_read_172) rfl
theorem e177_174 : jv_ev d 177 174 [x0, x1, x2, x3, x4, x5, some (.int v)] st h = jv_ev d 177 176 [x0, x1, x2, x3, x4, x5, some (.int v)] (.int v :: st) h := jq_nx (jv_insR jm_177 dX2_read_174) rfl
theorem e177_176 : jv_ev d 177 176 lc (.int v :: st) h = if ¬ v = 0 then jv_ev d 177 183 lc st h else jv_ev d 177 179 lc st h := jq_if (jv_insR jm_177 dX2_read_176) rfl (by decide)
theorem e177_179 : jv_ev d 177 179 lc st h = jv_ev d 177 180 lc (.int 5 :: st) h := jq_iconst (jv_insR jm_177 dX2_read_179) (by decide)
theorem e177_180 : jv_ev d 177 180 lc st h = jv_ev d 177 184 lc st h := jq_go (jv_insR jm_177 dX2_read_180) (by decide)
theorem e177_183 : jv_ev d 177 183 lc st h = jv_ev d 177 184 lc (.int 2 :: st) h := jq_iconst (jv_insR jm_177 dX2_read_183) (by decide)
theorem e177_184 : jv_ev d 177 184 [x0, x1, x2, x3, x4, x5, x6] (.int v :: st) h = jv_ev d 177 186 [x0, x1, x2, x3, x4, some (.int v), x6] st h := jq_nx (jv_insR jm_177 dX2_read_184) rfl
theorem e177_186 : jv_ev d 177 186 [some (.ref a), x1, x2, x3, x4, x5, x6] st h = jv_ev d 177 187 [some (.ref a), x1, x2, x3, x4, x5, x6] (.ref a :: st) h := jq_nx (jv_insR jm_177 dX2_read_186) rfl
theorem e177_187 : jv_ev d 177 187 [x0, x1, x2, x3, x4, some (.int v), x6] st h = jv_ev d 177 189 [x0, x1, x2, x3, x4, some (.int v), x6] (.int v :: st) h := jq_nx (jv_insR jm_177 dX2_read_187) rfl
theorem e177_189 : jv_ev d 177 189 [x0, some (.int v), x2, x3, x4, x5, x6] st h = jv_ev d 177 190 [x0, some (.int v), x2, x3, x4, x5, x6] (.int v :: st) h := jq_nx (jv_insR jm_177 dX2_read_189) rfl
theorem e177_190 : jv_ev d 177 190 [x0, x1, x2, x3, some (.int v), x5, x6] st h = jv_ev d 177 192 [x0, x1, x2, x3, some (.int v), x5, x6] (.int v :: st) h := jq_nx (jv_insR jm_177 dX2_read_190) rfl
theorem e177_192 : jv_ev d 177 192 [x0, x1, x2, x3, x4, x5, some (.int v)] st h = jv_ev d 177 194 [x0, x1, x2, x3, x4, x5, some (.int v)] (.int v :: st) h := jq_nx (jv_insR jm_177 dX2_read_192) rfl
theorem e177_194 : jv_ev d 177 194 lc [z3, z2, z1, z0, .ref b] h = (jv_rc h b [(3, 183)]).bind fun y => (jv_cd d y [.ref b, z0, z1, z2, z3] h).bind fun r => jv_on r (fun v h => jv_ev d 177 197 lc (v.toList ++ []) h) (fun q h => some (.inr q, h)) := jq_V (as := [z0, z1, z2, z3]) (rest := []) (jv_insR jm_177 dX2_read_194) jo_177 jV_4_109 rfl rfl rfl rfl
theorem e177_197 : jv_ev d 177 197 [x0, x1, x2, x3, x4, some (.int v), x6] st h = jv_ev d 177 199 [x0, x1, x2, x3, x4, some (.int v), x6] (.int v :: st) h := jq_nx (jv_insR jm_177 dX2_read_197) rfl
theorem e177_199 : jv_ev d 177 199 lc st h = jv_ev d 177 200 lc (.int 5 :: st) h := jq_iconst (jv_insR jm_177 dX2_read_199) (by decide)
theorem e177_200 : jv_ev d 177 200 lc (.int w :: .int v :: st) h = if v = w then jv_ev d 177 207 lc st h else jv_ev d 177 203 lc st h := jq_if (jv_insR jm_177 dX2_read_200) rfl (by decide)
theorem e177_203 : jv_ev d 177 203 lc st h = jv_ev d 177 204 lc (.int 1 :: st) h := jq_iconst (jv_insR jm_177 dX2_read_203) (by decide)
theorem e177_204 : jv_ev d 177 204 lc st h = jv_ev d 177 208 lc st h := jq_go (jv_insR jm_177 dX2_read_204) (by decide)
theorem e177_207 : jv_ev d 177 207 lc st h = jv_ev d 177 208 lc (.int 0 :: st) h := jq_iconst (jv_insR jm_177 dX2_read_207) (by decide)
theorem e177_208 : jv_ev d 177 208 [x0, x1, x2, x3, x4, x5, x6] (.int v :: st) h = jv_ev d 177 209 [x0, x1, some (.int v), x3, x4, x5, x6] st h := jq_nx (jv_insR jm_177 dX2_read_208) rfl
theorem e177_209 : jv_ev d 177 209 [x0, x1, x2, x3, some (.int v), x5, x6] st h = jv_ev d 177 211 [x0, x1, x2, x3, some (.int v), x5, x6] (.int v :: st) h := jq_nx (jv_insR jm_177 dX2_read_209) rfl
theorem e177_211 : jv_ev d 177 211 [x0, x1, x2, x3, x4, x5, x6] (.int v :: st) h = jv_ev d 177 212 [x0, some (.int v), x2, x3, x4, x5, x6] st h := jq_nx (jv_insR jm_177 dX2_read_211) rfl
theorem e177_212 : jv_ev d 177 212 lc st h = jv_ev d 177 9 lc st h := jq_go (jv_insR jm_177 dX2_read_212) (by decide)
theorem e177_215 : jv_ev d 177 215 [x0, x1, some (.int v), x3, x4, x5, x6] st h = jv_ev d 177 216 [x0, x1, some (.int v), x3, x4, x5, x6] (.int v :: st) h := jq_nx (jv_insR jm_177 dX2_read_215) rfl
theorem e177_216 : jv_ev d 177 216 lc (.int v :: st) h = if v = 0 then jv_ev d 177 227 lc st h else jv_ev d 177 219 lc st h := jq_if (jv_insR jm_177 dX2_read_216) rfl (by decide)
theorem e177_219 : jv_ev d 177 219 [some (.ref a), x1, x2, x3, x4, x5, x6] st h = jv_ev d 177 220 [some (.ref a), x1, x2, x3, x4, x5, x6] (.ref a :: st) h := jq_nx (jv_insR jm_177 dX2_read_219) rfl
theorem e177_220 : jv_ev d 177 220 lc st h = jv_ev d 177 221 lc (.int 4 :: st) h := jq_iconst (jv_insR jm_177 dX2_read_220) (by decide)
theorem e177_221 : jv_ev d 177 221 [x0, some (.int v), x2, x3, x4, x5, x6] st h = jv_ev d 177 222 [x0, some (.int v), x2, x3, x4, x5, x6] (.int v :: st) h := jq_nx (jv_insR jm_177 dX2_read_221) rfl
theorem e177_222 : jv_ev d 177 222 [x0, some (.int v), x2, x3, x4, x5, x6] st h = jv_ev d 177 223 [x0, some (.int v), x2, x3, x4, x5, x6] (.int v :: st) h := jq_nx (jv_insR jm_177 dX2_read_222) rfl
theorem e177_223 : jv_ev d 177 223 lc st h = jv_ev d 177 224 lc (.int 0 :: st) h := jq_iconst (jv_insR jm_177 dX2_read_223) (by decide)
theorem e177_224 : jv_ev d 177 224 lc [z3, z2, z1, z0, .ref b] h = (jv_rc h b [(3, 183)]).bind fun y => (jv_cd d y [.ref b, z0, z1, z2, z3] h).bind fun r => jv_on r (fun v h => jv_ev d 177 227 lc (v.toList ++ []) h) (fun q h => some (.inr q, h)) := jq_V (as := [z0, z1, z2, z3]) (rest := []) (jv_insR jm_177 dX2_read_224) jo_177 jV_4_109 rfl rfl rfl rfl
theorem e177_227 : jv_ev d 177 227 lc [] h = some (.inl none, h) := jq_retv (jv_insR jm_177 dX2_read_227) jr_177
/-! 178: RainLoom$Tokens.isLetter(I)Z -/
theorem n178 : jv_cd (d + 1) 178 [.ref a0, .int i1] h = jv_ev d 178 0 [some (.ref a0), some (.int i1)] [] h := rfl
theorem e178_0 : jv_ev d 178 0 [some (.ref a), x1] st h = jv_ev d 178 1 [some (.ref a), x1] (.ref a :: st) h := jq_nx (jv_insR jm_178 dX2_isLetter_0) rfl
theorem e178_1 : jv_ev d 178 1 [x0, some (.int v)] st h = jv_ev d 178 2 [x0, some (.int v)] (.int v :: st) h := jq_nx (jv_insR jm_178 dX2_isLetter_1) rfl
theorem e178_2 : jv_ev d 178 2 lc [z0, .ref b] h = (jv_rc h b [(3, 179)]).bind fun y => (jv_cd d y [.ref b, z0] h).bind fun r => jv_on r (fun v h => jv_ev d 178 5 lc (v.toList ++ []) h) (fun q h => some (.inr q, h)) := jq_V (as := [z0]) (rest := []) (jv_insR jm_178 dX2_isLetter_2) jo_178 jV_4_80 rfl rfl rfl rfl
theorem e178_5 : jv_ev d 178 5 lc st h = jv_ev d 178 7 lc (.int 97 :: st) h := jq_bipush (jv_insR jm_178 dX2_isLetter_5) (by decide)
theorem e178_7 : jv_ev d 178 7 lc (.int w :: .int v :: st) h = if v < w then jv_ev d 178 24 lc st h else jv_ev d 178 10 lc st h := jq_if (jv_insR jm_178 dX2_isLetter_7) rfl (by decide)
theorem e178_10 : jv_ev d 178 10 [some (.ref a), x1] st h = jv_ev d 178 11 [some (.ref a), x1] (.ref a :: st) h := jq_nx (jv_insR jm_178 dX2_isLetter_10) rfl
theorem e178_11 : jv_ev d 178 11 [x0, some (.int v)] st h = jv_ev d 178 12 [x0, some (.int v)] (.int v :: st) h := jq_nx (jv_insR jm_178 dX2_isLetter_11) rfl
theorem e178_12 : jv_ev d 178 12 lc [z0, .ref b] h = (jv_rc h b [(3, 179)]).bind fun y => (jv_cd d y [.ref b, z0] h).bind fun r => jv_on r (fun v h => jv_ev d 178 15 lc (v.toList ++ []) h) (fun q h => some (.inr q, h)) := jq_V (as := [z0]) (rest := []) (jv_insR jm_178 dX2_isLetter_12) jo_178 jV_4_80 rfl rfl rfl rfl
theorem e178_15 : jv_ev d 178 15 lc st h = jv_ev d 178 17 lc (.int 122 :: st) h := jq_bipush (jv_insR jm_178 dX2_isLetter_15) (by decide)
theorem e178_17 : jv_ev d 178 17 lc (.int w :: .int v :: st) h = if w < v then jv_ev d 178 24 lc st h else jv_ev d 178 20 lc st h := jq_if (jv_insR jm_178 dX2_isLetter_17) rfl (by decide)
theorem e178_20 : jv_ev d 178 20 lc st h = jv_ev d 178 21 lc (.int 1 :: st) h := jq_iconst (jv_insR jm_178 dX2_isLetter_20) (by decide)
theorem e178_21 : jv_ev d 178 21 lc st h = jv_ev d 178 25 lc st h := jq_go (jv_insR jm_178 dX2_isLetter_21) (by decide)
theorem e178_24 : jv_ev d 178 24 lc st h = jv_ev d 178 25 lc (.int 0 :: st) h := jq_iconst (jv_insR jm_178 dX2_isLetter_24) (by decide)
theorem e178_25 : jv_ev d 178 25 lc [.int v] h = if narrow .boolean (.int v) = .int v then some (.inl (some (.int v)), h) else none := jq_ret (jv_insR jm_178 dX2_isLetter_25) jr_178 (by decide)
/-! 179: RainLoom$Tokens.at(I)I -/
theorem n179 : jv_cd (d + 1) 179 [.ref a0, .int i1] h = jv_ev d 179 0 [some (.ref a0), some (.int i1)] [] h := rfl
theorem e179_0 : jv_ev d 179 0 [x0, some (.int v)] st h = jv_ev d 179 1 [x0, some (.int v)] (.int v :: st) h := jq_nx (jv_insR jm_179 dX2_at_0) rfl
theorem e179_1 : jv_ev d 179 1 [some (.ref a), x1] st h = jv_ev d 179 2 [some (.ref a), x1] (.ref a :: st) h := jq_nx (jv_insR jm_179 dX2_at_1) rfl
theorem e179_2 : jv_ev d 179 2 lc (.ref a :: st) h = (jv_gf h a [(3, 2, .int)]).bind fun r => jv_ev d 179 5 lc (r :: st) h := jq_get (jv_insR jm_179 dX2_at_2) jo_179 jF_4_76
theorem e179_5 : jv_ev d 179 5 lc (.int w :: .int v :: st) h = if w ≤ v then jv_ev d 179 17 lc st h else jv_ev d 179 8 lc st h := jq_if (jv_insR jm_179 dX2_at_5) rfl (by decide)
theorem e179_8 : jv_ev d 179 8 [some (.ref a), x1] st h = jv_ev d 179 9 [some (.ref a), x1] (.ref a :: st) h := jq_nx (jv_insR jm_179 dX2_at_8) rfl
theorem e179_9 : jv_ev d 179 9 lc (.ref a :: st) h = (jv_gf h a [(3, 1, .array .byte)]).bind fun r => jv_ev d 179 12 lc (r :: st) h := jq_get (jv_insR jm_179 dX2_at_9) jo_179 jF_4_59
theorem e179_12 : jv_ev d 179 12 [x0, some (.int v)] st h = jv_ev d 179 13 [x0, some (.int v)] (.int v :: st) h := jq_nx (jv_insR jm_179 dX2_at_12) rfl
theorem e179_13 : jv_ev d 179 13 lc (.int v :: .ref a :: st) h = (jv_ig h a 1 2 v).bind fun w => jv_ev d 179 14 lc (.int w :: st) h := jq_bald (jv_insR jm_179 dX2_at_13)
theorem e179_14 : jv_ev d 179 14 lc st h = jv_ev d 179 18 lc st h := jq_go (jv_insR jm_179 dX2_at_14) (by decide)
theorem e179_17 : jv_ev d 179 17 lc st h = jv_ev d 179 18 lc (.int 0 :: st) h := jq_iconst (jv_insR jm_179 dX2_at_17) (by decide)
theorem e179_18 : jv_ev d 179 18 lc [.int v] h = some (.inl (some (.int v)), h) := jq_reti (jv_insR jm_179 dX2_at_18) jr_179
/-! 180: RainLoom$Tokens.word(II)I -/
theorem n180 : jv_cd (d + 1) 180 [.ref a0, .int i1, .int i2] h = jv_ev d 180 0 [some (.ref a0), some (.int i1), some (.int i2), none, none, none] [] h := rfl
theorem e180_0 : jv_ev d 180 0 lc st h = jv_ev d 180 1 lc (.int 0 :: st) h := jq_iconst (jv_insR jm_180 dX2_word_0) (by decide)
theorem e180_1 : jv_ev d 180 1 [x0, x1, x2, x3, x4, x5] (.int v :: st) h = jv_ev d 180 2 [x0, x1, x2, some (.int v), x4, x5] st h := jq_nx (jv_insR jm_180 dX2_word_1) rfl
theorem e180_2 : jv_ev d 180 2 [x0, x1, x2, some (.int v), x4, x5] st h = jv_ev d 180 3 [x0, x1, x2, some (.int v), x4, x5] (.int v :: st) h := jq_nx (jv_insR jm_180 dX2_word_2) rfl
theorem e180_3 : jv_ev d 180 3 [some (.ref a), x1, x2, x3, x4, x5] st h = jv_ev d 180 4 [some (.ref a), x1, x2, x3, x4, x5] (.ref a :: st) h := jq_nx (jv_insR jm_180 dX2_word_3) rfl
theorem e180_4 : jv_ev d 180 4 lc (.ref a :: st) h = (jv_gf h a [(3, 0, .array (.object "java/lang/String"))]).bind fun r => jv_ev d 180 7 lc (r :: st) h := jq_get (jv_insR jm_180 dX2_word_4) jo_180 jF_4_53
theorem e180_7 : jv_ev d 180 7 lc (.ref a :: st) h = (jv_al h a).bind fun v => jv_ev d 180 8 lc (.int v :: st) h := jq_alen (jv_insR jm_180 dX2_word_7)
theorem e180_8 : jv_ev d 180 8 lc (.int w :: .int v :: st) h = if w ≤ v then jv_ev d 180 96 lc st h else jv_ev d 180 11 lc st h := jq_if (jv_insR jm_180 dX2_word_8) rfl (by decide)
theorem e180_11 : jv_ev d 180 11 [some (.ref a), x1, x2, x3, x4, x5] st h = jv_ev d 180 12 [some (.ref a), x1, x2, x3, x4, x5] (.ref a :: st) h := jq_nx (jv_insR jm_180 dX2_word_11) rfl
theorem e180_12 : jv_ev d 180 12 lc (.ref a :: st) h = (jv_gf h a [(3, 0, .array (.object "java/lang/String"))]).bind fun r => jv_ev d 180 15 lc (r :: st) h := jq_get (jv_insR jm_180 dX2_word_12) jo_180 jF_4_53
theorem e180_15 : jv_ev d 180 15 [x0, x1, x2, some (.int v), x4, x5] st h = jv_ev d 180 16 [x0, x1, x2, some (.int v), x4, x5] (.int v :: st) h := jq_nx (jv_insR jm_180 dX2_word_15) rfl
theorem e180_16 : jv_ev d 180 16 lc (.int v :: .ref a :: st) h = (jv_rg h a v).bind fun w => jv_ev d 180 17 lc (w :: st) h := jq_aald (jv_insR jm_180 dX2_word_16)
theorem e180_17 : jv_ev d 180 17 lc [.ref b] h = (jv_rc h b [(19, 268)]).bind fun y => (jv_cd d y [.ref b] h).bind fun r => jv_on r (fun v h => jv_ev d 180 20 lc (v.toList ++ []) h) (fun q h => some (.inr q, h)) := jq_V (as := []) (rest := []) (jv_insR jm_180 dX2_word_17) jo_180 jV_4_87 rfl rfl rfl rfl
theorem e180_20 : jv_ev d 180 20 [x0, x1, some (.int v), x3, x4, x5] st h = jv_ev d 180 21 [x0, x1, some (.int v), x3, x4, x5] (.int v :: st) h := jq_nx (jv_insR jm_180 dX2_word_20) rfl
theorem e180_21 : jv_ev d 180 21 [x0, some (.int v), x2, x3, x4, x5] st h = jv_ev d 180 22 [x0, some (.int v), x2, x3, x4, x5] (.int v :: st) h := jq_nx (jv_insR jm_180 dX2_word_21) rfl
theorem e180_22 : jv_ev d 180 22 lc (.int w :: .int v :: st) h = jv_ev d 180 23 lc (.int (v - w) :: st) h := jq_nx (jv_insR jm_180 dX2_word_22) rfl
theorem e180_23 : jv_ev d 180 23 lc (.int w :: .int v :: st) h = if ¬ v = w then jv_ev d 180 30 lc st h else jv_ev d 180 26 lc st h := jq_if (jv_insR jm_180 dX2_word_23) rfl (by decide)
theorem e180_26 : jv_ev d 180 26 lc st h = jv_ev d 180 27 lc (.int 1 :: st) h := jq_iconst (jv_insR jm_180 dX2_word_26) (by decide)
theorem e180_27 : jv_ev d 180 27 lc st h = jv_ev d 180 31 lc st h := jq_go (jv_insR jm_180 dX2_word_27) (by decide)
theorem e180_30 : jv_ev d 180 30 lc st h = jv_ev d 180 31 lc (.int 0 :: st) h := jq_iconst (jv_insR jm_180 dX2_word_30) (by decide)
theorem e180_31 : jv_ev d 180 31 [x0, x1, x2, x3, x4, x5] (.int v :: st) h = jv_ev d 180 33 [x0, x1, x2, x3, some (.int v), x5] st h := jq_nx (jv_insR jm_180 dX2_word_31) rfl
theorem e180_33 : jv_ev d 180 33 [x0, some (.int v), x2, x3, x4, x5] st h = jv_ev d 180 34 [x0, some (.int v), x2, x3, x4, x5] (.int v :: st) h := jq_nx (jv_insR jm_180 dX2_word_33) rfl
theorem e180_34 : jv_ev d 180 34 [x0, x1, x2, x3, x4, x5] (.int v :: st) h = jv_ev d 180 36 [x0, x1, x2, x3, x4, some (.int v)] st h := jq_nx (jv_insR jm_180 dX2_word_34) rfl
theorem e180_36 : jv_ev d 180 36 [x0, x1, x2, x3, x4, some (.int v)] st h = jv_ev d 180 38 [x0, x1, x2, x3, x4, some (.int v)] (.int v :: st) h := jq_nx (jv_insR jm_180 dX2_word_36) rfl
theorem e180_38 : jv_ev d 180 38 [x0, x1, some (.int v), x3, x4, x5] st h = jv_ev d 180 39 [x0, x1, some (.int v), x3, x4, x5] (.int v :: st) h := jq_nx (jv_insR jm_180 dX2_word_38) rfl
theorem e180_39 : jv_ev d 180 39 lc (.int w :: .int v :: st) h = if w ≤ v then jv_ev d 180 83 lc st h else jv_ev d 180 42 lc st h := jq_if (jv_insR jm_180 dX2_word_39) rfl (by decide)
theorem e180_42 : jv_ev d 180 42 [x0, x1, x2, x3, some (.int v), x5] st h = jv_ev d 180 44 [x0, x1, x2, x3, some (.int v), x5] (.int v :: st) h := jq_nx (jv_insR jm_180 dX2_word_42) rfl
theorem e180_44 : jv_ev d 180 44 lc (.int v :: st) h = if v = 0 then jv_ev d 180 83 lc st h else jv_ev d 180 47 lc st h := jq_if (jv_insR jm_180 dX2_word_44) rfl (by decide)
theorem e180_47 : jv_ev d 180 47 [some (.ref a), x1, x2, x3, x4, x5] st h = jv_ev d 180 48 [some (.ref a), x1, x2, x3, x4, x5] (.ref a :: st) h := jq_nx (jv_insR jm_180 dX2_word_47) rfl
theorem e180_48 : jv_ev d 180 48 lc (.ref a :: st) h = (jv_gf h a [(3, 0, .array (.object "java/lang/String"))]).bind fun r => jv_ev d 180 51 lc (r :: st) h := jq_get (jv_insR jm_180 dX2_word_48) jo_180 jF_4_53
theorem e180_51 : jv_ev d 180 51 [x0, x1, x2, some (.int v), x4, x5] st h = jv_ev d 180 52 [x0, x1, x2, some (.int v), x4, x5] (.int v :: st) h := jq_nx (jv_insR jm_180 dX2_word_51) rfl
theorem e180_52 : jv_ev d 180 52 lc (.int v :: .ref a :: st) h = (jv_rg h a v).bind fun w => jv_ev d 180 53 lc (w :: st) h := jq_aald (jv_insR jm_180 dX2_word_52)
theorem e180_53 : jv_ev d 180 53 [x0, x1, x2, x3, x4, some (.int v)] st h = jv_ev d 180 55 [x0, x1, x2, x3, x4, some (.int v)] (.int v :: st) h := jq_nx (jv_insR jm_180 dX2_word_53) rfl
theorem e180_55 : jv_ev d 180 55 [x0, some (.int v), x2, x3, x4, x5] st h = jv_ev d 180 56 [x0, some (.int v), x2, x3, x4, x5] (.int v :: st) h := jq_nx (jv_insR jm_180 dX2_word_55) rfl
theorem e180_56 : jv_ev d 180 56 lc (.int w :: .int v :: st) h = jv_ev d 180 57 lc (.int (v - w) :: st) h := jq_nx (jv_insR jm_180 dX2_word_56) rfl
theorem e180_57 : jv_ev d 180 57 lc [z0, .ref b] h = (jv_rc h b [(19, 270)]).bind fun y => (jv_cd d y [.ref b, z0] h).bind fun r => jv_on r (fun v h => jv_ev d 180 60 lc (v.toList ++ []) h) (fun q h => some (.inr q, h)) := jq_V (as := [z0]) (rest := []) (jv_insR jm_180 dX2_word_57) jo_180 jV_4_91 rfl rfl rfl rfl
theorem e180_60 : jv_ev d 180 60 [some (.ref a), x1, x2, x3, x4, x5] st h = jv_ev d 180 61 [some (.ref a), x1, x2, x3, x4, x5] (.ref a :: st) h := jq_nx (jv_insR jm_180 dX2_word_60) rfl
theorem e180_61 : jv_ev d 180 61 lc (.ref a :: st) h = (jv_gf h a [(3, 1, .array .byte)]).bind fun r => jv_ev d 180 64 lc (r :: st) h := jq_get (jv_insR jm_180 dX2_word_61) jo_180 jF_4_59
theorem e180_64 : jv_ev d 180 64 [x0, x1, x2, x3, x4, some (.int v)] st h = jv_ev d 180 66 [x0, x1, x2, x3, x4, some (.int v)] (.int v :: st) h := jq_nx (jv_insR jm_180 dX2_word_64) rfl
theorem e180_66 : jv_ev d 180 66 lc (.int v :: .ref a :: st) h = (jv_ig h a 1 2 v).bind fun w => jv_ev d 180 67 lc (.int w :: st) h := jq_bald (jv_insR jm_180 dX2_word_66)
theorem e180_67 : jv_ev d 180 67 lc (.int w :: .int v :: st) h = if ¬ v = w then jv_ev d 180 74 lc st h else jv_ev d 180 70 lc st h := jq_if (jv_insR jm_180 dX2_word_67) rfl (by decide)
theorem e180_70 : jv_ev d 180 70 lc st h = jv_ev d 180 71 lc (.int 1 :: st) h := jq_iconst (jv_insR jm_180 dX2_word_70) (by decide)
theorem e180_71 : jv_ev d 180 71 lc st h = jv_ev d 180 75 lc st h := jq_go (jv_insR jm_180 dX2_word_71) (by decide)
theorem e180_74 : jv_ev d 180 74 lc st h = jv_ev d 180 75 lc (.int 0 :: st) h := jq_iconst (jv_insR jm_180 dX2_word_74) (by decide)
theorem e180_75 : jv_ev d 180 75 [x0, x1, x2, x3, x4, x5] (.int v :: st) h = jv_ev d 180 77 [x0, x1, x2, x3, some (.int v), x5] st h := jq_nx (jv_insR jm_180 dX2_word_75) rfl
theorem e180_77 : jv_ev d 180 77 [x0, x1, x2, x3, x4, some (.int v)] st h = jv_ev d 180 80 [x0, x1, x2, x3, x4, some (.int (v + 1))] st h := jq_nx (jv_insR jm_180 dX2_word_77) rfl
theorem e180_80 : jv_ev d 180 80 lc st h = jv_ev d 180 36 lc st h := jq_go (jv_insR jm_180 dX2_word_80) (by decide)
theorem e180_83 : jv_ev d 180 83 [x0, x1, x2, x3, some (.int v), x5] st h = jv_ev d 180 85 [x0, x1, x2, x3, some (.int v), x5] (.int v :: st) h := jq_nx (jv_insR jm_180 dX2_word_83) rfl
theorem e180_85 : jv_ev d 180 85 lc (.int v :: st) h = if v = 0 then jv_ev d 180 90 lc st h else jv_ev d 180 88 lc st h := jq_if (jv_insR jm_180 dX2_word_85) rfl (by decide)
theorem e180_88 : jv_ev d 180 88 [x0, x1, x2, some (.int v), x4, x5] st h = jv_ev d 180 89 [x0, x1, x2, some (.int v), x4, x5] (.int v :: st) h := jq_nx (jv_insR jm_180 dX2_word_88) rfl
theorem e180_89 : jv_ev d 180 89 lc [.int v] h = some (.inl (some (.int v)), h) := jq_reti (jv_insR jm_180 dX2_word_89) jr_180
theorem e180_90 : jv_ev d 180 90 [x0, x1, x2, some (.int v), x4, x5] st h = jv_ev d 180 93 [x0, x1, x2, some (.int (v + 1)), x4, x5] st h := jq_nx (jv_insR jm_180 dX2_word_90) rfl
theorem e180_93 : jv_ev d 180 93 lc st h = jv_ev d 180 2 lc st h := jq_go (jv_insR jm_180 dX2_word_93) (by decide)
theorem e180_96 : jv_ev d 180 96 lc st h = jv_ev d 180 97 lc (.int (-1) :: st) h := jq_iconst (jv_insR jm_180 dX2_word_96) (by decide)
theorem e180_97 : jv_ev d 180 97 lc [.int v] h = some (.inl (some (.int v)), h) := jq_reti (jv_insR jm_180 dX2_word_97) jr_180
/-! 181: RainLoom$Tokens.isDigit(I)Z -/
theorem n181 : jv_cd (d + 1) 181 [.ref a0, .int i1] h = jv_ev d 181 0 [some (.ref a0), some (.int i1)] [] h := rfl
theorem e181_0 : jv_ev d 181 0 [some (.ref a), x1] st h = jv_ev d 181 1 [some (.ref a), x1] (.ref a :: st) h := jq_nx (jv_insR jm_181 dX2_isDigit_0) rfl
theorem e181_1 : jv_ev d 181 1 [x0, some (.int v)] st h = jv_ev d 181 2 [x0, some (.int v)] (.int v :: st) h := jq_nx (jv_insR jm_181 dX2_isDigit_1) rfl
theorem e181_2 : jv_ev d 181 2 lc [z0, .ref b] h = (jv_rc h b [(3, 179)]).bind fun y => (jv_cd d y [.ref b, z0] h).bind fun r => jv_on r (fun v h => jv_ev d 181 5 lc (v.toList ++ []) h) (fun q h => some (.inr q, h)) := jq_V (as := [z0]) (rest := []) (jv_insR jm_181 dX2_isDigit_2) jo_181 jV_4_80 rfl rfl rfl rfl
theorem e181_5 : jv_ev d 181 5 lc st h = jv_ev d 181 7 lc (.int 48 :: st) h := jq_bipush (jv_insR jm_181 dX2_isDigit_5) (by decide)
theorem e181_7 : jv_ev d 181 7 lc (.int w :: .int v :: st) h = if v < w then jv_ev d 181 24 lc st h else jv_ev d 181 10 lc st h := jq_if (jv_insR jm_181 dX2_isDigit_7) rfl (by decide)
theorem e181_10 : jv_ev d 181 10 [some (.ref a), x1] st h = jv_ev d 181 11 [some (.ref a), x1] (.ref a :: st) h := jq_nx (jv_insR jm_181 dX2_isDigit_10) rfl
theorem e181_11 : jv_ev d 181 11 [x0, some (.int v)] st h = jv_ev d 181 12 [x0, some (.int v)] (.int v :: st) h := jq_nx (jv_insR jm_181 dX2_isDigit_11) rfl
theorem e181_12 : jv_ev d 181 12 lc [z0, .ref b] h = (jv_rc h b [(3, 179)]).bind fun y => (jv_cd d y [.ref b, z0] h).bind fun r => jv_on r (fun v h => jv_ev d 181 15 lc (v.toList ++ []) h) (fun q h => some (.inr q, h)) := jq_V (as := [z0]) (rest := []) (jv_insR jm_181 dX2_isDigit_12) jo_181 jV_4_80 rfl rfl rfl rfl
theorem e181_15 : jv_ev d 181 15 lc st h = jv_ev d 181 17 lc (.int 57 :: st) h := jq_bipush (jv_insR jm_181 dX2_isDigit_15) (by decide)
theorem e181_17 : jv_ev d 181 17 lc (.int w :: .int v :: st) h = if w < v then jv_ev d 181 24 lc st h else jv_ev d 181 20 lc st h := jq_if (jv_insR jm_181 dX2_isDigit_17) rfl (by decide)
theorem e181_20 : jv_ev d 181 20 lc st h = jv_ev d 181 21 lc (.int 1 :: st) h := jq_iconst (jv_insR jm_181 dX2_isDigit_20) (by decide)
theorem e181_21 : jv_ev d 181 21 lc st h = jv_ev d 181 25 lc st h := jq_go (jv_insR jm_181 dX2_isDigit_21) (by decide)
theorem e181_24 : jv_ev d 181 24 lc st h = jv_ev d 181 25 lc (.int 0 :: st) h := jq_iconst (jv_insR jm_181 dX2_isDigit_24) (by decide)
theorem e181_25 : jv_ev d 181 25 lc [.int v] h = if narrow .boolean (.int v) = .int v then some (.inl (some (.int v)), h) else none := jq_ret (jv_insR jm_181 dX2_isDigit_25) jr_181 (by decide)
/-! 182: RainLoom$Tokens.sign(I)I -/
theorem n182 : jv_cd (d + 1) 182 [.ref a0, .int i1] h = jv_ev d 182 0 [some (.ref a0), some (.int i1), none] [] h := rfl
theorem e182_0 : jv_ev d 182 0 [some (.ref a), x1, x2] st h = jv_ev d 182 1 [some (.ref a), x1, x2] (.ref a :: st) h := jq_nx (jv_insR jm_182 dX2_sign_0) rfl
theorem e182_1 : jv_ev d 182 1 [x0, some (.int v), x2] st h = jv_ev d 182 2 [x0, some (.int v), x2] (.int v :: st) h := jq_nx (jv_insR jm_182 dX2_sign_1) rfl
theorem e182_2 : jv_ev d 182 2 lc [z0, .ref b] h = (jv_rc h b [(3, 179)]).bind fun y => (jv_cd d y [.ref b, z0] h).bind fun r => jv_on r (fun v h => jv_ev d 182 5 lc (v.toList ++ []) h) (fun q h => some (.inr q, h)) := jq_V (as := [z0]) (rest := []) (jv_insR jm_182 dX2_sign_2) jo_182 jV_4_80 rfl rfl rfl rfl
theorem e182_5 : jv_ev d 182 5 [x0, x1, x2] (.int v :: st) h = jv_ev d 182 6 [x0, x1, some (.int v)] st h := jq_nx (jv_insR jm_182 dX2_sign_5) rfl
theorem e182_6 : jv_ev d 182 6 [x0, x1, some (.int v)] st h = jv_ev d 182 7 [x0, x1, some (.int v)] (.int v :: st) h := jq_nx (jv_insR jm_182 dX2_sign_6) rfl
theorem e182_7 : jv_ev d 182 7 lc (.int v :: st) h = jv_tsl (fun t => jv_ev d 182 t lc st h) v [(40, 108), (41, 108), (42, 108), (43, 108), (44, 110), (45, 108), (46, 110), (47, 108), (48, 110), (49, 110), (50, 110), (51, 110), (52, 110), (53, 110), (54, 110), (55, 110), (56, 110), (57, 110), (58, 110), (59, 108), (60, 108), (61, 108)] 110 := jq_ts (jv_insR jm_182 dX2_sign_7) [(40, 108), (41, 108), (42, 108), (43, 108), (44, 110), (45, 108), (46, 110), (47, 108), (48, 110), (49, 110), (50, 110), (51, 110), (52, 110), (53, 110), (54, 110), (55, 110), (56, 110), (57, 110), (58, 110), (59, 108), (60, 108), (61, 108)] 110 (by decide) (by decide) (by decide) (by decide)
theorem e182_108 : jv_ev d 182 108 [x0, x1, some (.int v)] st h = jv_ev d 182 109 [x0, x1, some (.int v)] (.int v :: st) h := jq_nx (jv_insR jm_182 dX2_sign_108) rfl
theorem e182_109 : jv_ev d 182 109 lc [.int v] h = some (.inl (some (.int v)), h) := jq_reti (jv_insR jm_182 dX2_sign_109) jr_182
theorem e182_110 : jv_ev d 182 110 lc st h = jv_ev d 182 111 lc (.int 0 :: st) h := jq_iconst (jv_insR jm_182 dX2_sign_110) (by decide)
theorem e182_111 : jv_ev d 182 111 lc [.int v] h = some (.inl (some (.int v)), h) := jq_reti (jv_insR jm_182 dX2_sign_111) jr_182
/-! 183: RainLoom$Tokens.add(IIII)V -/
theorem n183 : jv_cd (d + 1) 183 [.ref a0, .int i1, .int i2, .int i3, .int i4] h = jv_ev d 183 0 [some (.ref a0), some (.int i1), some (.int i2), some (.int i3), some (.int i4)] [] h := rfl
theorem e183_0 : jv_ev d 183 0 [some (.ref a), x1, x2, x3, x4] st h = jv_ev d 183 1 [some (.ref a), x1, x2, x3, x4] (.ref a :: st) h := jq_nx (jv_insR jm_183 dX2_add_0) rfl
theorem e183_1 : jv_ev d 183 1 lc (.ref a :: st) h = (jv_gf h a [(3, 3, .array .byte)]).bind fun r => jv_ev d 183 4 lc (r :: st) h := jq_get (jv_insR jm_183 dX2_add_1) jo_183 jF_4_63
theorem e183_4 : jv_ev d 183 4 [some (.ref a), x1, x2, x3, x4] st h = jv_ev d 183 5 [some (.ref a), x1, x2, x3, x4] (.ref a :: st) h := jq_nx (jv_insR jm_183 dX2_add_4) rfl
theorem e183_5 : jv_ev d 183 5 lc (.ref a :: st) h = (jv_gf h a [(3, 7, .int)]).bind fun r => jv_ev d 183 8 lc (r :: st) h := jq_get (jv_insR jm_183 dX2_add_5) jo_183 jF_4_84
theorem e183_8 : jv_ev d 183 8 [x0, some (.int v), x2, x3, x4] st h = jv_ev d 183 9 [x0, some (.int v), x2, x3, x4] (.int v :: st) h := jq_nx (jv_insR jm_183 dX2_add_8) rfl
theorem e183_9 : jv_ev d 183 9 lc (.int v :: st) h = jv_ev d 183 10 lc (.int (v.toInt8.toInt32) :: st) h := jq_nx (jv_insR jm_183 dX2_add_9) rfl
theorem e183_10 : jv_ev d 183 10 lc (.int w :: .int v :: .ref a :: st) h = (jv_ip h a 1 2 v w).bind fun h => jv_ev d 183 11 lc st h := jq_bast (jv_insR jm_183 dX2_add_10)
theorem e183_11 : jv_ev d 183 11 [some (.ref a), x1, x2, x3, x4] st h = jv_ev d 183 12 [some (.ref a), x1, x2, x3, x4] (.ref a :: st) h := jq_nx (jv_insR jm_183 dX2_add_11) rfl
theorem e183_12 : jv_ev d 183 12 lc (.ref a :: st) h = (jv_gf h a [(3, 4, .array .short)]).bind fun r => jv_ev d 183 15 lc (r :: st) h := jq_get (jv_insR jm_183 dX2_add_12) jo_183 jF_4_66
theorem e183_15 : jv_ev d 183 15 [some (.ref a), x1, x2, x3, x4] st h = jv_ev d 183 16 [some (.ref a), x1, x2, x3, x4] (.ref a :: st) h := jq_nx (jv_insR jm_183 dX2_add_15) rfl
theorem e183_16 : jv_ev d 183 16 lc (.ref a :: st) h = (jv_gf h a [(3, 7, .int)]).bind fun r => jv_ev d 183 19 lc (r :: st) h := jq_get (jv_insR jm_183 dX2_add_16) jo_183 jF_4_84
theorem e183_19 : jv_ev d 183 19 [x0, x1, some (.int v), x3, x4] st h = jv_ev d 183 20 [x0, x1, some (.int v), x3, x4] (.int v :: st) h := jq_nx (jv_insR jm_183 dX2_add_19) rfl
theorem e183_20 : jv_ev d 183 20 lc (.int v :: st) h = jv_ev d 183 21 lc (.int (v.toInt16.toInt32) :: st) h := jq_nx (jv_insR jm_183 dX2_add_20) rfl
theorem e183_21 : jv_ev d 183 21 lc (.int w :: .int v :: .ref a :: st) h = (jv_ip h a 3 3 v w).bind fun h => jv_ev d 183 22 lc st h := jq_sast (jv_insR jm_183 dX2_add_21)
theorem e183_22 : jv_ev d 183 22 [some (.ref a), x1, x2, x3, x4] st h = jv_ev d 183 23 [some (.ref a), x1, x2, x3, x4] (.ref a :: st) h := jq_nx (jv_insR jm_183 dX2_add_22) rfl
theorem e183_23 : jv_ev d 183 23 lc (.ref a :: st) h = (jv_gf h a [(3, 5, .array .short)]).bind fun r => jv_ev d 183 26 lc (r :: st) h := jq_get (jv_insR jm_183 dX2_add_23) jo_183 jF_4_70
theorem e183_26 : jv_ev d 183 26 [some (.ref a), x1, x2, x3, x4] st h = jv_ev d 183 27 [some (.ref a), x1, x2, x3, x4] (.ref a :: st) h := jq_nx (jv_insR jm_183 dX2_add_26) rfl
theorem e183_27 : jv_ev d 183 27 lc (.ref a :: st) h = (jv_gf h a [(3, 7, .int)]).bind fun r => jv_ev d 183 30 lc (r :: st) h := jq_get (jv_insR jm_183 dX2_add_27) jo_183 jF_4_84
theorem e183_30 : jv_ev d 183 30 [x0, x1, x2, some (.int v), x4] st h = jv_ev d 183 31 [x0, x1, x2, some (.int v), x4] (.int v :: st) h := jq_nx (jv_insR jm_183 dX2_add_30) rfl
theorem e183_31 : jv_ev d 183 31 lc (.int v :: st) h = jv_ev d 183 32 lc (.int (v.toInt16.toInt32) :: st) h := jq_nx (jv_insR jm_183 dX2_add_31) rfl
theorem e183_32 : jv_ev d 183 32 lc (.int w :: .int v :: .ref a :: st) h = (jv_ip h a 3 3 v w).bind fun h => jv_ev d 183 33 lc st h := jq_sast (jv_insR jm_183 dX2_add_32)
theorem e183_33 : jv_ev d 183 33 [some (.ref a), x1, x2, x3, x4] st h = jv_ev d 183 34 [some (.ref a), x1, x2, x3, x4] (.ref a :: st) h := jq_nx (jv_insR jm_183 dX2_add_33) rfl
theorem e183_34 : jv_ev d 183 34 lc (.ref a :: st) h = (jv_gf h a [(3, 6, .array .short)]).bind fun r => jv_ev d 183 37 lc (r :: st) h := jq_get (jv_insR jm_183 dX2_add_34) jo_183 jF_4_73
theorem e183_37 : jv_ev d 183 37 [some (.ref a), x1, x2, x3, x4] st h = jv_ev d 183 38 [some (.ref a), x1, x2, x3, x4] (.ref a :: st) h := jq_nx (jv_insR jm_183 dX2_add_37) rfl
theorem e183_38 : jv_ev d 183 38 lc (.ref a :: st) h = (jv_gf h a [(3, 7, .int)]).bind fun r => jv_ev d 183 41 lc (r :: st) h := jq_get (jv_insR jm_183 dX2_add_38) jo_183 jF_4_84
theorem e183_41 : jv_ev d 183 41 [x0, x1, x2, x3, some (.int v)] st h = jv_ev d 183 43 [x0, x1, x2, x3, some (.int v)] (.int v :: st) h := jq_nx (jv_insR jm_183 dX2_add_41) rfl
theorem e183_43 : jv_ev d 183 43 lc (.int v :: st) h = jv_ev d 183 44 lc (.int (v.toInt16.toInt32) :: st) h := jq_nx (jv_insR jm_183 dX2_add_43) rfl
theorem e183_44 : jv_ev d 183 44 lc (.int w :: .int v :: .ref a :: st) h = (jv_ip h a 3 3 v w).bind fun h => jv_ev d 183 45 lc st h := jq_sast (jv_insR jm_183 dX2_add_44)
theorem e183_45 : jv_ev d 183 45 [some (.ref a), x1, x2, x3, x4] st h = jv_ev d 183 46 [some (.ref a), x1, x2, x3, x4] (.ref a :: st) h := jq_nx (jv_insR jm_183 dX2_add_45) rfl
theorem e183_46 : jv_ev d 183 46 lc (.ref a :: st) h = jv_ev d 183 47 lc (.ref a :: .ref a :: st) h := jq_nx (jv_insR jm_183 dX2_add_46) rfl
theorem e183_47 : jv_ev d 183 47 lc (.ref a :: st) h = (jv_gf h a [(3, 7, .int)]).bind fun r => jv_ev d 183 50 lc (r :: st) h := jq_get (jv_insR jm_183 dX2_add_47) jo_183 jF_4_84
theorem e183_50 : jv_ev d 183 50 lc st h = jv_ev d 183 51 lc (.int 1 :: st) h := jq_iconst (jv_insR jm_183 dX2_add_50) (by decide)
theorem e183_51 : jv_ev d 183 51 lc (.int w :: .int v :: st) h = jv_ev d 183 52 lc (.int (v + w) :: st) h := jq_nx (jv_insR jm_183 dX2_add_51) rfl
theorem e183_52 : jv_ev d 183 52 lc (r :: .ref a :: st) h = (jv_pf h a [(3, 7, .int)] r).bind fun h => jv_ev d 183 55 lc st h := jq_put (jv_insR jm_183 dX2_add_52) jo_183 ji_183 jG_4_84
theorem e183_55 : jv_ev d 183 55 lc [] h = some (.inl none, h) := jq_retv (jv_insR jm_183 dX2_add_55) jr_183
/-! 184: RainLoom$Tokens.number(I)I -/
theorem n184 : jv_cd (d + 1) 184 [.ref a0, .int i1] h = jv_ev d 184 0 [some (.ref a0), some (.int i1), none, none] [] h := rfl
theorem e184_0 : jv_ev d 184 0 lc st h = jv_ev d 184 1 lc (.int 0 :: st) h := jq_iconst (jv_insR jm_184 dX2_number_0) (by decide)
theorem e184_1 : jv_ev d 184 1 [x0, x1, x2, x3] (.int v :: st) h = jv_ev d 184 2 [x0, x1, some (.int v), x3] st h := jq_nx (jv_insR jm_184 dX2_number_1) rfl
theorem e184_2 : jv_ev d 184 2 [some (.ref a), x1, x2, x3] st h = jv_ev d 184 3 [some (.ref a), x1, x2, x3] (.ref a :: st) h := jq_nx (jv_insR jm_184 dX2_number_2) rfl
theorem e184_3 : jv_ev d 184 3 lc (.ref a :: st) h = (jv_gf h a [(3, 4, .array .short)]).bind fun r => jv_ev d 184 6 lc (r :: st) h := jq_get (jv_insR jm_184 dX2_number_3) jo_184 jF_4_66
theorem e184_6 : jv_ev d 184 6 [x0, some (.int v), x2, x3] st h = jv_ev d 184 7 [x0, some (.int v), x2, x3] (.int v :: st) h := jq_nx (jv_insR jm_184 dX2_number_6) rfl
theorem e184_7 : jv_ev d 184 7 lc (.int v :: .ref a :: st) h = (jv_ig h a 3 3 v).bind fun w => jv_ev d 184 8 lc (.int w :: st) h := jq_sald (jv_insR jm_184 dX2_number_7)
theorem e184_8 : jv_ev d 184 8 [x0, x1, x2, x3] (.int v :: st) h = jv_ev d 184 9 [x0, x1, x2, some (.int v)] st h := jq_nx (jv_insR jm_184 dX2_number_8) rfl
theorem e184_9 : jv_ev d 184 9 [x0, x1, x2, some (.int v)] st h = jv_ev d 184 10 [x0, x1, x2, some (.int v)] (.int v :: st) h := jq_nx (jv_insR jm_184 dX2_number_9) rfl
theorem e184_10 : jv_ev d 184 10 [some (.ref a), x1, x2, x3] st h = jv_ev d 184 11 [some (.ref a), x1, x2, x3] (.ref a :: st) h := jq_nx (jv_insR jm_184 dX2_number_10) rfl
theorem e184_11 : jv_ev d 184 11 lc (.ref a :: st) h = (jv_gf h a [(3, 5, .array .short)]).bind fun r => jv_ev d 184 14 lc (r :: st) h := jq_get (jv_insR jm_184 dX2_number_11) jo_184 jF_4_70
theorem e184_14 : jv_ev d 184 14 [x0, some (.int v), x2, x3] st h = jv_ev d 184 15 [x0, some (.int v), x2, x3] (.int v :: st) h := jq_nx (jv_insR jm_184 dX2_number_14) rfl
theorem e184_15 : jv_ev d 184 15 lc (.int v :: .ref a :: st) h = (jv_ig h a 3 3 v).bind fun w => jv_ev d 184 16 lc (.int w :: st) h := jq_sald (jv_insR jm_184 dX2_number_15)
theorem e184_16 : jv_ev d 184 16 lc (.int w :: .int v :: st) h = if w ≤ v then jv_ev d 184 40 lc st h else jv_ev d 184 19 lc st h := jq_if (jv_insR jm_184 dX2_number_16) rfl (by decide)
theorem e184_19 : jv_ev d 184 19 lc st h = jv_ev d 184 21 lc (.int 10 :: st) h := jq_bipush (jv_insR jm_184 dX2_number_19) (by decide)
theorem e184_21 : jv_ev d 184 21 [x0, x1, some (.int v), x3] st h = jv_ev d 184 22 [x0, x1, some (.int v), x3] (.int v :: st) h := jq_nx (jv_insR jm_184 dX2_number_21) rfl
theorem e184_22 : jv_ev d 184 22 lc (.int w :: .int v :: st) h = jv_ev d 184 23 lc (.int (v * w) :: st) h := jq_nx (jv_insR jm_184 dX2_number_22) rfl
theorem e184_23 : jv_ev d 184 23 [some (.ref a), x1, x2, x3] st h = jv_ev d 184 24 [some (.ref a), x1, x2, x3] (.ref a :: st) h := jq_nx (jv_insR jm_184 dX2_number_23) rfl
theorem e184_24 : jv_ev d 184 24 lc (.ref a :: st) h = (jv_gf h a [(3, 1, .array .byte)]).bind fun r => jv_ev d 184 27 lc (r :: st) h := jq_get (jv_insR jm_184 dX2_number_24) jo_184 jF_4_59
theorem e184_27 : jv_ev d 184 27 [x0, x1, x2, some (.int v)] st h = jv_ev d 184 28 [x0, x1, x2, some (.int v)] (.int v :: st) h := jq_nx (jv_insR jm_184 dX2_number_27) rfl
theorem e184_28 : jv_ev d 184 28 lc (.int v :: .ref a :: st) h = (jv_ig h a 1 2 v).bind fun w => jv_ev d 184 29 lc (.int w :: st) h := jq_bald (jv_insR jm_184 dX2_number_28)
theorem e184_29 : jv_ev d 184 29 lc (.int w :: .int v :: st) h = jv_ev d 184 30 lc (.int (v + w) :: st) h := jq_nx (jv_insR jm_184 dX2_number_29) rfl
theorem e184_30 : jv_ev d 184 30 lc st h = jv_ev d 184 32 lc (.int 48 :: st) h := jq_bipush (jv_insR jm_184 dX2_number_30) (by decide)
theorem e184_32 : jv_ev d 184 32 lc (.int w :: .int v :: st) h = jv_ev d 184 33 lc (.int (v - w) :: st) h := jq_nx (jv_insR jm_184 dX2_number_32) rfl
theorem e184_33 : jv_ev d 184 33 [x0, x1, x2, x3] (.int v :: st) h = jv_ev d 184 34 [x0, x1, some (.int v), x3] st h := jq_nx (jv_insR jm_184 dX2_number_33) rfl
theorem e184_34 : jv_ev d 184 34 [x0, x1, x2, some (.int v)] st h = jv_ev d 184 37 [x0, x1, x2, some (.int (v + 1))] st h := jq_nx (jv_insR jm_184 dX2_number_34) rfl
theorem e184_37 : jv_ev d 184 37 lc st h = jv_ev d 184 9 lc st h := jq_go (jv_insR jm_184 dX2_number_37) (by decide)
theorem e184_40 : jv_ev d 184 40 [x0, x1, some (.int v), x3] st h = jv_ev d 184 41 [x0, x1, some (.int v), x3] (.int v :: st) h := jq_nx (jv_insR jm_184 dX2_number_40) rfl
theorem e184_41 : jv_ev d 184 41 lc [.int v] h = some (.inl (some (.int v)), h) := jq_reti (jv_insR jm_184 dX2_number_41) jr_184
/-! 185: RainLoom$Tokens.text(I)Ljava/lang/String; -/
theorem n185 : jv_cd (d + 1) 185 [.ref a0, .int i1] h = jv_ev d 185 0 [some (.ref a0), some (.int i1), none, none] [] h := rfl
theorem e185_0 : jv_ev d 185 0 lc st h = jv_ev d 185 3 lc (.ref h.length :: st) (h ++ [.inr (20, [.null, .int 0, .int 0, .int 0])]) := jq_new (jv_insR jm_185 dX2_text_0) jo_185 jN_4_113 rfl
theorem e185_3 : jv_ev d 185 3 lc (.ref a :: st) h = jv_ev d 185 4 lc (.ref a :: .ref a :: st) h := jq_nx (jv_insR jm_185 dX2_text_3) rfl
theorem e185_4 : jv_ev d 185 4 lc [.ref b, y0] h = if jt_off ≤ b ∧ (jt_SU.contains 302 = false ∨ jv_cls h b = some 20) then ((jv_cd d 302 [.ref b] h).bind fun r => jv_on r (fun v h => jv_ev d 185 7 lc (v.toList ++ [y0]) h) (fun q h => some (.inr q, h))) else none := jq_P (as := []) (rest := [y0]) (jv_insR jm_185 dX2_text_4) jo_185 jP_4_115 rfl rfl rfl rfl
theorem e185_7 : jv_ev d 185 7 [x0, x1, x2, x3] (.ref a :: st) h = jv_ev d 185 8 [x0, x1, some (.ref a), x3] st h := jq_nx (jv_insR jm_185 dX2_text_7) rfl
theorem e185_8 : jv_ev d 185 8 [some (.ref a), x1, x2, x3] st h = jv_ev d 185 9 [some (.ref a), x1, x2, x3] (.ref a :: st) h := jq_nx (jv_insR jm_185 dX2_text_8) rfl
theorem e185_9 : jv_ev d 185 9 lc (.ref a :: st) h = (jv_gf h a [(3, 4, .array .short)]).bind fun r => jv_ev d 185 12 lc (r :: st) h := jq_get (jv_insR jm_185 dX2_text_9) jo_185 jF_4_66
theorem e185_12 : jv_ev d 185 12 [x0, some (.int v), x2, x3] st h = jv_ev d 185 13 [x0, some (.int v), x2, x3] (.int v :: st) h := jq_nx (jv_insR jm_185 dX2_text_12) rfl
theorem e185_13 : jv_ev d 185 13 lc (.int v :: .ref a :: st) h = (jv_ig h a 3 3 v).bind fun w => jv_ev d 185 14 lc (.int w :: st) h := jq_sald (jv_insR jm_185 dX2_text_13)
theorem e185_14 : jv_ev d 185 14 [x0, x1, x2, x3] (.int v :: st) h = jv_ev d 185 15 [x0, x1, x2, some (.int v)] st h := jq_nx (jv_insR jm_185 dX2_text_14) rfl
theorem e185_15 : jv_ev d 185 15 [x0, x1, x2, some (.int v)] st h = jv_ev d 185 16 [x0, x1, x2, some (.int v)] (.int v :: st) h := jq_nx (jv_insR jm_185 dX2_text_15) rfl
theorem e185_16 : jv_ev d 185 16 [some (.ref a), x1, x2, x3] st h = jv_ev d 185 17 [some (.ref a), x1, x2, x3] (.ref a :: st) h := jq_nx (jv_insR jm_185 dX2_text_16) rfl
theorem e185_17 : jv_ev d 185 17 lc (.ref a :: st) h = (jv_gf h a [(3, 5, .array .short)]).bind fun r => jv_ev d 185 20 lc (r :: st) h := jq_get (jv_insR jm_185 dX2_text_17) jo_185 jF_4_70
theorem e185_20 : jv_ev d 185 20 [x0, some (.int v), x2, x3] st h = jv_ev d 185 21 [x0, some (.int v), x2, x3] (.int v :: st) h := jq_nx (jv_insR jm_185 dX2_text_20) rfl
theorem e185_21 : jv_ev d 185 21 lc (.int v :: .ref a :: st) h = (jv_ig h a 3 3 v).bind fun w => jv_ev d 185 22 lc (.int w :: st) h := jq_sald (jv_insR jm_185 dX2_text_21)
theorem e185_22 : jv_ev d 185 22 lc (.int w :: .int v :: st) h = if w ≤ v then jv_ev d 185 43 lc st h else jv_ev d 185 25 lc st h := jq_if (jv_insR jm_185 dX2_text_22) rfl (by decide)
theorem e185_25 : jv_ev d 185 25 [x0, x1, some (.ref a), x3] st h = jv_ev d 185 26 [x0, x1, some (.ref a), x3] (.ref a :: st) h := jq_nx (jv_insR jm_185 dX2_text_25) rfl
theorem e185_26 : jv_ev d 185 26 [some (.ref a), x1, x2, x3] st h = jv_ev d 185 27 [some (.ref a), x1, x2, x3] (.ref a :: st) h := jq_nx (jv_insR jm_185 dX2_text_26) rfl
theorem e185_27 : jv_ev d 185 27 lc (.ref a :: st) h = (jv_gf h a [(3, 1, .array .byte)]).bind fun r => jv_ev d 185 30 lc (r :: st) h := jq_get (jv_insR jm_185 dX2_text_27) jo_185 jF_4_59
theorem e185_30 : jv_ev d 185 30 [x0, x1, x2, some (.int v)] st h = jv_ev d 185 31 [x0, x1, x2, some (.int v)] (.int v :: st) h := jq_nx (jv_insR jm_185 dX2_text_30) rfl
theorem e185_31 : jv_ev d 185 31 lc (.int v :: .ref a :: st) h = (jv_ig h a 1 2 v).bind fun w => jv_ev d 185 32 lc (.int w :: st) h := jq_bald (jv_insR jm_185 dX2_text_31)
theorem e185_32 : jv_ev d 185 32 lc (.int v :: st) h = jv_ev d 185 33 lc (.int ((v.toUInt32 % 65536).toInt32) :: st) h := jq_nx (jv_insR jm_185 dX2_text_32) rfl
theorem e185_33 : jv_ev d 185 33 lc [z0, .ref b] h = (jv_rc h b [(20, 303)]).bind fun y => (jv_cd d y [.ref b, z0] h).bind fun r => jv_on r (fun v h => jv_ev d 185 36 lc (v.toList ++ []) h) (fun q h => some (.inr q, h)) := jq_V (as := [z0]) (rest := []) (jv_insR jm_185 dX2_text_33) jo_185 jV_4_116 rfl rfl rfl rfl
theorem e185_36 : jv_ev d 185 36 lc (.ref a :: st) h = jv_ev d 185 37 lc st h := jq_nx (jv_insR jm_185 dX2_text_36) rfl
theorem e185_37 : jv_ev d 185 37 [x0, x1, x2, some (.int v)] st h = jv_ev d 185 40 [x0, x1, x2, some (.int (v + 1))] st h := jq_nx (jv_insR jm_185 dX2_text_37) rfl
theorem e185_40 : jv_ev d 185 40 lc st h = jv_ev d 185 15 lc st h := jq_go (jv_insR jm_185 dX2_text_40) (by decide)
theorem e185_43 : jv_ev d 185 43 [x0, x1, some (.ref a), x3] st h = jv_ev d 185 44 [x0, x1, some (.ref a), x3] (.ref a :: st) h := jq_nx (jv_insR jm_185 dX2_text_43) rfl
theorem e185_44 : jv_ev d 185 44 lc [.ref b] h = (jv_rc h b [(20, 304)]).bind fun y => (jv_cd d y [.ref b] h).bind fun r => jv_on r (fun v h => jv_ev d 185 47 lc (v.toList ++ []) h) (fun q h => some (.inr q, h)) := jq_V (as := []) (rest := []) (jv_insR jm_185 dX2_text_44) jo_185 jV_4_120 rfl rfl rfl rfl
theorem e185_47 : jv_ev d 185 47 lc [.ref a] h = some (.inl (some (.ref a)), h) := jq_reta (jv_insR jm_185 dX2_text_47) jr_185 rfl
/-! 186: RainLoom$Parser.<init>(LRainLoom$Tokens;LRainLoom$Fault;)V -/
theorem n186 : jv_cd (d + 1) 186 [.ref a0, .ref a1, .ref a2] h = jv_ev d 186 0 [some (.ref a0), some (.ref a1), some (.ref a2)] [] h := rfl
theorem e186_0 : jv_ev d 186 0 [some (.ref a), x1, x2] st h = jv_ev d 186 1 [some (.ref a), x1, x2] (.ref a :: st) h := jq_nx (jv_insR jm_186 dX3_init_0) rfl
theorem e186_1 : jv_ev d 186 1 lc [.ref b] h = if jt_off ≤ b then jv_ev d 186 4 lc [] h else none := jq_O (jv_insR jm_186 dX3_init_1) jo_186 jP_5_3 (Nat.le_of_ble_eq_true rfl)
theorem e186_4 : jv_ev d 186 4 [some (.ref a), x1, x2] st h = jv_ev d 186 5 [some (.ref a), x1, x2] (.ref a :: st) h := jq_nx (jv_insR jm_186 dX3_init_4) rfl
theorem e186_5 : jv_ev d 186 5 [x0, some (.ref a), x2] st h = jv_ev d 186 6 [x0, some (.ref a), x2] (.ref a :: st) h := jq_nx (jv_insR jm_186 dX3_init_5) rfl
theorem e186_6 : jv_ev d 186 6 lc (r :: .ref a :: st) h = (jv_pf h a [(4, 0, .object "RainLoom$Tokens")] r).bind fun h => jv_ev d 186 9 lc st h := jq_put (jv_insR jm_186 dX3_init_6) jo_186 ji_186 jG_5_9i
theorem e186_9 : jv_ev d 186 9 [some (.ref a), x1, x2] st h = jv_ev d 186 10 [some (.ref a), x1, x2] (.ref a :: st) h := jq_nx (jv_insR jm_186 dX3_init_9) rfl
theorem e186_10 : jv_ev d 186 10 [x0, x1, some (.ref a)] st h = jv_ev d 186 11 [x0, x1, some (.ref a)] (.ref a :: st) h := jq_nx (jv_insR jm_186 dX3_init_10) rfl
theorem e186_11 : jv_ev d 186 11 lc (r :: .ref a :: st) h = (jv_pf h a [(4, 1, .object "RainLoom$Fault")] r).bind fun h => jv_ev d 186 14 lc st h := jq_put (jv_insR jm_186 dX3_init_11) jo_186 ji_186 jG_5_15i
theorem e186_14 : jv_ev d 186 14 lc [] h = some (.inl none, h) := jq_retv (jv_insR jm_186 dX3_init_14) jr_186
/-! 187: RainLoom$Parser.read()LRainLoom$Text; -/
theorem n187 : jv_cd (d + 1) 187 [.ref a0] h = jv_ev d 187 0 [some (.ref a0)] [] h := rfl
theorem e187_0 : jv_ev d 187 0 [some (.ref a)] st h = jv_ev d 187 1 [some (.ref a)] (.ref a :: st) h := jq_nx (jv_insR jm_187 dX3_read_0) rfl
theorem e187_1 : jv_ev d 187 1 lc (.ref a :: st) h = (jv_gf h a [(4, 0, .object "RainLoom$Tokens")]).bind fun r => jv_ev d 187 4 lc (r :: st) h := jq_get (jv_insR jm_187 dX3_read_1) jo_187 jF_5_9
theorem e187_4 : jv_ev d 187 4 lc [.ref b] h = (jv_rc h b [(3, 177)]).bind fun y => (jv_cd d y [.ref b] h).bind fun r => jv_on r (fun v h => jv_ev d 187 7 lc (v.toList ++ []) h) (fun q h => some (.inr q, h)) := jq_V (as := []) (rest := []) (jv_insR jm_187 dX3_read_4) jo_187 jV_5_92 rfl rfl rfl rfl
theorem e187_7 : jv_ev d 187 7 [some (.ref a)] st h = jv_ev d 187 8 [some (.ref a)] (.ref a :: st) h := jq_nx (jv_insR jm_187 dX3_read_7) rfl
theorem e187_8 : jv_ev d 187 8 lc st h = jv_ev d 187 11 lc (.ref h.length :: st) (h ++ [.inr (5, [.null, .null, .null, .null, .int 0, .int 0, .int 0, .int 0, .int 0])]) := jq_new (jv_insR jm_187 dX3_read_8) jo_187 jN_5_87 rfl
theorem e187_11 : jv_ev d 187 11 lc (.ref a :: st) h = jv_ev d 187 12 lc (.ref a :: .ref a :: st) h := jq_nx (jv_insR jm_187 dX3_read_11) rfl
theorem e187_12 : jv_ev d 187 12 lc [.ref b, y0, y1] h = if jt_off ≤ b ∧ (jt_SU.contains 207 = false ∨ jv_cls h b = some 20) then ((jv_cd d 207 [.ref b] h).bind fun r => jv_on r (fun v h => jv_ev d 187 15 lc (v.toList ++ [y0, y1]) h) (fun q h => some (.inr q, h))) else none := jq_P (as := []) (rest := [y0, y1]) (jv_insR jm_187 dX3_read_12) jo_187 jP_5_95 rfl rfl rfl rfl
theorem e187_15 : jv_ev d 187 15 lc (r :: .ref a :: st) h = (jv_pf h a [(4, 2, .object "RainLoom$Text")] r).bind fun h => jv_ev d 187 18 lc st h := jq_put (jv_insR jm_187 dX3_read_15) jo_187 ji_187 jG_5_83
theorem e187_18 : jv_ev d 187 18 [some (.ref a)] st h = jv_ev d 187 19 [some (.ref a)] (.ref a :: st) h := jq_nx (jv_insR jm_187 dX3_read_18) rfl
theorem e187_19 : jv_ev d 187 19 lc st h = jv_ev d 187 20 lc (.int 0 :: st) h := jq_iconst (jv_insR jm_187 dX3_read_19) (by decide)
theorem e187_20 : jv_ev d 187 20 lc (r :: .ref a :: st) h = (jv_pf h a [(4, 3, .int)] r).bind fun h => jv_ev d 187 23 lc st h := jq_put (jv_insR jm_187 dX3_read_20) jo_187 ji_187 jG_5_31
theorem e187_23 : jv_ev d 187 23 [some (.ref a)] st h = jv_ev d 187 24 [some (.ref a)] (.ref a :: st) h := jq_nx (jv_insR jm_187 dX3_read_23) rfl
theorem e187_24 : jv_ev d 187 24 lc st h = jv_ev d 187 25 lc (.int 0 :: st) h := jq_iconst (jv_insR jm_187 dX3_read_24) (by decide)
theorem e187_25 : jv_ev d 187 25 lc (r :: .ref a :: st) h = (jv_pf h a [(4, 4, .int)] r).bind fun h => jv_ev d 187 28 lc st h := jq_put (jv_insR jm_187 dX3_read_25) jo_187 ji_187 jG_5_96
theorem e187_28 : jv_ev d 187 28 [some (.ref a)] st h = jv_ev d 187 29 [some (.ref a)] (.ref a :: st) h := jq_nx (jv_insR jm_187 dX3_read_28) rfl
theorem e187_29 : jv_ev d 187 29 lc st h = jv_ev d 187 30 lc (.int 0 :: st) h := jq_iconst (jv_insR jm_187 dX3_read_29) (by decide)
theorem e187_30 : jv_ev d 187 30 lc (r :: .ref a :: st) h = (jv_pf h a [(4, 5, .int)] r).bind fun h => jv_ev d 187 33 lc st h := jq_put (jv_insR jm_187 dX3_read_30) jo_187 ji_187 jG_5_38
theorem e187_33 : jv_ev d 187 33 [some (.ref a)] st h = jv_ev d 187 34 [some (.ref a)] (.ref a :: st) h := jq_nx (jv_insR jm_187 dX3_read_33) rfl
theorem e187_34 : jv_ev d 187 34 lc [.ref b] h = (jv_rc h b [(4, 188)]).bind fun y => (jv_cd d y [.ref b] h).bind fun r => jv_on r (fun v h => jv_ev d 187 37 lc (v.toList ++ []) h) (fun q h => some (.inr q, h)) := jq_V (as := []) (rest := []) (jv_insR jm_187 dX3_read_34) jo_187 jV_5_65 rfl rfl rfl rfl
theorem e187_37 : jv_ev d 187 37 lc st h = jv_ev d 187 38 lc (.int 4 :: st) h := jq_iconst (jv_insR jm_187 dX3_read_37) (by decide)
theorem e187_38 : jv_ev d 187 38 lc (.int w :: .int v :: st) h = if v = w then jv_ev d 187 54 lc st h else jv_ev d 187 41 lc st h := jq_if (jv_insR jm_187 dX3_read_38) rfl (by decide)
theorem e187_41 : jv_ev d 187 41 [some (.ref a)] st h = jv_ev d 187 42 [some (.ref a)] (.ref a :: st) h := jq_nx (jv_insR jm_187 dX3_read_41) rfl
theorem e187_42 : jv_ev d 187 42 lc [.ref b] h = (jv_rc h b [(4, 191)]).bind fun y => (jv_cd d y [.ref b] h).bind fun r => jv_on r (fun v h => jv_ev d 187 45 lc (v.toList ++ []) h) (fun q h => some (.inr q, h)) := jq_V (as := []) (rest := []) (jv_insR jm_187 dX3_read_42) jo_187 jV_5_99 rfl rfl rfl rfl
theorem e187_45 : jv_ev d 187 45 [some (.ref a)] st h = jv_ev d 187 46 [some (.ref a)] (.ref a :: st) h := jq_nx (jv_insR jm_187 dX3_read_45) rfl
theorem e187_46 : jv_ev d 187 46 lc st h = jv_ev d 187 48 lc (.int 59 :: st) h := jq_bipush (jv_insR jm_187 dX3_read_46) (by decide)
theorem e187_48 : jv_ev d 187 48 lc [z0, .ref b] h = (jv_rc h b [(4, 194)]).bind fun y => (jv_cd d y [.ref b, z0] h).bind fun r => jv_on r (fun v h => jv_ev d 187 51 lc (v.toList ++ []) h) (fun q h => some (.inr q, h)) := jq_V (as := [z0]) (rest := []) (jv_insR jm_187 dX3_read_48) jo_187 jV_5_102 rfl rfl rfl rfl
theorem e187_51 : jv_ev d 187 51 lc st h = jv_ev d 187 33 lc st h := jq_go (jv_insR jm_187 dX3_read_51) (by decide)
theorem e187_54 : jv_ev d 187 54 [some (.ref a)] st h = jv_ev d 187 55 [some (.ref a)] (.ref a :: st) h := jq_nx (jv_insR jm_187 dX3_read_54) rfl
theorem e187_55 : jv_ev d 187 55 lc (.ref a :: st) h = (jv_gf h a [(4, 5, .int)]).bind fun r => jv_ev d 187 58 lc (r :: st) h := jq_get (jv_insR jm_187 dX3_read_55) jo_187 jF_5_38
theorem e187_58 : jv_ev d 187 58 lc (.int v :: st) h = if v = 0 then jv_ev d 187 74 lc st h else jv_ev d 187 61 lc st h := jq_if (jv_insR jm_187 dX3_read_58) rfl (by decide)
theorem e187_61 : jv_ev d 187 61 [some (.ref a)] st h = jv_ev d 187 62 [some (.ref a)] (.ref a :: st) h := jq_nx (jv_insR jm_187 dX3_read_61) rfl
theorem e187_62 : jv_ev d 187 62 [some (.ref a)] st h = jv_ev d 187 63 [some (.ref a)] (.ref a :: st) h := jq_nx (jv_insR jm_187 dX3_read_62) rfl
theorem e187_63 : jv_ev d 187 63 lc (.ref a :: st) h = (jv_gf h a [(4, 5, .int)]).bind fun r => jv_ev d 187 66 lc (r :: st) h := jq_get (jv_insR jm_187 dX3_read_63) jo_187 jF_5_38
theorem e187_66 : jv_ev d 187 66 [some (.ref a)] st h = jv_ev d 187 67 [some (.ref a)] (.ref a :: st) h := jq_nx (jv_insR jm_187 dX3_read_66) rfl
theorem e187_67 : jv_ev d 187 67 lc (.ref a :: st) h = (jv_gf h a [(4, 6, .int)]).bind fun r => jv_ev d 187 70 lc (r :: st) h := jq_get (jv_insR jm_187 dX3_read_67) jo_187 jF_5_41
theorem e187_70 : jv_ev d 187 70 lc [z1, z0, .ref b] h = (jv_rc h b [(4, 190)]).bind fun y => (jv_cd d y [.ref b, z0, z1] h).bind fun r => jv_on r (fun v h => jv_ev d 187 73 lc (v.toList ++ []) h) (fun q h => some (.inr q, h)) := jq_V (as := [z0, z1]) (rest := []) (jv_insR jm_187 dX3_read_70) jo_187 jV_5_35 rfl rfl rfl rfl
theorem e187_73 : jv_ev d 187 73 lc (.ref a :: st) h = (jv_cls h a).bind fun ci => if jt_off ≤ a ∧ ci = jt_fault then some (.inr a, h) else none := jq_throw (jv_insR jm_187 dX3_read_73) rfl
theorem e187_74 : jv_ev d 187 74 [some (.ref a)] st h = jv_ev d 187 75 [some (.ref a)] (.ref a :: st) h := jq_nx (jv_insR jm_187 dX3_read_74) rfl
theorem e187_75 : jv_ev d 187 75 lc (.ref a :: st) h = (jv_gf h a [(4, 2, .object "RainLoom$Text")]).bind fun r => jv_ev d 187 78 lc (r :: st) h := jq_get (jv_insR jm_187 dX3_read_75) jo_187 jF_5_83
theorem e187_78 : jv_ev d 187 78 lc [.ref b] h = (jv_rc h b [(5, 210)]).bind fun y => (jv_cd d y [.ref b] h).bind fun r => jv_on r (fun v h => jv_ev d 187 81 lc (v.toList ++ []) h) (fun q h => some (.inr q, h)) := jq_V (as := []) (rest := []) (jv_insR jm_187 dX3_read_78) jo_187 jV_5_106 rfl rfl rfl rfl
theorem e187_81 : jv_ev d 187 81 lc (.int v :: st) h = if ¬ v = 0 then jv_ev d 187 95 lc st h else jv_ev d 187 84 lc st h := jq_if (jv_insR jm_187 dX3_read_81) rfl (by decide)
theorem e187_84 : jv_ev d 187 84 [some (.ref a)] st h = jv_ev d 187 85 [some (.ref a)] (.ref a :: st) h := jq_nx (jv_insR jm_187 dX3_read_84) rfl
theorem e187_85 : jv_ev d 187 85 lc st h = jv_ev d 187 87 lc (.int 6 :: st) h := jq_bipush (jv_insR jm_187 dX3_read_85) (by decide)
theorem e187_87 : jv_ev d 187 87 [some (.ref a)] st h = jv_ev d 187 88 [some (.ref a)] (.ref a :: st) h := jq_nx (jv_insR jm_187 dX3_read_87) rfl
theorem e187_88 : jv_ev d 187 88 lc (.ref a :: st) h = (jv_gf h a [(4, 3, .int)]).bind fun r => jv_ev d 187 91 lc (r :: st) h := jq_get (jv_insR jm_187 dX3_read_88) jo_187 jF_5_31
theorem e187_91 : jv_ev d 187 91 lc [z1, z0, .ref b] h = (jv_rc h b [(4, 190)]).bind fun y => (jv_cd d y [.ref b, z0, z1] h).bind fun r => jv_on r (fun v h => jv_ev d 187 94 lc (v.toList ++ []) h) (fun q h => some (.inr q, h)) := jq_V (as := [z0, z1]) (rest := []) (jv_insR jm_187 dX3_read_91) jo_187 jV_5_35 rfl rfl rfl rfl
theorem e187_94 : jv_ev d 187 94 lc (.ref a :: st) h = (jv_cls h a).bind fun ci => if jt_off ≤ a ∧ ci = jt_fault then some (.inr a, h) else none := jq_throw (jv_insR jm_187 dX3_read_94) rfl
theorem e187_95 : jv_ev d 187 95 [some (.ref a)] st h = jv_ev d 187 96 [some (.ref a)] (.ref a :: st) h := jq_nx (jv_insR jm_187 dX3_read_95) rfl
theorem e187_96 : jv_ev d 187 96 lc (.ref a :: st) h = (jv_gf h a [(4, 2, .object "RainLoom$Text")]).bind fun r => jv_ev d 187 99 lc (r :: st) h := jq_get (jv_insR jm_187 dX3_read_96) jo_187 jF_5_83
theorem e187_99 : jv_ev d 187 99 lc [.ref a] h = some (.inl (some (.ref a)), h) := jq_reta (jv_insR jm_187 dX3_read_99) jr_187 rfl
/-! 188: RainLoom$Parser.sort()I -/
theorem n188 : jv_cd (d + 1) 188 [.ref a0] h = jv_ev d 188 0 [some (.ref a0)] [] h := rfl
theorem e188_0 : jv_ev d 188 0 [some (.ref a)] st h = jv_ev d 188 1 [some (.ref a)] (.ref a :: st) h := jq_nx (jv_insR jm_188 dX3_sort_0) rfl
theorem e188_1 : jv_ev d 188 1 lc (.ref a :: st) h = (jv_gf h a [(4, 0, .object "RainLoom$Tokens")]).bind fun r => jv_ev d 188 4 lc (r :: st) h := jq_get (jv_insR jm_188 dX3_sort_1) jo_188 jF_5_9
theorem e188_4 : jv_ev d 188 4 lc (.ref a :: st) h = (jv_gf h a [(3, 3, .array .byte)]).bind fun r => jv_ev d 188 7 lc (r :: st) h := jq_get (jv_insR jm_188 dX3_sort_4) jo_188 jF_5_44
theorem e188_7 : jv_ev d 188 7 [some (.ref a)] st h = jv_ev d 188 8 [some (.ref a)] (.ref a :: st) h := jq_nx (jv_insR jm_188 dX3_sort_7) rfl
theorem e188_8 : jv_ev d 188 8 lc (.ref a :: st) h = (jv_gf h a [(4, 3, .int)]).bind fun r => jv_ev d 188 11 lc (r :: st) h := jq_get (jv_insR jm_188 dX3_sort_8) jo_188 jF_5_31
theorem e188_11 : jv_ev d 188 11 lc (.int v :: .ref a :: st) h = (jv_ig h a 1 2 v).bind fun w => jv_ev d 188 12 lc (.int w :: st) h := jq_bald (jv_insR jm_188 dX3_sort_11)
theorem e188_12 : jv_ev d 188 12 lc st h = jv_ev d 188 13 lc (.int 5 :: st) h := jq_iconst (jv_insR jm_188 dX3_sort_12) (by decide)
theorem e188_13 : jv_ev d 188 13 lc (.int w :: .int v :: st) h = if ¬ v = w then jv_ev d 188 22 lc st h else jv_ev d 188 16 lc st h := jq_if (jv_insR jm_188 dX3_sort_13) rfl (by decide)
theorem e188_16 : jv_ev d 188 16 [some (.ref a)] st h = jv_ev d 188 17 [some (.ref a)] (.ref a :: st) h := jq_nx (jv_insR jm_188 dX3_sort_16) rfl
theorem e188_17 : jv_ev d 188 17 lc st h = jv_ev d 188 18 lc (.int 1 :: st) h := jq_iconst (jv_insR jm_188 dX3_sort_17) (by decide)
theorem e188_18 : jv_ev d 188 18 lc [z0, .ref b] h = (jv_rc h b [(4, 189)]).bind fun y => (jv_cd d y [.ref b, z0] h).bind fun r => jv_on r (fun v h => jv_ev d 188 21 lc (v.toList ++ []) h) (fun q h => some (.inr q, h)) := jq_V (as := [z0]) (rest := []) (jv_insR jm_188 dX3_sort_18) jo_188 jV_5_48 rfl rfl rfl rfl
theorem e188_21 : jv_ev d 188 21 lc (.ref a :: st) h = (jv_cls h a).bind fun ci => if jt_off ≤ a ∧ ci = jt_fault then some (.inr a, h) else none := jq_throw (jv_insR jm_188 dX3_sort_21) rfl
theorem e188_22 : jv_ev d 188 22 [some (.ref a)] st h = jv_ev d 188 23 [some (.ref a)] (.ref a :: st) h := jq_nx (jv_insR jm_188 dX3_sort_22) rfl
theorem e188_23 : jv_ev d 188 23 lc (.ref a :: st) h = (jv_gf h a [(4, 0, .object "RainLoom$Tokens")]).bind fun r => jv_ev d 188 26 lc (r :: st) h := jq_get (jv_insR jm_188 dX3_sort_23) jo_188 jF_5_9
theorem e188_26 : jv_ev d 188 26 lc (.ref a :: st) h = (jv_gf h a [(3, 3, .array .byte)]).bind fun r => jv_ev d 188 29 lc (r :: st) h := jq_get (jv_insR jm_188 dX3_sort_26) jo_188 jF_5_44
theorem e188_29 : jv_ev d 188 29 [some (.ref a)] st h = jv_ev d 188 30 [some (.ref a)] (.ref a :: st) h := jq_nx (jv_insR jm_188 dX3_sort_29) rfl
theorem e188_30 : jv_ev d 188 30 lc (.ref a :: st) h = (jv_gf h a [(4, 3, .int)]).bind fun r => jv_ev d 188 33 lc (r :: st) h := jq_get (jv_insR jm_188 dX3_sort_30) jo_188 jF_5_31
theorem e188_33 : jv_ev d 188 33 lc (.int v :: .ref a :: st) h = (jv_ig h a 1 2 v).bind fun w => jv_ev d 188 34 lc (.int w :: st) h := jq_bald (jv_insR jm_188 dX3_sort_33)
theorem e188_34 : jv_ev d 188 34 lc [.int v] h = some (.inl (some (.int v)), h) := jq_reti (jv_insR jm_188 dX3_sort_34) jr_188
/-! 189: RainLoom$Parser.wrong(I)LRainLoom$Fault; -/
theorem n189 : jv_cd (d + 1) 189 [.ref a0, .int i1] h = jv_ev d 189 0 [some (.ref a0), some (.int i1)] [] h := rfl
theorem e189_0 : jv_ev d 189 0 [some (.ref a), x1] st h = jv_ev d 189 1 [some (.ref a), x1] (.ref a :: st) h := jq_nx (jv_insR jm_189 dX3_wrong_0) rfl
theorem e189_1 : jv_ev d 189 1 [x0, some (.int v)] st h = jv_ev d 189 2 [x0, some (.int v)] (.int v :: st) h := jq_nx (jv_insR jm_189 dX3_wrong_1) rfl
theorem e189_2 : jv_ev d 189 2 [some (.ref a), x1] st h = jv_ev d 189 3 [some (.ref a), x1] (.ref a :: st) h := jq_nx (jv_insR jm_189 dX3_wrong_2) rfl
theorem e189_3 : jv_ev d 189 3 lc (.ref a :: st) h = (jv_gf h a [(4, 3, .int)]).bind fun r => jv_ev d 189 6 lc (r :: st) h := jq_get (jv_insR jm_189 dX3_wrong_3) jo_189 jF_5_31
theorem e189_6 : jv_ev d 189 6 lc [z1, z0, .ref b] h = (jv_rc h b [(4, 190)]).bind fun y => (jv_cd d y [.ref b, z0, z1] h).bind fun r => jv_on r (fun v h => jv_ev d 189 9 lc (v.toList ++ []) h) (fun q h => some (.inr q, h)) := jq_V (as := [z0, z1]) (rest := []) (jv_insR jm_189 dX3_wrong_6) jo_189 jV_5_35 rfl rfl rfl rfl
theorem e189_9 : jv_ev d 189 9 lc [.ref a] h = some (.inl (some (.ref a)), h) := jq_reta (jv_insR jm_189 dX3_wrong_9) jr_189 rfl
/-! 190: RainLoom$Parser.wrongAt(II)LRainLoom$Fault; -/
theorem n190 : jv_cd (d + 1) 190 [.ref a0, .int i1, .int i2] h = jv_ev d 190 0 [some (.ref a0), some (.int i1), some (.int i2)] [] h := rfl
theorem e190_0 : jv_ev d 190 0 [some (.ref a), x1, x2] st h = jv_ev d 190 1 [some (.ref a), x1, x2] (.ref a :: st) h := jq_nx (jv_insR jm_190 dX3_wrongAt_0) rfl
theorem e190_1 : jv_ev d 190 1 lc (.ref a :: st) h = (jv_gf h a [(4, 1, .object "RainLoom$Fault")]).bind fun r => jv_ev d 190 4 lc (r :: st) h := jq_get (jv_insR jm_190 dX3_wrongAt_1) jo_190 jF_5_15
theorem e190_4 : jv_ev d 190 4 [x0, some (.int v), x2] st h = jv_ev d 190 5 [x0, some (.int v), x2] (.int v :: st) h := jq_nx (jv_insR jm_190 dX3_wrongAt_4) rfl
theorem e190_5 : jv_ev d 190 5 [some (.ref a), x1, x2] st h = jv_ev d 190 6 [some (.ref a), x1, x2] (.ref a :: st) h := jq_nx (jv_insR jm_190 dX3_wrongAt_5) rfl
theorem e190_6 : jv_ev d 190 6 lc (.ref a :: st) h = (jv_gf h a [(4, 0, .object "RainLoom$Tokens")]).bind fun r => jv_ev d 190 9 lc (r :: st) h := jq_get (jv_insR jm_190 dX3_wrongAt_6) jo_190 jF_5_9
theorem e190_9 : jv_ev d 190 9 lc (.ref a :: st) h = (jv_gf h a [(3, 4, .array .short)]).bind fun r => jv_ev d 190 12 lc (r :: st) h := jq_get (jv_insR jm_190 dX3_wrongAt_9) jo_190 jF_5_19
theorem e190_12 : jv_ev d 190 12 [x0, x1, some (.int v)] st h = jv_ev d 190 13 [x0, x1, some (.int v)] (.int v :: st) h := jq_nx (jv_insR jm_190 dX3_wrongAt_12) rfl
theorem e190_13 : jv_ev d 190 13 lc (.int v :: .ref a :: st) h = (jv_ig h a 3 3 v).bind fun w => jv_ev d 190 14 lc (.int w :: st) h := jq_sald (jv_insR jm_190 dX3_wrongAt_13)
theorem e190_14 : jv_ev d 190 14 lc [z1, z0, .ref b] h = (jv_rc h b [(2, 175)]).bind fun y => (jv_cd d y [.ref b, z0, z1] h).bind fun r => jv_on r (fun v h => jv_ev d 190 17 lc (v.toList ++ []) h) (fun q h => some (.inr q, h)) := jq_V (as := [z0, z1]) (rest := []) (jv_insR jm_190 dX3_wrongAt_14) jo_190 jV_5_25 rfl rfl rfl rfl
theorem e190_17 : jv_ev d 190 17 lc [.ref a] h = some (.inl (some (.ref a)), h) := jq_reta (jv_insR jm_190 dX3_wrongAt_17) jr_190 rfl
/-! 191: RainLoom$Parser.told()V -/
theorem n191 : jv_cd (d + 1) 191 [.ref a0] h = jv_ev d 191 0 [some (.ref a0), none, none] [] h := rfl
theorem e191_0 : jv_ev d 191 0 [some (.ref a), x1, x2] st h = jv_ev d 191 1 [some (.ref a), x1, x2] (.ref a :: st) h := jq_nx (jv_insR jm_191 dX3_told_0) rfl
theorem e191_1 : jv_ev d 191 1 lc [.ref b] h = (jv_rc h b [(4, 188)]).bind fun y => (jv_cd d y [.ref b] h).bind fun r => jv_on r (fun v h => jv_ev d 191 4 lc (v.toList ++ []) h) (fun q h => some (.inr q, h)) := jq_V (as := []) (rest := []) (jv_insR jm_191 dX3_told_1) jo_191 jV_5_65 rfl rfl rfl rfl
theorem e191_4 : jv_ev d 191 4 lc st h = jv_ev d 191 5 lc (.int 3 :: st) h := jq_iconst (jv_insR jm_191 dX3_told_4) (by decide)
theorem e191_5 : jv_ev d 191 5 lc (.int w :: .int v :: st) h = if ¬ v = w then jv_ev d 191 23 lc st h else jv_ev d 191 8 lc st h := jq_if (jv_insR jm_191 dX3_told_5) rfl (by decide)
theorem e191_8 : jv_ev d 191 8 [some (.ref a), x1, x2] st h = jv_ev d 191 9 [some (.ref a), x1, x2] (.ref a :: st) h := jq_nx (jv_insR jm_191 dX3_told_8) rfl
theorem e191_9 : jv_ev d 191 9 lc (.ref a :: st) h = (jv_gf h a [(4, 0, .object "RainLoom$Tokens")]).bind fun r => jv_ev d 191 12 lc (r :: st) h := jq_get (jv_insR jm_191 dX3_told_9) jo_191 jF_5_9
theorem e191_12 : jv_ev d 191 12 lc (.ref a :: st) h = (jv_gf h a [(3, 6, .array .short)]).bind fun r => jv_ev d 191 15 lc (r :: st) h := jq_get (jv_insR jm_191 dX3_told_12) jo_191 jF_5_52
theorem e191_15 : jv_ev d 191 15 [some (.ref a), x1, x2] st h = jv_ev d 191 16 [some (.ref a), x1, x2] (.ref a :: st) h := jq_nx (jv_insR jm_191 dX3_told_15) rfl
theorem e191_16 : jv_ev d 191 16 lc (.ref a :: st) h = (jv_gf h a [(4, 3, .int)]).bind fun r => jv_ev d 191 19 lc (r :: st) h := jq_get (jv_insR jm_191 dX3_told_16) jo_191 jF_5_31
theorem e191_19 : jv_ev d 191 19 lc (.int v :: .ref a :: st) h = (jv_ig h a 3 3 v).bind fun w => jv_ev d 191 20 lc (.int w :: st) h := jq_sald (jv_insR jm_191 dX3_told_19)
theorem e191_20 : jv_ev d 191 20 lc st h = jv_ev d 191 24 lc st h := jq_go (jv_insR jm_191 dX3_told_20) (by decide)
theorem e191_23 : jv_ev d 191 23 lc st h = jv_ev d 191 24 lc (.int (-1) :: st) h := jq_iconst (jv_insR jm_191 dX3_told_23) (by decide)
theorem e191_24 : jv_ev d 191 24 [x0, x1, x2] (.int v :: st) h = jv_ev d 191 25 [x0, some (.int v), x2] st h := jq_nx (jv_insR jm_191 dX3_told_24) rfl
theorem e191_25 : jv_ev d 191 25 [x0, some (.int v), x2] st h = jv_ev d 191 26 [x0, some (.int v), x2] (.int v :: st) h := jq_nx (jv_insR jm_191 dX3_told_25) rfl
theorem e191_26 : jv_ev d 191 26 lc st h = jv_ev d 191 27 lc (.int 3 :: st) h := jq_iconst (jv_insR jm_191 dX3_told_26) (by decide)
theorem e191_27 : jv_ev d 191 27 lc (.int w :: .int v :: st) h = if v < w then jv_ev d 191 55 lc st h else jv_ev d 191 30 lc st h := jq_if (jv_insR jm_191 dX3_told_27) rfl (by decide)
theorem e191_30 : jv_ev d 191 30 [x0, some (.int v), x2] st h = jv_ev d 191 31 [x0, some (.int v), x2] (.int v :: st) h := jq_nx (jv_insR jm_191 dX3_told_30) rfl
theorem e191_31 : jv_ev d 191 31 lc st h = jv_ev d 191 32 lc (.int 5 :: st) h := jq_iconst (jv_insR jm_191 dX3_told_31) (by decide)
theorem e191_32 : jv_ev d 191 32 lc (.int w :: .int v :: st) h = if w < v then jv_ev d 191 55 lc st h else jv_ev d 191 35 lc st h := jq_if (jv_insR jm_191 dX3_told_32) rfl (by decide)
theorem e191_35 : jv_ev d 191 35 [some (.ref a), x1, x2] st h = jv_ev d 191 36 [some (.ref a), x1, x2] (.ref a :: st) h := jq_nx (jv_insR jm_191 dX3_told_35) rfl
theorem e191_36 : jv_ev d 191 36 lc [.ref b] h = (jv_rc h b [(4, 192)]).bind fun y => (jv_cd d y [.ref b] h).bind fun r => jv_on r (fun v h => jv_ev d 191 39 lc (v.toList ++ []) h) (fun q h => some (.inr q, h)) := jq_V (as := []) (rest := []) (jv_insR jm_191 dX3_told_36) jo_191 jV_5_59 rfl rfl rfl rfl
theorem e191_39 : jv_ev d 191 39 [some (.ref a), x1, x2] st h = jv_ev d 191 40 [some (.ref a), x1, x2] (.ref a :: st) h := jq_nx (jv_insR jm_191 dX3_told_39) rfl
theorem e191_40 : jv_ev d 191 40 lc (.ref a :: st) h = (jv_gf h a [(4, 2, .object "RainLoom$Text")]).bind fun r => jv_ev d 191 43 lc (r :: st) h := jq_get (jv_insR jm_191 dX3_told_40) jo_191 jF_5_83
theorem e191_43 : jv_ev d 191 43 lc (.ref a :: st) h = (jv_gf h a [(5, 3, .array (.object "RainLoom$Law"))]).bind fun r => jv_ev d 191 46 lc (r :: st) h := jq_get (jv_insR jm_191 dX3_told_43) jo_191 jF_5_110
theorem e191_46 : jv_ev d 191 46 [x0, some (.int v), x2] st h = jv_ev d 191 47 [x0, some (.int v), x2] (.int v :: st) h := jq_nx (jv_insR jm_191 dX3_told_46) rfl
theorem e191_47 : jv_ev d 191 47 lc st h = jv_ev d 191 48 lc (.int 3 :: st) h := jq_iconst (jv_insR jm_191 dX3_told_47) (by decide)
theorem e191_48 : jv_ev d 191 48 lc (.int w :: .int v :: st) h = jv_ev d 191 49 lc (.int (v - w) :: st) h := jq_nx (jv_insR jm_191 dX3_told_48) rfl
theorem e191_49 : jv_ev d 191 49 [some (.ref a), x1, x2] st h = jv_ev d 191 50 [some (.ref a), x1, x2] (.ref a :: st) h := jq_nx (jv_insR jm_191 dX3_told_49) rfl
theorem e191_50 : jv_ev d 191 50 lc [.ref b, y0, y1] h = (jv_rc h b [(4, 193)]).bind fun y => (jv_cd d y [.ref b] h).bind fun r => jv_on r (fun v h => jv_ev d 191 53 lc (v.toList ++ [y0, y1]) h) (fun q h => some (.inr q, h)) := jq_V (as := []) (rest := [y0, y1]) (jv_insR jm_191 dX3_told_50) jo_191 jV_5_114 rfl rfl rfl rfl
theorem e191_53 : jv_ev d 191 53 lc (.ref b :: .int v :: .ref a :: st) h = (jv_rp h a v b).bind fun h => jv_ev d 191 54 lc st h := jq_aast (jv_insR jm_191 dX3_told_53)
theorem e191_54 : jv_ev d 191 54 lc [] h = some (.inl none, h) := jq_retv (jv_insR jm_191 dX3_told_54) jr_191
theorem e191_55 : jv_ev d 191 55 [x0, some (.int v), x2] st h = jv_ev d 191 56 [x0, some (.int v), x2] (.int v :: st) h := jq_nx (jv_insR jm_191 dX3_told_55) rfl
theorem e191_56 : jv_ev d 191 56 lc (.int v :: st) h = jv_tsl (fun t => jv_ev d 191 t lc st h) v [(0, 108), (1, 115), (2, 181), (3, 310), (4, 310), (5, 310), (6, 245), (7, 267), (8, 288)] 310 := jq_ts (jv_insR jm_191 dX3_told_56) [(0, 108), (1, 115), (2, 181), (3, 310), (4, 310), (5, 310), (6, 245), (7, 267), (8, 288)] 310 (by decide) (by decide) (by decide) (by decide)
theorem e191_108 : jv_ev d 191 108 [some (.ref a), x1, x2] st h = jv_ev d 191 109 [some (.ref a), x1, x2] (.ref a :: st) h := jq_nx (jv_insR jm_191 dX3_told_108) rfl
theorem e191_109 : jv_ev d 191 109 lc [.ref b] h = (jv_rc h b [(4, 202)]).bind fun y => (jv_cd d y [.ref b] h).bind fun r => jv_on r (fun v h => jv_ev d 191 112 lc (v.toList ++ []) h) (fun q h => some (.inr q, h)) := jq_V (as := []) (rest := []) (jv_insR jm_191 dX3_told_109) jo_191 jV_5_118 rfl rfl rfl rfl
theorem e191_112 : jv_ev d 191 112 lc st h = jv_ev d 191 316 lc st h := jq_go (jv_insR jm_191 dX3_told_112) (by decide)
theorem e191_115 : jv_ev d 191 115 [some (.ref a), x1, x2] st h = jv_ev d 191 116 [some (.ref a), x1, x2] (.ref a :: st) h := jq_nx (jv_insR jm_191 dX3_told_115) rfl
theorem e191_116 : jv_ev d 191 116 [some (.ref a), x1, x2] st h = jv_ev d 191 117 [some (.ref a), x1, x2] (.ref a :: st) h := jq_nx (jv_insR jm_191 dX3_told_116) rfl
theorem e191_117 : jv_ev d 191 117 lc (.ref a :: st) h = (jv_gf h a [(4, 2, .object "RainLoom$Text")]).bind fun r => jv_ev d 191 120 lc (r :: st) h := jq_get (jv_insR jm_191 dX3_told_117) jo_191 jF_5_83
theorem e191_120 : jv_ev d 191 120 lc (.ref a :: st) h = (jv_gf h a [(5, 1, .object "java/util/ArrayList")]).bind fun r => jv_ev d 191 123 lc (r :: st) h := jq_get (jv_insR jm_191 dX3_told_120) jo_191 jF_5_121
theorem e191_123 : jv_ev d 191 123 lc [.ref b, y0] h = (jv_rc h b [(18, 258)]).bind fun y => (jv_cd d y [.ref b] h).bind fun r => jv_on r (fun v h => jv_ev d 191 126 lc (v.toList ++ [y0]) h) (fun q h => some (.inr q, h)) := jq_V (as := []) (rest := [y0]) (jv_insR jm_191 dX3_told_123) jo_191 jV_5_125 rfl rfl rfl rfl
theorem e191_126 : jv_ev d 191 126 lc st h = jv_ev d 191 128 lc (.int 6 :: st) h := jq_bipush (jv_insR jm_191 dX3_told_126) (by decide)
theorem e191_128 : jv_ev d 191 128 lc [z1, z0, .ref b] h = (jv_rc h b [(4, 197)]).bind fun y => (jv_cd d y [.ref b, z0, z1] h).bind fun r => jv_on r (fun v h => jv_ev d 191 131 lc (v.toList ++ []) h) (fun q h => some (.inr q, h)) := jq_V (as := [z0, z1]) (rest := []) (jv_insR jm_191 dX3_told_128) jo_191 jV_5_130 rfl rfl rfl rfl
theorem e191_131 : jv_ev d 191 131 lc st h = jv_ev d 191 134 lc (.ref h.length :: st) (h ++ [.inr (16, [.null, .int 0, .int 0])]) := jq_new (jv_insR jm_191 dX3_told_131) jo_191 jN_5_133 rfl
theorem e191_134 : jv_ev d 191 134 lc (.ref a :: st) h = jv_ev d 191 135 lc (.ref a :: .ref a :: st) h := jq_nx (jv_insR jm_191 dX3_told_134) rfl
theorem e191_135 : jv_ev d 191 135 [some (.ref a), x1, x2] st h = jv_ev d 191 136 [some (.ref a), x1, x2] (.ref a :: st) h := jq_nx (jv_insR jm_191 dX3_told_135) rfl
theorem e191_136 : jv_ev d 191 136 lc [.ref b, y0, y1] h = (jv_rc h b [(4, 205)]).bind fun y => (jv_cd d y [.ref b] h).bind fun r => jv_on r (fun v h => jv_ev d 191 139 lc (v.toList ++ [y0, y1]) h) (fun q h => some (.inr q, h)) := jq_V (as := []) (rest := [y0, y1]) (jv_insR jm_191 dX3_told_136) jo_191 jV_5_135 rfl rfl rfl rfl
theorem e191_139 : jv_ev d 191 139 lc [z0, .ref b, y0] h = if jt_off ≤ b ∧ (jt_SU.contains 249 = false ∨ jv_cls h b = some 20) then ((jv_cd d 249 [.ref b, z0] h).bind fun r => jv_on r (fun v h => jv_ev d 191 142 lc (v.toList ++ [y0]) h) (fun q h => some (.inr q, h))) else none := jq_P (as := [z0]) (rest := [y0]) (jv_insR jm_191 dX3_told_139) jo_191 jP_5_139 rfl rfl rfl rfl
theorem e191_142 : jv_ev d 191 142 [x0, x1, x2] (.ref a :: st) h = jv_ev d 191 143 [x0, x1, some (.ref a)] st h := jq_nx (jv_insR jm_191 dX3_told_142) rfl
theorem e191_143 : jv_ev d 191 143 [x0, x1, some (.ref a)] st h = jv_ev d 191 144 [x0, x1, some (.ref a)] (.ref a :: st) h := jq_nx (jv_insR jm_191 dX3_told_143) rfl
theorem e191_144 : jv_ev d 191 144 [some (.ref a), x1, x2] st h = jv_ev d 191 145 [some (.ref a), x1, x2] (.ref a :: st) h := jq_nx (jv_insR jm_191 dX3_told_144) rfl
theorem e191_145 : jv_ev d 191 145 lc st h = jv_ev d 191 146 lc (.int 0 :: st) h := jq_iconst (jv_insR jm_191 dX3_told_145) (by decide)
theorem e191_146 : jv_ev d 191 146 lc st h = jv_ev d 191 148 lc (.int 99 :: st) h := jq_bipush (jv_insR jm_191 dX3_told_146) (by decide)
theorem e191_148 : jv_ev d 191 148 lc [z1, z0, .ref b, y0] h = (jv_rc h b [(4, 206)]).bind fun y => (jv_cd d y [.ref b, z0, z1] h).bind fun r => jv_on r (fun v h => jv_ev d 191 151 lc (v.toList ++ [y0]) h) (fun q h => some (.inr q, h)) := jq_V (as := [z0, z1]) (rest := [y0]) (jv_insR jm_191 dX3_told_148) jo_191 jV_5_142 rfl rfl rfl rfl
theorem e191_151 : jv_ev d 191 151 lc (r :: .ref a :: st) h = (jv_pf h a [(16, 1, .int)] r).bind fun h => jv_ev d 191 154 lc st h := jq_put (jv_insR jm_191 dX3_told_151) jo_191 ji_191 jG_5_145
theorem e191_154 : jv_ev d 191 154 [x0, x1, some (.ref a)] st h = jv_ev d 191 155 [x0, x1, some (.ref a)] (.ref a :: st) h := jq_nx (jv_insR jm_191 dX3_told_154) rfl
theorem e191_155 : jv_ev d 191 155 [some (.ref a), x1, x2] st h = jv_ev d 191 156 [some (.ref a), x1, x2] (.ref a :: st) h := jq_nx (jv_insR jm_191 dX3_told_155) rfl
theorem e191_156 : jv_ev d 191 156 lc st h = jv_ev d 191 157 lc (.int 0 :: st) h := jq_iconst (jv_insR jm_191 dX3_told_156) (by decide)
theorem e191_157 : jv_ev d 191 157 lc st h = jv_ev d 191 160 lc (.int 999 :: st) h := jq_sipush (jv_insR jm_191 dX3_told_157) (by decide)
theorem e191_160 : jv_ev d 191 160 lc [z1, z0, .ref b, y0] h = (jv_rc h b [(4, 206)]).bind fun y => (jv_cd d y [.ref b, z0, z1] h).bind fun r => jv_on r (fun v h => jv_ev d 191 163 lc (v.toList ++ [y0]) h) (fun q h => some (.inr q, h)) := jq_V (as := [z0, z1]) (rest := [y0]) (jv_insR jm_191 dX3_told_160) jo_191 jV_5_142 rfl rfl rfl rfl
theorem e191_163 : jv_ev d 191 163 lc (r :: .ref a :: st) h = (jv_pf h a [(16, 2, .int)] r).bind fun h => jv_ev d 191 166 lc st h := jq_put (jv_insR jm_191 dX3_told_163) jo_191 ji_191 jG_5_148
theorem e191_166 : jv_ev d 191 166 [some (.ref a), x1, x2] st h = jv_ev d 191 167 [some (.ref a), x1, x2] (.ref a :: st) h := jq_nx (jv_insR jm_191 dX3_told_166) rfl
theorem e191_167 : jv_ev d 191 167 lc (.ref a :: st) h = (jv_gf h a [(4, 2, .object "RainLoom$Text")]).bind fun r => jv_ev d 191 170 lc (r :: st) h := jq_get (jv_insR jm_191 dX3_told_167) jo_191 jF_5_83
theorem e191_170 : jv_ev d 191 170 lc (.ref a :: st) h = (jv_gf h a [(5, 1, .object "java/util/ArrayList")]).bind fun r => jv_ev d 191 173 lc (r :: st) h := jq_get (jv_insR jm_191 dX3_told_170) jo_191 jF_5_121
theorem e191_173 : jv_ev d 191 173 [x0, x1, some (.ref a)] st h = jv_ev d 191 174 [x0, x1, some (.ref a)] (.ref a :: st) h := jq_nx (jv_insR jm_191 dX3_told_173) rfl
theorem e191_174 : jv_ev d 191 174 lc [z0, .ref b] h = (jv_rc h b [(18, 261)]).bind fun y => (jv_cd d y [.ref b, z0] h).bind fun r => jv_on r (fun v h => jv_ev d 191 177 lc (v.toList ++ []) h) (fun q h => some (.inr q, h)) := jq_V (as := [z0]) (rest := []) (jv_insR jm_191 dX3_told_174) jo_191 jV_5_151 rfl rfl rfl rfl
theorem e191_177 : jv_ev d 191 177 lc (.int v :: st) h = jv_ev d 191 178 lc st h := jq_nx (jv_insR jm_191 dX3_told_177) rfl
theorem e191_178 : jv_ev d 191 178 lc st h = jv_ev d 191 316 lc st h := jq_go (jv_insR jm_191 dX3_told_178) (by decide)
theorem e191_181 : jv_ev d 191 181 [some (.ref a), x1, x2] st h = jv_ev d 191 182 [some (.ref a), x1, x2] (.ref a :: st) h := jq_nx (jv_insR jm_191 dX3_told_181) rfl
theorem e191_182 : jv_ev d 191 182 [some (.ref a), x1, x2] st h = jv_ev d 191 183 [some (.ref a), x1, x2] (.ref a :: st) h := jq_nx (jv_insR jm_191 dX3_told_182) rfl
theorem e191_183 : jv_ev d 191 183 lc (.ref a :: st) h = (jv_gf h a [(4, 2, .object "RainLoom$Text")]).bind fun r => jv_ev d 191 186 lc (r :: st) h := jq_get (jv_insR jm_191 dX3_told_183) jo_191 jF_5_83
theorem e191_186 : jv_ev d 191 186 lc (.ref a :: st) h = (jv_gf h a [(5, 2, .object "java/util/ArrayList")]).bind fun r => jv_ev d 191 189 lc (r :: st) h := jq_get (jv_insR jm_191 dX3_told_186) jo_191 jF_5_155
theorem e191_189 : jv_ev d 191 189 lc [.ref b, y0] h = (jv_rc h b [(18, 258)]).bind fun y => (jv_cd d y [.ref b] h).bind fun r => jv_on r (fun v h => jv_ev d 191 192 lc (v.toList ++ [y0]) h) (fun q h => some (.inr q, h)) := jq_V (as := []) (rest := [y0]) (jv_insR jm_191 dX3_told_189) jo_191 jV_5_125 rfl rfl rfl rfl
theorem e191_192 : jv_ev d 191 192 lc st h = jv_ev d 191 193 lc (.int 4 :: st) h := jq_iconst (jv_insR jm_191 dX3_told_192) (by decide)
theorem e191_193 : jv_ev d 191 193 lc [z1, z0, .ref b] h = (jv_rc h b [(4, 197)]).bind fun y => (jv_cd d y [.ref b, z0, z1] h).bind fun r => jv_on r (fun v h => jv_ev d 191 196 lc (v.toList ++ []) h) (fun q h => some (.inr q, h)) := jq_V (as := [z0, z1]) (rest := []) (jv_insR jm_191 dX3_told_193) jo_191 jV_5_130 rfl rfl rfl rfl
theorem e191_196 : jv_ev d 191 196 lc st h = jv_ev d 191 199 lc (.ref h.length :: st) (h ++ [.inr (17, [.null, .int 0, .int 0])]) := jq_new (jv_insR jm_191 dX3_told_196) jo_191 jN_5_158 rfl
theorem e191_199 : jv_ev d 191 199 lc (.ref a :: st) h = jv_ev d 191 200 lc (.ref a :: .ref a :: st) h := jq_nx (jv_insR jm_191 dX3_told_199) rfl
theorem e191_200 : jv_ev d 191 200 [some (.ref a), x1, x2] st h = jv_ev d 191 201 [some (.ref a), x1, x2] (.ref a :: st) h := jq_nx (jv_insR jm_191 dX3_told_200) rfl
theorem e191_201 : jv_ev d 191 201 lc [.ref b, y0, y1] h = (jv_rc h b [(4, 205)]).bind fun y => (jv_cd d y [.ref b] h).bind fun r => jv_on r (fun v h => jv_ev d 191 204 lc (v.toList ++ [y0, y1]) h) (fun q h => some (.inr q, h)) := jq_V (as := []) (rest := [y0, y1]) (jv_insR jm_191 dX3_told_201) jo_191 jV_5_135 rfl rfl rfl rfl
theorem e191_204 : jv_ev d 191 204 lc [z0, .ref b, y0] h = if jt_off ≤ b ∧ (jt_SU.contains 250 = false ∨ jv_cls h b = some 20) then ((jv_cd d 250 [.ref b, z0] h).bind fun r => jv_on r (fun v h => jv_ev d 191 207 lc (v.toList ++ [y0]) h) (fun q h => some (.inr q, h))) else none := jq_P (as := [z0]) (rest := [y0]) (jv_insR jm_191 dX3_told_204) jo_191 jP_5_160 rfl rfl rfl rfl
theorem e191_207 : jv_ev d 191 207 [x0, x1, x2] (.ref a :: st) h = jv_ev d 191 208 [x0, x1, some (.ref a)] st h := jq_nx (jv_insR jm_191 dX3_told_207) rfl
theorem e191_208 : jv_ev d 191 208 [x0, x1, some (.ref a)] st h = jv_ev d 191 209 [x0, x1, some (.ref a)] (.ref a :: st) h := jq_nx (jv_insR jm_191 dX3_told_208) rfl
theorem e191_209 : jv_ev d 191 209 [some (.ref a), x1, x2] st h = jv_ev d 191 210 [some (.ref a), x1, x2] (.ref a :: st) h := jq_nx (jv_insR jm_191 dX3_told_209) rfl
theorem e191_210 : jv_ev d 191 210 lc st h = jv_ev d 191 211 lc (.int 1 :: st) h := jq_iconst (jv_insR jm_191 dX3_told_210) (by decide)
theorem e191_211 : jv_ev d 191 211 lc st h = jv_ev d 191 213 lc (.int 8 :: st) h := jq_bipush (jv_insR jm_191 dX3_told_211) (by decide)
theorem e191_213 : jv_ev d 191 213 lc [z1, z0, .ref b, y0] h = (jv_rc h b [(4, 206)]).bind fun y => (jv_cd d y [.ref b, z0, z1] h).bind fun r => jv_on r (fun v h => jv_ev d 191 216 lc (v.toList ++ [y0]) h) (fun q h => some (.inr q, h)) := jq_V (as := [z0, z1]) (rest := [y0]) (jv_insR jm_191 dX3_told_213) jo_191 jV_5_142 rfl rfl rfl rfl
theorem e191_216 : jv_ev d 191 216 lc (r :: .ref a :: st) h = (jv_pf h a [(17, 1, .int)] r).bind fun h => jv_ev d 191 219 lc st h := jq_put (jv_insR jm_191 dX3_told_216) jo_191 ji_191 jG_5_161
theorem e191_219 : jv_ev d 191 219 [x0, x1, some (.ref a)] st h = jv_ev d 191 220 [x0, x1, some (.ref a)] (.ref a :: st) h := jq_nx (jv_insR jm_191 dX3_told_219) rfl
theorem e191_220 : jv_ev d 191 220 [some (.ref a), x1, x2] st h = jv_ev d 191 221 [some (.ref a), x1, x2] (.ref a :: st) h := jq_nx (jv_insR jm_191 dX3_told_220) rfl
theorem e191_221 : jv_ev d 191 221 lc st h = jv_ev d 191 222 lc (.int 0 :: st) h := jq_iconst (jv_insR jm_191 dX3_told_221) (by decide)
theorem e191_222 : jv_ev d 191 222 lc st h = jv_ev d 191 224 lc (.int 99 :: st) h := jq_bipush (jv_insR jm_191 dX3_told_222) (by decide)
theorem e191_224 : jv_ev d 191 224 lc [z1, z0, .ref b, y0] h = (jv_rc h b [(4, 206)]).bind fun y => (jv_cd d y [.ref b, z0, z1] h).bind fun r => jv_on r (fun v h => jv_ev d 191 227 lc (v.toList ++ [y0]) h) (fun q h => some (.inr q, h)) := jq_V (as := [z0, z1]) (rest := [y0]) (jv_insR jm_191 dX3_told_224) jo_191 jV_5_142 rfl rfl rfl rfl
theorem e191_227 : jv_ev d 191 227 lc (r :: .ref a :: st) h = (jv_pf h a [(17, 2, .int)] r).bind fun h => jv_ev d 191 230 lc st h := jq_put (jv_insR jm_191 dX3_told_227) jo_191 ji_191 jG_5_164
theorem e191_230 : jv_ev d 191 230 [some (.ref a), x1, x2] st h = jv_ev d 191 231 [some (.ref a), x1, x2] (.ref a :: st) h := jq_nx (jv_insR jm_191 dX3_told_230) rfl
theorem e191_231 : jv_ev d 191 231 lc (.ref a :: st) h = (jv_gf h a [(4, 2, .object "RainLoom$Text")]).bind fun r => jv_ev d 191 234 lc (r :: st) h := jq_get (jv_insR jm_191 dX3_told_231) jo_191 jF_5_83
theorem e191_234 : jv_ev d 191 234 lc (.ref a :: st) h = (jv_gf h a [(5, 2, .object "java/util/ArrayList")]).bind fun r => jv_ev d 191 237 lc (r :: st) h := jq_get (jv_insR jm_191 dX3_told_234) jo_191 jF_5_155
theorem e191_237 : jv_ev d 191 237 [x0, x1, some (.ref a)] st h = jv_ev d 191 238 [x0, x1, some (.ref a)] (.ref a :: st) h := jq_nx (jv_insR jm_191 dX3_told_237) rfl
theorem e191_238 : jv_ev d 191 238 lc [z0, .ref b] h = (jv_rc h b [(18, 261)]).bind fun y => (jv_cd d y [.ref b, z0] h).bind fun r => jv_on r (fun v h => jv_ev d 191 241 lc (v.toList ++ []) h) (fun q h => some (.inr q, h)) := jq_V (as := [z0]) (rest := []) (jv_insR jm_191 dX3_told_238) jo_191 jV_5_151 rfl rfl rfl rfl
theorem e191_241 : jv_ev d 191 241 lc (.int v :: st) h = jv_ev d 191 242 lc st h := jq_nx (jv_insR jm_191 dX3_told_241) rfl
theorem e191_242 : jv_ev d 191 242 lc st h = jv_ev d 191 316 lc st h := jq_go (jv_insR jm_191 dX3_told_242) (by decide)
theorem e191_245 : jv_ev d 191 245 [some (.ref a), x1, x2] st h = jv_ev d 191 246 [some (.ref a), x1, x2] (.ref a :: st) h := jq_nx (jv_insR jm_191 dX3_told_245) rfl
theorem e191_246 : jv_ev d 191 246 lc [.ref b] h = (jv_rc h b [(4, 192)]).bind fun y => (jv_cd d y [.ref b] h).bind fun r => jv_on r (fun v h => jv_ev d 191 249 lc (v.toList ++ []) h) (fun q h => some (.inr q, h)) := jq_V (as := []) (rest := []) (jv_insR jm_191 dX3_told_246) jo_191 jV_5_59 rfl rfl rfl rfl
theorem e191_249 : jv_ev d 191 249 [some (.ref a), x1, x2] st h = jv_ev d 191 250 [some (.ref a), x1, x2] (.ref a :: st) h := jq_nx (jv_insR jm_191 dX3_told_249) rfl
theorem e191_250 : jv_ev d 191 250 lc (.ref a :: st) h = (jv_gf h a [(4, 2, .object "RainLoom$Text")]).bind fun r => jv_ev d 191 253 lc (r :: st) h := jq_get (jv_insR jm_191 dX3_told_250) jo_191 jF_5_83
theorem e191_253 : jv_ev d 191 253 [some (.ref a), x1, x2] st h = jv_ev d 191 254 [some (.ref a), x1, x2] (.ref a :: st) h := jq_nx (jv_insR jm_191 dX3_told_253) rfl
theorem e191_254 : jv_ev d 191 254 lc st h = jv_ev d 191 255 lc (.int 0 :: st) h := jq_iconst (jv_insR jm_191 dX3_told_254) (by decide)
theorem e191_255 : jv_ev d 191 255 lc st h = jv_ev d 191 258 lc (.int 9999 :: st) h := jq_sipush (jv_insR jm_191 dX3_told_255) (by decide)
theorem e191_258 : jv_ev d 191 258 lc [z1, z0, .ref b, y0] h = (jv_rc h b [(4, 206)]).bind fun y => (jv_cd d y [.ref b, z0, z1] h).bind fun r => jv_on r (fun v h => jv_ev d 191 261 lc (v.toList ++ [y0]) h) (fun q h => some (.inr q, h)) := jq_V (as := [z0, z1]) (rest := [y0]) (jv_insR jm_191 dX3_told_258) jo_191 jV_5_142 rfl rfl rfl rfl
theorem e191_261 : jv_ev d 191 261 lc (r :: .ref a :: st) h = (jv_pf h a [(5, 6, .int)] r).bind fun h => jv_ev d 191 264 lc st h := jq_put (jv_insR jm_191 dX3_told_261) jo_191 ji_191 jG_5_167
theorem e191_264 : jv_ev d 191 264 lc st h = jv_ev d 191 316 lc st h := jq_go (jv_insR jm_191 dX3_told_264) (by decide)
theorem e191_267 : jv_ev d 191 267 [some (.ref a), x1, x2] st h = jv_ev d 191 268 [some (.ref a), x1, x2] (.ref a :: st) h := jq_nx (jv_insR jm_191 dX3_told_267) rfl
theorem e191_268 : jv_ev d 191 268 lc [.ref b] h = (jv_rc h b [(4, 192)]).bind fun y => (jv_cd d y [.ref b] h).bind fun r => jv_on r (fun v h => jv_ev d 191 271 lc (v.toList ++ []) h) (fun q h => some (.inr q, h)) := jq_V (as := []) (rest := []) (jv_insR jm_191 dX3_told_268) jo_191 jV_5_59 rfl rfl rfl rfl
theorem e191_271 : jv_ev d 191 271 [some (.ref a), x1, x2] st h = jv_ev d 191 272 [some (.ref a), x1, x2] (.ref a :: st) h := jq_nx (jv_insR jm_191 dX3_told_271) rfl
theorem e191_272 : jv_ev d 191 272 lc (.ref a :: st) h = (jv_gf h a [(4, 2, .object "RainLoom$Text")]).bind fun r => jv_ev d 191 275 lc (r :: st) h := jq_get (jv_insR jm_191 dX3_told_272) jo_191 jF_5_83
theorem e191_275 : jv_ev d 191 275 [some (.ref a), x1, x2] st h = jv_ev d 191 276 [some (.ref a), x1, x2] (.ref a :: st) h := jq_nx (jv_insR jm_191 dX3_told_275) rfl
theorem e191_276 : jv_ev d 191 276 lc st h = jv_ev d 191 277 lc (.int 0 :: st) h := jq_iconst (jv_insR jm_191 dX3_told_276) (by decide)
theorem e191_277 : jv_ev d 191 277 lc st h = jv_ev d 191 279 lc (.int 100 :: st) h := jq_bipush (jv_insR jm_191 dX3_told_277) (by decide)
theorem e191_279 : jv_ev d 191 279 lc [z1, z0, .ref b, y0] h = (jv_rc h b [(4, 206)]).bind fun y => (jv_cd d y [.ref b, z0, z1] h).bind fun r => jv_on r (fun v h => jv_ev d 191 282 lc (v.toList ++ [y0]) h) (fun q h => some (.inr q, h)) := jq_V (as := [z0, z1]) (rest := [y0]) (jv_insR jm_191 dX3_told_279) jo_191 jV_5_142 rfl rfl rfl rfl
theorem e191_282 : jv_ev d 191 282 lc (r :: .ref a :: st) h = (jv_pf h a [(5, 7, .int)] r).bind fun h => jv_ev d 191 285 lc st h := jq_put (jv_insR jm_191 dX3_told_282) jo_191 ji_191 jG_5_170
theorem e191_285 : jv_ev d 191 285 lc st h = jv_ev d 191 316 lc st h := jq_go (jv_insR jm_191 dX3_told_285) (by decide)
theorem e191_288 : jv_ev d 191 288 [some (.ref a), x1, x2] st h = jv_ev d 191 289 [some (.ref a), x1, x2] (.ref a :: st) h := jq_nx (jv_insR jm_191 dX3_told_288) rfl
theorem e191_289 : jv_ev d 191 289 lc [.ref b] h = (jv_rc h b [(4, 192)]).bind fun y => (jv_cd d y [.ref b] h).bind fun r => jv_on r (fun v h => jv_ev d 191 292 lc (v.toList ++ []) h) (fun q h => some (.inr q, h)) := jq_V (as := []) (rest := []) (jv_insR jm_191 dX3_told_289) jo_191 jV_5_59 rfl rfl rfl rfl
theorem e191_292 : jv_ev d 191 292 [some (.ref a), x1, x2] st h = jv_ev d 191 293 [some (.ref a), x1, x2] (.ref a :: st) h := jq_nx (jv_insR jm_191 dX3_told_292) rfl
theorem e191_293 : jv_ev d 191 293 lc (.ref a :: st) h = (jv_gf h a [(4, 2, .object "RainLoom$Text")]).bind fun r => jv_ev d 191 296 lc (r :: st) h := jq_get (jv_insR jm_191 dX3_told_293) jo_191 jF_5_83
theorem e191_296 : jv_ev d 191 296 [some (.ref a), x1, x2] st h = jv_ev d 191 297 [some (.ref a), x1, x2] (.ref a :: st) h := jq_nx (jv_insR jm_191 dX3_told_296) rfl
theorem e191_297 : jv_ev d 191 297 lc st h = jv_ev d 191 298 lc (.int 0 :: st) h := jq_iconst (jv_insR jm_191 dX3_told_297) (by decide)
theorem e191_298 : jv_ev d 191 298 lc st h = jv_ev d 191 301 lc (.int 9999 :: st) h := jq_sipush (jv_insR jm_191 dX3_told_298) (by decide)
theorem e191_301 : jv_ev d 191 301 lc [z1, z0, .ref b, y0] h = (jv_rc h b [(4, 206)]).bind fun y => (jv_cd d y [.ref b, z0, z1] h).bind fun r => jv_on r (fun v h => jv_ev d 191 304 lc (v.toList ++ [y0]) h) (fun q h => some (.inr q, h)) := jq_V (as := [z0, z1]) (rest := [y0]) (jv_insR jm_191 dX3_told_301) jo_191 jV_5_142 rfl rfl rfl rfl
theorem e191_304 : jv_ev d 191 304 lc (r :: .ref a :: st) h = (jv_pf h a [(5, 8, .int)] r).bind fun h => jv_ev d 191 307 lc st h := jq_put (jv_insR jm_191 dX3_told_304) jo_191 ji_191 jG_5_173
theorem e191_307 : jv_ev d 191 307 lc st h = jv_ev d 191 316 lc st h := jq_go (jv_insR jm_191 dX3_told_307) (by decide)
theorem e191_310 : jv_ev d 191 310 [some (.ref a), x1, x2] st h = jv_ev d 191 311 [some (.ref a), x1, x2] (.ref a :: st) h := jq_nx (jv_insR jm_191 dX3_told_310) rfl
theorem e191_311 : jv_ev d 191 311 lc st h = jv_ev d 191 312 lc (.int 1 :: st) h := jq_iconst (jv_insR jm_191 dX3_told_311) (by decide)
theorem e191_312 : jv_ev d 191 312 lc [z0, .ref b] h = (jv_rc h b [(4, 189)]).bind fun y => (jv_cd d y [.ref b, z0] h).bind fun r => jv_on r (fun v h => jv_ev d 191 315 lc (v.toList ++ []) h) (fun q h => some (.inr q, h)) := jq_V (as := [z0]) (rest := []) (jv_insR jm_191 dX3_told_312) jo_191 jV_5_48 rfl rfl rfl rfl
theorem e191_315 : jv_ev d 191 315 lc (.ref a :: st) h = (jv_cls h a).bind fun ci => if jt_off ≤ a ∧ ci = jt_fault then some (.inr a, h) else none := jq_throw (jv_insR jm_191 dX3_told_315) rfl
theorem e191_316 : jv_ev d 191 316 lc [] h = some (.inl none, h) := jq_retv (jv_insR jm_191 dX3_told_316) jr_191
/-! 192: RainLoom$Parser.pass()V -/
theorem n192 : jv_cd (d + 1) 192 [.ref a0] h = jv_ev d 192 0 [some (.ref a0)] [] h := rfl
theorem e192_0 : jv_ev d 192 0 [some (.ref a)] st h = jv_ev d 192 1 [some (.ref a)] (.ref a :: st) h := jq_nx (jv_insR jm_192 dX3_pass_0) rfl
theorem e192_1 : jv_ev d 192 1 lc (.ref a :: st) h = (jv_gf h a [(4, 3, .int)]).bind fun r => jv_ev d 192 4 lc (r :: st) h := jq_get (jv_insR jm_192 dX3_pass_1) jo_192 jF_5_31
theorem e192_4 : jv_ev d 192 4 lc st h = jv_ev d 192 7 lc (.int 400 :: st) h := jq_sipush (jv_insR jm_192 dX3_pass_4) (by decide)
theorem e192_7 : jv_ev d 192 7 lc (.int w :: .int v :: st) h = if v < w then jv_ev d 192 16 lc st h else jv_ev d 192 10 lc st h := jq_if (jv_insR jm_192 dX3_pass_7) rfl (by decide)
theorem e192_10 : jv_ev d 192 10 [some (.ref a)] st h = jv_ev d 192 11 [some (.ref a)] (.ref a :: st) h := jq_nx (jv_insR jm_192 dX3_pass_10) rfl
theorem e192_11 : jv_ev d 192 11 lc st h = jv_ev d 192 12 lc (.int 2 :: st) h := jq_iconst (jv_insR jm_192 dX3_pass_11) (by decide)
theorem e192_12 : jv_ev d 192 12 lc [z0, .ref b] h = (jv_rc h b [(4, 189)]).bind fun y => (jv_cd d y [.ref b, z0] h).bind fun r => jv_on r (fun v h => jv_ev d 192 15 lc (v.toList ++ []) h) (fun q h => some (.inr q, h)) := jq_V (as := [z0]) (rest := []) (jv_insR jm_192 dX3_pass_12) jo_192 jV_5_48 rfl rfl rfl rfl
theorem e192_15 : jv_ev d 192 15 lc (.ref a :: st) h = (jv_cls h a).bind fun ci => if jt_off ≤ a ∧ ci = jt_fault then some (.inr a, h) else none := jq_throw (jv_insR jm_192 dX3_pass_15) rfl
theorem e192_16 : jv_ev d 192 16 [some (.ref a)] st h = jv_ev d 192 17 [some (.ref a)] (.ref a :: st) h := jq_nx (jv_insR jm_192 dX3_pass_16) rfl
theorem e192_17 : jv_ev d 192 17 lc (.ref a :: st) h = jv_ev d 192 18 lc (.ref a :: .ref a :: st) h := jq_nx (jv_insR jm_192 dX3_pass_17) rfl
theorem e192_18 : jv_ev d 192 18 lc (.ref a :: st) h = (jv_gf h a [(4, 3, .int)]).bind fun r => jv_ev d 192 21 lc (r :: st) h := jq_get (jv_insR jm_192 dX3_pass_18) jo_192 jF_5_31
theorem e192_21 : jv_ev d 192 21 lc st h = jv_ev d 192 22 lc (.int 1 :: st) h := jq_iconst (jv_insR jm_192 dX3_pass_21) (by decide)
theorem e192_22 : jv_ev d 192 22 lc (.int w :: .int v :: st) h = jv_ev d 192 23 lc (.int (v + w) :: st) h := jq_nx (jv_insR jm_192 dX3_pass_22) rfl
theorem e192_23 : jv_ev d 192 23 lc (r :: .ref a :: st) h = (jv_pf h a [(4, 3, .int)] r).bind fun h => jv_ev d 192 26 lc st h := jq_put (jv_insR jm_192 dX3_pass_23) jo_192 ji_192 jG_5_31
theorem e192_26 : jv_ev d 192 26 lc [] h = some (.inl none, h) := jq_retv (jv_insR jm_192 dX3_pass_26) jr_192
/-! 193: RainLoom$Parser.law()LRainLoom$Law; -/
theorem n193 : jv_cd (d + 1) 193 [.ref a0] h = jv_ev d 193 0 [some (.ref a0), none] [] h := rfl
theorem e193_0 : jv_ev d 193 0 lc st h = jv_ev d 193 3 lc (.ref h.length :: st) (h ++ [.inr (12, [.null, .null, .null, .int 0])]) := jq_new (jv_insR jm_193 dX3_law_0) jo_193 jN_5_193 rfl
theorem e193_3 : jv_ev d 193 3 lc (.ref a :: st) h = jv_ev d 193 4 lc (.ref a :: .ref a :: st) h := jq_nx (jv_insR jm_193 dX3_law_3) rfl
theorem e193_4 : jv_ev d 193 4 lc [.ref b, y0] h = if jt_off ≤ b ∧ (jt_SU.contains 239 = false ∨ jv_cls h b = some 20) then ((jv_cd d 239 [.ref b] h).bind fun r => jv_on r (fun v h => jv_ev d 193 7 lc (v.toList ++ [y0]) h) (fun q h => some (.inr q, h))) else none := jq_P (as := []) (rest := [y0]) (jv_insR jm_193 dX3_law_4) jo_193 jP_5_195 rfl rfl rfl rfl
theorem e193_7 : jv_ev d 193 7 [x0, x1] (.ref a :: st) h = jv_ev d 193 8 [x0, some (.ref a)] st h := jq_nx (jv_insR jm_193 dX3_law_7) rfl
theorem e193_8 : jv_ev d 193 8 [some (.ref a), x1] st h = jv_ev d 193 9 [some (.ref a), x1] (.ref a :: st) h := jq_nx (jv_insR jm_193 dX3_law_8) rfl
theorem e193_9 : jv_ev d 193 9 lc st h = jv_ev d 193 11 lc (.int 61 :: st) h := jq_bipush (jv_insR jm_193 dX3_law_9) (by decide)
theorem e193_11 : jv_ev d 193 11 lc [z0, .ref b] h = (jv_rc h b [(4, 194)]).bind fun y => (jv_cd d y [.ref b, z0] h).bind fun r => jv_on r (fun v h => jv_ev d 193 14 lc (v.toList ++ []) h) (fun q h => some (.inr q, h)) := jq_V (as := [z0]) (rest := []) (jv_insR jm_193 dX3_law_11) jo_193 jV_5_102 rfl rfl rfl rfl
theorem e193_14 : jv_ev d 193 14 [some (.ref a), x1] st h = jv_ev d 193 15 [some (.ref a), x1] (.ref a :: st) h := jq_nx (jv_insR jm_193 dX3_law_14) rfl
theorem e193_15 : jv_ev d 193 15 lc st h = jv_ev d 193 17 lc (.int 9 :: st) h := jq_bipush (jv_insR jm_193 dX3_law_15) (by decide)
theorem e193_17 : jv_ev d 193 17 lc [z0, .ref b] h = (jv_rc h b [(4, 196)]).bind fun y => (jv_cd d y [.ref b, z0] h).bind fun r => jv_on r (fun v h => jv_ev d 193 20 lc (v.toList ++ []) h) (fun q h => some (.inr q, h)) := jq_V (as := [z0]) (rest := []) (jv_insR jm_193 dX3_law_17) jo_193 jV_5_62 rfl rfl rfl rfl
theorem e193_20 : jv_ev d 193 20 lc (.int v :: st) h = if v = 0 then jv_ev d 193 102 lc st h else jv_ev d 193 23 lc st h := jq_if (jv_insR jm_193 dX3_law_20) rfl (by decide)
theorem e193_23 : jv_ev d 193 23 [some (.ref a), x1] st h = jv_ev d 193 24 [some (.ref a), x1] (.ref a :: st) h := jq_nx (jv_insR jm_193 dX3_law_23) rfl
theorem e193_24 : jv_ev d 193 24 [x0, some (.ref a)] st h = jv_ev d 193 25 [x0, some (.ref a)] (.ref a :: st) h := jq_nx (jv_insR jm_193 dX3_law_24) rfl
theorem e193_25 : jv_ev d 193 25 lc (.ref a :: st) h = (jv_gf h a [(12, 3, .int)]).bind fun r => jv_ev d 193 28 lc (r :: st) h := jq_get (jv_insR jm_193 dX3_law_25) jo_193 jF_5_196
theorem e193_28 : jv_ev d 193 28 lc st h = jv_ev d 193 29 lc (.int 4 :: st) h := jq_iconst (jv_insR jm_193 dX3_law_28) (by decide)
theorem e193_29 : jv_ev d 193 29 lc [z1, z0, .ref b] h = (jv_rc h b [(4, 197)]).bind fun y => (jv_cd d y [.ref b, z0, z1] h).bind fun r => jv_on r (fun v h => jv_ev d 193 32 lc (v.toList ++ []) h) (fun q h => some (.inr q, h)) := jq_V (as := [z0, z1]) (rest := []) (jv_insR jm_193 dX3_law_29) jo_193 jV_5_130 rfl rfl rfl rfl
theorem e193_32 : jv_ev d 193 32 [x0, some (.ref a)] st h = jv_ev d 193 33 [x0, some (.ref a)] (.ref a :: st) h := jq_nx (jv_insR jm_193 dX3_law_32) rfl
theorem e193_33 : jv_ev d 193 33 lc (.ref a :: st) h = (jv_gf h a [(12, 0, .array (.object "RainLoom$Sum"))]).bind fun r => jv_ev d 193 36 lc (r :: st) h := jq_get (jv_insR jm_193 dX3_law_33) jo_193 jF_5_199
theorem e193_36 : jv_ev d 193 36 [x0, some (.ref a)] st h = jv_ev d 193 37 [x0, some (.ref a)] (.ref a :: st) h := jq_nx (jv_insR jm_193 dX3_law_36) rfl
theorem e193_37 : jv_ev d 193 37 lc (.ref a :: st) h = (jv_gf h a [(12, 3, .int)]).bind fun r => jv_ev d 193 40 lc (r :: st) h := jq_get (jv_insR jm_193 dX3_law_37) jo_193 jF_5_196
theorem e193_40 : jv_ev d 193 40 [some (.ref a), x1] st h = jv_ev d 193 41 [some (.ref a), x1] (.ref a :: st) h := jq_nx (jv_insR jm_193 dX3_law_40) rfl
theorem e193_41 : jv_ev d 193 41 lc [.ref b, y0, y1] h = (jv_rc h b [(4, 198)]).bind fun y => (jv_cd d y [.ref b] h).bind fun r => jv_on r (fun v h => jv_ev d 193 44 lc (v.toList ++ [y0, y1]) h) (fun q h => some (.inr q, h)) := jq_V (as := []) (rest := [y0, y1]) (jv_insR jm_193 dX3_law_41) jo_193 jV_5_203 rfl rfl rfl rfl
theorem e193_44 : jv_ev d 193 44 lc (.ref b :: .int v :: .ref a :: st) h = (jv_rp h a v b).bind fun h => jv_ev d 193 45 lc st h := jq_aast (jv_insR jm_193 dX3_law_44)
theorem e193_45 : jv_ev d 193 45 [some (.ref a), x1] st h = jv_ev d 193 46 [some (.ref a), x1] (.ref a :: st) h := jq_nx (jv_insR jm_193 dX3_law_45) rfl
theorem e193_46 : jv_ev d 193 46 lc st h = jv_ev d 193 48 lc (.int 60 :: st) h := jq_bipush (jv_insR jm_193 dX3_law_46) (by decide)
theorem e193_48 : jv_ev d 193 48 lc [z0, .ref b] h = (jv_rc h b [(4, 194)]).bind fun y => (jv_cd d y [.ref b, z0] h).bind fun r => jv_on r (fun v h => jv_ev d 193 51 lc (v.toList ++ []) h) (fun q h => some (.inr q, h)) := jq_V (as := [z0]) (rest := []) (jv_insR jm_193 dX3_law_48) jo_193 jV_5_102 rfl rfl rfl rfl
theorem e193_51 : jv_ev d 193 51 [x0, some (.ref a)] st h = jv_ev d 193 52 [x0, some (.ref a)] (.ref a :: st) h := jq_nx (jv_insR jm_193 dX3_law_51) rfl
theorem e193_52 : jv_ev d 193 52 lc (.ref a :: st) h = (jv_gf h a [(12, 1, .array (.object "RainLoom$Sum"))]).bind fun r => jv_ev d 193 55 lc (r :: st) h := jq_get (jv_insR jm_193 dX3_law_52) jo_193 jF_5_207
theorem e193_55 : jv_ev d 193 55 [x0, some (.ref a)] st h = jv_ev d 193 56 [x0, some (.ref a)] (.ref a :: st) h := jq_nx (jv_insR jm_193 dX3_law_55) rfl
theorem e193_56 : jv_ev d 193 56 lc (.ref a :: st) h = (jv_gf h a [(12, 3, .int)]).bind fun r => jv_ev d 193 59 lc (r :: st) h := jq_get (jv_insR jm_193 dX3_law_56) jo_193 jF_5_196
theorem e193_59 : jv_ev d 193 59 [some (.ref a), x1] st h = jv_ev d 193 60 [some (.ref a), x1] (.ref a :: st) h := jq_nx (jv_insR jm_193 dX3_law_59) rfl
theorem e193_60 : jv_ev d 193 60 lc [.ref b, y0, y1] h = (jv_rc h b [(4, 198)]).bind fun y => (jv_cd d y [.ref b] h).bind fun r => jv_on r (fun v h => jv_ev d 193 63 lc (v.toList ++ [y0, y1]) h) (fun q h => some (.inr q, h)) := jq_V (as := []) (rest := [y0, y1]) (jv_insR jm_193 dX3_law_60) jo_193 jV_5_203 rfl rfl rfl rfl
theorem e193_63 : jv_ev d 193 63 lc (.ref b :: .int v :: .ref a :: st) h = (jv_rp h a v b).bind fun h => jv_ev d 193 64 lc st h := jq_aast (jv_insR jm_193 dX3_law_63)
theorem e193_64 : jv_ev d 193 64 [some (.ref a), x1] st h = jv_ev d 193 65 [some (.ref a), x1] (.ref a :: st) h := jq_nx (jv_insR jm_193 dX3_law_64) rfl
theorem e193_65 : jv_ev d 193 65 lc st h = jv_ev d 193 67 lc (.int 10 :: st) h := jq_bipush (jv_insR jm_193 dX3_law_65) (by decide)
theorem e193_67 : jv_ev d 193 67 lc [z0, .ref b] h = (jv_rc h b [(4, 201)]).bind fun y => (jv_cd d y [.ref b, z0] h).bind fun r => jv_on r (fun v h => jv_ev d 193 70 lc (v.toList ++ []) h) (fun q h => some (.inr q, h)) := jq_V (as := [z0]) (rest := []) (jv_insR jm_193 dX3_law_67) jo_193 jV_5_210 rfl rfl rfl rfl
theorem e193_70 : jv_ev d 193 70 [x0, some (.ref a)] st h = jv_ev d 193 71 [x0, some (.ref a)] (.ref a :: st) h := jq_nx (jv_insR jm_193 dX3_law_70) rfl
theorem e193_71 : jv_ev d 193 71 lc (.ref a :: st) h = (jv_gf h a [(12, 2, .array (.object "RainLoom$Sum"))]).bind fun r => jv_ev d 193 74 lc (r :: st) h := jq_get (jv_insR jm_193 dX3_law_71) jo_193 jF_5_213
theorem e193_74 : jv_ev d 193 74 [x0, some (.ref a)] st h = jv_ev d 193 75 [x0, some (.ref a)] (.ref a :: st) h := jq_nx (jv_insR jm_193 dX3_law_74) rfl
theorem e193_75 : jv_ev d 193 75 lc (.ref a :: st) h = (jv_gf h a [(12, 3, .int)]).bind fun r => jv_ev d 193 78 lc (r :: st) h := jq_get (jv_insR jm_193 dX3_law_75) jo_193 jF_5_196
theorem e193_78 : jv_ev d 193 78 [some (.ref a), x1] st h = jv_ev d 193 79 [some (.ref a), x1] (.ref a :: st) h := jq_nx (jv_insR jm_193 dX3_law_78) rfl
theorem e193_79 : jv_ev d 193 79 lc [.ref b, y0, y1] h = (jv_rc h b [(4, 198)]).bind fun y => (jv_cd d y [.ref b] h).bind fun r => jv_on r (fun v h => jv_ev d 193 82 lc (v.toList ++ [y0, y1]) h) (fun q h => some (.inr q, h)) := jq_V (as := []) (rest := [y0, y1]) (jv_insR jm_193 dX3_law_79) jo_193 jV_5_203 rfl rfl rfl rfl
theorem e193_82 : jv_ev d 193 82 lc (.ref b :: .int v :: .ref a :: st) h = (jv_rp h a v b).bind fun h => jv_ev d 193 83 lc st h := jq_aast (jv_insR jm_193 dX3_law_82)
theorem e193_83 : jv_ev d 193 83 [some (.ref a), x1] st h = jv_ev d 193 84 [some (.ref a), x1] (.ref a :: st) h := jq_nx (jv_insR jm_193 dX3_law_83) rfl
theorem e193_84 : jv_ev d 193 84 lc st h = jv_ev d 193 86 lc (.int 11 :: st) h := jq_bipush (jv_insR jm_193 dX3_law_84) (by decide)
theorem e193_86 : jv_ev d 193 86 lc [z0, .ref b] h = (jv_rc h b [(4, 201)]).bind fun y => (jv_cd d y [.ref b, z0] h).bind fun r => jv_on r (fun v h => jv_ev d 193 89 lc (v.toList ++ []) h) (fun q h => some (.inr q, h)) := jq_V (as := [z0]) (rest := []) (jv_insR jm_193 dX3_law_86) jo_193 jV_5_210 rfl rfl rfl rfl
theorem e193_89 : jv_ev d 193 89 [x0, some (.ref a)] st h = jv_ev d 193 90 [x0, some (.ref a)] (.ref a :: st) h := jq_nx (jv_insR jm_193 dX3_law_89) rfl
theorem e193_90 : jv_ev d 193 90 lc (.ref a :: st) h = jv_ev d 193 91 lc (.ref a :: .ref a :: st) h := jq_nx (jv_insR jm_193 dX3_law_90) rfl
theorem e193_91 : jv_ev d 193 91 lc (.ref a :: st) h = (jv_gf h a [(12, 3, .int)]).bind fun r => jv_ev d 193 94 lc (r :: st) h := jq_get (jv_insR jm_193 dX3_law_91) jo_193 jF_5_196
theorem e193_94 : jv_ev d 193 94 lc st h = jv_ev d 193 95 lc (.int 1 :: st) h := jq_iconst (jv_insR jm_193 dX3_law_94) (by decide)
theorem e193_95 : jv_ev d 193 95 lc (.int w :: .int v :: st) h = jv_ev d 193 96 lc (.int (v + w) :: st) h := jq_nx (jv_insR jm_193 dX3_law_95) rfl
theorem e193_96 : jv_ev d 193 96 lc (r :: .ref a :: st) h = (jv_pf h a [(12, 3, .int)] r).bind fun h => jv_ev d 193 99 lc st h := jq_put (jv_insR jm_193 dX3_law_96) jo_193 ji_193 jG_5_196
theorem e193_99 : jv_ev d 193 99 lc st h = jv_ev d 193 14 lc st h := jq_go (jv_insR jm_193 dX3_law_99) (by decide)
theorem e193_102 : jv_ev d 193 102 [x0, some (.ref a)] st h = jv_ev d 193 103 [x0, some (.ref a)] (.ref a :: st) h := jq_nx (jv_insR jm_193 dX3_law_102) rfl
theorem e193_103 : jv_ev d 193 103 lc (.ref a :: st) h = (jv_gf h a [(12, 2, .array (.object "RainLoom$Sum"))]).bind fun r => jv_ev d 193 106 lc (r :: st) h := jq_get (jv_insR jm_193 dX3_law_103) jo_193 jF_5_213
theorem e193_106 : jv_ev d 193 106 [x0, some (.ref a)] st h = jv_ev d 193 107 [x0, some (.ref a)] (.ref a :: st) h := jq_nx (jv_insR jm_193 dX3_law_106) rfl
theorem e193_107 : jv_ev d 193 107 lc (.ref a :: st) h = (jv_gf h a [(12, 3, .int)]).bind fun r => jv_ev d 193 110 lc (r :: st) h := jq_get (jv_insR jm_193 dX3_law_107) jo_193 jF_5_196
theorem e193_110 : jv_ev d 193 110 [some (.ref a), x1] st h = jv_ev d 193 111 [some (.ref a), x1] (.ref a :: st) h := jq_nx (jv_insR jm_193 dX3_law_110) rfl
theorem e193_111 : jv_ev d 193 111 lc [.ref b, y0, y1] h = (jv_rc h b [(4, 198)]).bind fun y => (jv_cd d y [.ref b] h).bind fun r => jv_on r (fun v h => jv_ev d 193 114 lc (v.toList ++ [y0, y1]) h) (fun q h => some (.inr q, h)) := jq_V (as := []) (rest := [y0, y1]) (jv_insR jm_193 dX3_law_111) jo_193 jV_5_203 rfl rfl rfl rfl
theorem e193_114 : jv_ev d 193 114 lc (.ref b :: .int v :: .ref a :: st) h = (jv_rp h a v b).bind fun h => jv_ev d 193 115 lc st h := jq_aast (jv_insR jm_193 dX3_law_114)
theorem e193_115 : jv_ev d 193 115 [x0, some (.ref a)] st h = jv_ev d 193 116 [x0, some (.ref a)] (.ref a :: st) h := jq_nx (jv_insR jm_193 dX3_law_115) rfl
theorem e193_116 : jv_ev d 193 116 lc [.ref a] h = some (.inl (some (.ref a)), h) := jq_reta (jv_insR jm_193 dX3_law_116) jr_193 rfl
/-! 194: RainLoom$Parser.sign(I)V -/
theorem n194 : jv_cd (d + 1) 194 [.ref a0, .int i1] h = jv_ev d 194 0 [some (.ref a0), some (.int i1)] [] h := rfl
theorem e194_0 : jv_ev d 194 0 [some (.ref a), x1] st h = jv_ev d 194 1 [some (.ref a), x1] (.ref a :: st) h := jq_nx (jv_insR jm_194 dX3_sign_0) rfl
theorem e194_1 : jv_ev d 194 1 [x0, some (.int v)] st h = jv_ev d 194 2 [x0, some (.int v)] (.int v :: st) h := jq_nx (jv_insR jm_194 dX3_sign_1) rfl
theorem e194_2 : jv_ev d 194 2 lc [z0, .ref b] h = (jv_rc h b [(4, 195)]).bind fun y => (jv_cd d y [.ref b, z0] h).bind fun r => jv_on r (fun v h => jv_ev d 194 5 lc (v.toList ++ []) h) (fun q h => some (.inr q, h)) := jq_V (as := [z0]) (rest := []) (jv_insR jm_194 dX3_sign_2) jo_194 jV_5_55 rfl rfl rfl rfl
theorem e194_5 : jv_ev d 194 5 lc (.int v :: st) h = if ¬ v = 0 then jv_ev d 194 14 lc st h else jv_ev d 194 8 lc st h := jq_if (jv_insR jm_194 dX3_sign_5) rfl (by decide)
theorem e194_8 : jv_ev d 194 8 [some (.ref a), x1] st h = jv_ev d 194 9 [some (.ref a), x1] (.ref a :: st) h := jq_nx (jv_insR jm_194 dX3_sign_8) rfl
theorem e194_9 : jv_ev d 194 9 lc st h = jv_ev d 194 10 lc (.int 1 :: st) h := jq_iconst (jv_insR jm_194 dX3_sign_9) (by decide)
theorem e194_10 : jv_ev d 194 10 lc [z0, .ref b] h = (jv_rc h b [(4, 189)]).bind fun y => (jv_cd d y [.ref b, z0] h).bind fun r => jv_on r (fun v h => jv_ev d 194 13 lc (v.toList ++ []) h) (fun q h => some (.inr q, h)) := jq_V (as := [z0]) (rest := []) (jv_insR jm_194 dX3_sign_10) jo_194 jV_5_48 rfl rfl rfl rfl
theorem e194_13 : jv_ev d 194 13 lc (.ref a :: st) h = (jv_cls h a).bind fun ci => if jt_off ≤ a ∧ ci = jt_fault then some (.inr a, h) else none := jq_throw (jv_insR jm_194 dX3_sign_13) rfl
theorem e194_14 : jv_ev d 194 14 [some (.ref a), x1] st h = jv_ev d 194 15 [some (.ref a), x1] (.ref a :: st) h := jq_nx (jv_insR jm_194 dX3_sign_14) rfl
theorem e194_15 : jv_ev d 194 15 lc [.ref b] h = (jv_rc h b [(4, 192)]).bind fun y => (jv_cd d y [.ref b] h).bind fun r => jv_on r (fun v h => jv_ev d 194 18 lc (v.toList ++ []) h) (fun q h => some (.inr q, h)) := jq_V (as := []) (rest := []) (jv_insR jm_194 dX3_sign_15) jo_194 jV_5_59 rfl rfl rfl rfl
theorem e194_18 : jv_ev d 194 18 lc [] h = some (.inl none, h) := jq_retv (jv_insR jm_194 dX3_sign_18) jr_194
/-! 195: RainLoom$Parser.isSign(I)Z -/
theorem n195 : jv_cd (d + 1) 195 [.ref a0, .int i1] h = jv_ev d 195 0 [some (.ref a0), some (.int i1)] [] h := rfl
theorem e195_0 : jv_ev d 195 0 [some (.ref a), x1] st h = jv_ev d 195 1 [some (.ref a), x1] (.ref a :: st) h := jq_nx (jv_insR jm_195 dX3_isSign_0) rfl
theorem e195_1 : jv_ev d 195 1 lc (.ref a :: st) h = (jv_gf h a [(4, 0, .object "RainLoom$Tokens")]).bind fun r => jv_ev d 195 4 lc (r :: st) h := jq_get (jv_insR jm_195 dX3_isSign_1) jo_195 jF_5_9
theorem e195_4 : jv_ev d 195 4 lc (.ref a :: st) h = (jv_gf h a [(3, 3, .array .byte)]).bind fun r => jv_ev d 195 7 lc (r :: st) h := jq_get (jv_insR jm_195 dX3_isSign_4) jo_195 jF_5_44
theorem e195_7 : jv_ev d 195 7 [some (.ref a), x1] st h = jv_ev d 195 8 [some (.ref a), x1] (.ref a :: st) h := jq_nx (jv_insR jm_195 dX3_isSign_7) rfl
theorem e195_8 : jv_ev d 195 8 lc (.ref a :: st) h = (jv_gf h a [(4, 3, .int)]).bind fun r => jv_ev d 195 11 lc (r :: st) h := jq_get (jv_insR jm_195 dX3_isSign_8) jo_195 jF_5_31
theorem e195_11 : jv_ev d 195 11 lc (.int v :: .ref a :: st) h = (jv_ig h a 1 2 v).bind fun w => jv_ev d 195 12 lc (.int w :: st) h := jq_bald (jv_insR jm_195 dX3_isSign_11)
theorem e195_12 : jv_ev d 195 12 lc st h = jv_ev d 195 13 lc (.int 2 :: st) h := jq_iconst (jv_insR jm_195 dX3_isSign_12) (by decide)
theorem e195_13 : jv_ev d 195 13 lc (.int w :: .int v :: st) h = if ¬ v = w then jv_ev d 195 36 lc st h else jv_ev d 195 16 lc st h := jq_if (jv_insR jm_195 dX3_isSign_13) rfl (by decide)
theorem e195_16 : jv_ev d 195 16 [some (.ref a), x1] st h = jv_ev d 195 17 [some (.ref a), x1] (.ref a :: st) h := jq_nx (jv_insR jm_195 dX3_isSign_16) rfl
theorem e195_17 : jv_ev d 195 17 lc (.ref a :: st) h = (jv_gf h a [(4, 0, .object "RainLoom$Tokens")]).bind fun r => jv_ev d 195 20 lc (r :: st) h := jq_get (jv_insR jm_195 dX3_isSign_17) jo_195 jF_5_9
theorem e195_20 : jv_ev d 195 20 lc (.ref a :: st) h = (jv_gf h a [(3, 6, .array .short)]).bind fun r => jv_ev d 195 23 lc (r :: st) h := jq_get (jv_insR jm_195 dX3_isSign_20) jo_195 jF_5_52
theorem e195_23 : jv_ev d 195 23 [some (.ref a), x1] st h = jv_ev d 195 24 [some (.ref a), x1] (.ref a :: st) h := jq_nx (jv_insR jm_195 dX3_isSign_23) rfl
theorem e195_24 : jv_ev d 195 24 lc (.ref a :: st) h = (jv_gf h a [(4, 3, .int)]).bind fun r => jv_ev d 195 27 lc (r :: st) h := jq_get (jv_insR jm_195 dX3_isSign_24) jo_195 jF_5_31
theorem e195_27 : jv_ev d 195 27 lc (.int v :: .ref a :: st) h = (jv_ig h a 3 3 v).bind fun w => jv_ev d 195 28 lc (.int w :: st) h := jq_sald (jv_insR jm_195 dX3_isSign_27)
theorem e195_28 : jv_ev d 195 28 [x0, some (.int v)] st h = jv_ev d 195 29 [x0, some (.int v)] (.int v :: st) h := jq_nx (jv_insR jm_195 dX3_isSign_28) rfl
theorem e195_29 : jv_ev d 195 29 lc (.int w :: .int v :: st) h = if ¬ v = w then jv_ev d 195 36 lc st h else jv_ev d 195 32 lc st h := jq_if (jv_insR jm_195 dX3_isSign_29) rfl (by decide)
theorem e195_32 : jv_ev d 195 32 lc st h = jv_ev d 195 33 lc (.int 1 :: st) h := jq_iconst (jv_insR jm_195 dX3_isSign_32) (by decide)
theorem e195_33 : jv_ev d 195 33 lc st h = jv_ev d 195 37 lc st h := jq_go (jv_insR jm_195 dX3_isSign_33) (by decide)
theorem e195_36 : jv_ev d 195 36 lc st h = jv_ev d 195 37 lc (.int 0 :: st) h := jq_iconst (jv_insR jm_195 dX3_isSign_36) (by decide)
theorem e195_37 : jv_ev d 195 37 lc [.int v] h = if narrow .boolean (.int v) = .int v then some (.inl (some (.int v)), h) else none := jq_ret (jv_insR jm_195 dX3_isSign_37) jr_195 (by decide)
/-! 196: RainLoom$Parser.isWord(I)Z -/
theorem n196 : jv_cd (d + 1) 196 [.ref a0, .int i1] h = jv_ev d 196 0 [some (.ref a0), some (.int i1)] [] h := rfl
theorem e196_0 : jv_ev d 196 0 [some (.ref a), x1] st h = jv_ev d 196 1 [some (.ref a), x1] (.ref a :: st) h := jq_nx (jv_insR jm_196 dX3_isWord_0) rfl
theorem e196_1 : jv_ev d 196 1 lc (.ref a :: st) h = (jv_gf h a [(4, 0, .object "RainLoom$Tokens")]).bind fun r => jv_ev d 196 4 lc (r :: st) h := jq_get (jv_insR jm_196 dX3_isWord_1) jo_196 jF_5_9
theorem e196_4 : jv_ev d 196 4 lc (.ref a :: st) h = (jv_gf h a [(3, 3, .array .byte)]).bind fun r => jv_ev d 196 7 lc (r :: st) h := jq_get (jv_insR jm_196 dX3_isWord_4) jo_196 jF_5_44
theorem e196_7 : jv_ev d 196 7 [some (.ref a), x1] st h = jv_ev d 196 8 [some (.ref a), x1] (.ref a :: st) h := jq_nx (jv_insR jm_196 dX3_isWord_7) rfl
theorem e196_8 : jv_ev d 196 8 lc (.ref a :: st) h = (jv_gf h a [(4, 3, .int)]).bind fun r => jv_ev d 196 11 lc (r :: st) h := jq_get (jv_insR jm_196 dX3_isWord_8) jo_196 jF_5_31
theorem e196_11 : jv_ev d 196 11 lc (.int v :: .ref a :: st) h = (jv_ig h a 1 2 v).bind fun w => jv_ev d 196 12 lc (.int w :: st) h := jq_bald (jv_insR jm_196 dX3_isWord_11)
theorem e196_12 : jv_ev d 196 12 lc st h = jv_ev d 196 13 lc (.int 3 :: st) h := jq_iconst (jv_insR jm_196 dX3_isWord_12) (by decide)
theorem e196_13 : jv_ev d 196 13 lc (.int w :: .int v :: st) h = if ¬ v = w then jv_ev d 196 36 lc st h else jv_ev d 196 16 lc st h := jq_if (jv_insR jm_196 dX3_isWord_13) rfl (by decide)
theorem e196_16 : jv_ev d 196 16 [some (.ref a), x1] st h = jv_ev d 196 17 [some (.ref a), x1] (.ref a :: st) h := jq_nx (jv_insR jm_196 dX3_isWord_16) rfl
theorem e196_17 : jv_ev d 196 17 lc (.ref a :: st) h = (jv_gf h a [(4, 0, .object "RainLoom$Tokens")]).bind fun r => jv_ev d 196 20 lc (r :: st) h := jq_get (jv_insR jm_196 dX3_isWord_17) jo_196 jF_5_9
theorem e196_20 : jv_ev d 196 20 lc (.ref a :: st) h = (jv_gf h a [(3, 6, .array .short)]).bind fun r => jv_ev d 196 23 lc (r :: st) h := jq_get (jv_insR jm_196 dX3_isWord_20) jo_196 jF_5_52
theorem e196_23 : jv_ev d 196 23 [some (.ref a), x1] st h = jv_ev d 196 24 [some (.ref a), x1] (.ref a :: st) h := jq_nx (jv_insR jm_196 dX3_isWord_23) rfl
theorem e196_24 : jv_ev d 196 24 lc (.ref a :: st) h = (jv_gf h a [(4, 3, .int)]).bind fun r => jv_ev d 196 27 lc (r :: st) h := jq_get (jv_insR jm_196 dX3_isWord_24) jo_196 jF_5_31
theorem e196_27 : jv_ev d 196 27 lc (.int v :: .ref a :: st) h = (jv_ig h a 3 3 v).bind fun w => jv_ev d 196 28 lc (.int w :: st) h := jq_sald (jv_insR jm_196 dX3_isWord_27)
theorem e196_28 : jv_ev d 196 28 [x0, some (.int v)] st h = jv_ev d 196 29 [x0, some (.int v)] (.int v :: st) h := jq_nx (jv_insR jm_196 dX3_isWord_28) rfl
theorem e196_29 : jv_ev d 196 29 lc (.int w :: .int v :: st) h = if ¬ v = w then jv_ev d 196 36 lc st h else jv_ev d 196 32 lc st h := jq_if (jv_insR jm_196 dX3_isWord_29) rfl (by decide)
theorem e196_32 : jv_ev d 196 32 lc st h = jv_ev d 196 33 lc (.int 1 :: st) h := jq_iconst (jv_insR jm_196 dX3_isWord_32) (by decide)
theorem e196_33 : jv_ev d 196 33 lc st h = jv_ev d 196 37 lc st h := jq_go (jv_insR jm_196 dX3_isWord_33) (by decide)
theorem e196_36 : jv_ev d 196 36 lc st h = jv_ev d 196 37 lc (.int 0 :: st) h := jq_iconst (jv_insR jm_196 dX3_isWord_36) (by decide)
theorem e196_37 : jv_ev d 196 37 lc [.int v] h = if narrow .boolean (.int v) = .int v then some (.inl (some (.int v)), h) else none := jq_ret (jv_insR jm_196 dX3_isWord_37) jr_196 (by decide)
/-! 197: RainLoom$Parser.begins(II)V -/
theorem n197 : jv_cd (d + 1) 197 [.ref a0, .int i1, .int i2] h = jv_ev d 197 0 [some (.ref a0), some (.int i1), some (.int i2)] [] h := rfl
theorem e197_0 : jv_ev d 197 0 [x0, some (.int v), x2] st h = jv_ev d 197 1 [x0, some (.int v), x2] (.int v :: st) h := jq_nx (jv_insR jm_197 dX3_begins_0) rfl
theorem e197_1 : jv_ev d 197 1 [x0, x1, some (.int v)] st h = jv_ev d 197 2 [x0, x1, some (.int v)] (.int v :: st) h := jq_nx (jv_insR jm_197 dX3_begins_1) rfl
theorem e197_2 : jv_ev d 197 2 lc (.int w :: .int v :: st) h = if ¬ v = w then jv_ev d 197 11 lc st h else jv_ev d 197 5 lc st h := jq_if (jv_insR jm_197 dX3_begins_2) rfl (by decide)
theorem e197_5 : jv_ev d 197 5 [some (.ref a), x1, x2] st h = jv_ev d 197 6 [some (.ref a), x1, x2] (.ref a :: st) h := jq_nx (jv_insR jm_197 dX3_begins_5) rfl
theorem e197_6 : jv_ev d 197 6 lc st h = jv_ev d 197 7 lc (.int 2 :: st) h := jq_iconst (jv_insR jm_197 dX3_begins_6) (by decide)
theorem e197_7 : jv_ev d 197 7 lc [z0, .ref b] h = (jv_rc h b [(4, 189)]).bind fun y => (jv_cd d y [.ref b, z0] h).bind fun r => jv_on r (fun v h => jv_ev d 197 10 lc (v.toList ++ []) h) (fun q h => some (.inr q, h)) := jq_V (as := [z0]) (rest := []) (jv_insR jm_197 dX3_begins_7) jo_197 jV_5_48 rfl rfl rfl rfl
theorem e197_10 : jv_ev d 197 10 lc (.ref a :: st) h = (jv_cls h a).bind fun ci => if jt_off ≤ a ∧ ci = jt_fault then some (.inr a, h) else none := jq_throw (jv_insR jm_197 dX3_begins_10) rfl
theorem e197_11 : jv_ev d 197 11 [some (.ref a), x1, x2] st h = jv_ev d 197 12 [some (.ref a), x1, x2] (.ref a :: st) h := jq_nx (jv_insR jm_197 dX3_begins_11) rfl
theorem e197_12 : jv_ev d 197 12 lc [.ref b] h = (jv_rc h b [(4, 192)]).bind fun y => (jv_cd d y [.ref b] h).bind fun r => jv_on r (fun v h => jv_ev d 197 15 lc (v.toList ++ []) h) (fun q h => some (.inr q, h)) := jq_V (as := []) (rest := []) (jv_insR jm_197 dX3_begins_12) jo_197 jV_5_59 rfl rfl rfl rfl
theorem e197_15 : jv_ev d 197 15 lc [] h = some (.inl none, h) := jq_retv (jv_insR jm_197 dX3_begins_15) jr_197
/-! 198: RainLoom$Parser.sum()LRainLoom$Sum; -/
theorem n198 : jv_cd (d + 1) 198 [.ref a0] h = jv_ev d 198 0 [some (.ref a0), none, none] [] h := rfl
theorem e198_0 : jv_ev d 198 0 [some (.ref a), x1, x2] st h = jv_ev d 198 1 [some (.ref a), x1, x2] (.ref a :: st) h := jq_nx (jv_insR jm_198 dX3_sum_0) rfl
theorem e198_1 : jv_ev d 198 1 lc [.ref b] h = (jv_rc h b [(4, 199)]).bind fun y => (jv_cd d y [.ref b] h).bind fun r => jv_on r (fun v h => jv_ev d 198 4 lc (v.toList ++ []) h) (fun q h => some (.inr q, h)) := jq_V (as := []) (rest := []) (jv_insR jm_198 dX3_sum_1) jo_198 jV_5_216 rfl rfl rfl rfl
theorem e198_4 : jv_ev d 198 4 [x0, x1, x2] (.ref a :: st) h = jv_ev d 198 5 [x0, some (.ref a), x2] st h := jq_nx (jv_insR jm_198 dX3_sum_4) rfl
theorem e198_5 : jv_ev d 198 5 [some (.ref a), x1, x2] st h = jv_ev d 198 6 [some (.ref a), x1, x2] (.ref a :: st) h := jq_nx (jv_insR jm_198 dX3_sum_5) rfl
theorem e198_6 : jv_ev d 198 6 lc st h = jv_ev d 198 8 lc (.int 43 :: st) h := jq_bipush (jv_insR jm_198 dX3_sum_6) (by decide)
theorem e198_8 : jv_ev d 198 8 lc [z0, .ref b] h = (jv_rc h b [(4, 195)]).bind fun y => (jv_cd d y [.ref b, z0] h).bind fun r => jv_on r (fun v h => jv_ev d 198 11 lc (v.toList ++ []) h) (fun q h => some (.inr q, h)) := jq_V (as := [z0]) (rest := []) (jv_insR jm_198 dX3_sum_8) jo_198 jV_5_55 rfl rfl rfl rfl
theorem e198_11 : jv_ev d 198 11 lc (.int v :: st) h = if ¬ v = 0 then jv_ev d 198 23 lc st h else jv_ev d 198 14 lc st h := jq_if (jv_insR jm_198 dX3_sum_11) rfl (by decide)
theorem e198_14 : jv_ev d 198 14 [some (.ref a), x1, x2] st h = jv_ev d 198 15 [some (.ref a), x1, x2] (.ref a :: st) h := jq_nx (jv_insR jm_198 dX3_sum_14) rfl
theorem e198_15 : jv_ev d 198 15 lc st h = jv_ev d 198 17 lc (.int 45 :: st) h := jq_bipush (jv_insR jm_198 dX3_sum_15) (by decide)
theorem e198_17 : jv_ev d 198 17 lc [z0, .ref b] h = (jv_rc h b [(4, 195)]).bind fun y => (jv_cd d y [.ref b, z0] h).bind fun r => jv_on r (fun v h => jv_ev d 198 20 lc (v.toList ++ []) h) (fun q h => some (.inr q, h)) := jq_V (as := [z0]) (rest := []) (jv_insR jm_198 dX3_sum_17) jo_198 jV_5_55 rfl rfl rfl rfl
theorem e198_20 : jv_ev d 198 20 lc (.int v :: st) h = if v = 0 then jv_ev d 198 57 lc st h else jv_ev d 198 23 lc st h := jq_if (jv_insR jm_198 dX3_sum_20) rfl (by decide)
theorem e198_23 : jv_ev d 198 23 [some (.ref a), x1, x2] st h = jv_ev d 198 24 [some (.ref a), x1, x2] (.ref a :: st) h := jq_nx (jv_insR jm_198 dX3_sum_23) rfl
theorem e198_24 : jv_ev d 198 24 lc (.ref a :: st) h = (jv_gf h a [(4, 0, .object "RainLoom$Tokens")]).bind fun r => jv_ev d 198 27 lc (r :: st) h := jq_get (jv_insR jm_198 dX3_sum_24) jo_198 jF_5_9
theorem e198_27 : jv_ev d 198 27 lc (.ref a :: st) h = (jv_gf h a [(3, 6, .array .short)]).bind fun r => jv_ev d 198 30 lc (r :: st) h := jq_get (jv_insR jm_198 dX3_sum_27) jo_198 jF_5_52
theorem e198_30 : jv_ev d 198 30 [some (.ref a), x1, x2] st h = jv_ev d 198 31 [some (.ref a), x1, x2] (.ref a :: st) h := jq_nx (jv_insR jm_198 dX3_sum_30) rfl
theorem e198_31 : jv_ev d 198 31 lc (.ref a :: st) h = (jv_gf h a [(4, 3, .int)]).bind fun r => jv_ev d 198 34 lc (r :: st) h := jq_get (jv_insR jm_198 dX3_sum_31) jo_198 jF_5_31
theorem e198_34 : jv_ev d 198 34 lc (.int v :: .ref a :: st) h = (jv_ig h a 3 3 v).bind fun w => jv_ev d 198 35 lc (.int w :: st) h := jq_sald (jv_insR jm_198 dX3_sum_34)
theorem e198_35 : jv_ev d 198 35 [x0, x1, x2] (.int v :: st) h = jv_ev d 198 36 [x0, x1, some (.int v)] st h := jq_nx (jv_insR jm_198 dX3_sum_35) rfl
theorem e198_36 : jv_ev d 198 36 [some (.ref a), x1, x2] st h = jv_ev d 198 37 [some (.ref a), x1, x2] (.ref a :: st) h := jq_nx (jv_insR jm_198 dX3_sum_36) rfl
theorem e198_37 : jv_ev d 198 37 lc [.ref b] h = (jv_rc h b [(4, 192)]).bind fun y => (jv_cd d y [.ref b] h).bind fun r => jv_on r (fun v h => jv_ev d 198 40 lc (v.toList ++ []) h) (fun q h => some (.inr q, h)) := jq_V (as := []) (rest := []) (jv_insR jm_198 dX3_sum_37) jo_198 jV_5_59 rfl rfl rfl rfl
theorem e198_40 : jv_ev d 198 40 lc st h = jv_ev d 198 43 lc (.ref h.length :: st) (h ++ [.inr (15, [.int 0, .null, .null])]) := jq_new (jv_insR jm_198 dX3_sum_40) jo_198 jN_5_219 rfl
theorem e198_43 : jv_ev d 198 43 lc (.ref a :: st) h = jv_ev d 198 44 lc (.ref a :: .ref a :: st) h := jq_nx (jv_insR jm_198 dX3_sum_43) rfl
theorem e198_44 : jv_ev d 198 44 [x0, x1, some (.int v)] st h = jv_ev d 198 45 [x0, x1, some (.int v)] (.int v :: st) h := jq_nx (jv_insR jm_198 dX3_sum_44) rfl
theorem e198_45 : jv_ev d 198 45 [x0, some (.ref a), x2] st h = jv_ev d 198 46 [x0, some (.ref a), x2] (.ref a :: st) h := jq_nx (jv_insR jm_198 dX3_sum_45) rfl
theorem e198_46 : jv_ev d 198 46 [some (.ref a), x1, x2] st h = jv_ev d 198 47 [some (.ref a), x1, x2] (.ref a :: st) h := jq_nx (jv_insR jm_198 dX3_sum_46) rfl
theorem e198_47 : jv_ev d 198 47 lc [.ref b, y0, y1, y2, y3] h = (jv_rc h b [(4, 199)]).bind fun y => (jv_cd d y [.ref b] h).bind fun r => jv_on r (fun v h => jv_ev d 198 50 lc (v.toList ++ [y0, y1, y2, y3]) h) (fun q h => some (.inr q, h)) := jq_V (as := []) (rest := [y0, y1, y2, y3]) (jv_insR jm_198 dX3_sum_47) jo_198 jV_5_216 rfl rfl rfl rfl
theorem e198_50 : jv_ev d 198 50 lc [z2, z1, z0, .ref b, y0] h = if jt_off ≤ b ∧ (jt_SU.contains 246 = false ∨ jv_cls h b = some 20) then ((jv_cd d 246 [.ref b, z0, z1, z2] h).bind fun r => jv_on r (fun v h => jv_ev d 198 53 lc (v.toList ++ [y0]) h) (fun q h => some (.inr q, h))) else none := jq_P (as := [z0, z1, z2]) (rest := [y0]) (jv_insR jm_198 dX3_sum_50) jo_198 jP_5_221 rfl rfl rfl rfl
theorem e198_53 : jv_ev d 198 53 [x0, x1, x2] (.ref a :: st) h = jv_ev d 198 54 [x0, some (.ref a), x2] st h := jq_nx (jv_insR jm_198 dX3_sum_53) rfl
theorem e198_54 : jv_ev d 198 54 lc st h = jv_ev d 198 5 lc st h := jq_go (jv_insR jm_198 dX3_sum_54) (by decide)
theorem e198_57 : jv_ev d 198 57 [x0, some (.ref a), x2] st h = jv_ev d 198 58 [x0, some (.ref a), x2] (.ref a :: st) h := jq_nx (jv_insR jm_198 dX3_sum_57) rfl
theorem e198_58 : jv_ev d 198 58 lc [.ref a] h = some (.inl (some (.ref a)), h) := jq_reta (jv_insR jm_198 dX3_sum_58) jr_198 rfl
/-! 199: RainLoom$Parser.part()LRainLoom$Sum; -/
theorem n199 : jv_cd (d + 1) 199 [.ref a0] h = jv_ev d 199 0 [some (.ref a0), none, none] [] h := rfl
theorem e199_0 : jv_ev d 199 0 [some (.ref a), x1, x2] st h = jv_ev d 199 1 [some (.ref a), x1, x2] (.ref a :: st) h := jq_nx (jv_insR jm_199 dX3_part_0) rfl
theorem e199_1 : jv_ev d 199 1 lc [.ref b] h = (jv_rc h b [(4, 200)]).bind fun y => (jv_cd d y [.ref b] h).bind fun r => jv_on r (fun v h => jv_ev d 199 4 lc (v.toList ++ []) h) (fun q h => some (.inr q, h)) := jq_V (as := []) (rest := []) (jv_insR jm_199 dX3_part_1) jo_199 jV_5_224 rfl rfl rfl rfl
theorem e199_4 : jv_ev d 199 4 [x0, x1, x2] (.ref a :: st) h = jv_ev d 199 5 [x0, some (.ref a), x2] st h := jq_nx (jv_insR jm_199 dX3_part_4) rfl
theorem e199_5 : jv_ev d 199 5 [some (.ref a), x1, x2] st h = jv_ev d 199 6 [some (.ref a), x1, x2] (.ref a :: st) h := jq_nx (jv_insR jm_199 dX3_part_5) rfl
theorem e199_6 : jv_ev d 199 6 lc st h = jv_ev d 199 8 lc (.int 42 :: st) h := jq_bipush (jv_insR jm_199 dX3_part_6) (by decide)
theorem e199_8 : jv_ev d 199 8 lc [z0, .ref b] h = (jv_rc h b [(4, 195)]).bind fun y => (jv_cd d y [.ref b, z0] h).bind fun r => jv_on r (fun v h => jv_ev d 199 11 lc (v.toList ++ []) h) (fun q h => some (.inr q, h)) := jq_V (as := [z0]) (rest := []) (jv_insR jm_199 dX3_part_8) jo_199 jV_5_55 rfl rfl rfl rfl
theorem e199_11 : jv_ev d 199 11 lc (.int v :: st) h = if ¬ v = 0 then jv_ev d 199 23 lc st h else jv_ev d 199 14 lc st h := jq_if (jv_insR jm_199 dX3_part_11) rfl (by decide)
theorem e199_14 : jv_ev d 199 14 [some (.ref a), x1, x2] st h = jv_ev d 199 15 [some (.ref a), x1, x2] (.ref a :: st) h := jq_nx (jv_insR jm_199 dX3_part_14) rfl
theorem e199_15 : jv_ev d 199 15 lc st h = jv_ev d 199 17 lc (.int 47 :: st) h := jq_bipush (jv_insR jm_199 dX3_part_15) (by decide)
theorem e199_17 : jv_ev d 199 17 lc [z0, .ref b] h = (jv_rc h b [(4, 195)]).bind fun y => (jv_cd d y [.ref b, z0] h).bind fun r => jv_on r (fun v h => jv_ev d 199 20 lc (v.toList ++ []) h) (fun q h => some (.inr q, h)) := jq_V (as := [z0]) (rest := []) (jv_insR jm_199 dX3_part_17) jo_199 jV_5_55 rfl rfl rfl rfl
theorem e199_20 : jv_ev d 199 20 lc (.int v :: st) h = if v = 0 then jv_ev d 199 57 lc st h else jv_ev d 199 23 lc st h := jq_if (jv_insR jm_199 dX3_part_20) rfl (by decide)
theorem e199_23 : jv_ev d 199 23 [some (.ref a), x1, x2] st h = jv_ev d 199 24 [some (.ref a), x1, x2] (.ref a :: st) h := jq_nx (jv_insR jm_199 dX3_part_23) rfl
theorem e199_24 : jv_ev d 199 24 lc (.ref a :: st) h = (jv_gf h a [(4, 0, .object "RainLoom$Tokens")]).bind fun r => jv_ev d 199 27 lc (r :: st) h := jq_get (jv_insR jm_199 dX3_part_24) jo_199 jF_5_9
theorem e199_27 : jv_ev d 199 27 lc (.ref a :: st) h = (jv_gf h a [(3, 6, .array .short)]).bind fun r => jv_ev d 199 30 lc (r :: st) h := jq_get (jv_insR jm_199 dX3_part_27) jo_199 jF_5_52
theorem e199_30 : jv_ev d 199 30 [some (.ref a), x1, x2] st h = jv_ev d 199 31 [some (.ref a), x1, x2] (.ref a :: st) h := jq_nx (jv_insR jm_199 dX3_part_30) rfl
theorem e199_31 : jv_ev d 199 31 lc (.ref a :: st) h = (jv_gf h a [(4, 3, .int)]).bind fun r => jv_ev d 199 34 lc (r :: st) h := jq_get (jv_insR jm_199 dX3_part_31) jo_199 jF_5_31
theorem e199_34 : jv_ev d 199 34 lc (.int v :: .ref a :: st) h = (jv_ig h a 3 3 v).bind fun w => jv_ev d 199 35 lc (.int w :: st) h := jq_sald (jv_insR jm_199 dX3_part_34)
theorem e199_35 : jv_ev d 199 35 [x0, x1, x2] (.int v :: st) h = jv_ev d 199 36 [x0, x1, some (.int v)] st h := jq_nx (jv_insR jm_199 dX3_part_35) rfl
theorem e199_36 : jv_ev d 199 36 [some (.ref a), x1, x2] st h = jv_ev d 199 37 [some (.ref a), x1, x2] (.ref a :: st) h := jq_nx (jv_insR jm_199 dX3_part_36) rfl
theorem e199_37 : jv_ev d 199 37 lc [.ref b] h = (jv_rc h b [(4, 192)]).bind fun y => (jv_cd d y [.ref b] h).bind fun r => jv_on r (fun v h => jv_ev d 199 40 lc (v.toList ++ []) h) (fun q h => some (.inr q, h)) := jq_V (as := []) (rest := []) (jv_insR jm_199 dX3_part_37) jo_199 jV_5_59 rfl rfl rfl rfl
theorem e199_40 : jv_ev d 199 40 lc st h = jv_ev d 199 43 lc (.ref h.length :: st) (h ++ [.inr (15, [.int 0, .null, .null])]) := jq_new (jv_insR jm_199 dX3_part_40) jo_199 jN_5_219 rfl
theorem e199_43 : jv_ev d 199 43 lc (.ref a :: st) h = jv_ev d 199 44 lc (.ref a :: .ref a :: st) h := jq_nx (jv_insR jm_199 dX3_part_43) rfl
theorem e199_44 : jv_ev d 199 44 [x0, x1, some (.int v)] st h = jv_ev d 199 45 [x0, x1, some (.int v)] (.int v :: st) h := jq_nx (jv_insR jm_199 dX3_part_44) rfl
theorem e199_45 : jv_ev d 199 45 [x0, some (.ref a), x2] st h = jv_ev d 199 46 [x0, some (.ref a), x2] (.ref a :: st) h := jq_nx (jv_insR jm_199 dX3_part_45) rfl
theorem e199_46 : jv_ev d 199 46 [some (.ref a), x1, x2] st h = jv_ev d 199 47 [some (.ref a), x1, x2] (.ref a :: st) h := jq_nx (jv_insR jm_199 dX3_part_46) rfl
theorem e199_47 : jv_ev d 199 47 lc [.ref b, y0, y1, y2, y3] h = (jv_rc h b [(4, 200)]).bind fun y => (jv_cd d y [.ref b] h).bind fun r => jv_on r (fun v h => jv_ev d 199 50 lc (v.toList ++ [y0, y1, y2, y3]) h) (fun q h => some (.inr q, h)) := jq_V (as := []) (rest := [y0, y1, y2, y3]) (jv_insR jm_199 dX3_part_47) jo_199 jV_5_224 rfl rfl rfl rfl
theorem e199_50 : jv_ev d 199 50 lc [z2, z1, z0, .ref b, y0] h = if jt_off ≤ b ∧ (jt_SU.contains 246 = false ∨ jv_cls h b = some 20) then ((jv_cd d 246 [.ref b, z0, z1, z2] h).bind fun r => jv_on r (fun v h => jv_ev d 199 53 lc (v.toList ++ [y0]) h) (fun q h => some (.inr q, h))) else none := jq_P (as := [z0, z1, z2]) (rest := [y0]) (jv_insR jm_199 dX3_part_50) jo_199 jP_5_221 rfl rfl rfl rfl
theorem e199_53 : jv_ev d 199 53 [x0, x1, x2] (.ref a :: st) h = jv_ev d 199 54 [x0, some (.ref a), x2] st h := jq_nx (jv_insR jm_199 dX3_part_53) rfl
theorem e199_54 : jv_ev d 199 54 lc st h = jv_ev d 199 5 lc st h := jq_go (jv_insR jm_199 dX3_part_54) (by decide)
theorem e199_57 : jv_ev d 199 57 [x0, some (.ref a), x2] st h = jv_ev d 199 58 [x0, some (.ref a), x2] (.ref a :: st) h := jq_nx (jv_insR jm_199 dX3_part_57) rfl
theorem e199_58 : jv_ev d 199 58 lc [.ref a] h = some (.inl (some (.ref a)), h) := jq_reta (jv_insR jm_199 dX3_part_58) jr_199 rfl
/-! 200: RainLoom$Parser.unit()LRainLoom$Sum; -/
theorem n200 : jv_cd (d + 1) 200 [.ref a0] h = jv_ev d 200 0 [some (.ref a0), none] [] h := rfl
theorem e200_0 : jv_ev d 200 0 [some (.ref a), x1] st h = jv_ev d 200 1 [some (.ref a), x1] (.ref a :: st) h := jq_nx (jv_insR jm_200 dX3_unit_0) rfl
theorem e200_1 : jv_ev d 200 1 lc [.ref b] h = (jv_rc h b [(4, 188)]).bind fun y => (jv_cd d y [.ref b] h).bind fun r => jv_on r (fun v h => jv_ev d 200 4 lc (v.toList ++ []) h) (fun q h => some (.inr q, h)) := jq_V (as := []) (rest := []) (jv_insR jm_200 dX3_unit_1) jo_200 jV_5_65 rfl rfl rfl rfl
theorem e200_4 : jv_ev d 200 4 lc st h = jv_ev d 200 5 lc (.int 1 :: st) h := jq_iconst (jv_insR jm_200 dX3_unit_4) (by decide)
theorem e200_5 : jv_ev d 200 5 lc (.int w :: .int v :: st) h = if ¬ v = w then jv_ev d 200 33 lc st h else jv_ev d 200 8 lc st h := jq_if (jv_insR jm_200 dX3_unit_5) rfl (by decide)
theorem e200_8 : jv_ev d 200 8 [some (.ref a), x1] st h = jv_ev d 200 9 [some (.ref a), x1] (.ref a :: st) h := jq_nx (jv_insR jm_200 dX3_unit_8) rfl
theorem e200_9 : jv_ev d 200 9 lc [.ref b] h = (jv_rc h b [(4, 192)]).bind fun y => (jv_cd d y [.ref b] h).bind fun r => jv_on r (fun v h => jv_ev d 200 12 lc (v.toList ++ []) h) (fun q h => some (.inr q, h)) := jq_V (as := []) (rest := []) (jv_insR jm_200 dX3_unit_9) jo_200 jV_5_59 rfl rfl rfl rfl
theorem e200_12 : jv_ev d 200 12 lc st h = jv_ev d 200 15 lc (.ref h.length :: st) (h ++ [.inr (13, [.int 0])]) := jq_new (jv_insR jm_200 dX3_unit_12) jo_200 jN_5_227 rfl
theorem e200_15 : jv_ev d 200 15 lc (.ref a :: st) h = jv_ev d 200 16 lc (.ref a :: .ref a :: st) h := jq_nx (jv_insR jm_200 dX3_unit_15) rfl
theorem e200_16 : jv_ev d 200 16 [some (.ref a), x1] st h = jv_ev d 200 17 [some (.ref a), x1] (.ref a :: st) h := jq_nx (jv_insR jm_200 dX3_unit_16) rfl
theorem e200_17 : jv_ev d 200 17 lc (.ref a :: st) h = (jv_gf h a [(4, 0, .object "RainLoom$Tokens")]).bind fun r => jv_ev d 200 20 lc (r :: st) h := jq_get (jv_insR jm_200 dX3_unit_17) jo_200 jF_5_9
theorem e200_20 : jv_ev d 200 20 [some (.ref a), x1] st h = jv_ev d 200 21 [some (.ref a), x1] (.ref a :: st) h := jq_nx (jv_insR jm_200 dX3_unit_20) rfl
theorem e200_21 : jv_ev d 200 21 lc (.ref a :: st) h = (jv_gf h a [(4, 3, .int)]).bind fun r => jv_ev d 200 24 lc (r :: st) h := jq_get (jv_insR jm_200 dX3_unit_21) jo_200 jF_5_31
theorem e200_24 : jv_ev d 200 24 lc st h = jv_ev d 200 25 lc (.int 1 :: st) h := jq_iconst (jv_insR jm_200 dX3_unit_24) (by decide)
theorem e200_25 : jv_ev d 200 25 lc (.int w :: .int v :: st) h = jv_ev d 200 26 lc (.int (v - w) :: st) h := jq_nx (jv_insR jm_200 dX3_unit_25) rfl
theorem e200_26 : jv_ev d 200 26 lc [z0, .ref b, y0, y1] h = (jv_rc h b [(3, 184)]).bind fun y => (jv_cd d y [.ref b, z0] h).bind fun r => jv_on r (fun v h => jv_ev d 200 29 lc (v.toList ++ [y0, y1]) h) (fun q h => some (.inr q, h)) := jq_V (as := [z0]) (rest := [y0, y1]) (jv_insR jm_200 dX3_unit_26) jo_200 jV_5_72 rfl rfl rfl rfl
theorem e200_29 : jv_ev d 200 29 lc [z0, .ref b, y0] h = if jt_off ≤ b ∧ (jt_SU.contains 242 = false ∨ jv_cls h b = some 20) then ((jv_cd d 242 [.ref b, z0] h).bind fun r => jv_on r (fun v h => jv_ev d 200 32 lc (v.toList ++ [y0]) h) (fun q h => some (.inr q, h))) else none := jq_P (as := [z0]) (rest := [y0]) (jv_insR jm_200 dX3_unit_29) jo_200 jP_5_229 rfl rfl rfl rfl
theorem e200_32 : jv_ev d 200 32 lc [.ref a] h = some (.inl (some (.ref a)), h) := jq_reta (jv_insR jm_200 dX3_unit_32) jr_200 rfl
theorem e200_33 : jv_ev d 200 33 [some (.ref a), x1] st h = jv_ev d 200 34 [some (.ref a), x1] (.ref a :: st) h := jq_nx (jv_insR jm_200 dX3_unit_33) rfl
theorem e200_34 : jv_ev d 200 34 lc [.ref b] h = (jv_rc h b [(4, 188)]).bind fun y => (jv_cd d y [.ref b] h).bind fun r => jv_on r (fun v h => jv_ev d 200 37 lc (v.toList ++ []) h) (fun q h => some (.inr q, h)) := jq_V (as := []) (rest := []) (jv_insR jm_200 dX3_unit_34) jo_200 jV_5_65 rfl rfl rfl rfl
theorem e200_37 : jv_ev d 200 37 lc st h = jv_ev d 200 38 lc (.int 3 :: st) h := jq_iconst (jv_insR jm_200 dX3_unit_37) (by decide)
theorem e200_38 : jv_ev d 200 38 lc (.int w :: .int v :: st) h = if ¬ v = w then jv_ev d 200 87 lc st h else jv_ev d 200 41 lc st h := jq_if (jv_insR jm_200 dX3_unit_38) rfl (by decide)
theorem e200_41 : jv_ev d 200 41 [some (.ref a), x1] st h = jv_ev d 200 42 [some (.ref a), x1] (.ref a :: st) h := jq_nx (jv_insR jm_200 dX3_unit_41) rfl
theorem e200_42 : jv_ev d 200 42 lc (.ref a :: st) h = (jv_gf h a [(4, 0, .object "RainLoom$Tokens")]).bind fun r => jv_ev d 200 45 lc (r :: st) h := jq_get (jv_insR jm_200 dX3_unit_42) jo_200 jF_5_9
theorem e200_45 : jv_ev d 200 45 lc (.ref a :: st) h = (jv_gf h a [(3, 6, .array .short)]).bind fun r => jv_ev d 200 48 lc (r :: st) h := jq_get (jv_insR jm_200 dX3_unit_45) jo_200 jF_5_52
theorem e200_48 : jv_ev d 200 48 [some (.ref a), x1] st h = jv_ev d 200 49 [some (.ref a), x1] (.ref a :: st) h := jq_nx (jv_insR jm_200 dX3_unit_48) rfl
theorem e200_49 : jv_ev d 200 49 lc (.ref a :: st) h = (jv_gf h a [(4, 3, .int)]).bind fun r => jv_ev d 200 52 lc (r :: st) h := jq_get (jv_insR jm_200 dX3_unit_49) jo_200 jF_5_31
theorem e200_52 : jv_ev d 200 52 lc (.int v :: .ref a :: st) h = (jv_ig h a 3 3 v).bind fun w => jv_ev d 200 53 lc (.int w :: st) h := jq_sald (jv_insR jm_200 dX3_unit_52)
theorem e200_53 : jv_ev d 200 53 lc st h = jv_ev d 200 55 lc (.int 12 :: st) h := jq_bipush (jv_insR jm_200 dX3_unit_53) (by decide)
theorem e200_55 : jv_ev d 200 55 lc (.int w :: .int v :: st) h = if v < w then jv_ev d 200 87 lc st h else jv_ev d 200 58 lc st h := jq_if (jv_insR jm_200 dX3_unit_55) rfl (by decide)
theorem e200_58 : jv_ev d 200 58 [some (.ref a), x1] st h = jv_ev d 200 59 [some (.ref a), x1] (.ref a :: st) h := jq_nx (jv_insR jm_200 dX3_unit_58) rfl
theorem e200_59 : jv_ev d 200 59 lc [.ref b] h = (jv_rc h b [(4, 192)]).bind fun y => (jv_cd d y [.ref b] h).bind fun r => jv_on r (fun v h => jv_ev d 200 62 lc (v.toList ++ []) h) (fun q h => some (.inr q, h)) := jq_V (as := []) (rest := []) (jv_insR jm_200 dX3_unit_59) jo_200 jV_5_59 rfl rfl rfl rfl
theorem e200_62 : jv_ev d 200 62 lc st h = jv_ev d 200 65 lc (.ref h.length :: st) (h ++ [.inr (14, [.int 0])]) := jq_new (jv_insR jm_200 dX3_unit_62) jo_200 jN_5_231 rfl
theorem e200_65 : jv_ev d 200 65 lc (.ref a :: st) h = jv_ev d 200 66 lc (.ref a :: .ref a :: st) h := jq_nx (jv_insR jm_200 dX3_unit_65) rfl
theorem e200_66 : jv_ev d 200 66 [some (.ref a), x1] st h = jv_ev d 200 67 [some (.ref a), x1] (.ref a :: st) h := jq_nx (jv_insR jm_200 dX3_unit_66) rfl
theorem e200_67 : jv_ev d 200 67 lc (.ref a :: st) h = (jv_gf h a [(4, 0, .object "RainLoom$Tokens")]).bind fun r => jv_ev d 200 70 lc (r :: st) h := jq_get (jv_insR jm_200 dX3_unit_67) jo_200 jF_5_9
theorem e200_70 : jv_ev d 200 70 lc (.ref a :: st) h = (jv_gf h a [(3, 6, .array .short)]).bind fun r => jv_ev d 200 73 lc (r :: st) h := jq_get (jv_insR jm_200 dX3_unit_70) jo_200 jF_5_52
theorem e200_73 : jv_ev d 200 73 [some (.ref a), x1] st h = jv_ev d 200 74 [some (.ref a), x1] (.ref a :: st) h := jq_nx (jv_insR jm_200 dX3_unit_73) rfl
theorem e200_74 : jv_ev d 200 74 lc (.ref a :: st) h = (jv_gf h a [(4, 3, .int)]).bind fun r => jv_ev d 200 77 lc (r :: st) h := jq_get (jv_insR jm_200 dX3_unit_74) jo_200 jF_5_31
theorem e200_77 : jv_ev d 200 77 lc st h = jv_ev d 200 78 lc (.int 1 :: st) h := jq_iconst (jv_insR jm_200 dX3_unit_77) (by decide)
theorem e200_78 : jv_ev d 200 78 lc (.int w :: .int v :: st) h = jv_ev d 200 79 lc (.int (v - w) :: st) h := jq_nx (jv_insR jm_200 dX3_unit_78) rfl
theorem e200_79 : jv_ev d 200 79 lc (.int v :: .ref a :: st) h = (jv_ig h a 3 3 v).bind fun w => jv_ev d 200 80 lc (.int w :: st) h := jq_sald (jv_insR jm_200 dX3_unit_79)
theorem e200_80 : jv_ev d 200 80 lc st h = jv_ev d 200 82 lc (.int 12 :: st) h := jq_bipush (jv_insR jm_200 dX3_unit_80) (by decide)
theorem e200_82 : jv_ev d 200 82 lc (.int w :: .int v :: st) h = jv_ev d 200 83 lc (.int (v - w) :: st) h := jq_nx (jv_insR jm_200 dX3_unit_82) rfl
theorem e200_83 : jv_ev d 200 83 lc [z0, .ref b, y0] h = if jt_off ≤ b ∧ (jt_SU.contains 244 = false ∨ jv_cls h b = some 20) then ((jv_cd d 244 [.ref b, z0] h).bind fun r => jv_on r (fun v h => jv_ev d 200 86 lc (v.toList ++ [y0]) h) (fun q h => some (.inr q, h))) else none := jq_P (as := [z0]) (rest := [y0]) (jv_insR jm_200 dX3_unit_83) jo_200 jP_5_233 rfl rfl rfl rfl
theorem e200_86 : jv_ev d 200 86 lc [.ref a] h = some (.inl (some (.ref a)), h) := jq_reta (jv_insR jm_200 dX3_unit_86) jr_200 rfl
theorem e200_87 : jv_ev d 200 87 [some (.ref a), x1] st h = jv_ev d 200 88 [some (.ref a), x1] (.ref a :: st) h := jq_nx (jv_insR jm_200 dX3_unit_87) rfl
theorem e200_88 : jv_ev d 200 88 lc st h = jv_ev d 200 90 lc (.int 40 :: st) h := jq_bipush (jv_insR jm_200 dX3_unit_88) (by decide)
theorem e200_90 : jv_ev d 200 90 lc [z0, .ref b] h = (jv_rc h b [(4, 195)]).bind fun y => (jv_cd d y [.ref b, z0] h).bind fun r => jv_on r (fun v h => jv_ev d 200 93 lc (v.toList ++ []) h) (fun q h => some (.inr q, h)) := jq_V (as := [z0]) (rest := []) (jv_insR jm_200 dX3_unit_90) jo_200 jV_5_55 rfl rfl rfl rfl
theorem e200_93 : jv_ev d 200 93 lc (.int v :: st) h = if ¬ v = 0 then jv_ev d 200 102 lc st h else jv_ev d 200 96 lc st h := jq_if (jv_insR jm_200 dX3_unit_93) rfl (by decide)
theorem e200_96 : jv_ev d 200 96 [some (.ref a), x1] st h = jv_ev d 200 97 [some (.ref a), x1] (.ref a :: st) h := jq_nx (jv_insR jm_200 dX3_unit_96) rfl
theorem e200_97 : jv_ev d 200 97 lc st h = jv_ev d 200 98 lc (.int 1 :: st) h := jq_iconst (jv_insR jm_200 dX3_unit_97) (by decide)
theorem e200_98 : jv_ev d 200 98 lc [z0, .ref b] h = (jv_rc h b [(4, 189)]).bind fun y => (jv_cd d y [.ref b, z0] h).bind fun r => jv_on r (fun v h => jv_ev d 200 101 lc (v.toList ++ []) h) (fun q h => some (.inr q, h)) := jq_V (as := [z0]) (rest := []) (jv_insR jm_200 dX3_unit_98) jo_200 jV_5_48 rfl rfl rfl rfl
theorem e200_101 : jv_ev d 200 101 lc (.ref a :: st) h = (jv_cls h a).bind fun ci => if jt_off ≤ a ∧ ci = jt_fault then some (.inr a, h) else none := jq_throw (jv_insR jm_200 dX3_unit_101) rfl
theorem e200_102 : jv_ev d 200 102 [some (.ref a), x1] st h = jv_ev d 200 103 [some (.ref a), x1] (.ref a :: st) h := jq_nx (jv_insR jm_200 dX3_unit_102) rfl
theorem e200_103 : jv_ev d 200 103 lc (.ref a :: st) h = (jv_gf h a [(4, 4, .int)]).bind fun r => jv_ev d 200 106 lc (r :: st) h := jq_get (jv_insR jm_200 dX3_unit_103) jo_200 jF_5_96
theorem e200_106 : jv_ev d 200 106 lc st h = jv_ev d 200 108 lc (.int 6 :: st) h := jq_bipush (jv_insR jm_200 dX3_unit_106) (by decide)
theorem e200_108 : jv_ev d 200 108 lc (.int w :: .int v :: st) h = if ¬ v = w then jv_ev d 200 117 lc st h else jv_ev d 200 111 lc st h := jq_if (jv_insR jm_200 dX3_unit_108) rfl (by decide)
theorem e200_111 : jv_ev d 200 111 [some (.ref a), x1] st h = jv_ev d 200 112 [some (.ref a), x1] (.ref a :: st) h := jq_nx (jv_insR jm_200 dX3_unit_111) rfl
theorem e200_112 : jv_ev d 200 112 lc st h = jv_ev d 200 113 lc (.int 2 :: st) h := jq_iconst (jv_insR jm_200 dX3_unit_112) (by decide)
theorem e200_113 : jv_ev d 200 113 lc [z0, .ref b] h = (jv_rc h b [(4, 189)]).bind fun y => (jv_cd d y [.ref b, z0] h).bind fun r => jv_on r (fun v h => jv_ev d 200 116 lc (v.toList ++ []) h) (fun q h => some (.inr q, h)) := jq_V (as := [z0]) (rest := []) (jv_insR jm_200 dX3_unit_113) jo_200 jV_5_48 rfl rfl rfl rfl
theorem e200_116 : jv_ev d 200 116 lc (.ref a :: st) h = (jv_cls h a).bind fun ci => if jt_off ≤ a ∧ ci = jt_fault then some (.inr a, h) else none := jq_throw (jv_insR jm_200 dX3_unit_116) rfl
theorem e200_117 : jv_ev d 200 117 [some (.ref a), x1] st h = jv_ev d 200 118 [some (.ref a), x1] (.ref a :: st) h := jq_nx (jv_insR jm_200 dX3_unit_117) rfl
theorem e200_118 : jv_ev d 200 118 lc (.ref a :: st) h = jv_ev d 200 119 lc (.ref a :: .ref a :: st) h := jq_nx (jv_insR jm_200 dX3_unit_118) rfl
theorem e200_119 : jv_ev d 200 119 lc (.ref a :: st) h = (jv_gf h a [(4, 4, .int)]).bind fun r => jv_ev d 200 122 lc (r :: st) h := jq_get (jv_insR jm_200 dX3_unit_119) jo_200 jF_5_96
theorem e200_122 : jv_ev d 200 122 lc st h = jv_ev d 200 123 lc (.int 1 :: st) h := jq_iconst (jv_insR jm_200 dX3_unit_122) (by decide)
theorem e200_123 : jv_ev d 200 123 lc (.int w :: .int v :: st) h = jv_ev d 200 124 lc (.int (v + w) :: st) h := jq_nx (jv_insR jm_200 dX3_unit_123) rfl
theorem e200_124 : jv_ev d 200 124 lc (r :: .ref a :: st) h = (jv_pf h a [(4, 4, .int)] r).bind fun h => jv_ev d 200 127 lc st h := jq_put (jv_insR jm_200 dX3_unit_124) jo_200 ji_200 jG_5_96
theorem e200_127 : jv_ev d 200 127 [some (.ref a), x1] st h = jv_ev d 200 128 [some (.ref a), x1] (.ref a :: st) h := jq_nx (jv_insR jm_200 dX3_unit_127) rfl
theorem e200_128 : jv_ev d 200 128 lc [.ref b] h = (jv_rc h b [(4, 192)]).bind fun y => (jv_cd d y [.ref b] h).bind fun r => jv_on r (fun v h => jv_ev d 200 131 lc (v.toList ++ []) h) (fun q h => some (.inr q, h)) := jq_V (as := []) (rest := []) (jv_insR jm_200 dX3_unit_128) jo_200 jV_5_59 rfl rfl rfl rfl
theorem e200_131 : jv_ev d 200 131 [some (.ref a), x1] st h = jv_ev d 200 132 [some (.ref a), x1] (.ref a :: st) h := jq_nx (jv_insR jm_200 dX3_unit_131) rfl
theorem e200_132 : jv_ev d 200 132 lc [.ref b] h = (jv_rc h b [(4, 198)]).bind fun y => (jv_cd d y [.ref b] h).bind fun r => jv_on r (fun v h => jv_ev d 200 135 lc (v.toList ++ []) h) (fun q h => some (.inr q, h)) := jq_V (as := []) (rest := []) (jv_insR jm_200 dX3_unit_132) jo_200 jV_5_203 rfl rfl rfl rfl
theorem e200_135 : jv_ev d 200 135 [x0, x1] (.ref a :: st) h = jv_ev d 200 136 [x0, some (.ref a)] st h := jq_nx (jv_insR jm_200 dX3_unit_135) rfl
theorem e200_136 : jv_ev d 200 136 [some (.ref a), x1] st h = jv_ev d 200 137 [some (.ref a), x1] (.ref a :: st) h := jq_nx (jv_insR jm_200 dX3_unit_136) rfl
theorem e200_137 : jv_ev d 200 137 lc st h = jv_ev d 200 139 lc (.int 41 :: st) h := jq_bipush (jv_insR jm_200 dX3_unit_137) (by decide)
theorem e200_139 : jv_ev d 200 139 lc [z0, .ref b] h = (jv_rc h b [(4, 194)]).bind fun y => (jv_cd d y [.ref b, z0] h).bind fun r => jv_on r (fun v h => jv_ev d 200 142 lc (v.toList ++ []) h) (fun q h => some (.inr q, h)) := jq_V (as := [z0]) (rest := []) (jv_insR jm_200 dX3_unit_139) jo_200 jV_5_102 rfl rfl rfl rfl
theorem e200_142 : jv_ev d 200 142 [some (.ref a), x1] st h = jv_ev d 200 143 [some (.ref a), x1] (.ref a :: st) h := jq_nx (jv_insR jm_200 dX3_unit_142) rfl
theorem e200_143 : jv_ev d 200 143 lc (.ref a :: st) h = jv_ev d 200 144 lc (.ref a :: .ref a :: st) h := jq_nx (jv_insR jm_200 dX3_unit_143) rfl
theorem e200_144 : jv_ev d 200 144 lc (.ref a :: st) h = (jv_gf h a [(4, 4, .int)]).bind fun r => jv_ev d 200 147 lc (r :: st) h := jq_get (jv_insR jm_200 dX3_unit_144) jo_200 jF_5_96
theorem e200_147 : jv_ev d 200 147 lc st h = jv_ev d 200 148 lc (.int 1 :: st) h := jq_iconst (jv_insR jm_200 dX3_unit_147) (by decide)
theorem e200_148 : jv_ev d 200 148 lc (.int w :: .int v :: st) h = jv_ev d 200 149 lc (.int (v - w) :: st) h := jq_nx (jv_insR jm_200 dX3_unit_148) rfl
theorem e200_149 : jv_ev d 200 149 lc (r :: .ref a :: st) h = (jv_pf h a [(4, 4, .int)] r).bind fun h => jv_ev d 200 152 lc st h := jq_put (jv_insR jm_200 dX3_unit_149) jo_200 ji_200 jG_5_96
theorem e200_152 : jv_ev d 200 152 [x0, some (.ref a)] st h = jv_ev d 200 153 [x0, some (.ref a)] (.ref a :: st) h := jq_nx (jv_insR jm_200 dX3_unit_152) rfl
theorem e200_153 : jv_ev d 200 153 lc [.ref a] h = some (.inl (some (.ref a)), h) := jq_reta (jv_insR jm_200 dX3_unit_153) jr_200 rfl
/-! 201: RainLoom$Parser.word(I)V -/
theorem n201 : jv_cd (d + 1) 201 [.ref a0, .int i1] h = jv_ev d 201 0 [some (.ref a0), some (.int i1)] [] h := rfl
theorem e201_0 : jv_ev d 201 0 [some (.ref a), x1] st h = jv_ev d 201 1 [some (.ref a), x1] (.ref a :: st) h := jq_nx (jv_insR jm_201 dX3_word_0) rfl
theorem e201_1 : jv_ev d 201 1 [x0, some (.int v)] st h = jv_ev d 201 2 [x0, some (.int v)] (.int v :: st) h := jq_nx (jv_insR jm_201 dX3_word_1) rfl
theorem e201_2 : jv_ev d 201 2 lc [z0, .ref b] h = (jv_rc h b [(4, 196)]).bind fun y => (jv_cd d y [.ref b, z0] h).bind fun r => jv_on r (fun v h => jv_ev d 201 5 lc (v.toList ++ []) h) (fun q h => some (.inr q, h)) := jq_V (as := [z0]) (rest := []) (jv_insR jm_201 dX3_word_2) jo_201 jV_5_62 rfl rfl rfl rfl
theorem e201_5 : jv_ev d 201 5 lc (.int v :: st) h = if ¬ v = 0 then jv_ev d 201 14 lc st h else jv_ev d 201 8 lc st h := jq_if (jv_insR jm_201 dX3_word_5) rfl (by decide)
theorem e201_8 : jv_ev d 201 8 [some (.ref a), x1] st h = jv_ev d 201 9 [some (.ref a), x1] (.ref a :: st) h := jq_nx (jv_insR jm_201 dX3_word_8) rfl
theorem e201_9 : jv_ev d 201 9 lc st h = jv_ev d 201 10 lc (.int 1 :: st) h := jq_iconst (jv_insR jm_201 dX3_word_9) (by decide)
theorem e201_10 : jv_ev d 201 10 lc [z0, .ref b] h = (jv_rc h b [(4, 189)]).bind fun y => (jv_cd d y [.ref b, z0] h).bind fun r => jv_on r (fun v h => jv_ev d 201 13 lc (v.toList ++ []) h) (fun q h => some (.inr q, h)) := jq_V (as := [z0]) (rest := []) (jv_insR jm_201 dX3_word_10) jo_201 jV_5_48 rfl rfl rfl rfl
theorem e201_13 : jv_ev d 201 13 lc (.ref a :: st) h = (jv_cls h a).bind fun ci => if jt_off ≤ a ∧ ci = jt_fault then some (.inr a, h) else none := jq_throw (jv_insR jm_201 dX3_word_13) rfl
theorem e201_14 : jv_ev d 201 14 [some (.ref a), x1] st h = jv_ev d 201 15 [some (.ref a), x1] (.ref a :: st) h := jq_nx (jv_insR jm_201 dX3_word_14) rfl
theorem e201_15 : jv_ev d 201 15 lc [.ref b] h = (jv_rc h b [(4, 192)]).bind fun y => (jv_cd d y [.ref b] h).bind fun r => jv_on r (fun v h => jv_ev d 201 18 lc (v.toList ++ []) h) (fun q h => some (.inr q, h)) := jq_V (as := []) (rest := []) (jv_insR jm_201 dX3_word_15) jo_201 jV_5_59 rfl rfl rfl rfl
theorem e201_18 : jv_ev d 201 18 lc [] h = some (.inl none, h) := jq_retv (jv_insR jm_201 dX3_word_18) jr_201
/-! 202: RainLoom$Parser.rowTold()V -/
theorem n202 : jv_cd (d + 1) 202 [.ref a0] h = jv_ev d 202 0 [some (.ref a0), none, none, none, none, none] [] h := rfl
theorem e202_0 : jv_ev d 202 0 [some (.ref a), x1, x2, x3, x4, x5] st h = jv_ev d 202 1 [some (.ref a), x1, x2, x3, x4, x5] (.ref a :: st) h := jq_nx (jv_insR jm_202 dX3_rowTold_0) rfl
theorem e202_1 : jv_ev d 202 1 [some (.ref a), x1, x2, x3, x4, x5] st h = jv_ev d 202 2 [some (.ref a), x1, x2, x3, x4, x5] (.ref a :: st) h := jq_nx (jv_insR jm_202 dX3_rowTold_1) rfl
theorem e202_2 : jv_ev d 202 2 lc (.ref a :: st) h = (jv_gf h a [(4, 2, .object "RainLoom$Text")]).bind fun r => jv_ev d 202 5 lc (r :: st) h := jq_get (jv_insR jm_202 dX3_rowTold_2) jo_202 jF_5_83
theorem e202_5 : jv_ev d 202 5 lc (.ref a :: st) h = (jv_gf h a [(5, 4, .int)]).bind fun r => jv_ev d 202 8 lc (r :: st) h := jq_get (jv_insR jm_202 dX3_rowTold_5) jo_202 jF_5_176
theorem e202_8 : jv_ev d 202 8 lc st h = jv_ev d 202 10 lc (.int 6 :: st) h := jq_bipush (jv_insR jm_202 dX3_rowTold_8) (by decide)
theorem e202_10 : jv_ev d 202 10 lc [z1, z0, .ref b] h = (jv_rc h b [(4, 197)]).bind fun y => (jv_cd d y [.ref b, z0, z1] h).bind fun r => jv_on r (fun v h => jv_ev d 202 13 lc (v.toList ++ []) h) (fun q h => some (.inr q, h)) := jq_V (as := [z0, z1]) (rest := []) (jv_insR jm_202 dX3_rowTold_10) jo_202 jV_5_130 rfl rfl rfl rfl
theorem e202_13 : jv_ev d 202 13 [some (.ref a), x1, x2, x3, x4, x5] st h = jv_ev d 202 14 [some (.ref a), x1, x2, x3, x4, x5] (.ref a :: st) h := jq_nx (jv_insR jm_202 dX3_rowTold_13) rfl
theorem e202_14 : jv_ev d 202 14 lc st h = jv_ev d 202 15 lc (.int 0 :: st) h := jq_iconst (jv_insR jm_202 dX3_rowTold_14) (by decide)
theorem e202_15 : jv_ev d 202 15 lc [z0, .ref b] h = (jv_rc h b [(4, 203)]).bind fun y => (jv_cd d y [.ref b, z0] h).bind fun r => jv_on r (fun v h => jv_ev d 202 18 lc (v.toList ++ []) h) (fun q h => some (.inr q, h)) := jq_V (as := [z0]) (rest := []) (jv_insR jm_202 dX3_rowTold_15) jo_202 jV_5_68 rfl rfl rfl rfl
theorem e202_18 : jv_ev d 202 18 [x0, x1, x2, x3, x4, x5] (.int v :: st) h = jv_ev d 202 19 [x0, some (.int v), x2, x3, x4, x5] st h := jq_nx (jv_insR jm_202 dX3_rowTold_18) rfl
theorem e202_19 : jv_ev d 202 19 [some (.ref a), x1, x2, x3, x4, x5] st h = jv_ev d 202 20 [some (.ref a), x1, x2, x3, x4, x5] (.ref a :: st) h := jq_nx (jv_insR jm_202 dX3_rowTold_19) rfl
theorem e202_20 : jv_ev d 202 20 lc (.ref a :: st) h = (jv_gf h a [(4, 0, .object "RainLoom$Tokens")]).bind fun r => jv_ev d 202 23 lc (r :: st) h := jq_get (jv_insR jm_202 dX3_rowTold_20) jo_202 jF_5_9
theorem e202_23 : jv_ev d 202 23 [x0, some (.int v), x2, x3, x4, x5] st h = jv_ev d 202 24 [x0, some (.int v), x2, x3, x4, x5] (.int v :: st) h := jq_nx (jv_insR jm_202 dX3_rowTold_23) rfl
theorem e202_24 : jv_ev d 202 24 lc [z0, .ref b] h = (jv_rc h b [(3, 185)]).bind fun y => (jv_cd d y [.ref b, z0] h).bind fun r => jv_on r (fun v h => jv_ev d 202 27 lc (v.toList ++ []) h) (fun q h => some (.inr q, h)) := jq_V (as := [z0]) (rest := []) (jv_insR jm_202 dX3_rowTold_24) jo_202 jV_5_79 rfl rfl rfl rfl
theorem e202_27 : jv_ev d 202 27 [x0, x1, x2, x3, x4, x5] (.ref a :: st) h = jv_ev d 202 28 [x0, x1, some (.ref a), x3, x4, x5] st h := jq_nx (jv_insR jm_202 dX3_rowTold_27) rfl
theorem e202_28 : jv_ev d 202 28 [some (.ref a), x1, x2, x3, x4, x5] st h = jv_ev d 202 29 [some (.ref a), x1, x2, x3, x4, x5] (.ref a :: st) h := jq_nx (jv_insR jm_202 dX3_rowTold_28) rfl
theorem e202_29 : jv_ev d 202 29 lc (.ref a :: st) h = (jv_gf h a [(4, 2, .object "RainLoom$Text")]).bind fun r => jv_ev d 202 32 lc (r :: st) h := jq_get (jv_insR jm_202 dX3_rowTold_29) jo_202 jF_5_83
theorem e202_32 : jv_ev d 202 32 lc (.ref a :: st) h = (jv_gf h a [(5, 4, .int)]).bind fun r => jv_ev d 202 35 lc (r :: st) h := jq_get (jv_insR jm_202 dX3_rowTold_32) jo_202 jF_5_176
theorem e202_35 : jv_ev d 202 35 lc (.int v :: st) h = if ¬ v = 0 then jv_ev d 202 49 lc st h else jv_ev d 202 38 lc st h := jq_if (jv_insR jm_202 dX3_rowTold_35) rfl (by decide)
theorem e202_38 : jv_ev d 202 38 [some (.ref a), x1, x2, x3, x4, x5] st h = jv_ev d 202 39 [some (.ref a), x1, x2, x3, x4, x5] (.ref a :: st) h := jq_nx (jv_insR jm_202 dX3_rowTold_38) rfl
theorem e202_39 : jv_ev d 202 39 lc (.ref a :: st) h = (jv_gf h a [(4, 2, .object "RainLoom$Text")]).bind fun r => jv_ev d 202 42 lc (r :: st) h := jq_get (jv_insR jm_202 dX3_rowTold_39) jo_202 jF_5_83
theorem e202_42 : jv_ev d 202 42 [x0, x1, some (.ref a), x3, x4, x5] st h = jv_ev d 202 43 [x0, x1, some (.ref a), x3, x4, x5] (.ref a :: st) h := jq_nx (jv_insR jm_202 dX3_rowTold_42) rfl
theorem e202_43 : jv_ev d 202 43 lc [.ref b, y0] h = (jv_rc h b [(19, 268)]).bind fun y => (jv_cd d y [.ref b] h).bind fun r => jv_on r (fun v h => jv_ev d 202 46 lc (v.toList ++ [y0]) h) (fun q h => some (.inr q, h)) := jq_V (as := []) (rest := [y0]) (jv_insR jm_202 dX3_rowTold_43) jo_202 jV_5_179 rfl rfl rfl rfl
theorem e202_46 : jv_ev d 202 46 lc (r :: .ref a :: st) h = (jv_pf h a [(5, 5, .int)] r).bind fun h => jv_ev d 202 49 lc st h := jq_put (jv_insR jm_202 dX3_rowTold_46) jo_202 ji_202 jG_5_184
theorem e202_49 : jv_ev d 202 49 [x0, x1, some (.ref a), x3, x4, x5] st h = jv_ev d 202 50 [x0, x1, some (.ref a), x3, x4, x5] (.ref a :: st) h := jq_nx (jv_insR jm_202 dX3_rowTold_49) rfl
theorem e202_50 : jv_ev d 202 50 lc [.ref b] h = (jv_rc h b [(19, 268)]).bind fun y => (jv_cd d y [.ref b] h).bind fun r => jv_on r (fun v h => jv_ev d 202 53 lc (v.toList ++ []) h) (fun q h => some (.inr q, h)) := jq_V (as := []) (rest := []) (jv_insR jm_202 dX3_rowTold_50) jo_202 jV_5_179 rfl rfl rfl rfl
theorem e202_53 : jv_ev d 202 53 [some (.ref a), x1, x2, x3, x4, x5] st h = jv_ev d 202 54 [some (.ref a), x1, x2, x3, x4, x5] (.ref a :: st) h := jq_nx (jv_insR jm_202 dX3_rowTold_53) rfl
theorem e202_54 : jv_ev d 202 54 lc (.ref a :: st) h = (jv_gf h a [(4, 2, .object "RainLoom$Text")]).bind fun r => jv_ev d 202 57 lc (r :: st) h := jq_get (jv_insR jm_202 dX3_rowTold_54) jo_202 jF_5_83
theorem e202_57 : jv_ev d 202 57 lc (.ref a :: st) h = (jv_gf h a [(5, 5, .int)]).bind fun r => jv_ev d 202 60 lc (r :: st) h := jq_get (jv_insR jm_202 dX3_rowTold_57) jo_202 jF_5_184
theorem e202_60 : jv_ev d 202 60 lc (.int w :: .int v :: st) h = if ¬ v = w then jv_ev d 202 67 lc st h else jv_ev d 202 63 lc st h := jq_if (jv_insR jm_202 dX3_rowTold_60) rfl (by decide)
theorem e202_63 : jv_ev d 202 63 lc st h = jv_ev d 202 64 lc (.int 1 :: st) h := jq_iconst (jv_insR jm_202 dX3_rowTold_63) (by decide)
theorem e202_64 : jv_ev d 202 64 lc st h = jv_ev d 202 68 lc st h := jq_go (jv_insR jm_202 dX3_rowTold_64) (by decide)
theorem e202_67 : jv_ev d 202 67 lc st h = jv_ev d 202 68 lc (.int 0 :: st) h := jq_iconst (jv_insR jm_202 dX3_rowTold_67) (by decide)
theorem e202_68 : jv_ev d 202 68 [x0, x1, x2, x3, x4, x5] (.int v :: st) h = jv_ev d 202 69 [x0, x1, x2, some (.int v), x4, x5] st h := jq_nx (jv_insR jm_202 dX3_rowTold_68) rfl
theorem e202_69 : jv_ev d 202 69 lc st h = jv_ev d 202 70 lc (.int 0 :: st) h := jq_iconst (jv_insR jm_202 dX3_rowTold_69) (by decide)
theorem e202_70 : jv_ev d 202 70 [x0, x1, x2, x3, x4, x5] (.int v :: st) h = jv_ev d 202 72 [x0, x1, x2, x3, some (.int v), x5] st h := jq_nx (jv_insR jm_202 dX3_rowTold_70) rfl
theorem e202_72 : jv_ev d 202 72 [x0, x1, x2, x3, some (.int v), x5] st h = jv_ev d 202 74 [x0, x1, x2, x3, some (.int v), x5] (.int v :: st) h := jq_nx (jv_insR jm_202 dX3_rowTold_72) rfl
theorem e202_74 : jv_ev d 202 74 [x0, x1, some (.ref a), x3, x4, x5] st h = jv_ev d 202 75 [x0, x1, some (.ref a), x3, x4, x5] (.ref a :: st) h := jq_nx (jv_insR jm_202 dX3_rowTold_74) rfl
theorem e202_75 : jv_ev d 202 75 lc [.ref b, y0] h = (jv_rc h b [(19, 268)]).bind fun y => (jv_cd d y [.ref b] h).bind fun r => jv_on r (fun v h => jv_ev d 202 78 lc (v.toList ++ [y0]) h) (fun q h => some (.inr q, h)) := jq_V (as := []) (rest := [y0]) (jv_insR jm_202 dX3_rowTold_75) jo_202 jV_5_179 rfl rfl rfl rfl
theorem e202_78 : jv_ev d 202 78 lc (.int w :: .int v :: st) h = if w ≤ v then jv_ev d 202 171 lc st h else jv_ev d 202 81 lc st h := jq_if (jv_insR jm_202 dX3_rowTold_78) rfl (by decide)
theorem e202_81 : jv_ev d 202 81 [x0, x1, some (.ref a), x3, x4, x5] st h = jv_ev d 202 82 [x0, x1, some (.ref a), x3, x4, x5] (.ref a :: st) h := jq_nx (jv_insR jm_202 dX3_rowTold_81) rfl
theorem e202_82 : jv_ev d 202 82 [x0, x1, x2, x3, some (.int v), x5] st h = jv_ev d 202 84 [x0, x1, x2, x3, some (.int v), x5] (.int v :: st) h := jq_nx (jv_insR jm_202 dX3_rowTold_82) rfl
theorem e202_84 : jv_ev d 202 84 lc [z0, .ref b] h = (jv_rc h b [(19, 270)]).bind fun y => (jv_cd d y [.ref b, z0] h).bind fun r => jv_on r (fun v h => jv_ev d 202 87 lc (v.toList ++ []) h) (fun q h => some (.inr q, h)) := jq_V (as := [z0]) (rest := []) (jv_insR jm_202 dX3_rowTold_84) jo_202 jV_5_185 rfl rfl rfl rfl
theorem e202_87 : jv_ev d 202 87 [x0, x1, x2, x3, x4, x5] (.int v :: st) h = jv_ev d 202 89 [x0, x1, x2, x3, x4, some (.int v)] st h := jq_nx (jv_insR jm_202 dX3_rowTold_87) rfl
theorem e202_89 : jv_ev d 202 89 [x0, x1, x2, some (.int v), x4, x5] st h = jv_ev d 202 90 [x0, x1, x2, some (.int v), x4, x5] (.int v :: st) h := jq_nx (jv_insR jm_202 dX3_rowTold_89) rfl
theorem e202_90 : jv_ev d 202 90 lc (.int v :: st) h = if v = 0 then jv_ev d 202 118 lc st h else jv_ev d 202 93 lc st h := jq_if (jv_insR jm_202 dX3_rowTold_90) rfl (by decide)
theorem e202_93 : jv_ev d 202 93 [x0, x1, x2, x3, x4, some (.int v)] st h = jv_ev d 202 95 [x0, x1, x2, x3, x4, some (.int v)] (.int v :: st) h := jq_nx (jv_insR jm_202 dX3_rowTold_93) rfl
theorem e202_95 : jv_ev d 202 95 lc st h = jv_ev d 202 97 lc (.int 111 :: st) h := jq_bipush (jv_insR jm_202 dX3_rowTold_95) (by decide)
theorem e202_97 : jv_ev d 202 97 lc (.int w :: .int v :: st) h = if v = w then jv_ev d 202 114 lc st h else jv_ev d 202 100 lc st h := jq_if (jv_insR jm_202 dX3_rowTold_97) rfl (by decide)
theorem e202_100 : jv_ev d 202 100 [x0, x1, x2, x3, x4, some (.int v)] st h = jv_ev d 202 102 [x0, x1, x2, x3, x4, some (.int v)] (.int v :: st) h := jq_nx (jv_insR jm_202 dX3_rowTold_100) rfl
theorem e202_102 : jv_ev d 202 102 lc st h = jv_ev d 202 104 lc (.int 97 :: st) h := jq_bipush (jv_insR jm_202 dX3_rowTold_102) (by decide)
theorem e202_104 : jv_ev d 202 104 lc (.int w :: .int v :: st) h = if v < w then jv_ev d 202 118 lc st h else jv_ev d 202 107 lc st h := jq_if (jv_insR jm_202 dX3_rowTold_104) rfl (by decide)
theorem e202_107 : jv_ev d 202 107 [x0, x1, x2, x3, x4, some (.int v)] st h = jv_ev d 202 109 [x0, x1, x2, x3, x4, some (.int v)] (.int v :: st) h := jq_nx (jv_insR jm_202 dX3_rowTold_107) rfl
theorem e202_109 : jv_ev d 202 109 lc st h = jv_ev d 202 111 lc (.int 102 :: st) h := jq_bipush (jv_insR jm_202 dX3_rowTold_109) (by decide)
theorem e202_111 : jv_ev d 202 111 lc (.int w :: .int v :: st) h = if w < v then jv_ev d 202 118 lc st h else jv_ev d 202 114 lc st h := jq_if (jv_insR jm_202 dX3_rowTold_111) rfl (by decide)
theorem e202_114 : jv_ev d 202 114 lc st h = jv_ev d 202 115 lc (.int 1 :: st) h := jq_iconst (jv_insR jm_202 dX3_rowTold_114) (by decide)
theorem e202_115 : jv_ev d 202 115 lc st h = jv_ev d 202 119 lc st h := jq_go (jv_insR jm_202 dX3_rowTold_115) (by decide)
theorem e202_118 : jv_ev d 202 118 lc st h = jv_ev d 202 119 lc (.int 0 :: st) h := jq_iconst (jv_insR jm_202 dX3_rowTold_118) (by decide)
theorem e202_119 : jv_ev d 202 119 [x0, x1, x2, x3, x4, x5] (.int v :: st) h = jv_ev d 202 120 [x0, x1, x2, some (.int v), x4, x5] st h := jq_nx (jv_insR jm_202 dX3_rowTold_119) rfl
theorem e202_120 : jv_ev d 202 120 [some (.ref a), x1, x2, x3, x4, x5] st h = jv_ev d 202 121 [some (.ref a), x1, x2, x3, x4, x5] (.ref a :: st) h := jq_nx (jv_insR jm_202 dX3_rowTold_120) rfl
theorem e202_121 : jv_ev d 202 121 lc (.ref a :: st) h = (jv_gf h a [(4, 2, .object "RainLoom$Text")]).bind fun r => jv_ev d 202 124 lc (r :: st) h := jq_get (jv_insR jm_202 dX3_rowTold_121) jo_202 jF_5_83
theorem e202_124 : jv_ev d 202 124 lc (.ref a :: st) h = (jv_gf h a [(5, 0, .array .int)]).bind fun r => jv_ev d 202 127 lc (r :: st) h := jq_get (jv_insR jm_202 dX3_rowTold_124) jo_202 jF_5_189
theorem e202_127 : jv_ev d 202 127 [some (.ref a), x1, x2, x3, x4, x5] st h = jv_ev d 202 128 [some (.ref a), x1, x2, x3, x4, x5] (.ref a :: st) h := jq_nx (jv_insR jm_202 dX3_rowTold_127) rfl
theorem e202_128 : jv_ev d 202 128 lc (.ref a :: st) h = (jv_gf h a [(4, 2, .object "RainLoom$Text")]).bind fun r => jv_ev d 202 131 lc (r :: st) h := jq_get (jv_insR jm_202 dX3_rowTold_128) jo_202 jF_5_83
theorem e202_131 : jv_ev d 202 131 lc (.ref a :: st) h = (jv_gf h a [(5, 4, .int)]).bind fun r => jv_ev d 202 134 lc (r :: st) h := jq_get (jv_insR jm_202 dX3_rowTold_131) jo_202 jF_5_176
theorem e202_134 : jv_ev d 202 134 lc st h = jv_ev d 202 136 lc (.int 8 :: st) h := jq_bipush (jv_insR jm_202 dX3_rowTold_134) (by decide)
theorem e202_136 : jv_ev d 202 136 lc (.int w :: .int v :: st) h = jv_ev d 202 137 lc (.int (v * w) :: st) h := jq_nx (jv_insR jm_202 dX3_rowTold_136) rfl
theorem e202_137 : jv_ev d 202 137 [x0, x1, x2, x3, some (.int v), x5] st h = jv_ev d 202 139 [x0, x1, x2, x3, some (.int v), x5] (.int v :: st) h := jq_nx (jv_insR jm_202 dX3_rowTold_137) rfl
theorem e202_139 : jv_ev d 202 139 lc (.int w :: .int v :: st) h = jv_ev d 202 140 lc (.int (v + w) :: st) h := jq_nx (jv_insR jm_202 dX3_rowTold_139) rfl
theorem e202_140 : jv_ev d 202 140 [x0, x1, x2, x3, x4, some (.int v)] st h = jv_ev d 202 142 [x0, x1, x2, x3, x4, some (.int v)] (.int v :: st) h := jq_nx (jv_insR jm_202 dX3_rowTold_140) rfl
theorem e202_142 : jv_ev d 202 142 lc st h = jv_ev d 202 144 lc (.int 97 :: st) h := jq_bipush (jv_insR jm_202 dX3_rowTold_142) (by decide)
theorem e202_144 : jv_ev d 202 144 lc (.int w :: .int v :: st) h = if v < w then jv_ev d 202 162 lc st h else jv_ev d 202 147 lc st h := jq_if (jv_insR jm_202 dX3_rowTold_144) rfl (by decide)
theorem e202_147 : jv_ev d 202 147 [x0, x1, x2, x3, x4, some (.int v)] st h = jv_ev d 202 149 [x0, x1, x2, x3, x4, some (.int v)] (.int v :: st) h := jq_nx (jv_insR jm_202 dX3_rowTold_147) rfl
theorem e202_149 : jv_ev d 202 149 lc st h = jv_ev d 202 151 lc (.int 102 :: st) h := jq_bipush (jv_insR jm_202 dX3_rowTold_149) (by decide)
theorem e202_151 : jv_ev d 202 151 lc (.int w :: .int v :: st) h = if w < v then jv_ev d 202 162 lc st h else jv_ev d 202 154 lc st h := jq_if (jv_insR jm_202 dX3_rowTold_151) rfl (by decide)
theorem e202_154 : jv_ev d 202 154 [x0, x1, x2, x3, x4, some (.int v)] st h = jv_ev d 202 156 [x0, x1, x2, x3, x4, some (.int v)] (.int v :: st) h := jq_nx (jv_insR jm_202 dX3_rowTold_154) rfl
theorem e202_156 : jv_ev d 202 156 lc st h = jv_ev d 202 158 lc (.int 97 :: st) h := jq_bipush (jv_insR jm_202 dX3_rowTold_156) (by decide)
theorem e202_158 : jv_ev d 202 158 lc (.int w :: .int v :: st) h = jv_ev d 202 159 lc (.int (v - w) :: st) h := jq_nx (jv_insR jm_202 dX3_rowTold_158) rfl
theorem e202_159 : jv_ev d 202 159 lc st h = jv_ev d 202 164 lc st h := jq_go (jv_insR jm_202 dX3_rowTold_159) (by decide)
theorem e202_162 : jv_ev d 202 162 lc st h = jv_ev d 202 164 lc (.int (-2) :: st) h := jq_bipush (jv_insR jm_202 dX3_rowTold_162) (by decide)
theorem e202_164 : jv_ev d 202 164 lc (.int w :: .int v :: .ref a :: st) h = (jv_ip h a 0 0 v w).bind fun h => jv_ev d 202 165 lc st h := jq_iast (jv_insR jm_202 dX3_rowTold_164)
theorem e202_165 : jv_ev d 202 165 [x0, x1, x2, x3, some (.int v), x5] st h = jv_ev d 202 168 [x0, x1, x2, x3, some (.int (v + 1)), x5] st h := jq_nx (jv_insR jm_202 dX3_rowTold_165) rfl
theorem e202_168 : jv_ev d 202 168 lc st h = jv_ev d 202 72 lc st h := jq_go (jv_insR jm_202 dX3_rowTold_168) (by decide)
theorem e202_171 : jv_ev d 202 171 [x0, x1, x2, some (.int v), x4, x5] st h = jv_ev d 202 172 [x0, x1, x2, some (.int v), x4, x5] (.int v :: st) h := jq_nx (jv_insR jm_202 dX3_rowTold_171) rfl
theorem e202_172 : jv_ev d 202 172 lc (.int v :: st) h = if ¬ v = 0 then jv_ev d 202 182 lc st h else jv_ev d 202 175 lc st h := jq_if (jv_insR jm_202 dX3_rowTold_172) rfl (by decide)
theorem e202_175 : jv_ev d 202 175 [some (.ref a), x1, x2, x3, x4, x5] st h = jv_ev d 202 176 [some (.ref a), x1, x2, x3, x4, x5] (.ref a :: st) h := jq_nx (jv_insR jm_202 dX3_rowTold_175) rfl
theorem e202_176 : jv_ev d 202 176 lc st h = jv_ev d 202 178 lc (.int 6 :: st) h := jq_bipush (jv_insR jm_202 dX3_rowTold_176) (by decide)
theorem e202_178 : jv_ev d 202 178 [x0, some (.int v), x2, x3, x4, x5] st h = jv_ev d 202 179 [x0, some (.int v), x2, x3, x4, x5] (.int v :: st) h := jq_nx (jv_insR jm_202 dX3_rowTold_178) rfl
theorem e202_179 : jv_ev d 202 179 lc [z1, z0, .ref b] h = (jv_rc h b [(4, 204)]).bind fun y => (jv_cd d y [.ref b, z0, z1] h).bind fun r => jv_on r (fun v h => jv_ev d 202 182 lc (v.toList ++ []) h) (fun q h => some (.inr q, h)) := jq_V (as := [z0, z1]) (rest := []) (jv_insR jm_202 dX3_rowTold_179) jo_202 jV_5_75 rfl rfl rfl rfl
theorem e202_182 : jv_ev d 202 182 [some (.ref a), x1, x2, x3, x4, x5] st h = jv_ev d 202 183 [some (.ref a), x1, x2, x3, x4, x5] (.ref a :: st) h := jq_nx (jv_insR jm_202 dX3_rowTold_182) rfl
theorem e202_183 : jv_ev d 202 183 lc (.ref a :: st) h = (jv_gf h a [(4, 2, .object "RainLoom$Text")]).bind fun r => jv_ev d 202 186 lc (r :: st) h := jq_get (jv_insR jm_202 dX3_rowTold_183) jo_202 jF_5_83
theorem e202_186 : jv_ev d 202 186 lc (.ref a :: st) h = jv_ev d 202 187 lc (.ref a :: .ref a :: st) h := jq_nx (jv_insR jm_202 dX3_rowTold_186) rfl
theorem e202_187 : jv_ev d 202 187 lc (.ref a :: st) h = (jv_gf h a [(5, 4, .int)]).bind fun r => jv_ev d 202 190 lc (r :: st) h := jq_get (jv_insR jm_202 dX3_rowTold_187) jo_202 jF_5_176
theorem e202_190 : jv_ev d 202 190 lc st h = jv_ev d 202 191 lc (.int 1 :: st) h := jq_iconst (jv_insR jm_202 dX3_rowTold_190) (by decide)
theorem e202_191 : jv_ev d 202 191 lc (.int w :: .int v :: st) h = jv_ev d 202 192 lc (.int (v + w) :: st) h := jq_nx (jv_insR jm_202 dX3_rowTold_191) rfl
theorem e202_192 : jv_ev d 202 192 lc (r :: .ref a :: st) h = (jv_pf h a [(5, 4, .int)] r).bind fun h => jv_ev d 202 195 lc st h := jq_put (jv_insR jm_202 dX3_rowTold_192) jo_202 ji_202 jG_5_176
theorem e202_195 : jv_ev d 202 195 lc [] h = some (.inl none, h) := jq_retv (jv_insR jm_202 dX3_rowTold_195) jr_202
/-! 203: RainLoom$Parser.take(I)I -/
theorem n203 : jv_cd (d + 1) 203 [.ref a0, .int i1] h = jv_ev d 203 0 [some (.ref a0), some (.int i1)] [] h := rfl
theorem e203_0 : jv_ev d 203 0 [some (.ref a), x1] st h = jv_ev d 203 1 [some (.ref a), x1] (.ref a :: st) h := jq_nx (jv_insR jm_203 dX3_take_0) rfl
theorem e203_1 : jv_ev d 203 1 lc [.ref b] h = (jv_rc h b [(4, 188)]).bind fun y => (jv_cd d y [.ref b] h).bind fun r => jv_on r (fun v h => jv_ev d 203 4 lc (v.toList ++ []) h) (fun q h => some (.inr q, h)) := jq_V (as := []) (rest := []) (jv_insR jm_203 dX3_take_1) jo_203 jV_5_65 rfl rfl rfl rfl
theorem e203_4 : jv_ev d 203 4 [x0, some (.int v)] st h = jv_ev d 203 5 [x0, some (.int v)] (.int v :: st) h := jq_nx (jv_insR jm_203 dX3_take_4) rfl
theorem e203_5 : jv_ev d 203 5 lc (.int w :: .int v :: st) h = if v = w then jv_ev d 203 14 lc st h else jv_ev d 203 8 lc st h := jq_if (jv_insR jm_203 dX3_take_5) rfl (by decide)
theorem e203_8 : jv_ev d 203 8 [some (.ref a), x1] st h = jv_ev d 203 9 [some (.ref a), x1] (.ref a :: st) h := jq_nx (jv_insR jm_203 dX3_take_8) rfl
theorem e203_9 : jv_ev d 203 9 lc st h = jv_ev d 203 10 lc (.int 1 :: st) h := jq_iconst (jv_insR jm_203 dX3_take_9) (by decide)
theorem e203_10 : jv_ev d 203 10 lc [z0, .ref b] h = (jv_rc h b [(4, 189)]).bind fun y => (jv_cd d y [.ref b, z0] h).bind fun r => jv_on r (fun v h => jv_ev d 203 13 lc (v.toList ++ []) h) (fun q h => some (.inr q, h)) := jq_V (as := [z0]) (rest := []) (jv_insR jm_203 dX3_take_10) jo_203 jV_5_48 rfl rfl rfl rfl
theorem e203_13 : jv_ev d 203 13 lc (.ref a :: st) h = (jv_cls h a).bind fun ci => if jt_off ≤ a ∧ ci = jt_fault then some (.inr a, h) else none := jq_throw (jv_insR jm_203 dX3_take_13) rfl
theorem e203_14 : jv_ev d 203 14 [some (.ref a), x1] st h = jv_ev d 203 15 [some (.ref a), x1] (.ref a :: st) h := jq_nx (jv_insR jm_203 dX3_take_14) rfl
theorem e203_15 : jv_ev d 203 15 lc [.ref b] h = (jv_rc h b [(4, 192)]).bind fun y => (jv_cd d y [.ref b] h).bind fun r => jv_on r (fun v h => jv_ev d 203 18 lc (v.toList ++ []) h) (fun q h => some (.inr q, h)) := jq_V (as := []) (rest := []) (jv_insR jm_203 dX3_take_15) jo_203 jV_5_59 rfl rfl rfl rfl
theorem e203_18 : jv_ev d 203 18 [some (.ref a), x1] st h = jv_ev d 203 19 [some (.ref a), x1] (.ref a :: st) h := jq_nx (jv_insR jm_203 dX3_take_18) rfl
theorem e203_19 : jv_ev d 203 19 lc (.ref a :: st) h = (jv_gf h a [(4, 3, .int)]).bind fun r => jv_ev d 203 22 lc (r :: st) h := jq_get (jv_insR jm_203 dX3_take_19) jo_203 jF_5_31
theorem e203_22 : jv_ev d 203 22 lc st h = jv_ev d 203 23 lc (.int 1 :: st) h := jq_iconst (jv_insR jm_203 dX3_take_22) (by decide)
theorem e203_23 : jv_ev d 203 23 lc (.int w :: .int v :: st) h = jv_ev d 203 24 lc (.int (v - w) :: st) h := jq_nx (jv_insR jm_203 dX3_take_23) rfl
theorem e203_24 : jv_ev d 203 24 lc [.int v] h = some (.inl (some (.int v)), h) := jq_reti (jv_insR jm_203 dX3_take_24) jr_203
/-! 204: RainLoom$Parser.tell(II)V -/
theorem n204 : jv_cd (d + 1) 204 [.ref a0, .int i1, .int i2] h = jv_ev d 204 0 [some (.ref a0), some (.int i1), some (.int i2)] [] h := rfl
theorem e204_0 : jv_ev d 204 0 [some (.ref a), x1, x2] st h = jv_ev d 204 1 [some (.ref a), x1, x2] (.ref a :: st) h := jq_nx (jv_insR jm_204 dX3_tell_0) rfl
theorem e204_1 : jv_ev d 204 1 lc (.ref a :: st) h = (jv_gf h a [(4, 5, .int)]).bind fun r => jv_ev d 204 4 lc (r :: st) h := jq_get (jv_insR jm_204 dX3_tell_1) jo_204 jF_5_38
theorem e204_4 : jv_ev d 204 4 lc (.int v :: st) h = if v = 0 then jv_ev d 204 32 lc st h else jv_ev d 204 7 lc st h := jq_if (jv_insR jm_204 dX3_tell_4) rfl (by decide)
theorem e204_7 : jv_ev d 204 7 [x0, x1, some (.int v)] st h = jv_ev d 204 8 [x0, x1, some (.int v)] (.int v :: st) h := jq_nx (jv_insR jm_204 dX3_tell_7) rfl
theorem e204_8 : jv_ev d 204 8 [some (.ref a), x1, x2] st h = jv_ev d 204 9 [some (.ref a), x1, x2] (.ref a :: st) h := jq_nx (jv_insR jm_204 dX3_tell_8) rfl
theorem e204_9 : jv_ev d 204 9 lc (.ref a :: st) h = (jv_gf h a [(4, 6, .int)]).bind fun r => jv_ev d 204 12 lc (r :: st) h := jq_get (jv_insR jm_204 dX3_tell_9) jo_204 jF_5_41
theorem e204_12 : jv_ev d 204 12 lc (.int w :: .int v :: st) h = if w < v then jv_ev d 204 31 lc st h else jv_ev d 204 15 lc st h := jq_if (jv_insR jm_204 dX3_tell_12) rfl (by decide)
theorem e204_15 : jv_ev d 204 15 [x0, x1, some (.int v)] st h = jv_ev d 204 16 [x0, x1, some (.int v)] (.int v :: st) h := jq_nx (jv_insR jm_204 dX3_tell_15) rfl
theorem e204_16 : jv_ev d 204 16 [some (.ref a), x1, x2] st h = jv_ev d 204 17 [some (.ref a), x1, x2] (.ref a :: st) h := jq_nx (jv_insR jm_204 dX3_tell_16) rfl
theorem e204_17 : jv_ev d 204 17 lc (.ref a :: st) h = (jv_gf h a [(4, 6, .int)]).bind fun r => jv_ev d 204 20 lc (r :: st) h := jq_get (jv_insR jm_204 dX3_tell_17) jo_204 jF_5_41
theorem e204_20 : jv_ev d 204 20 lc (.int w :: .int v :: st) h = if ¬ v = w then jv_ev d 204 32 lc st h else jv_ev d 204 23 lc st h := jq_if (jv_insR jm_204 dX3_tell_20) rfl (by decide)
theorem e204_23 : jv_ev d 204 23 [x0, some (.int v), x2] st h = jv_ev d 204 24 [x0, some (.int v), x2] (.int v :: st) h := jq_nx (jv_insR jm_204 dX3_tell_23) rfl
theorem e204_24 : jv_ev d 204 24 [some (.ref a), x1, x2] st h = jv_ev d 204 25 [some (.ref a), x1, x2] (.ref a :: st) h := jq_nx (jv_insR jm_204 dX3_tell_24) rfl
theorem e204_25 : jv_ev d 204 25 lc (.ref a :: st) h = (jv_gf h a [(4, 5, .int)]).bind fun r => jv_ev d 204 28 lc (r :: st) h := jq_get (jv_insR jm_204 dX3_tell_25) jo_204 jF_5_38
theorem e204_28 : jv_ev d 204 28 lc (.int w :: .int v :: st) h = if v < w then jv_ev d 204 32 lc st h else jv_ev d 204 31 lc st h := jq_if (jv_insR jm_204 dX3_tell_28) rfl (by decide)
theorem e204_31 : jv_ev d 204 31 lc [] h = some (.inl none, h) := jq_retv (jv_insR jm_204 dX3_tell_31) jr_204
theorem e204_32 : jv_ev d 204 32 [some (.ref a), x1, x2] st h = jv_ev d 204 33 [some (.ref a), x1, x2] (.ref a :: st) h := jq_nx (jv_insR jm_204 dX3_tell_32) rfl
theorem e204_33 : jv_ev d 204 33 [x0, some (.int v), x2] st h = jv_ev d 204 34 [x0, some (.int v), x2] (.int v :: st) h := jq_nx (jv_insR jm_204 dX3_tell_33) rfl
theorem e204_34 : jv_ev d 204 34 lc (r :: .ref a :: st) h = (jv_pf h a [(4, 5, .int)] r).bind fun h => jv_ev d 204 37 lc st h := jq_put (jv_insR jm_204 dX3_tell_34) jo_204 ji_204 jG_5_38
theorem e204_37 : jv_ev d 204 37 [some (.ref a), x1, x2] st h = jv_ev d 204 38 [some (.ref a), x1, x2] (.ref a :: st) h := jq_nx (jv_insR jm_204 dX3_tell_37) rfl
theorem e204_38 : jv_ev d 204 38 [x0, x1, some (.int v)] st h = jv_ev d 204 39 [x0, x1, some (.int v)] (.int v :: st) h := jq_nx (jv_insR jm_204 dX3_tell_38) rfl
theorem e204_39 : jv_ev d 204 39 lc (r :: .ref a :: st) h = (jv_pf h a [(4, 6, .int)] r).bind fun h => jv_ev d 204 42 lc st h := jq_put (jv_insR jm_204 dX3_tell_39) jo_204 ji_204 jG_5_41
theorem e204_42 : jv_ev d 204 42 lc [] h = some (.inl none, h) := jq_retv (jv_insR jm_204 dX3_tell_42) jr_204
/-! 205: RainLoom$Parser.name()Ljava/lang/String; -/
theorem n205 : jv_cd (d + 1) 205 [.ref a0] h = jv_ev d 205 0 [some (.ref a0), none, none] [] h := rfl
theorem e205_0 : jv_ev d 205 0 [some (.ref a), x1, x2] st h = jv_ev d 205 1 [some (.ref a), x1, x2] (.ref a :: st) h := jq_nx (jv_insR jm_205 dX3_name_0) rfl
theorem e205_1 : jv_ev d 205 1 lc st h = jv_ev d 205 2 lc (.int 0 :: st) h := jq_iconst (jv_insR jm_205 dX3_name_1) (by decide)
theorem e205_2 : jv_ev d 205 2 lc [z0, .ref b] h = (jv_rc h b [(4, 203)]).bind fun y => (jv_cd d y [.ref b, z0] h).bind fun r => jv_on r (fun v h => jv_ev d 205 5 lc (v.toList ++ []) h) (fun q h => some (.inr q, h)) := jq_V (as := [z0]) (rest := []) (jv_insR jm_205 dX3_name_2) jo_205 jV_5_68 rfl rfl rfl rfl
theorem e205_5 : jv_ev d 205 5 [x0, x1, x2] (.int v :: st) h = jv_ev d 205 6 [x0, some (.int v), x2] st h := jq_nx (jv_insR jm_205 dX3_name_5) rfl
theorem e205_6 : jv_ev d 205 6 [some (.ref a), x1, x2] st h = jv_ev d 205 7 [some (.ref a), x1, x2] (.ref a :: st) h := jq_nx (jv_insR jm_205 dX3_name_6) rfl
theorem e205_7 : jv_ev d 205 7 lc (.ref a :: st) h = (jv_gf h a [(4, 0, .object "RainLoom$Tokens")]).bind fun r => jv_ev d 205 10 lc (r :: st) h := jq_get (jv_insR jm_205 dX3_name_7) jo_205 jF_5_9
theorem e205_10 : jv_ev d 205 10 [x0, some (.int v), x2] st h = jv_ev d 205 11 [x0, some (.int v), x2] (.int v :: st) h := jq_nx (jv_insR jm_205 dX3_name_10) rfl
theorem e205_11 : jv_ev d 205 11 lc [z0, .ref b] h = (jv_rc h b [(3, 185)]).bind fun y => (jv_cd d y [.ref b, z0] h).bind fun r => jv_on r (fun v h => jv_ev d 205 14 lc (v.toList ++ []) h) (fun q h => some (.inr q, h)) := jq_V (as := [z0]) (rest := []) (jv_insR jm_205 dX3_name_11) jo_205 jV_5_79 rfl rfl rfl rfl
theorem e205_14 : jv_ev d 205 14 [x0, x1, x2] (.ref a :: st) h = jv_ev d 205 15 [x0, x1, some (.ref a)] st h := jq_nx (jv_insR jm_205 dX3_name_14) rfl
theorem e205_15 : jv_ev d 205 15 [some (.ref a), x1, x2] st h = jv_ev d 205 16 [some (.ref a), x1, x2] (.ref a :: st) h := jq_nx (jv_insR jm_205 dX3_name_15) rfl
theorem e205_16 : jv_ev d 205 16 lc (.ref a :: st) h = (jv_gf h a [(4, 2, .object "RainLoom$Text")]).bind fun r => jv_ev d 205 19 lc (r :: st) h := jq_get (jv_insR jm_205 dX3_name_16) jo_205 jF_5_83
theorem e205_19 : jv_ev d 205 19 [x0, x1, some (.ref a)] st h = jv_ev d 205 20 [x0, x1, some (.ref a)] (.ref a :: st) h := jq_nx (jv_insR jm_205 dX3_name_19) rfl
theorem e205_20 : jv_ev d 205 20 lc [z0, .ref b] h = (jv_rc h b [(5, 208)]).bind fun y => (jv_cd d y [.ref b, z0] h).bind fun r => jv_on r (fun v h => jv_ev d 205 23 lc (v.toList ++ []) h) (fun q h => some (.inr q, h)) := jq_V (as := [z0]) (rest := []) (jv_insR jm_205 dX3_name_20) jo_205 jV_5_86 rfl rfl rfl rfl
theorem e205_23 : jv_ev d 205 23 lc (.int v :: st) h = if v = 0 then jv_ev d 205 32 lc st h else jv_ev d 205 26 lc st h := jq_if (jv_insR jm_205 dX3_name_23) rfl (by decide)
theorem e205_26 : jv_ev d 205 26 [some (.ref a), x1, x2] st h = jv_ev d 205 27 [some (.ref a), x1, x2] (.ref a :: st) h := jq_nx (jv_insR jm_205 dX3_name_26) rfl
theorem e205_27 : jv_ev d 205 27 lc st h = jv_ev d 205 28 lc (.int 3 :: st) h := jq_iconst (jv_insR jm_205 dX3_name_27) (by decide)
theorem e205_28 : jv_ev d 205 28 [x0, some (.int v), x2] st h = jv_ev d 205 29 [x0, some (.int v), x2] (.int v :: st) h := jq_nx (jv_insR jm_205 dX3_name_28) rfl
theorem e205_29 : jv_ev d 205 29 lc [z1, z0, .ref b] h = (jv_rc h b [(4, 204)]).bind fun y => (jv_cd d y [.ref b, z0, z1] h).bind fun r => jv_on r (fun v h => jv_ev d 205 32 lc (v.toList ++ []) h) (fun q h => some (.inr q, h)) := jq_V (as := [z0, z1]) (rest := []) (jv_insR jm_205 dX3_name_29) jo_205 jV_5_75 rfl rfl rfl rfl
theorem e205_32 : jv_ev d 205 32 [x0, x1, some (.ref a)] st h = jv_ev d 205 33 [x0, x1, some (.ref a)] (.ref a :: st) h := jq_nx (jv_insR jm_205 dX3_name_32) rfl
theorem e205_33 : jv_ev d 205 33 lc [.ref a] h = some (.inl (some (.ref a)), h) := jq_reta (jv_insR jm_205 dX3_name_33) jr_205 rfl
/-! 206: RainLoom$Parser.number(II)I -/
theorem n206 : jv_cd (d + 1) 206 [.ref a0, .int i1, .int i2] h = jv_ev d 206 0 [some (.ref a0), some (.int i1), some (.int i2), none, none] [] h := rfl
theorem e206_0 : jv_ev d 206 0 [some (.ref a), x1, x2, x3, x4] st h = jv_ev d 206 1 [some (.ref a), x1, x2, x3, x4] (.ref a :: st) h := jq_nx (jv_insR jm_206 dX3_number_0) rfl
theorem e206_1 : jv_ev d 206 1 lc st h = jv_ev d 206 2 lc (.int 1 :: st) h := jq_iconst (jv_insR jm_206 dX3_number_1) (by decide)
theorem e206_2 : jv_ev d 206 2 lc [z0, .ref b] h = (jv_rc h b [(4, 203)]).bind fun y => (jv_cd d y [.ref b, z0] h).bind fun r => jv_on r (fun v h => jv_ev d 206 5 lc (v.toList ++ []) h) (fun q h => some (.inr q, h)) := jq_V (as := [z0]) (rest := []) (jv_insR jm_206 dX3_number_2) jo_206 jV_5_68 rfl rfl rfl rfl
theorem e206_5 : jv_ev d 206 5 [x0, x1, x2, x3, x4] (.int v :: st) h = jv_ev d 206 6 [x0, x1, x2, some (.int v), x4] st h := jq_nx (jv_insR jm_206 dX3_number_5) rfl
theorem e206_6 : jv_ev d 206 6 [some (.ref a), x1, x2, x3, x4] st h = jv_ev d 206 7 [some (.ref a), x1, x2, x3, x4] (.ref a :: st) h := jq_nx (jv_insR jm_206 dX3_number_6) rfl
theorem e206_7 : jv_ev d 206 7 lc (.ref a :: st) h = (jv_gf h a [(4, 0, .object "RainLoom$Tokens")]).bind fun r => jv_ev d 206 10 lc (r :: st) h := jq_get (jv_insR jm_206 dX3_number_7) jo_206 jF_5_9
theorem e206_10 : jv_ev d 206 10 [x0, x1, x2, some (.int v), x4] st h = jv_ev d 206 11 [x0, x1, x2, some (.int v), x4] (.int v :: st) h := jq_nx (jv_insR jm_206 dX3_number_10) rfl
theorem e206_11 : jv_ev d 206 11 lc [z0, .ref b] h = (jv_rc h b [(3, 184)]).bind fun y => (jv_cd d y [.ref b, z0] h).bind fun r => jv_on r (fun v h => jv_ev d 206 14 lc (v.toList ++ []) h) (fun q h => some (.inr q, h)) := jq_V (as := [z0]) (rest := []) (jv_insR jm_206 dX3_number_11) jo_206 jV_5_72 rfl rfl rfl rfl
theorem e206_14 : jv_ev d 206 14 [x0, x1, x2, x3, x4] (.int v :: st) h = jv_ev d 206 16 [x0, x1, x2, x3, some (.int v)] st h := jq_nx (jv_insR jm_206 dX3_number_14) rfl
theorem e206_16 : jv_ev d 206 16 [x0, x1, x2, x3, some (.int v)] st h = jv_ev d 206 18 [x0, x1, x2, x3, some (.int v)] (.int v :: st) h := jq_nx (jv_insR jm_206 dX3_number_16) rfl
theorem e206_18 : jv_ev d 206 18 [x0, some (.int v), x2, x3, x4] st h = jv_ev d 206 19 [x0, some (.int v), x2, x3, x4] (.int v :: st) h := jq_nx (jv_insR jm_206 dX3_number_18) rfl
theorem e206_19 : jv_ev d 206 19 lc (.int w :: .int v :: st) h = if v < w then jv_ev d 206 28 lc st h else jv_ev d 206 22 lc st h := jq_if (jv_insR jm_206 dX3_number_19) rfl (by decide)
theorem e206_22 : jv_ev d 206 22 [x0, x1, x2, x3, some (.int v)] st h = jv_ev d 206 24 [x0, x1, x2, x3, some (.int v)] (.int v :: st) h := jq_nx (jv_insR jm_206 dX3_number_22) rfl
theorem e206_24 : jv_ev d 206 24 [x0, x1, some (.int v), x3, x4] st h = jv_ev d 206 25 [x0, x1, some (.int v), x3, x4] (.int v :: st) h := jq_nx (jv_insR jm_206 dX3_number_24) rfl
theorem e206_25 : jv_ev d 206 25 lc (.int w :: .int v :: st) h = if v ≤ w then jv_ev d 206 34 lc st h else jv_ev d 206 28 lc st h := jq_if (jv_insR jm_206 dX3_number_25) rfl (by decide)
theorem e206_28 : jv_ev d 206 28 [some (.ref a), x1, x2, x3, x4] st h = jv_ev d 206 29 [some (.ref a), x1, x2, x3, x4] (.ref a :: st) h := jq_nx (jv_insR jm_206 dX3_number_28) rfl
theorem e206_29 : jv_ev d 206 29 lc st h = jv_ev d 206 30 lc (.int 5 :: st) h := jq_iconst (jv_insR jm_206 dX3_number_29) (by decide)
theorem e206_30 : jv_ev d 206 30 [x0, x1, x2, some (.int v), x4] st h = jv_ev d 206 31 [x0, x1, x2, some (.int v), x4] (.int v :: st) h := jq_nx (jv_insR jm_206 dX3_number_30) rfl
theorem e206_31 : jv_ev d 206 31 lc [z1, z0, .ref b] h = (jv_rc h b [(4, 204)]).bind fun y => (jv_cd d y [.ref b, z0, z1] h).bind fun r => jv_on r (fun v h => jv_ev d 206 34 lc (v.toList ++ []) h) (fun q h => some (.inr q, h)) := jq_V (as := [z0, z1]) (rest := []) (jv_insR jm_206 dX3_number_31) jo_206 jV_5_75 rfl rfl rfl rfl
theorem e206_34 : jv_ev d 206 34 [x0, x1, x2, x3, some (.int v)] st h = jv_ev d 206 36 [x0, x1, x2, x3, some (.int v)] (.int v :: st) h := jq_nx (jv_insR jm_206 dX3_number_34) rfl
theorem e206_36 : jv_ev d 206 36 lc [.int v] h = some (.inl (some (.int v)), h) := jq_reti (jv_insR jm_206 dX3_number_36) jr_206
/-! 207: RainLoom$Text.<init>()V -/
theorem n207 : jv_cd (d + 1) 207 [.ref a0] h = jv_ev d 207 0 [some (.ref a0)] [] h := rfl
theorem e207_0 : jv_ev d 207 0 [some (.ref a)] st h = jv_ev d 207 1 [some (.ref a)] (.ref a :: st) h := jq_nx (jv_insR jm_207 dX4_init_0) rfl
theorem e207_1 : jv_ev d 207 1 lc [.ref b] h = if jt_off ≤ b then jv_ev d 207 4 lc [] h else none := jq_O (jv_insR jm_207 dX4_init_1) jo_207 jP_6_3 (Nat.le_of_ble_eq_true rfl)
theorem e207_4 : jv_ev d 207 4 [some (.ref a)] st h = jv_ev d 207 5 [some (.ref a)] (.ref a :: st) h := jq_nx (jv_insR jm_207 dX4_init_4) rfl
theorem e207_5 : jv_ev d 207 5 lc st h = jv_ev d 207 7 lc (.int 48 :: st) h := jq_bipush (jv_insR jm_207 dX4_init_5) (by decide)
theorem e207_7 : jv_ev d 207 7 lc (.int v :: st) h = if v < 0 ∨ 100000 < v.toNatClampNeg then none else jv_ev d 207 9 lc (.ref h.length :: st) (h ++ [.inl (0, v.toNatClampNeg, .inl (fun _ => 0))]) := jq_newa (jv_insR jm_207 dX4_init_7)
theorem e207_9 : jv_ev d 207 9 lc (r :: .ref a :: st) h = (jv_pf h a [(5, 0, .array .int)] r).bind fun h => jv_ev d 207 12 lc st h := jq_put (jv_insR jm_207 dX4_init_9) jo_207 ji_207 jG_6_9i
theorem e207_12 : jv_ev d 207 12 [some (.ref a)] st h = jv_ev d 207 13 [some (.ref a)] (.ref a :: st) h := jq_nx (jv_insR jm_207 dX4_init_12) rfl
theorem e207_13 : jv_ev d 207 13 lc st h = jv_ev d 207 16 lc (.ref h.length :: st) (h ++ [.inr (18, [.int 0, .null, .int 0])]) := jq_new (jv_insR jm_207 dX4_init_13) jo_207 jN_6_15 rfl
theorem e207_16 : jv_ev d 207 16 lc (.ref a :: st) h = jv_ev d 207 17 lc (.ref a :: .ref a :: st) h := jq_nx (jv_insR jm_207 dX4_init_16) rfl
theorem e207_17 : jv_ev d 207 17 lc [.ref b, y0, y1] h = if jt_off ≤ b ∧ (jt_SU.contains 257 = false ∨ jv_cls h b = some 20) then ((jv_cd d 257 [.ref b] h).bind fun r => jv_on r (fun v h => jv_ev d 207 20 lc (v.toList ++ [y0, y1]) h) (fun q h => some (.inr q, h))) else none := jq_P (as := []) (rest := [y0, y1]) (jv_insR jm_207 dX4_init_17) jo_207 jP_6_17 rfl rfl rfl rfl
theorem e207_20 : jv_ev d 207 20 lc (r :: .ref a :: st) h = (jv_pf h a [(5, 1, .object "java/util/ArrayList")] r).bind fun h => jv_ev d 207 23 lc st h := jq_put (jv_insR jm_207 dX4_init_20) jo_207 ji_207 jG_6_18i
theorem e207_23 : jv_ev d 207 23 [some (.ref a)] st h = jv_ev d 207 24 [some (.ref a)] (.ref a :: st) h := jq_nx (jv_insR jm_207 dX4_init_23) rfl
theorem e207_24 : jv_ev d 207 24 lc st h = jv_ev d 207 27 lc (.ref h.length :: st) (h ++ [.inr (18, [.int 0, .null, .int 0])]) := jq_new (jv_insR jm_207 dX4_init_24) jo_207 jN_6_15 rfl
theorem e207_27 : jv_ev d 207 27 lc (.ref a :: st) h = jv_ev d 207 28 lc (.ref a :: .ref a :: st) h := jq_nx (jv_insR jm_207 dX4_init_27) rfl
theorem e207_28 : jv_ev d 207 28 lc [.ref b, y0, y1] h = if jt_off ≤ b ∧ (jt_SU.contains 257 = false ∨ jv_cls h b = some 20) then ((jv_cd d 257 [.ref b] h).bind fun r => jv_on r (fun v h => jv_ev d 207 31 lc (v.toList ++ [y0, y1]) h) (fun q h => some (.inr q, h))) else none := jq_P (as := []) (rest := [y0, y1]) (jv_insR jm_207 dX4_init_28) jo_207 jP_6_17 rfl rfl rfl rfl
theorem e207_31 : jv_ev d 207 31 lc (r :: .ref a :: st) h = (jv_pf h a [(5, 2, .object "java/util/ArrayList")] r).bind fun h => jv_ev d 207 34 lc st h := jq_put (jv_insR jm_207 dX4_init_31) jo_207 ji_207 jG_6_22i
theorem e207_34 : jv_ev d 207 34 [some (.ref a)] st h = jv_ev d 207 35 [some (.ref a)] (.ref a :: st) h := jq_nx (jv_insR jm_207 dX4_init_34) rfl
theorem e207_35 : jv_ev d 207 35 lc st h = jv_ev d 207 36 lc (.int 3 :: st) h := jq_iconst (jv_insR jm_207 dX4_init_35) (by decide)
theorem e207_36 : jv_ev d 207 36 lc (.int v :: st) h = if v < 0 ∨ 100000 < v.toNatClampNeg then none else jv_ev d 207 39 lc (.ref h.length :: st) (h ++ [.inl (7, v.toNatClampNeg, .inr (.inr (.inr (.inr (fun _ => none)))))]) := jq_anew (jv_insR jm_207 dX4_init_36) jo_207 jA_6_25
theorem e207_39 : jv_ev d 207 39 lc (r :: .ref a :: st) h = (jv_pf h a [(5, 3, .array (.object "RainLoom$Law"))] r).bind fun h => jv_ev d 207 42 lc st h := jq_put (jv_insR jm_207 dX4_init_39) jo_207 ji_207 jG_6_27i
theorem e207_42 : jv_ev d 207 42 [some (.ref a)] st h = jv_ev d 207 43 [some (.ref a)] (.ref a :: st) h := jq_nx (jv_insR jm_207 dX4_init_42) rfl
theorem e207_43 : jv_ev d 207 43 lc st h = jv_ev d 207 45 lc (.int 100 :: st) h := jq_bipush (jv_insR jm_207 dX4_init_43) (by decide)
theorem e207_45 : jv_ev d 207 45 lc (r :: .ref a :: st) h = (jv_pf h a [(5, 6, .int)] r).bind fun h => jv_ev d 207 48 lc st h := jq_put (jv_insR jm_207 dX4_init_45) jo_207 ji_207 jG_6_31i
theorem e207_48 : jv_ev d 207 48 lc [] h = some (.inl none, h) := jq_retv (jv_insR jm_207 dX4_init_48) jr_207
/-! 208: RainLoom$Text.has(Ljava/lang/String;)Z -/
theorem n208 : jv_cd (d + 1) 208 [.ref a0, .ref a1] h = jv_ev d 208 0 [some (.ref a0), some (.ref a1)] [] h := rfl
theorem e208_0 : jv_ev d 208 0 [some (.ref a), x1] st h = jv_ev d 208 1 [some (.ref a), x1] (.ref a :: st) h := jq_nx (jv_insR jm_208 dX4_has_0) rfl
theorem e208_1 : jv_ev d 208 1 lc (.ref a :: st) h = (jv_gf h a [(5, 1, .object "java/util/ArrayList")]).bind fun r => jv_ev d 208 4 lc (r :: st) h := jq_get (jv_insR jm_208 dX4_has_1) jo_208 jF_6_18
theorem e208_4 : jv_ev d 208 4 [x0, some (.ref a)] st h = jv_ev d 208 5 [x0, some (.ref a)] (.ref a :: st) h := jq_nx (jv_insR jm_208 dX4_has_4) rfl
theorem e208_5 : jv_ev d 208 5 lc [z1, z0] h = (jv_cd d 209 [z0, z1] h).bind fun r => jv_on r (fun v h => jv_ev d 208 8 lc (v.toList ++ []) h) (fun q h => some (.inr q, h)) := jq_S (as := [z0, z1]) (rest := []) (jv_insR jm_208 dX4_has_5) jo_208 jT_6_55 rfl rfl rfl rfl
theorem e208_8 : jv_ev d 208 8 lc (.int v :: st) h = if ¬ v = 0 then jv_ev d 208 22 lc st h else jv_ev d 208 11 lc st h := jq_if (jv_insR jm_208 dX4_has_8) rfl (by decide)
theorem e208_11 : jv_ev d 208 11 [some (.ref a), x1] st h = jv_ev d 208 12 [some (.ref a), x1] (.ref a :: st) h := jq_nx (jv_insR jm_208 dX4_has_11) rfl
theorem e208_12 : jv_ev d 208 12 lc (.ref a :: st) h = (jv_gf h a [(5, 2, .object "java/util/ArrayList")]).bind fun r => jv_ev d 208 15 lc (r :: st) h := jq_get (jv_insR jm_208 dX4_has_12) jo_208 jF_6_22
theorem e208_15 : jv_ev d 208 15 [x0, some (.ref a)] st h = jv_ev d 208 16 [x0, some (.ref a)] (.ref a :: st) h := jq_nx (jv_insR jm_208 dX4_has_15) rfl
theorem e208_16 : jv_ev d 208 16 lc [z1, z0] h = (jv_cd d 209 [z0, z1] h).bind fun r => jv_on r (fun v h => jv_ev d 208 19 lc (v.toList ++ []) h) (fun q h => some (.inr q, h)) := jq_S (as := [z0, z1]) (rest := []) (jv_insR jm_208 dX4_has_16) jo_208 jT_6_55 rfl rfl rfl rfl
theorem e208_19 : jv_ev d 208 19 lc (.int v :: st) h = if v = 0 then jv_ev d 208 26 lc st h else jv_ev d 208 22 lc st h := jq_if (jv_insR jm_208 dX4_has_19) rfl (by decide)
theorem e208_22 : jv_ev d 208 22 lc st h = jv_ev d 208 23 lc (.int 1 :: st) h := jq_iconst (jv_insR jm_208 dX4_has_22) (by decide)
theorem e208_23 : jv_ev d 208 23 lc st h = jv_ev d 208 27 lc st h := jq_go (jv_insR jm_208 dX4_has_23) (by decide)
theorem e208_26 : jv_ev d 208 26 lc st h = jv_ev d 208 27 lc (.int 0 :: st) h := jq_iconst (jv_insR jm_208 dX4_has_26) (by decide)
theorem e208_27 : jv_ev d 208 27 lc [.int v] h = if narrow .boolean (.int v) = .int v then some (.inl (some (.int v)), h) else none := jq_ret (jv_insR jm_208 dX4_has_27) jr_208 (by decide)
/-! 209: RainLoom$Text.isIn(Ljava/util/ArrayList;Ljava/lang/String;)Z -/
theorem n209 : jv_cd (d + 1) 209 [.ref a0, .ref a1] h = jv_ev d 209 0 [some (.ref a0), some (.ref a1), none] [] h := rfl
theorem e209_0 : jv_ev d 209 0 lc st h = jv_ev d 209 1 lc (.int 0 :: st) h := jq_iconst (jv_insR jm_209 dX4_isIn_0) (by decide)
theorem e209_1 : jv_ev d 209 1 [x0, x1, x2] (.int v :: st) h = jv_ev d 209 2 [x0, x1, some (.int v)] st h := jq_nx (jv_insR jm_209 dX4_isIn_1) rfl
theorem e209_2 : jv_ev d 209 2 [x0, x1, some (.int v)] st h = jv_ev d 209 3 [x0, x1, some (.int v)] (.int v :: st) h := jq_nx (jv_insR jm_209 dX4_isIn_2) rfl
theorem e209_3 : jv_ev d 209 3 [some (.ref a), x1, x2] st h = jv_ev d 209 4 [some (.ref a), x1, x2] (.ref a :: st) h := jq_nx (jv_insR jm_209 dX4_isIn_3) rfl
theorem e209_4 : jv_ev d 209 4 lc [.ref b, y0] h = (jv_rc h b [(18, 258)]).bind fun y => (jv_cd d y [.ref b] h).bind fun r => jv_on r (fun v h => jv_ev d 209 7 lc (v.toList ++ [y0]) h) (fun q h => some (.inr q, h)) := jq_V (as := []) (rest := [y0]) (jv_insR jm_209 dX4_isIn_4) jo_209 jV_6_35 rfl rfl rfl rfl
theorem e209_7 : jv_ev d 209 7 lc (.int w :: .int v :: st) h = if w ≤ v then jv_ev d 209 36 lc st h else jv_ev d 209 10 lc st h := jq_if (jv_insR jm_209 dX4_isIn_7) rfl (by decide)
theorem e209_10 : jv_ev d 209 10 [some (.ref a), x1, x2] st h = jv_ev d 209 11 [some (.ref a), x1, x2] (.ref a :: st) h := jq_nx (jv_insR jm_209 dX4_isIn_10) rfl
theorem e209_11 : jv_ev d 209 11 [x0, x1, some (.int v)] st h = jv_ev d 209 12 [x0, x1, some (.int v)] (.int v :: st) h := jq_nx (jv_insR jm_209 dX4_isIn_11) rfl
theorem e209_12 : jv_ev d 209 12 lc [z0, .ref b] h = (jv_rc h b [(18, 259)]).bind fun y => (jv_cd d y [.ref b, z0] h).bind fun r => jv_on r (fun v h => jv_ev d 209 15 lc (v.toList ++ []) h) (fun q h => some (.inr q, h)) := jq_V (as := [z0]) (rest := []) (jv_insR jm_209 dX4_isIn_12) jo_209 jV_6_39 rfl rfl rfl rfl
theorem e209_15 : jv_ev d 209 15 lc (.ref a :: st) h = (jv_cls h a).bind fun ci => if jt_CK.contains (6, 43, ci) = true then jv_ev d 209 18 lc (.ref a :: st) h else none := jq_cast (jv_insR jm_209 dX4_isIn_15) jo_209
theorem e209_18 : jv_ev d 209 18 lc (.ref a :: st) h = (jv_gf h a [(16, 0, .object "java/lang/String"), (17, 0, .object "java/lang/String")]).bind fun r => jv_ev d 209 21 lc (r :: st) h := jq_get (jv_insR jm_209 dX4_isIn_18) jo_209 jF_6_45
theorem e209_21 : jv_ev d 209 21 [x0, some (.ref a), x2] st h = jv_ev d 209 22 [x0, some (.ref a), x2] (.ref a :: st) h := jq_nx (jv_insR jm_209 dX4_isIn_21) rfl
theorem e209_22 : jv_ev d 209 22 lc [z0, .ref b] h = (jv_rc h b [(19, 276)]).bind fun y => (jv_cd d y [.ref b, z0] h).bind fun r => jv_on r (fun v h => jv_ev d 209 25 lc (v.toList ++ []) h) (fun q h => some (.inr q, h)) := jq_V (as := [z0]) (rest := []) (jv_insR jm_209 dX4_isIn_22) jo_209 jV_6_49 rfl rfl rfl rfl
theorem e209_25 : jv_ev d 209 25 lc (.int v :: st) h = if v = 0 then jv_ev d 209 30 lc st h else jv_ev d 209 28 lc st h := jq_if (jv_insR jm_209 dX4_isIn_25) rfl (by decide)
theorem e209_28 : jv_ev d 209 28 lc st h = jv_ev d 209 29 lc (.int 1 :: st) h := jq_iconst (jv_insR jm_209 dX4_isIn_28) (by decide)
theorem e209_29 : jv_ev d 209 29 lc [.int v] h = if narrow .boolean (.int v) = .int v then some (.inl (some (.int v)), h) else none := jq_ret (jv_insR jm_209 dX4_isIn_29) jr_209 (by decide)
theorem e209_30 : jv_ev d 209 30 [x0, x1, some (.int v)] st h = jv_ev d 209 33 [x0, x1, some (.int (v + 1))] st h := jq_nx (jv_insR jm_209 dX4_isIn_30) rfl
theorem e209_33 : jv_ev d 209 33 lc st h = jv_ev d 209 2 lc st h := jq_go (jv_insR jm_209 dX4_isIn_33) (by decide)
theorem e209_36 : jv_ev d 209 36 lc st h = jv_ev d 209 37 lc (.int 0 :: st) h := jq_iconst (jv_insR jm_209 dX4_isIn_36) (by decide)
theorem e209_37 : jv_ev d 209 37 lc [.int v] h = if narrow .boolean (.int v) = .int v then some (.inl (some (.int v)), h) else none := jq_ret (jv_insR jm_209 dX4_isIn_37) jr_209 (by decide)
/-! 210: RainLoom$Text.isWhole()Z -/
theorem n210 : jv_cd (d + 1) 210 [.ref a0] h = jv_ev d 210 0 [some (.ref a0), none] [] h := rfl
theorem e210_0 : jv_ev d 210 0 lc st h = jv_ev d 210 1 lc (.int 0 :: st) h := jq_iconst (jv_insR jm_210 dX4_isWhole_0) (by decide)
theorem e210_1 : jv_ev d 210 1 [x0, x1] (.int v :: st) h = jv_ev d 210 2 [x0, some (.int v)] st h := jq_nx (jv_insR jm_210 dX4_isWhole_1) rfl
theorem e210_2 : jv_ev d 210 2 [x0, some (.int v)] st h = jv_ev d 210 3 [x0, some (.int v)] (.int v :: st) h := jq_nx (jv_insR jm_210 dX4_isWhole_2) rfl
theorem e210_3 : jv_ev d 210 3 lc st h = jv_ev d 210 5 lc (.int 48 :: st) h := jq_bipush (jv_insR jm_210 dX4_isWhole_3) (by decide)
theorem e210_5 : jv_ev d 210 5 lc (.int w :: .int v :: st) h = if w ≤ v then jv_ev d 210 40 lc st h else jv_ev d 210 8 lc st h := jq_if (jv_insR jm_210 dX4_isWhole_5) rfl (by decide)
theorem e210_8 : jv_ev d 210 8 [some (.ref a), x1] st h = jv_ev d 210 9 [some (.ref a), x1] (.ref a :: st) h := jq_nx (jv_insR jm_210 dX4_isWhole_8) rfl
theorem e210_9 : jv_ev d 210 9 [x0, some (.int v)] st h = jv_ev d 210 10 [x0, some (.int v)] (.int v :: st) h := jq_nx (jv_insR jm_210 dX4_isWhole_9) rfl
theorem e210_10 : jv_ev d 210 10 lc [z0, .ref b] h = (jv_rc h b [(5, 211)]).bind fun y => (jv_cd d y [.ref b, z0] h).bind fun r => jv_on r (fun v h => jv_ev d 210 13 lc (v.toList ++ []) h) (fun q h => some (.inr q, h)) := jq_V (as := [z0]) (rest := []) (jv_insR jm_210 dX4_isWhole_10) jo_210 jV_6_69 rfl rfl rfl rfl
theorem e210_13 : jv_ev d 210 13 lc (.int v :: st) h = if v = 0 then jv_ev d 210 34 lc st h else jv_ev d 210 16 lc st h := jq_if (jv_insR jm_210 dX4_isWhole_13) rfl (by decide)
theorem e210_16 : jv_ev d 210 16 [some (.ref a), x1] st h = jv_ev d 210 17 [some (.ref a), x1] (.ref a :: st) h := jq_nx (jv_insR jm_210 dX4_isWhole_16) rfl
theorem e210_17 : jv_ev d 210 17 lc (.ref a :: st) h = (jv_gf h a [(5, 0, .array .int)]).bind fun r => jv_ev d 210 20 lc (r :: st) h := jq_get (jv_insR jm_210 dX4_isWhole_17) jo_210 jF_6_9
theorem e210_20 : jv_ev d 210 20 [x0, some (.int v)] st h = jv_ev d 210 21 [x0, some (.int v)] (.int v :: st) h := jq_nx (jv_insR jm_210 dX4_isWhole_20) rfl
theorem e210_21 : jv_ev d 210 21 lc (.int v :: .ref a :: st) h = (jv_ig h a 0 0 v).bind fun w => jv_ev d 210 22 lc (.int w :: st) h := jq_iald (jv_insR jm_210 dX4_isWhole_21)
theorem e210_22 : jv_ev d 210 22 [some (.ref a), x1] st h = jv_ev d 210 23 [some (.ref a), x1] (.ref a :: st) h := jq_nx (jv_insR jm_210 dX4_isWhole_22) rfl
theorem e210_23 : jv_ev d 210 23 lc (.ref a :: st) h = (jv_gf h a [(5, 1, .object "java/util/ArrayList")]).bind fun r => jv_ev d 210 26 lc (r :: st) h := jq_get (jv_insR jm_210 dX4_isWhole_23) jo_210 jF_6_18
theorem e210_26 : jv_ev d 210 26 lc [.ref b, y0] h = (jv_rc h b [(18, 258)]).bind fun y => (jv_cd d y [.ref b] h).bind fun r => jv_on r (fun v h => jv_ev d 210 29 lc (v.toList ++ [y0]) h) (fun q h => some (.inr q, h)) := jq_V (as := []) (rest := [y0]) (jv_insR jm_210 dX4_isWhole_26) jo_210 jV_6_35 rfl rfl rfl rfl
theorem e210_29 : jv_ev d 210 29 lc (.int w :: .int v :: st) h = if v < w then jv_ev d 210 34 lc st h else jv_ev d 210 32 lc st h := jq_if (jv_insR jm_210 dX4_isWhole_29) rfl (by decide)
theorem e210_32 : jv_ev d 210 32 lc st h = jv_ev d 210 33 lc (.int 0 :: st) h := jq_iconst (jv_insR jm_210 dX4_isWhole_32) (by decide)
theorem e210_33 : jv_ev d 210 33 lc [.int v] h = if narrow .boolean (.int v) = .int v then some (.inl (some (.int v)), h) else none := jq_ret (jv_insR jm_210 dX4_isWhole_33) jr_210 (by decide)
theorem e210_34 : jv_ev d 210 34 [x0, some (.int v)] st h = jv_ev d 210 37 [x0, some (.int (v + 1))] st h := jq_nx (jv_insR jm_210 dX4_isWhole_34) rfl
theorem e210_37 : jv_ev d 210 37 lc st h = jv_ev d 210 2 lc st h := jq_go (jv_insR jm_210 dX4_isWhole_37) (by decide)
theorem e210_40 : jv_ev d 210 40 lc st h = jv_ev d 210 41 lc (.int 1 :: st) h := jq_iconst (jv_insR jm_210 dX4_isWhole_40) (by decide)
theorem e210_41 : jv_ev d 210 41 lc [.int v] h = if narrow .boolean (.int v) = .int v then some (.inl (some (.int v)), h) else none := jq_ret (jv_insR jm_210 dX4_isWhole_41) jr_210 (by decide)
/-! 211: RainLoom$Text.isOn(I)Z -/
theorem n211 : jv_cd (d + 1) 211 [.ref a0, .int i1] h = jv_ev d 211 0 [some (.ref a0), some (.int i1)] [] h := rfl
theorem e211_0 : jv_ev d 211 0 [some (.ref a), x1] st h = jv_ev d 211 1 [some (.ref a), x1] (.ref a :: st) h := jq_nx (jv_insR jm_211 dX4_isOn_0) rfl
theorem e211_1 : jv_ev d 211 1 [x0, some (.int v)] st h = jv_ev d 211 2 [x0, some (.int v)] (.int v :: st) h := jq_nx (jv_insR jm_211 dX4_isOn_1) rfl
theorem e211_2 : jv_ev d 211 2 lc st h = jv_ev d 211 4 lc (.int 8 :: st) h := jq_bipush (jv_insR jm_211 dX4_isOn_2) (by decide)
theorem e211_4 : jv_ev d 211 4 lc (.int w :: .int v :: st) h = if w = 0 then none else jv_ev d 211 5 lc (.int (v - v / w * w) :: st) h := jq_irem (jv_insR jm_211 dX4_isOn_4)
theorem e211_5 : jv_ev d 211 5 [x0, some (.int v)] st h = jv_ev d 211 6 [x0, some (.int v)] (.int v :: st) h := jq_nx (jv_insR jm_211 dX4_isOn_5) rfl
theorem e211_6 : jv_ev d 211 6 lc st h = jv_ev d 211 8 lc (.int 8 :: st) h := jq_bipush (jv_insR jm_211 dX4_isOn_6) (by decide)
theorem e211_8 : jv_ev d 211 8 lc (.int w :: .int v :: st) h = if w = 0 then none else jv_ev d 211 9 lc (.int (v / w) :: st) h := jq_idiv (jv_insR jm_211 dX4_isOn_8)
theorem e211_9 : jv_ev d 211 9 lc [z1, z0, .ref b] h = (jv_rc h b [(5, 212)]).bind fun y => (jv_cd d y [.ref b, z0, z1] h).bind fun r => jv_on r (fun v h => jv_ev d 211 12 lc (v.toList ++ []) h) (fun q h => some (.inr q, h)) := jq_V (as := [z0, z1]) (rest := []) (jv_insR jm_211 dX4_isOn_9) jo_211 jV_6_65 rfl rfl rfl rfl
theorem e211_12 : jv_ev d 211 12 lc [.int v] h = if narrow .boolean (.int v) = .int v then some (.inl (some (.int v)), h) else none := jq_ret (jv_insR jm_211 dX4_isOn_12) jr_211 (by decide)
/-! 212: RainLoom$Text.isCell(II)Z -/
theorem n212 : jv_cd (d + 1) 212 [.ref a0, .int i1, .int i2] h = jv_ev d 212 0 [some (.ref a0), some (.int i1), some (.int i2)] [] h := rfl
theorem e212_0 : jv_ev d 212 0 [x0, some (.int v), x2] st h = jv_ev d 212 1 [x0, some (.int v), x2] (.int v :: st) h := jq_nx (jv_insR jm_212 dX4_isCell_0) rfl
theorem e212_1 : jv_ev d 212 1 lc (.int v :: st) h = if v < 0 then jv_ev d 212 28 lc st h else jv_ev d 212 4 lc st h := jq_if (jv_insR jm_212 dX4_isCell_1) rfl (by decide)
theorem e212_4 : jv_ev d 212 4 [x0, some (.int v), x2] st h = jv_ev d 212 5 [x0, some (.int v), x2] (.int v :: st) h := jq_nx (jv_insR jm_212 dX4_isCell_4) rfl
theorem e212_5 : jv_ev d 212 5 [some (.ref a), x1, x2] st h = jv_ev d 212 6 [some (.ref a), x1, x2] (.ref a :: st) h := jq_nx (jv_insR jm_212 dX4_isCell_5) rfl
theorem e212_6 : jv_ev d 212 6 lc (.ref a :: st) h = (jv_gf h a [(5, 5, .int)]).bind fun r => jv_ev d 212 9 lc (r :: st) h := jq_get (jv_insR jm_212 dX4_isCell_6) jo_212 jF_6_59
theorem e212_9 : jv_ev d 212 9 lc (.int w :: .int v :: st) h = if w ≤ v then jv_ev d 212 28 lc st h else jv_ev d 212 12 lc st h := jq_if (jv_insR jm_212 dX4_isCell_9) rfl (by decide)
theorem e212_12 : jv_ev d 212 12 [x0, x1, some (.int v)] st h = jv_ev d 212 13 [x0, x1, some (.int v)] (.int v :: st) h := jq_nx (jv_insR jm_212 dX4_isCell_12) rfl
theorem e212_13 : jv_ev d 212 13 lc (.int v :: st) h = if v < 0 then jv_ev d 212 28 lc st h else jv_ev d 212 16 lc st h := jq_if (jv_insR jm_212 dX4_isCell_13) rfl (by decide)
theorem e212_16 : jv_ev d 212 16 [x0, x1, some (.int v)] st h = jv_ev d 212 17 [x0, x1, some (.int v)] (.int v :: st) h := jq_nx (jv_insR jm_212 dX4_isCell_16) rfl
theorem e212_17 : jv_ev d 212 17 [some (.ref a), x1, x2] st h = jv_ev d 212 18 [some (.ref a), x1, x2] (.ref a :: st) h := jq_nx (jv_insR jm_212 dX4_isCell_17) rfl
theorem e212_18 : jv_ev d 212 18 lc (.ref a :: st) h = (jv_gf h a [(5, 4, .int)]).bind fun r => jv_ev d 212 21 lc (r :: st) h := jq_get (jv_insR jm_212 dX4_isCell_18) jo_212 jF_6_62
theorem e212_21 : jv_ev d 212 21 lc (.int w :: .int v :: st) h = if w ≤ v then jv_ev d 212 28 lc st h else jv_ev d 212 24 lc st h := jq_if (jv_insR jm_212 dX4_isCell_21) rfl (by decide)
theorem e212_24 : jv_ev d 212 24 lc st h = jv_ev d 212 25 lc (.int 1 :: st) h := jq_iconst (jv_insR jm_212 dX4_isCell_24) (by decide)
theorem e212_25 : jv_ev d 212 25 lc st h = jv_ev d 212 29 lc st h := jq_go (jv_insR jm_212 dX4_isCell_25) (by decide)
theorem e212_28 : jv_ev d 212 28 lc st h = jv_ev d 212 29 lc (.int 0 :: st) h := jq_iconst (jv_insR jm_212 dX4_isCell_28) (by decide)
theorem e212_29 : jv_ev d 212 29 lc [.int v] h = if narrow .boolean (.int v) = .int v then some (.inl (some (.int v)), h) else none := jq_ret (jv_insR jm_212 dX4_isCell_29) jr_212 (by decide)
/-! 213: RainLoom$Text.needs(I)I -/
theorem n213 : jv_cd (d + 1) 213 [.ref a0, .int i1] h = jv_ev d 213 0 [some (.ref a0), some (.int i1)] [] h := rfl
theorem e213_0 : jv_ev d 213 0 [some (.ref a), x1] st h = jv_ev d 213 1 [some (.ref a), x1] (.ref a :: st) h := jq_nx (jv_insR jm_213 dX4_needs_0) rfl
theorem e213_1 : jv_ev d 213 1 lc (.ref a :: st) h = (jv_gf h a [(5, 0, .array .int)]).bind fun r => jv_ev d 213 4 lc (r :: st) h := jq_get (jv_insR jm_213 dX4_needs_1) jo_213 jF_6_9
theorem e213_4 : jv_ev d 213 4 [x0, some (.int v)] st h = jv_ev d 213 5 [x0, some (.int v)] (.int v :: st) h := jq_nx (jv_insR jm_213 dX4_needs_4) rfl
theorem e213_5 : jv_ev d 213 5 lc (.int v :: .ref a :: st) h = (jv_ig h a 0 0 v).bind fun w => jv_ev d 213 6 lc (.int w :: st) h := jq_iald (jv_insR jm_213 dX4_needs_5)
theorem e213_6 : jv_ev d 213 6 lc (.int v :: st) h = if 0 ≤ v then jv_ev d 213 13 lc st h else jv_ev d 213 9 lc st h := jq_if (jv_insR jm_213 dX4_needs_6) rfl (by decide)
theorem e213_9 : jv_ev d 213 9 lc st h = jv_ev d 213 10 lc (.int 0 :: st) h := jq_iconst (jv_insR jm_213 dX4_needs_9) (by decide)
theorem e213_10 : jv_ev d 213 10 lc st h = jv_ev d 213 32 lc st h := jq_go (jv_insR jm_213 dX4_needs_10) (by decide)
theorem e213_13 : jv_ev d 213 13 [some (.ref a), x1] st h = jv_ev d 213 14 [some (.ref a), x1] (.ref a :: st) h := jq_nx (jv_insR jm_213 dX4_needs_13) rfl
theorem e213_14 : jv_ev d 213 14 lc (.ref a :: st) h = (jv_gf h a [(5, 1, .object "java/util/ArrayList")]).bind fun r => jv_ev d 213 17 lc (r :: st) h := jq_get (jv_insR jm_213 dX4_needs_14) jo_213 jF_6_18
theorem e213_17 : jv_ev d 213 17 [some (.ref a), x1] st h = jv_ev d 213 18 [some (.ref a), x1] (.ref a :: st) h := jq_nx (jv_insR jm_213 dX4_needs_17) rfl
theorem e213_18 : jv_ev d 213 18 lc (.ref a :: st) h = (jv_gf h a [(5, 0, .array .int)]).bind fun r => jv_ev d 213 21 lc (r :: st) h := jq_get (jv_insR jm_213 dX4_needs_18) jo_213 jF_6_9
theorem e213_21 : jv_ev d 213 21 [x0, some (.int v)] st h = jv_ev d 213 22 [x0, some (.int v)] (.int v :: st) h := jq_nx (jv_insR jm_213 dX4_needs_21) rfl
theorem e213_22 : jv_ev d 213 22 lc (.int v :: .ref a :: st) h = (jv_ig h a 0 0 v).bind fun w => jv_ev d 213 23 lc (.int w :: st) h := jq_iald (jv_insR jm_213 dX4_needs_22)
theorem e213_23 : jv_ev d 213 23 lc [z0, .ref b] h = (jv_rc h b [(18, 259)]).bind fun y => (jv_cd d y [.ref b, z0] h).bind fun r => jv_on r (fun v h => jv_ev d 213 26 lc (v.toList ++ []) h) (fun q h => some (.inr q, h)) := jq_V (as := [z0]) (rest := []) (jv_insR jm_213 dX4_needs_23) jo_213 jV_6_39 rfl rfl rfl rfl
theorem e213_26 : jv_ev d 213 26 lc (.ref a :: st) h = (jv_cls h a).bind fun ci => if jt_CK.contains (6, 73, ci) = true then jv_ev d 213 29 lc (.ref a :: st) h else none := jq_cast (jv_insR jm_213 dX4_needs_26) jo_213
theorem e213_29 : jv_ev d 213 29 lc (.ref a :: st) h = (jv_gf h a [(16, 1, .int)]).bind fun r => jv_ev d 213 32 lc (r :: st) h := jq_get (jv_insR jm_213 dX4_needs_29) jo_213 jF_6_75
theorem e213_32 : jv_ev d 213 32 lc [.int v] h = some (.inl (some (.int v)), h) := jq_reti (jv_insR jm_213 dX4_needs_32) jr_213
/-! 214: RainLoom$Text.drowns(I)I -/
theorem n214 : jv_cd (d + 1) 214 [.ref a0, .int i1] h = jv_ev d 214 0 [some (.ref a0), some (.int i1)] [] h := rfl
theorem e214_0 : jv_ev d 214 0 [some (.ref a), x1] st h = jv_ev d 214 1 [some (.ref a), x1] (.ref a :: st) h := jq_nx (jv_insR jm_214 dX4_drowns_0) rfl
theorem e214_1 : jv_ev d 214 1 lc (.ref a :: st) h = (jv_gf h a [(5, 0, .array .int)]).bind fun r => jv_ev d 214 4 lc (r :: st) h := jq_get (jv_insR jm_214 dX4_drowns_1) jo_214 jF_6_9
theorem e214_4 : jv_ev d 214 4 [x0, some (.int v)] st h = jv_ev d 214 5 [x0, some (.int v)] (.int v :: st) h := jq_nx (jv_insR jm_214 dX4_drowns_4) rfl
theorem e214_5 : jv_ev d 214 5 lc (.int v :: .ref a :: st) h = (jv_ig h a 0 0 v).bind fun w => jv_ev d 214 6 lc (.int w :: st) h := jq_iald (jv_insR jm_214 dX4_drowns_5)
theorem e214_6 : jv_ev d 214 6 lc (.int v :: st) h = if 0 ≤ v then jv_ev d 214 13 lc st h else jv_ev d 214 9 lc st h := jq_if (jv_insR jm_214 dX4_drowns_6) rfl (by decide)
theorem e214_9 : jv_ev d 214 9 lc st h = jv_ev d 214 10 lc (.int 0 :: st) h := jq_iconst (jv_insR jm_214 dX4_drowns_9) (by decide)
theorem e214_10 : jv_ev d 214 10 lc st h = jv_ev d 214 32 lc st h := jq_go (jv_insR jm_214 dX4_drowns_10) (by decide)
theorem e214_13 : jv_ev d 214 13 [some (.ref a), x1] st h = jv_ev d 214 14 [some (.ref a), x1] (.ref a :: st) h := jq_nx (jv_insR jm_214 dX4_drowns_13) rfl
theorem e214_14 : jv_ev d 214 14 lc (.ref a :: st) h = (jv_gf h a [(5, 1, .object "java/util/ArrayList")]).bind fun r => jv_ev d 214 17 lc (r :: st) h := jq_get (jv_insR jm_214 dX4_drowns_14) jo_214 jF_6_18
theorem e214_17 : jv_ev d 214 17 [some (.ref a), x1] st h = jv_ev d 214 18 [some (.ref a), x1] (.ref a :: st) h := jq_nx (jv_insR jm_214 dX4_drowns_17) rfl
theorem e214_18 : jv_ev d 214 18 lc (.ref a :: st) h = (jv_gf h a [(5, 0, .array .int)]).bind fun r => jv_ev d 214 21 lc (r :: st) h := jq_get (jv_insR jm_214 dX4_drowns_18) jo_214 jF_6_9
theorem e214_21 : jv_ev d 214 21 [x0, some (.int v)] st h = jv_ev d 214 22 [x0, some (.int v)] (.int v :: st) h := jq_nx (jv_insR jm_214 dX4_drowns_21) rfl
theorem e214_22 : jv_ev d 214 22 lc (.int v :: .ref a :: st) h = (jv_ig h a 0 0 v).bind fun w => jv_ev d 214 23 lc (.int w :: st) h := jq_iald (jv_insR jm_214 dX4_drowns_22)
theorem e214_23 : jv_ev d 214 23 lc [z0, .ref b] h = (jv_rc h b [(18, 259)]).bind fun y => (jv_cd d y [.ref b, z0] h).bind fun r => jv_on r (fun v h => jv_ev d 214 26 lc (v.toList ++ []) h) (fun q h => some (.inr q, h)) := jq_V (as := [z0]) (rest := []) (jv_insR jm_214 dX4_drowns_23) jo_214 jV_6_39 rfl rfl rfl rfl
theorem e214_26 : jv_ev d 214 26 lc (.ref a :: st) h = (jv_cls h a).bind fun ci => if jt_CK.contains (6, 73, ci) = true then jv_ev d 214 29 lc (.ref a :: st) h else none := jq_cast (jv_insR jm_214 dX4_drowns_26) jo_214
theorem e214_29 : jv_ev d 214 29 lc (.ref a :: st) h = (jv_gf h a [(16, 2, .int)]).bind fun r => jv_ev d 214 32 lc (r :: st) h := jq_get (jv_insR jm_214 dX4_drowns_29) jo_214 jF_6_78
theorem e214_32 : jv_ev d 214 32 lc [.int v] h = some (.inl (some (.int v)), h) := jq_reti (jv_insR jm_214 dX4_drowns_32) jr_214
/-! 215: RainLoom$Text.needsOf(I)I -/
theorem n215 : jv_cd (d + 1) 215 [.ref a0, .int i1] h = jv_ev d 215 0 [some (.ref a0), some (.int i1), none, none] [] h := rfl
theorem e215_0 : jv_ev d 215 0 lc st h = jv_ev d 215 1 lc (.int 0 :: st) h := jq_iconst (jv_insR jm_215 dX4_needsOf_0) (by decide)
theorem e215_1 : jv_ev d 215 1 [x0, x1, x2, x3] (.int v :: st) h = jv_ev d 215 2 [x0, x1, some (.int v), x3] st h := jq_nx (jv_insR jm_215 dX4_needsOf_1) rfl
theorem e215_2 : jv_ev d 215 2 lc st h = jv_ev d 215 3 lc (.int 0 :: st) h := jq_iconst (jv_insR jm_215 dX4_needsOf_2) (by decide)
theorem e215_3 : jv_ev d 215 3 [x0, x1, x2, x3] (.int v :: st) h = jv_ev d 215 4 [x0, x1, x2, some (.int v)] st h := jq_nx (jv_insR jm_215 dX4_needsOf_3) rfl
theorem e215_4 : jv_ev d 215 4 [x0, x1, x2, some (.int v)] st h = jv_ev d 215 5 [x0, x1, x2, some (.int v)] (.int v :: st) h := jq_nx (jv_insR jm_215 dX4_needsOf_4) rfl
theorem e215_5 : jv_ev d 215 5 lc st h = jv_ev d 215 7 lc (.int 48 :: st) h := jq_bipush (jv_insR jm_215 dX4_needsOf_5) (by decide)
theorem e215_7 : jv_ev d 215 7 lc (.int w :: .int v :: st) h = if w ≤ v then jv_ev d 215 46 lc st h else jv_ev d 215 10 lc st h := jq_if (jv_insR jm_215 dX4_needsOf_7) rfl (by decide)
theorem e215_10 : jv_ev d 215 10 [x0, x1, some (.int v), x3] st h = jv_ev d 215 11 [x0, x1, some (.int v), x3] (.int v :: st) h := jq_nx (jv_insR jm_215 dX4_needsOf_10) rfl
theorem e215_11 : jv_ev d 215 11 [some (.ref a), x1, x2, x3] st h = jv_ev d 215 12 [some (.ref a), x1, x2, x3] (.ref a :: st) h := jq_nx (jv_insR jm_215 dX4_needsOf_11) rfl
theorem e215_12 : jv_ev d 215 12 [x0, x1, x2, some (.int v)] st h = jv_ev d 215 13 [x0, x1, x2, some (.int v)] (.int v :: st) h := jq_nx (jv_insR jm_215 dX4_needsOf_12) rfl
theorem e215_13 : jv_ev d 215 13 lc [z0, .ref b, y0] h = (jv_rc h b [(5, 211)]).bind fun y => (jv_cd d y [.ref b, z0] h).bind fun r => jv_on r (fun v h => jv_ev d 215 16 lc (v.toList ++ [y0]) h) (fun q h => some (.inr q, h)) := jq_V (as := [z0]) (rest := [y0]) (jv_insR jm_215 dX4_needsOf_13) jo_215 jV_6_69 rfl rfl rfl rfl
theorem e215_16 : jv_ev d 215 16 lc (.int v :: st) h = if v = 0 then jv_ev d 215 37 lc st h else jv_ev d 215 19 lc st h := jq_if (jv_insR jm_215 dX4_needsOf_16) rfl (by decide)
theorem e215_19 : jv_ev d 215 19 [some (.ref a), x1, x2, x3] st h = jv_ev d 215 20 [some (.ref a), x1, x2, x3] (.ref a :: st) h := jq_nx (jv_insR jm_215 dX4_needsOf_19) rfl
theorem e215_20 : jv_ev d 215 20 lc (.ref a :: st) h = (jv_gf h a [(5, 0, .array .int)]).bind fun r => jv_ev d 215 23 lc (r :: st) h := jq_get (jv_insR jm_215 dX4_needsOf_20) jo_215 jF_6_9
theorem e215_23 : jv_ev d 215 23 [x0, x1, x2, some (.int v)] st h = jv_ev d 215 24 [x0, x1, x2, some (.int v)] (.int v :: st) h := jq_nx (jv_insR jm_215 dX4_needsOf_23) rfl
theorem e215_24 : jv_ev d 215 24 lc (.int v :: .ref a :: st) h = (jv_ig h a 0 0 v).bind fun w => jv_ev d 215 25 lc (.int w :: st) h := jq_iald (jv_insR jm_215 dX4_needsOf_24)
theorem e215_25 : jv_ev d 215 25 [x0, some (.int v), x2, x3] st h = jv_ev d 215 26 [x0, some (.int v), x2, x3] (.int v :: st) h := jq_nx (jv_insR jm_215 dX4_needsOf_25) rfl
theorem e215_26 : jv_ev d 215 26 lc (.int w :: .int v :: st) h = if ¬ v = w then jv_ev d 215 37 lc st h else jv_ev d 215 29 lc st h := jq_if (jv_insR jm_215 dX4_needsOf_26) rfl (by decide)
theorem e215_29 : jv_ev d 215 29 [some (.ref a), x1, x2, x3] st h = jv_ev d 215 30 [some (.ref a), x1, x2, x3] (.ref a :: st) h := jq_nx (jv_insR jm_215 dX4_needsOf_29) rfl
theorem e215_30 : jv_ev d 215 30 [x0, x1, x2, some (.int v)] st h = jv_ev d 215 31 [x0, x1, x2, some (.int v)] (.int v :: st) h := jq_nx (jv_insR jm_215 dX4_needsOf_30) rfl
theorem e215_31 : jv_ev d 215 31 lc [z0, .ref b, y0] h = (jv_rc h b [(5, 213)]).bind fun y => (jv_cd d y [.ref b, z0] h).bind fun r => jv_on r (fun v h => jv_ev d 215 34 lc (v.toList ++ [y0]) h) (fun q h => some (.inr q, h)) := jq_V (as := [z0]) (rest := [y0]) (jv_insR jm_215 dX4_needsOf_31) jo_215 jV_6_81 rfl rfl rfl rfl
theorem e215_34 : jv_ev d 215 34 lc st h = jv_ev d 215 38 lc st h := jq_go (jv_insR jm_215 dX4_needsOf_34) (by decide)
theorem e215_37 : jv_ev d 215 37 lc st h = jv_ev d 215 38 lc (.int 0 :: st) h := jq_iconst (jv_insR jm_215 dX4_needsOf_37) (by decide)
theorem e215_38 : jv_ev d 215 38 lc (.int w :: .int v :: st) h = jv_ev d 215 39 lc (.int (v + w) :: st) h := jq_nx (jv_insR jm_215 dX4_needsOf_38) rfl
theorem e215_39 : jv_ev d 215 39 [x0, x1, x2, x3] (.int v :: st) h = jv_ev d 215 40 [x0, x1, some (.int v), x3] st h := jq_nx (jv_insR jm_215 dX4_needsOf_39) rfl
theorem e215_40 : jv_ev d 215 40 [x0, x1, x2, some (.int v)] st h = jv_ev d 215 43 [x0, x1, x2, some (.int (v + 1))] st h := jq_nx (jv_insR jm_215 dX4_needsOf_40) rfl
theorem e215_43 : jv_ev d 215 43 lc st h = jv_ev d 215 4 lc st h := jq_go (jv_insR jm_215 dX4_needsOf_43) (by decide)
theorem e215_46 : jv_ev d 215 46 [x0, x1, some (.int v), x3] st h = jv_ev d 215 47 [x0, x1, some (.int v), x3] (.int v :: st) h := jq_nx (jv_insR jm_215 dX4_needsOf_46) rfl
theorem e215_47 : jv_ev d 215 47 lc [.int v] h = some (.inl (some (.int v)), h) := jq_reti (jv_insR jm_215 dX4_needsOf_47) jr_215
/-! 216: RainLoom$Land.<init>()V -/
theorem n216 : jv_cd (d + 1) 216 [.ref a0] h = jv_ev d 216 0 [some (.ref a0)] [] h := rfl
theorem e216_0 : jv_ev d 216 0 [some (.ref a)] st h = jv_ev d 216 1 [some (.ref a)] (.ref a :: st) h := jq_nx (jv_insR jm_216 dX5_init_0) rfl
theorem e216_1 : jv_ev d 216 1 lc [.ref b] h = if jt_off ≤ b then jv_ev d 216 4 lc [] h else none := jq_O (jv_insR jm_216 dX5_init_1) jo_216 jP_7_3 (Nat.le_of_ble_eq_true rfl)
theorem e216_4 : jv_ev d 216 4 [some (.ref a)] st h = jv_ev d 216 5 [some (.ref a)] (.ref a :: st) h := jq_nx (jv_insR jm_216 dX5_init_4) rfl
theorem e216_5 : jv_ev d 216 5 lc st h = jv_ev d 216 7 lc (.int 48 :: st) h := jq_bipush (jv_insR jm_216 dX5_init_5) (by decide)
theorem e216_7 : jv_ev d 216 7 lc (.int v :: st) h = if v < 0 ∨ 100000 < v.toNatClampNeg then none else jv_ev d 216 9 lc (.ref h.length :: st) (h ++ [.inl (0, v.toNatClampNeg, .inl (fun _ => 0))]) := jq_newa (jv_insR jm_216 dX5_init_7)
theorem e216_9 : jv_ev d 216 9 lc (r :: .ref a :: st) h = (jv_pf h a [(6, 0, .array .int)] r).bind fun h => jv_ev d 216 12 lc st h := jq_put (jv_insR jm_216 dX5_init_9) jo_216 ji_216 jG_7_9i
theorem e216_12 : jv_ev d 216 12 [some (.ref a)] st h = jv_ev d 216 13 [some (.ref a)] (.ref a :: st) h := jq_nx (jv_insR jm_216 dX5_init_12) rfl
theorem e216_13 : jv_ev d 216 13 lc st h = jv_ev d 216 15 lc (.int 6 :: st) h := jq_bipush (jv_insR jm_216 dX5_init_13) (by decide)
theorem e216_15 : jv_ev d 216 15 lc (.int v :: st) h = if v < 0 ∨ 100000 < v.toNatClampNeg then none else jv_ev d 216 17 lc (.ref h.length :: st) (h ++ [.inl (0, v.toNatClampNeg, .inl (fun _ => 0))]) := jq_newa (jv_insR jm_216 dX5_init_15)
theorem e216_17 : jv_ev d 216 17 lc (r :: .ref a :: st) h = (jv_pf h a [(6, 1, .array .int)] r).bind fun h => jv_ev d 216 20 lc st h := jq_put (jv_insR jm_216 dX5_init_17) jo_216 ji_216 jG_7_15i
theorem e216_20 : jv_ev d 216 20 [some (.ref a)] st h = jv_ev d 216 21 [some (.ref a)] (.ref a :: st) h := jq_nx (jv_insR jm_216 dX5_init_20) rfl
theorem e216_21 : jv_ev d 216 21 lc st h = jv_ev d 216 23 lc (.int 6 :: st) h := jq_bipush (jv_insR jm_216 dX5_init_21) (by decide)
theorem e216_23 : jv_ev d 216 23 lc (.int v :: st) h = if v < 0 ∨ 100000 < v.toNatClampNeg then none else jv_ev d 216 25 lc (.ref h.length :: st) (h ++ [.inl (0, v.toNatClampNeg, .inl (fun _ => 0))]) := jq_newa (jv_insR jm_216 dX5_init_23)
theorem e216_25 : jv_ev d 216 25 lc (r :: .ref a :: st) h = (jv_pf h a [(6, 2, .array .int)] r).bind fun h => jv_ev d 216 28 lc st h := jq_put (jv_insR jm_216 dX5_init_25) jo_216 ji_216 jG_7_18i
theorem e216_28 : jv_ev d 216 28 [some (.ref a)] st h = jv_ev d 216 29 [some (.ref a)] (.ref a :: st) h := jq_nx (jv_insR jm_216 dX5_init_28) rfl
theorem e216_29 : jv_ev d 216 29 lc st h = jv_ev d 216 30 lc (.int 4 :: st) h := jq_iconst (jv_insR jm_216 dX5_init_29) (by decide)
theorem e216_30 : jv_ev d 216 30 lc (.int v :: st) h = if v < 0 ∨ 100000 < v.toNatClampNeg then none else jv_ev d 216 32 lc (.ref h.length :: st) (h ++ [.inl (0, v.toNatClampNeg, .inl (fun _ => 0))]) := jq_newa (jv_insR jm_216 dX5_init_30)
theorem e216_32 : jv_ev d 216 32 lc (r :: .ref a :: st) h = (jv_pf h a [(6, 3, .array .int)] r).bind fun h => jv_ev d 216 35 lc st h := jq_put (jv_insR jm_216 dX5_init_32) jo_216 ji_216 jG_7_21i
theorem e216_35 : jv_ev d 216 35 [some (.ref a)] st h = jv_ev d 216 36 [some (.ref a)] (.ref a :: st) h := jq_nx (jv_insR jm_216 dX5_init_35) rfl
theorem e216_36 : jv_ev d 216 36 lc st h = jv_ev d 216 37 lc (.int 4 :: st) h := jq_iconst (jv_insR jm_216 dX5_init_36) (by decide)
theorem e216_37 : jv_ev d 216 37 lc (.int v :: st) h = if v < 0 ∨ 100000 < v.toNatClampNeg then none else jv_ev d 216 39 lc (.ref h.length :: st) (h ++ [.inl (0, v.toNatClampNeg, .inl (fun _ => 0))]) := jq_newa (jv_insR jm_216 dX5_init_37)
theorem e216_39 : jv_ev d 216 39 lc (r :: .ref a :: st) h = (jv_pf h a [(6, 4, .array .int)] r).bind fun h => jv_ev d 216 42 lc st h := jq_put (jv_insR jm_216 dX5_init_39) jo_216 ji_216 jG_7_24i
theorem e216_42 : jv_ev d 216 42 [some (.ref a)] st h = jv_ev d 216 43 [some (.ref a)] (.ref a :: st) h := jq_nx (jv_insR jm_216 dX5_init_42) rfl
theorem e216_43 : jv_ev d 216 43 lc st h = jv_ev d 216 44 lc (.int 4 :: st) h := jq_iconst (jv_insR jm_216 dX5_init_43) (by decide)
theorem e216_44 : jv_ev d 216 44 lc (.int v :: st) h = if v < 0 ∨ 100000 < v.toNatClampNeg then none else jv_ev d 216 46 lc (.ref h.length :: st) (h ++ [.inl (0, v.toNatClampNeg, .inl (fun _ => 0))]) := jq_newa (jv_insR jm_216 dX5_init_44)
theorem e216_46 : jv_ev d 216 46 lc (r :: .ref a :: st) h = (jv_pf h a [(6, 5, .array .int)] r).bind fun h => jv_ev d 216 49 lc st h := jq_put (jv_insR jm_216 dX5_init_46) jo_216 ji_216 jG_7_27i
theorem e216_49 : jv_ev d 216 49 [some (.ref a)] st h = jv_ev d 216 50 [some (.ref a)] (.ref a :: st) h := jq_nx (jv_insR jm_216 dX5_init_49) rfl
theorem e216_50 : jv_ev d 216 50 lc st h = jv_ev d 216 51 lc (.int 4 :: st) h := jq_iconst (jv_insR jm_216 dX5_init_50) (by decide)
theorem e216_51 : jv_ev d 216 51 lc (.int v :: st) h = if v < 0 ∨ 100000 < v.toNatClampNeg then none else jv_ev d 216 53 lc (.ref h.length :: st) (h ++ [.inl (0, v.toNatClampNeg, .inl (fun _ => 0))]) := jq_newa (jv_insR jm_216 dX5_init_51)
theorem e216_53 : jv_ev d 216 53 lc (r :: .ref a :: st) h = (jv_pf h a [(6, 6, .array .int)] r).bind fun h => jv_ev d 216 56 lc st h := jq_put (jv_insR jm_216 dX5_init_53) jo_216 ji_216 jG_7_30i
theorem e216_56 : jv_ev d 216 56 [some (.ref a)] st h = jv_ev d 216 57 [some (.ref a)] (.ref a :: st) h := jq_nx (jv_insR jm_216 dX5_init_56) rfl
theorem e216_57 : jv_ev d 216 57 lc st h = jv_ev d 216 58 lc (.int 4 :: st) h := jq_iconst (jv_insR jm_216 dX5_init_57) (by decide)
theorem e216_58 : jv_ev d 216 58 lc (.int v :: st) h = if v < 0 ∨ 100000 < v.toNatClampNeg then none else jv_ev d 216 60 lc (.ref h.length :: st) (h ++ [.inl (0, v.toNatClampNeg, .inl (fun _ => 0))]) := jq_newa (jv_insR jm_216 dX5_init_58)
theorem e216_60 : jv_ev d 216 60 lc (r :: .ref a :: st) h = (jv_pf h a [(6, 7, .array .int)] r).bind fun h => jv_ev d 216 63 lc st h := jq_put (jv_insR jm_216 dX5_init_60) jo_216 ji_216 jG_7_33i
theorem e216_63 : jv_ev d 216 63 [some (.ref a)] st h = jv_ev d 216 64 [some (.ref a)] (.ref a :: st) h := jq_nx (jv_insR jm_216 dX5_init_63) rfl
theorem e216_64 : jv_ev d 216 64 lc st h = jv_ev d 216 65 lc (.int 4 :: st) h := jq_iconst (jv_insR jm_216 dX5_init_64) (by decide)
theorem e216_65 : jv_ev d 216 65 lc (.int v :: st) h = if v < 0 ∨ 100000 < v.toNatClampNeg then none else jv_ev d 216 67 lc (.ref h.length :: st) (h ++ [.inl (0, v.toNatClampNeg, .inl (fun _ => 0))]) := jq_newa (jv_insR jm_216 dX5_init_65)
theorem e216_67 : jv_ev d 216 67 lc (r :: .ref a :: st) h = (jv_pf h a [(6, 8, .array .int)] r).bind fun h => jv_ev d 216 70 lc st h := jq_put (jv_insR jm_216 dX5_init_67) jo_216 ji_216 jG_7_36i
theorem e216_70 : jv_ev d 216 70 [some (.ref a)] st h = jv_ev d 216 71 [some (.ref a)] (.ref a :: st) h := jq_nx (jv_insR jm_216 dX5_init_70) rfl
theorem e216_71 : jv_ev d 216 71 lc st h = jv_ev d 216 72 lc (.int 4 :: st) h := jq_iconst (jv_insR jm_216 dX5_init_71) (by decide)
theorem e216_72 : jv_ev d 216 72 lc (.int v :: st) h = if v < 0 ∨ 100000 < v.toNatClampNeg then none else jv_ev d 216 74 lc (.ref h.length :: st) (h ++ [.inl (0, v.toNatClampNeg, .inl (fun _ => 0))]) := jq_newa (jv_insR jm_216 dX5_init_72)
theorem e216_74 : jv_ev d 216 74 lc (r :: .ref a :: st) h = (jv_pf h a [(6, 9, .array .int)] r).bind fun h => jv_ev d 216 77 lc st h := jq_put (jv_insR jm_216 dX5_init_74) jo_216 ji_216 jG_7_39i
theorem e216_77 : jv_ev d 216 77 [some (.ref a)] st h = jv_ev d 216 78 [some (.ref a)] (.ref a :: st) h := jq_nx (jv_insR jm_216 dX5_init_77) rfl
theorem e216_78 : jv_ev d 216 78 lc st h = jv_ev d 216 81 lc (.ref h.length :: st) (h ++ [.inr (7, [.null, .int 0])]) := jq_new (jv_insR jm_216 dX5_init_78) jo_216 jN_7_42 rfl
theorem e216_81 : jv_ev d 216 81 lc (.ref a :: st) h = jv_ev d 216 82 lc (.ref a :: .ref a :: st) h := jq_nx (jv_insR jm_216 dX5_init_81) rfl
theorem e216_82 : jv_ev d 216 82 lc [.ref b, y0, y1] h = if jt_off ≤ b ∧ (jt_SU.contains 229 = false ∨ jv_cls h b = some 20) then ((jv_cd d 229 [.ref b] h).bind fun r => jv_on r (fun v h => jv_ev d 216 85 lc (v.toList ++ [y0, y1]) h) (fun q h => some (.inr q, h))) else none := jq_P (as := []) (rest := [y0, y1]) (jv_insR jm_216 dX5_init_82) jo_216 jP_7_44 rfl rfl rfl rfl
theorem e216_85 : jv_ev d 216 85 lc (r :: .ref a :: st) h = (jv_pf h a [(6, 13, .object "RainLoom$Asked")] r).bind fun h => jv_ev d 216 88 lc st h := jq_put (jv_insR jm_216 dX5_init_85) jo_216 ji_216 jG_7_45i
theorem e216_88 : jv_ev d 216 88 lc [] h = some (.inl none, h) := jq_retv (jv_insR jm_216 dX5_init_88) jr_216
/-! 217: RainLoom$Land.begins(LRainLoom$Text;)V -/
theorem n217 : jv_cd (d + 1) 217 [.ref a0, .ref a1] h = jv_ev d 217 0 [some (.ref a0), some (.ref a1), none] [] h := rfl
theorem e217_0 : jv_ev d 217 0 lc st h = jv_ev d 217 1 lc (.int 0 :: st) h := jq_iconst (jv_insR jm_217 dX5_begins_0) (by decide)
theorem e217_1 : jv_ev d 217 1 [x0, x1, x2] (.int v :: st) h = jv_ev d 217 2 [x0, x1, some (.int v)] st h := jq_nx (jv_insR jm_217 dX5_begins_1) rfl
theorem e217_2 : jv_ev d 217 2 [x0, x1, some (.int v)] st h = jv_ev d 217 3 [x0, x1, some (.int v)] (.int v :: st) h := jq_nx (jv_insR jm_217 dX5_begins_2) rfl
theorem e217_3 : jv_ev d 217 3 lc st h = jv_ev d 217 5 lc (.int 48 :: st) h := jq_bipush (jv_insR jm_217 dX5_begins_3) (by decide)
theorem e217_5 : jv_ev d 217 5 lc (.int w :: .int v :: st) h = if w ≤ v then jv_ev d 217 21 lc st h else jv_ev d 217 8 lc st h := jq_if (jv_insR jm_217 dX5_begins_5) rfl (by decide)
theorem e217_8 : jv_ev d 217 8 [some (.ref a), x1, x2] st h = jv_ev d 217 9 [some (.ref a), x1, x2] (.ref a :: st) h := jq_nx (jv_insR jm_217 dX5_begins_8) rfl
theorem e217_9 : jv_ev d 217 9 lc (.ref a :: st) h = (jv_gf h a [(6, 0, .array .int)]).bind fun r => jv_ev d 217 12 lc (r :: st) h := jq_get (jv_insR jm_217 dX5_begins_9) jo_217 jF_7_9
theorem e217_12 : jv_ev d 217 12 [x0, x1, some (.int v)] st h = jv_ev d 217 13 [x0, x1, some (.int v)] (.int v :: st) h := jq_nx (jv_insR jm_217 dX5_begins_12) rfl
theorem e217_13 : jv_ev d 217 13 lc st h = jv_ev d 217 14 lc (.int 0 :: st) h := jq_iconst (jv_insR jm_217 dX5_begins_13) (by decide)
theorem e217_14 : jv_ev d 217 14 lc (.int w :: .int v :: .ref a :: st) h = (jv_ip h a 0 0 v w).bind fun h => jv_ev d 217 15 lc st h := jq_iast (jv_insR jm_217 dX5_begins_14)
theorem e217_15 : jv_ev d 217 15 [x0, x1, some (.int v)] st h = jv_ev d 217 18 [x0, x1, some (.int (v + 1))] st h := jq_nx (jv_insR jm_217 dX5_begins_15) rfl
theorem e217_18 : jv_ev d 217 18 lc st h = jv_ev d 217 2 lc st h := jq_go (jv_insR jm_217 dX5_begins_18) (by decide)
theorem e217_21 : jv_ev d 217 21 lc st h = jv_ev d 217 22 lc (.int 0 :: st) h := jq_iconst (jv_insR jm_217 dX5_begins_21) (by decide)
theorem e217_22 : jv_ev d 217 22 [x0, x1, x2] (.int v :: st) h = jv_ev d 217 23 [x0, x1, some (.int v)] st h := jq_nx (jv_insR jm_217 dX5_begins_22) rfl
theorem e217_23 : jv_ev d 217 23 [x0, x1, some (.int v)] st h = jv_ev d 217 24 [x0, x1, some (.int v)] (.int v :: st) h := jq_nx (jv_insR jm_217 dX5_begins_23) rfl
theorem e217_24 : jv_ev d 217 24 lc st h = jv_ev d 217 26 lc (.int 6 :: st) h := jq_bipush (jv_insR jm_217 dX5_begins_24) (by decide)
theorem e217_26 : jv_ev d 217 26 lc (.int w :: .int v :: st) h = if w ≤ v then jv_ev d 217 49 lc st h else jv_ev d 217 29 lc st h := jq_if (jv_insR jm_217 dX5_begins_26) rfl (by decide)
theorem e217_29 : jv_ev d 217 29 [some (.ref a), x1, x2] st h = jv_ev d 217 30 [some (.ref a), x1, x2] (.ref a :: st) h := jq_nx (jv_insR jm_217 dX5_begins_29) rfl
theorem e217_30 : jv_ev d 217 30 lc (.ref a :: st) h = (jv_gf h a [(6, 1, .array .int)]).bind fun r => jv_ev d 217 33 lc (r :: st) h := jq_get (jv_insR jm_217 dX5_begins_30) jo_217 jF_7_15
theorem e217_33 : jv_ev d 217 33 [x0, x1, some (.int v)] st h = jv_ev d 217 34 [x0, x1, some (.int v)] (.int v :: st) h := jq_nx (jv_insR jm_217 dX5_begins_33) rfl
theorem e217_34 : jv_ev d 217 34 lc st h = jv_ev d 217 35 lc (.int 0 :: st) h := jq_iconst (jv_insR jm_217 dX5_begins_34) (by decide)
theorem e217_35 : jv_ev d 217 35 lc (.int w :: .int v :: .ref a :: st) h = (jv_ip h a 0 0 v w).bind fun h => jv_ev d 217 36 lc st h := jq_iast (jv_insR jm_217 dX5_begins_35)
theorem e217_36 : jv_ev d 217 36 [some (.ref a), x1, x2] st h = jv_ev d 217 37 [some (.ref a), x1, x2] (.ref a :: st) h := jq_nx (jv_insR jm_217 dX5_begins_36) rfl
theorem e217_37 : jv_ev d 217 37 lc (.ref a :: st) h = (jv_gf h a [(6, 2, .array .int)]).bind fun r => jv_ev d 217 40 lc (r :: st) h := jq_get (jv_insR jm_217 dX5_begins_37) jo_217 jF_7_18
theorem e217_40 : jv_ev d 217 40 [x0, x1, some (.int v)] st h = jv_ev d 217 41 [x0, x1, some (.int v)] (.int v :: st) h := jq_nx (jv_insR jm_217 dX5_begins_40) rfl
theorem e217_41 : jv_ev d 217 41 lc st h = jv_ev d 217 42 lc (.int 0 :: st) h := jq_iconst (jv_insR jm_217 dX5_begins_41) (by decide)
theorem e217_42 : jv_ev d 217 42 lc (.int w :: .int v :: .ref a :: st) h = (jv_ip h a 0 0 v w).bind fun h => jv_ev d 217 43 lc st h := jq_iast (jv_insR jm_217 dX5_begins_42)
theorem e217_43 : jv_ev d 217 43 [x0, x1, some (.int v)] st h = jv_ev d 217 46 [x0, x1, some (.int (v + 1))] st h := jq_nx (jv_insR jm_217 dX5_begins_43) rfl
theorem e217_46 : jv_ev d 217 46 lc st h = jv_ev d 217 23 lc st h := jq_go (jv_insR jm_217 dX5_begins_46) (by decide)
theorem e217_49 : jv_ev d 217 49 lc st h = jv_ev d 217 50 lc (.int 0 :: st) h := jq_iconst (jv_insR jm_217 dX5_begins_49) (by decide)
theorem e217_50 : jv_ev d 217 50 [x0, x1, x2] (.int v :: st) h = jv_ev d 217 51 [x0, x1, some (.int v)] st h := jq_nx (jv_insR jm_217 dX5_begins_50) rfl
theorem e217_51 : jv_ev d 217 51 [x0, x1, some (.int v)] st h = jv_ev d 217 52 [x0, x1, some (.int v)] (.int v :: st) h := jq_nx (jv_insR jm_217 dX5_begins_51) rfl
theorem e217_52 : jv_ev d 217 52 lc st h = jv_ev d 217 53 lc (.int 4 :: st) h := jq_iconst (jv_insR jm_217 dX5_begins_52) (by decide)
theorem e217_53 : jv_ev d 217 53 lc (.int w :: .int v :: st) h = if w ≤ v then jv_ev d 217 116 lc st h else jv_ev d 217 56 lc st h := jq_if (jv_insR jm_217 dX5_begins_53) rfl (by decide)
theorem e217_56 : jv_ev d 217 56 [some (.ref a), x1, x2] st h = jv_ev d 217 57 [some (.ref a), x1, x2] (.ref a :: st) h := jq_nx (jv_insR jm_217 dX5_begins_56) rfl
theorem e217_57 : jv_ev d 217 57 lc (.ref a :: st) h = (jv_gf h a [(6, 3, .array .int)]).bind fun r => jv_ev d 217 60 lc (r :: st) h := jq_get (jv_insR jm_217 dX5_begins_57) jo_217 jF_7_21
theorem e217_60 : jv_ev d 217 60 [x0, x1, some (.int v)] st h = jv_ev d 217 61 [x0, x1, some (.int v)] (.int v :: st) h := jq_nx (jv_insR jm_217 dX5_begins_60) rfl
theorem e217_61 : jv_ev d 217 61 [x0, x1, some (.int v)] st h = jv_ev d 217 62 [x0, x1, some (.int v)] (.int v :: st) h := jq_nx (jv_insR jm_217 dX5_begins_61) rfl
theorem e217_62 : jv_ev d 217 62 [x0, some (.ref a), x2] st h = jv_ev d 217 63 [x0, some (.ref a), x2] (.ref a :: st) h := jq_nx (jv_insR jm_217 dX5_begins_62) rfl
theorem e217_63 : jv_ev d 217 63 lc (.ref a :: st) h = (jv_gf h a [(5, 2, .object "java/util/ArrayList")]).bind fun r => jv_ev d 217 66 lc (r :: st) h := jq_get (jv_insR jm_217 dX5_begins_63) jo_217 jF_7_49
theorem e217_66 : jv_ev d 217 66 lc [.ref b, y0, y1, y2] h = (jv_rc h b [(18, 258)]).bind fun y => (jv_cd d y [.ref b] h).bind fun r => jv_on r (fun v h => jv_ev d 217 69 lc (v.toList ++ [y0, y1, y2]) h) (fun q h => some (.inr q, h)) := jq_V (as := []) (rest := [y0, y1, y2]) (jv_insR jm_217 dX5_begins_66) jo_217 jV_7_55 rfl rfl rfl rfl
theorem e217_69 : jv_ev d 217 69 lc (.int w :: .int v :: st) h = if w ≤ v then jv_ev d 217 89 lc st h else jv_ev d 217 72 lc st h := jq_if (jv_insR jm_217 dX5_begins_69) rfl (by decide)
theorem e217_72 : jv_ev d 217 72 [x0, some (.ref a), x2] st h = jv_ev d 217 73 [x0, some (.ref a), x2] (.ref a :: st) h := jq_nx (jv_insR jm_217 dX5_begins_72) rfl
theorem e217_73 : jv_ev d 217 73 lc (.ref a :: st) h = (jv_gf h a [(5, 2, .object "java/util/ArrayList")]).bind fun r => jv_ev d 217 76 lc (r :: st) h := jq_get (jv_insR jm_217 dX5_begins_73) jo_217 jF_7_49
theorem e217_76 : jv_ev d 217 76 [x0, x1, some (.int v)] st h = jv_ev d 217 77 [x0, x1, some (.int v)] (.int v :: st) h := jq_nx (jv_insR jm_217 dX5_begins_76) rfl
theorem e217_77 : jv_ev d 217 77 lc [z0, .ref b, y0, y1] h = (jv_rc h b [(18, 259)]).bind fun y => (jv_cd d y [.ref b, z0] h).bind fun r => jv_on r (fun v h => jv_ev d 217 80 lc (v.toList ++ [y0, y1]) h) (fun q h => some (.inr q, h)) := jq_V (as := [z0]) (rest := [y0, y1]) (jv_insR jm_217 dX5_begins_77) jo_217 jV_7_61 rfl rfl rfl rfl
theorem e217_80 : jv_ev d 217 80 lc (.ref a :: st) h = (jv_cls h a).bind fun ci => if jt_CK.contains (7, 65, ci) = true then jv_ev d 217 83 lc (.ref a :: st) h else none := jq_cast (jv_insR jm_217 dX5_begins_80) jo_217
theorem e217_83 : jv_ev d 217 83 lc (.ref a :: st) h = (jv_gf h a [(17, 2, .int)]).bind fun r => jv_ev d 217 86 lc (r :: st) h := jq_get (jv_insR jm_217 dX5_begins_83) jo_217 jF_7_67
theorem e217_86 : jv_ev d 217 86 lc st h = jv_ev d 217 90 lc st h := jq_go (jv_insR jm_217 dX5_begins_86) (by decide)
theorem e217_89 : jv_ev d 217 89 lc st h = jv_ev d 217 90 lc (.int 0 :: st) h := jq_iconst (jv_insR jm_217 dX5_begins_89) (by decide)
theorem e217_90 : jv_ev d 217 90 lc (.int w :: .int v :: .ref a :: st) h = (jv_ip h a 0 0 v w).bind fun h => jv_ev d 217 91 lc st h := jq_iast (jv_insR jm_217 dX5_begins_90)
theorem e217_91 : jv_ev d 217 91 [some (.ref a), x1, x2] st h = jv_ev d 217 92 [some (.ref a), x1, x2] (.ref a :: st) h := jq_nx (jv_insR jm_217 dX5_begins_91) rfl
theorem e217_92 : jv_ev d 217 92 lc (.ref a :: st) h = (jv_gf h a [(6, 4, .array .int)]).bind fun r => jv_ev d 217 95 lc (r :: st) h := jq_get (jv_insR jm_217 dX5_begins_92) jo_217 jF_7_24
theorem e217_95 : jv_ev d 217 95 [x0, x1, some (.int v)] st h = jv_ev d 217 96 [x0, x1, some (.int v)] (.int v :: st) h := jq_nx (jv_insR jm_217 dX5_begins_95) rfl
theorem e217_96 : jv_ev d 217 96 lc st h = jv_ev d 217 97 lc (.int 0 :: st) h := jq_iconst (jv_insR jm_217 dX5_begins_96) (by decide)
theorem e217_97 : jv_ev d 217 97 lc (.int w :: .int v :: .ref a :: st) h = (jv_ip h a 0 0 v w).bind fun h => jv_ev d 217 98 lc st h := jq_iast (jv_insR jm_217 dX5_begins_97)
theorem e217_98 : jv_ev d 217 98 [some (.ref a), x1, x2] st h = jv_ev d 217 99 [some (.ref a), x1, x2] (.ref a :: st) h := jq_nx (jv_insR jm_217 dX5_begins_98) rfl
theorem e217_99 : jv_ev d 217 99 lc (.ref a :: st) h = (jv_gf h a [(6, 5, .array .int)]).bind fun r => jv_ev d 217 102 lc (r :: st) h := jq_get (jv_insR jm_217 dX5_begins_99) jo_217 jF_7_27
theorem e217_102 : jv_ev d 217 102 [x0, x1, some (.int v)] st h = jv_ev d 217 103 [x0, x1, some (.int v)] (.int v :: st) h := jq_nx (jv_insR jm_217 dX5_begins_102) rfl
theorem e217_103 : jv_ev d 217 103 lc st h = jv_ev d 217 104 lc (.int 0 :: st) h := jq_iconst (jv_insR jm_217 dX5_begins_103) (by decide)
theorem e217_104 : jv_ev d 217 104 lc (.int w :: .int v :: .ref a :: st) h = (jv_ip h a 0 0 v w).bind fun h => jv_ev d 217 105 lc st h := jq_iast (jv_insR jm_217 dX5_begins_104)
theorem e217_105 : jv_ev d 217 105 [some (.ref a), x1, x2] st h = jv_ev d 217 106 [some (.ref a), x1, x2] (.ref a :: st) h := jq_nx (jv_insR jm_217 dX5_begins_105) rfl
theorem e217_106 : jv_ev d 217 106 [x0, x1, some (.int v)] st h = jv_ev d 217 107 [x0, x1, some (.int v)] (.int v :: st) h := jq_nx (jv_insR jm_217 dX5_begins_106) rfl
theorem e217_107 : jv_ev d 217 107 lc [z0, .ref b] h = (jv_rc h b [(6, 218)]).bind fun y => (jv_cd d y [.ref b, z0] h).bind fun r => jv_on r (fun v h => jv_ev d 217 110 lc (v.toList ++ []) h) (fun q h => some (.inr q, h)) := jq_V (as := [z0]) (rest := []) (jv_insR jm_217 dX5_begins_107) jo_217 jV_7_70 rfl rfl rfl rfl
theorem e217_110 : jv_ev d 217 110 [x0, x1, some (.int v)] st h = jv_ev d 217 113 [x0, x1, some (.int (v + 1))] st h := jq_nx (jv_insR jm_217 dX5_begins_110) rfl
theorem e217_113 : jv_ev d 217 113 lc st h = jv_ev d 217 51 lc st h := jq_go (jv_insR jm_217 dX5_begins_113) (by decide)
theorem e217_116 : jv_ev d 217 116 [some (.ref a), x1, x2] st h = jv_ev d 217 117 [some (.ref a), x1, x2] (.ref a :: st) h := jq_nx (jv_insR jm_217 dX5_begins_116) rfl
theorem e217_117 : jv_ev d 217 117 [x0, some (.ref a), x2] st h = jv_ev d 217 118 [x0, some (.ref a), x2] (.ref a :: st) h := jq_nx (jv_insR jm_217 dX5_begins_117) rfl
theorem e217_118 : jv_ev d 217 118 lc (.ref a :: st) h = (jv_gf h a [(5, 6, .int)]).bind fun r => jv_ev d 217 121 lc (r :: st) h := jq_get (jv_insR jm_217 dX5_begins_118) jo_217 jF_7_74
theorem e217_121 : jv_ev d 217 121 lc (r :: .ref a :: st) h = (jv_pf h a [(6, 10, .int)] r).bind fun h => jv_ev d 217 124 lc st h := jq_put (jv_insR jm_217 dX5_begins_121) jo_217 ji_217 jG_7_77
theorem e217_124 : jv_ev d 217 124 [some (.ref a), x1, x2] st h = jv_ev d 217 125 [some (.ref a), x1, x2] (.ref a :: st) h := jq_nx (jv_insR jm_217 dX5_begins_124) rfl
theorem e217_125 : jv_ev d 217 125 lc st h = jv_ev d 217 126 lc (.int 0 :: st) h := jq_iconst (jv_insR jm_217 dX5_begins_125) (by decide)
theorem e217_126 : jv_ev d 217 126 lc (r :: .ref a :: st) h = (jv_pf h a [(6, 11, .int)] r).bind fun h => jv_ev d 217 129 lc st h := jq_put (jv_insR jm_217 dX5_begins_126) jo_217 ji_217 jG_7_78
theorem e217_129 : jv_ev d 217 129 [some (.ref a), x1, x2] st h = jv_ev d 217 130 [some (.ref a), x1, x2] (.ref a :: st) h := jq_nx (jv_insR jm_217 dX5_begins_129) rfl
theorem e217_130 : jv_ev d 217 130 [x0, some (.ref a), x2] st h = jv_ev d 217 131 [x0, some (.ref a), x2] (.ref a :: st) h := jq_nx (jv_insR jm_217 dX5_begins_130) rfl
theorem e217_131 : jv_ev d 217 131 lc (.ref a :: st) h = (jv_gf h a [(5, 8, .int)]).bind fun r => jv_ev d 217 134 lc (r :: st) h := jq_get (jv_insR jm_217 dX5_begins_131) jo_217 jF_7_81
theorem e217_134 : jv_ev d 217 134 lc (r :: .ref a :: st) h = (jv_pf h a [(6, 12, .int)] r).bind fun h => jv_ev d 217 137 lc st h := jq_put (jv_insR jm_217 dX5_begins_134) jo_217 ji_217 jG_7_84
theorem e217_137 : jv_ev d 217 137 lc [] h = some (.inl none, h) := jq_retv (jv_insR jm_217 dX5_begins_137) jr_217
/-! 218: RainLoom$Land.stops(I)V -/
theorem n218 : jv_cd (d + 1) 218 [.ref a0, .int i1] h = jv_ev d 218 0 [some (.ref a0), some (.int i1)] [] h := rfl
theorem e218_0 : jv_ev d 218 0 [some (.ref a), x1] st h = jv_ev d 218 1 [some (.ref a), x1] (.ref a :: st) h := jq_nx (jv_insR jm_218 dX5_stops_0) rfl
theorem e218_1 : jv_ev d 218 1 lc (.ref a :: st) h = (jv_gf h a [(6, 6, .array .int)]).bind fun r => jv_ev d 218 4 lc (r :: st) h := jq_get (jv_insR jm_218 dX5_stops_1) jo_218 jF_7_30
theorem e218_4 : jv_ev d 218 4 [x0, some (.int v)] st h = jv_ev d 218 5 [x0, some (.int v)] (.int v :: st) h := jq_nx (jv_insR jm_218 dX5_stops_4) rfl
theorem e218_5 : jv_ev d 218 5 lc st h = jv_ev d 218 7 lc (.int (-2) :: st) h := jq_bipush (jv_insR jm_218 dX5_stops_5) (by decide)
theorem e218_7 : jv_ev d 218 7 lc (.int w :: .int v :: .ref a :: st) h = (jv_ip h a 0 0 v w).bind fun h => jv_ev d 218 8 lc st h := jq_iast (jv_insR jm_218 dX5_stops_7)
theorem e218_8 : jv_ev d 218 8 [some (.ref a), x1] st h = jv_ev d 218 9 [some (.ref a), x1] (.ref a :: st) h := jq_nx (jv_insR jm_218 dX5_stops_8) rfl
theorem e218_9 : jv_ev d 218 9 lc (.ref a :: st) h = (jv_gf h a [(6, 7, .array .int)]).bind fun r => jv_ev d 218 12 lc (r :: st) h := jq_get (jv_insR jm_218 dX5_stops_9) jo_218 jF_7_33
theorem e218_12 : jv_ev d 218 12 [x0, some (.int v)] st h = jv_ev d 218 13 [x0, some (.int v)] (.int v :: st) h := jq_nx (jv_insR jm_218 dX5_stops_12) rfl
theorem e218_13 : jv_ev d 218 13 lc st h = jv_ev d 218 15 lc (.int (-2) :: st) h := jq_bipush (jv_insR jm_218 dX5_stops_13) (by decide)
theorem e218_15 : jv_ev d 218 15 lc (.int w :: .int v :: .ref a :: st) h = (jv_ip h a 0 0 v w).bind fun h => jv_ev d 218 16 lc st h := jq_iast (jv_insR jm_218 dX5_stops_15)
theorem e218_16 : jv_ev d 218 16 [some (.ref a), x1] st h = jv_ev d 218 17 [some (.ref a), x1] (.ref a :: st) h := jq_nx (jv_insR jm_218 dX5_stops_16) rfl
theorem e218_17 : jv_ev d 218 17 lc (.ref a :: st) h = (jv_gf h a [(6, 8, .array .int)]).bind fun r => jv_ev d 218 20 lc (r :: st) h := jq_get (jv_insR jm_218 dX5_stops_17) jo_218 jF_7_36
theorem e218_20 : jv_ev d 218 20 [x0, some (.int v)] st h = jv_ev d 218 21 [x0, some (.int v)] (.int v :: st) h := jq_nx (jv_insR jm_218 dX5_stops_20) rfl
theorem e218_21 : jv_ev d 218 21 lc st h = jv_ev d 218 23 lc (.int (-2) :: st) h := jq_bipush (jv_insR jm_218 dX5_stops_21) (by decide)
theorem e218_23 : jv_ev d 218 23 lc (.int w :: .int v :: .ref a :: st) h = (jv_ip h a 0 0 v w).bind fun h => jv_ev d 218 24 lc st h := jq_iast (jv_insR jm_218 dX5_stops_23)
theorem e218_24 : jv_ev d 218 24 [some (.ref a), x1] st h = jv_ev d 218 25 [some (.ref a), x1] (.ref a :: st) h := jq_nx (jv_insR jm_218 dX5_stops_24) rfl
theorem e218_25 : jv_ev d 218 25 lc (.ref a :: st) h = (jv_gf h a [(6, 9, .array .int)]).bind fun r => jv_ev d 218 28 lc (r :: st) h := jq_get (jv_insR jm_218 dX5_stops_25) jo_218 jF_7_39
theorem e218_28 : jv_ev d 218 28 [x0, some (.int v)] st h = jv_ev d 218 29 [x0, some (.int v)] (.int v :: st) h := jq_nx (jv_insR jm_218 dX5_stops_28) rfl
theorem e218_29 : jv_ev d 218 29 lc st h = jv_ev d 218 31 lc (.int (-2) :: st) h := jq_bipush (jv_insR jm_218 dX5_stops_29) (by decide)
theorem e218_31 : jv_ev d 218 31 lc (.int w :: .int v :: .ref a :: st) h = (jv_ip h a 0 0 v w).bind fun h => jv_ev d 218 32 lc st h := jq_iast (jv_insR jm_218 dX5_stops_31)
theorem e218_32 : jv_ev d 218 32 lc [] h = some (.inl none, h) := jq_retv (jv_insR jm_218 dX5_stops_32) jr_218
/-! 219: RainLoom$Land.isLacking(LRainLoom$Text;I)Z -/
theorem n219 : jv_cd (d + 1) 219 [.ref a0, .ref a1, .int i2] h = jv_ev d 219 0 [some (.ref a0), some (.ref a1), some (.int i2)] [] h := rfl
theorem e219_0 : jv_ev d 219 0 [x0, some (.ref a), x2] st h = jv_ev d 219 1 [x0, some (.ref a), x2] (.ref a :: st) h := jq_nx (jv_insR jm_219 dX5_isLacking_0) rfl
theorem e219_1 : jv_ev d 219 1 lc (.ref a :: st) h = (jv_gf h a [(5, 0, .array .int)]).bind fun r => jv_ev d 219 4 lc (r :: st) h := jq_get (jv_insR jm_219 dX5_isLacking_1) jo_219 jF_7_135
theorem e219_4 : jv_ev d 219 4 [x0, x1, some (.int v)] st h = jv_ev d 219 5 [x0, x1, some (.int v)] (.int v :: st) h := jq_nx (jv_insR jm_219 dX5_isLacking_4) rfl
theorem e219_5 : jv_ev d 219 5 lc (.int v :: .ref a :: st) h = (jv_ig h a 0 0 v).bind fun w => jv_ev d 219 6 lc (.int w :: st) h := jq_iald (jv_insR jm_219 dX5_isLacking_5)
theorem e219_6 : jv_ev d 219 6 lc (.int v :: st) h = if v < 0 then jv_ev d 219 27 lc st h else jv_ev d 219 9 lc st h := jq_if (jv_insR jm_219 dX5_isLacking_6) rfl (by decide)
theorem e219_9 : jv_ev d 219 9 [some (.ref a), x1, x2] st h = jv_ev d 219 10 [some (.ref a), x1, x2] (.ref a :: st) h := jq_nx (jv_insR jm_219 dX5_isLacking_9) rfl
theorem e219_10 : jv_ev d 219 10 lc (.ref a :: st) h = (jv_gf h a [(6, 0, .array .int)]).bind fun r => jv_ev d 219 13 lc (r :: st) h := jq_get (jv_insR jm_219 dX5_isLacking_10) jo_219 jF_7_9
theorem e219_13 : jv_ev d 219 13 [x0, x1, some (.int v)] st h = jv_ev d 219 14 [x0, x1, some (.int v)] (.int v :: st) h := jq_nx (jv_insR jm_219 dX5_isLacking_13) rfl
theorem e219_14 : jv_ev d 219 14 lc (.int v :: .ref a :: st) h = (jv_ig h a 0 0 v).bind fun w => jv_ev d 219 15 lc (.int w :: st) h := jq_iald (jv_insR jm_219 dX5_isLacking_14)
theorem e219_15 : jv_ev d 219 15 [x0, some (.ref a), x2] st h = jv_ev d 219 16 [x0, some (.ref a), x2] (.ref a :: st) h := jq_nx (jv_insR jm_219 dX5_isLacking_15) rfl
theorem e219_16 : jv_ev d 219 16 [x0, x1, some (.int v)] st h = jv_ev d 219 17 [x0, x1, some (.int v)] (.int v :: st) h := jq_nx (jv_insR jm_219 dX5_isLacking_16) rfl
theorem e219_17 : jv_ev d 219 17 lc [z0, .ref b, y0] h = (jv_rc h b [(5, 213)]).bind fun y => (jv_cd d y [.ref b, z0] h).bind fun r => jv_on r (fun v h => jv_ev d 219 20 lc (v.toList ++ [y0]) h) (fun q h => some (.inr q, h)) := jq_V (as := [z0]) (rest := [y0]) (jv_insR jm_219 dX5_isLacking_17) jo_219 jV_7_120 rfl rfl rfl rfl
theorem e219_20 : jv_ev d 219 20 lc (.int w :: .int v :: st) h = if w ≤ v then jv_ev d 219 27 lc st h else jv_ev d 219 23 lc st h := jq_if (jv_insR jm_219 dX5_isLacking_20) rfl (by decide)
theorem e219_23 : jv_ev d 219 23 lc st h = jv_ev d 219 24 lc (.int 1 :: st) h := jq_iconst (jv_insR jm_219 dX5_isLacking_23) (by decide)
theorem e219_24 : jv_ev d 219 24 lc st h = jv_ev d 219 28 lc st h := jq_go (jv_insR jm_219 dX5_isLacking_24) (by decide)
theorem e219_27 : jv_ev d 219 27 lc st h = jv_ev d 219 28 lc (.int 0 :: st) h := jq_iconst (jv_insR jm_219 dX5_isLacking_27) (by decide)
theorem e219_28 : jv_ev d 219 28 lc [.int v] h = if narrow .boolean (.int v) = .int v then some (.inl (some (.int v)), h) else none := jq_ret (jv_insR jm_219 dX5_isLacking_28) jr_219 (by decide)
/-! 220: RainLoom$Land.isFlooded(LRainLoom$Text;I)Z -/
theorem n220 : jv_cd (d + 1) 220 [.ref a0, .ref a1, .int i2] h = jv_ev d 220 0 [some (.ref a0), some (.ref a1), some (.int i2)] [] h := rfl
theorem e220_0 : jv_ev d 220 0 [x0, some (.ref a), x2] st h = jv_ev d 220 1 [x0, some (.ref a), x2] (.ref a :: st) h := jq_nx (jv_insR jm_220 dX5_isFlooded_0) rfl
theorem e220_1 : jv_ev d 220 1 lc (.ref a :: st) h = (jv_gf h a [(5, 0, .array .int)]).bind fun r => jv_ev d 220 4 lc (r :: st) h := jq_get (jv_insR jm_220 dX5_isFlooded_1) jo_220 jF_7_135
theorem e220_4 : jv_ev d 220 4 [x0, x1, some (.int v)] st h = jv_ev d 220 5 [x0, x1, some (.int v)] (.int v :: st) h := jq_nx (jv_insR jm_220 dX5_isFlooded_4) rfl
theorem e220_5 : jv_ev d 220 5 lc (.int v :: .ref a :: st) h = (jv_ig h a 0 0 v).bind fun w => jv_ev d 220 6 lc (.int w :: st) h := jq_iald (jv_insR jm_220 dX5_isFlooded_5)
theorem e220_6 : jv_ev d 220 6 lc (.int v :: st) h = if v < 0 then jv_ev d 220 27 lc st h else jv_ev d 220 9 lc st h := jq_if (jv_insR jm_220 dX5_isFlooded_6) rfl (by decide)
theorem e220_9 : jv_ev d 220 9 [some (.ref a), x1, x2] st h = jv_ev d 220 10 [some (.ref a), x1, x2] (.ref a :: st) h := jq_nx (jv_insR jm_220 dX5_isFlooded_9) rfl
theorem e220_10 : jv_ev d 220 10 lc (.ref a :: st) h = (jv_gf h a [(6, 0, .array .int)]).bind fun r => jv_ev d 220 13 lc (r :: st) h := jq_get (jv_insR jm_220 dX5_isFlooded_10) jo_220 jF_7_9
theorem e220_13 : jv_ev d 220 13 [x0, x1, some (.int v)] st h = jv_ev d 220 14 [x0, x1, some (.int v)] (.int v :: st) h := jq_nx (jv_insR jm_220 dX5_isFlooded_13) rfl
theorem e220_14 : jv_ev d 220 14 lc (.int v :: .ref a :: st) h = (jv_ig h a 0 0 v).bind fun w => jv_ev d 220 15 lc (.int w :: st) h := jq_iald (jv_insR jm_220 dX5_isFlooded_14)
theorem e220_15 : jv_ev d 220 15 [x0, some (.ref a), x2] st h = jv_ev d 220 16 [x0, some (.ref a), x2] (.ref a :: st) h := jq_nx (jv_insR jm_220 dX5_isFlooded_15) rfl
theorem e220_16 : jv_ev d 220 16 [x0, x1, some (.int v)] st h = jv_ev d 220 17 [x0, x1, some (.int v)] (.int v :: st) h := jq_nx (jv_insR jm_220 dX5_isFlooded_16) rfl
theorem e220_17 : jv_ev d 220 17 lc [z0, .ref b, y0] h = (jv_rc h b [(5, 214)]).bind fun y => (jv_cd d y [.ref b, z0] h).bind fun r => jv_on r (fun v h => jv_ev d 220 20 lc (v.toList ++ [y0]) h) (fun q h => some (.inr q, h)) := jq_V (as := [z0]) (rest := [y0]) (jv_insR jm_220 dX5_isFlooded_17) jo_220 jV_7_124 rfl rfl rfl rfl
theorem e220_20 : jv_ev d 220 20 lc (.int w :: .int v :: st) h = if v ≤ w then jv_ev d 220 27 lc st h else jv_ev d 220 23 lc st h := jq_if (jv_insR jm_220 dX5_isFlooded_20) rfl (by decide)
theorem e220_23 : jv_ev d 220 23 lc st h = jv_ev d 220 24 lc (.int 1 :: st) h := jq_iconst (jv_insR jm_220 dX5_isFlooded_23) (by decide)
theorem e220_24 : jv_ev d 220 24 lc st h = jv_ev d 220 28 lc st h := jq_go (jv_insR jm_220 dX5_isFlooded_24) (by decide)
theorem e220_27 : jv_ev d 220 27 lc st h = jv_ev d 220 28 lc (.int 0 :: st) h := jq_iconst (jv_insR jm_220 dX5_isFlooded_27) (by decide)
theorem e220_28 : jv_ev d 220 28 lc [.int v] h = if narrow .boolean (.int v) = .int v then some (.inl (some (.int v)), h) else none := jq_ret (jv_insR jm_220 dX5_isFlooded_28) jr_220 (by decide)
/-! 221: RainLoom$Land.thread(LRainLoom$Text;III)I -/
theorem n221 : jv_cd (d + 1) 221 [.ref a0, .ref a1, .int i2, .int i3, .int i4] h = jv_ev d 221 0 [some (.ref a0), some (.ref a1), some (.int i2), some (.int i3), some (.int i4), none] [] h := rfl
theorem e221_0 : jv_ev d 221 0 [x0, some (.ref a), x2, x3, x4, x5] st h = jv_ev d 221 1 [x0, some (.ref a), x2, x3, x4, x5] (.ref a :: st) h := jq_nx (jv_insR jm_221 dX5_thread_0) rfl
theorem e221_0n : jv_ev d 221 0 [x0, some .null, x2, x3, x4, x5] st h = jv_ev d 221 1 [x0, some .null, x2, x3, x4, x5] (.null :: st) h := jq_nx (jv_insR jm_221 dX5_thread_0) rfl
theorem e221_1 : jv_ev d 221 1 lc (.ref a :: st) h = (jv_gf h a [(5, 3, .array (.object "RainLoom$Law"))]).bind fun r => jv_ev d 221 4 lc (r :: st) h := jq_get (jv_insR jm_221 dX5_thread_1) jo_221 jF_7_98
theorem e221_4 : jv_ev d 221 4 lc st h = jv_ev d 221 5 lc (.int 0 :: st) h := jq_iconst (jv_insR jm_221 dX5_thread_4) (by decide)
theorem e221_5 : jv_ev d 221 5 lc (.int v :: .ref a :: st) h = (jv_rg h a v).bind fun w => jv_ev d 221 6 lc (w :: st) h := jq_aald (jv_insR jm_221 dX5_thread_5)
theorem e221_6 : jv_ev d 221 6 [x0, x1, x2, x3, x4, x5] (.ref a :: st) h = jv_ev d 221 8 [x0, x1, x2, x3, x4, some (.ref a)] st h := jq_nx (jv_insR jm_221 dX5_thread_6) rfl
theorem e221_6n : jv_ev d 221 6 [x0, x1, x2, x3, x4, x5] (.null :: st) h = jv_ev d 221 8 [x0, x1, x2, x3, x4, some .null] st h := jq_nx (jv_insR jm_221 dX5_thread_6) rfl
theorem e221_8 : jv_ev d 221 8 [x0, x1, x2, x3, x4, some (.ref a)] st h = jv_ev d 221 10 [x0, x1, x2, x3, x4, some (.ref a)] (.ref a :: st) h := jq_nx (jv_insR jm_221 dX5_thread_8) rfl
theorem e221_8n : jv_ev d 221 8 [x0, x1, x2, x3, x4, some .null] st h = jv_ev d 221 10 [x0, x1, x2, x3, x4, some .null] (.null :: st) h := jq_nx (jv_insR jm_221 dX5_thread_8) rfl
theorem e221_10R : jv_ev d 221 10 lc (.ref a :: st) h = if jt_off ≤ a then jv_ev d 221 15 lc st h else none := jq_nr1 (jv_insR jm_221 dX5_thread_10) (by decide)
theorem e221_10N : jv_ev d 221 10 lc (.null :: st) h = jv_ev d 221 13 lc st h := jq_nn1 (jv_insR jm_221 dX5_thread_10)
theorem e221_13 : jv_ev d 221 13 lc st h = jv_ev d 221 14 lc (.int 1 :: st) h := jq_iconst (jv_insR jm_221 dX5_thread_13) (by decide)
theorem e221_14 : jv_ev d 221 14 lc [.int v] h = some (.inl (some (.int v)), h) := jq_reti (jv_insR jm_221 dX5_thread_14) jr_221
theorem e221_15 : jv_ev d 221 15 [some (.ref a), x1, x2, x3, x4, x5] st h = jv_ev d 221 16 [some (.ref a), x1, x2, x3, x4, x5] (.ref a :: st) h := jq_nx (jv_insR jm_221 dX5_thread_15) rfl
theorem e221_15n : jv_ev d 221 15 [some .null, x1, x2, x3, x4, x5] st h = jv_ev d 221 16 [some .null, x1, x2, x3, x4, x5] (.null :: st) h := jq_nx (jv_insR jm_221 dX5_thread_15) rfl
theorem e221_16 : jv_ev d 221 16 lc [.ref b] h = (jv_rc h b [(6, 222)]).bind fun y => (jv_cd d y [.ref b] h).bind fun r => jv_on r (fun v h => jv_ev d 221 19 lc (v.toList ++ []) h) (fun q h => some (.inr q, h)) := jq_V (as := []) (rest := []) (jv_insR jm_221 dX5_thread_16) jo_221 jV_7_102 rfl rfl rfl rfl
theorem e221_19 : jv_ev d 221 19 lc (.ref a :: st) h = jv_ev d 221 20 lc st h := jq_nx (jv_insR jm_221 dX5_thread_19) rfl
theorem e221_20 : jv_ev d 221 20 [some (.ref a), x1, x2, x3, x4, x5] st h = jv_ev d 221 21 [some (.ref a), x1, x2, x3, x4, x5] (.ref a :: st) h := jq_nx (jv_insR jm_221 dX5_thread_20) rfl
theorem e221_20n : jv_ev d 221 20 [some .null, x1, x2, x3, x4, x5] st h = jv_ev d 221 21 [some .null, x1, x2, x3, x4, x5] (.null :: st) h := jq_nx (jv_insR jm_221 dX5_thread_20) rfl
theorem e221_21 : jv_ev d 221 21 lc (.ref a :: st) h = (jv_gf h a [(6, 13, .object "RainLoom$Asked")]).bind fun r => jv_ev d 221 24 lc (r :: st) h := jq_get (jv_insR jm_221 dX5_thread_21) jo_221 jF_7_45
theorem e221_24 : jv_ev d 221 24 lc (.ref a :: st) h = (jv_gf h a [(7, 0, .array .int)]).bind fun r => jv_ev d 221 27 lc (r :: st) h := jq_get (jv_insR jm_221 dX5_thread_24) jo_221 jF_7_95
theorem e221_27 : jv_ev d 221 27 lc st h = jv_ev d 221 28 lc (.int 0 :: st) h := jq_iconst (jv_insR jm_221 dX5_thread_27) (by decide)
theorem e221_28 : jv_ev d 221 28 [x0, x1, x2, x3, some (.int v), x5] st h = jv_ev d 221 30 [x0, x1, x2, x3, some (.int v), x5] (.int v :: st) h := jq_nx (jv_insR jm_221 dX5_thread_28) rfl
theorem e221_30 : jv_ev d 221 30 lc st h = jv_ev d 221 31 lc (.int 4 :: st) h := jq_iconst (jv_insR jm_221 dX5_thread_30) (by decide)
theorem e221_31 : jv_ev d 221 31 lc (.int w :: .int v :: st) h = if w = 0 then none else jv_ev d 221 32 lc (.int (v - v / w * w) :: st) h := jq_irem (jv_insR jm_221 dX5_thread_31)
theorem e221_32 : jv_ev d 221 32 lc (.int w :: .int v :: .ref a :: st) h = (jv_ip h a 0 0 v w).bind fun h => jv_ev d 221 33 lc st h := jq_iast (jv_insR jm_221 dX5_thread_32)
theorem e221_33 : jv_ev d 221 33 [some (.ref a), x1, x2, x3, x4, x5] st h = jv_ev d 221 34 [some (.ref a), x1, x2, x3, x4, x5] (.ref a :: st) h := jq_nx (jv_insR jm_221 dX5_thread_33) rfl
theorem e221_33n : jv_ev d 221 33 [some .null, x1, x2, x3, x4, x5] st h = jv_ev d 221 34 [some .null, x1, x2, x3, x4, x5] (.null :: st) h := jq_nx (jv_insR jm_221 dX5_thread_33) rfl
theorem e221_34 : jv_ev d 221 34 lc (.ref a :: st) h = (jv_gf h a [(6, 13, .object "RainLoom$Asked")]).bind fun r => jv_ev d 221 37 lc (r :: st) h := jq_get (jv_insR jm_221 dX5_thread_34) jo_221 jF_7_45
theorem e221_37 : jv_ev d 221 37 lc (.ref a :: st) h = (jv_gf h a [(7, 0, .array .int)]).bind fun r => jv_ev d 221 40 lc (r :: st) h := jq_get (jv_insR jm_221 dX5_thread_37) jo_221 jF_7_95
theorem e221_40 : jv_ev d 221 40 lc st h = jv_ev d 221 41 lc (.int 1 :: st) h := jq_iconst (jv_insR jm_221 dX5_thread_40) (by decide)
theorem e221_41 : jv_ev d 221 41 [x0, x1, x2, some (.int v), x4, x5] st h = jv_ev d 221 42 [x0, x1, x2, some (.int v), x4, x5] (.int v :: st) h := jq_nx (jv_insR jm_221 dX5_thread_41) rfl
theorem e221_42 : jv_ev d 221 42 lc (.int w :: .int v :: .ref a :: st) h = (jv_ip h a 0 0 v w).bind fun h => jv_ev d 221 43 lc st h := jq_iast (jv_insR jm_221 dX5_thread_42)
theorem e221_43 : jv_ev d 221 43 [some (.ref a), x1, x2, x3, x4, x5] st h = jv_ev d 221 44 [some (.ref a), x1, x2, x3, x4, x5] (.ref a :: st) h := jq_nx (jv_insR jm_221 dX5_thread_43) rfl
theorem e221_43n : jv_ev d 221 43 [some .null, x1, x2, x3, x4, x5] st h = jv_ev d 221 44 [some .null, x1, x2, x3, x4, x5] (.null :: st) h := jq_nx (jv_insR jm_221 dX5_thread_43) rfl
theorem e221_44 : jv_ev d 221 44 lc (.ref a :: st) h = (jv_gf h a [(6, 13, .object "RainLoom$Asked")]).bind fun r => jv_ev d 221 47 lc (r :: st) h := jq_get (jv_insR jm_221 dX5_thread_44) jo_221 jF_7_45
theorem e221_47 : jv_ev d 221 47 lc (.ref a :: st) h = (jv_gf h a [(7, 0, .array .int)]).bind fun r => jv_ev d 221 50 lc (r :: st) h := jq_get (jv_insR jm_221 dX5_thread_47) jo_221 jF_7_95
theorem e221_50 : jv_ev d 221 50 lc st h = jv_ev d 221 51 lc (.int 2 :: st) h := jq_iconst (jv_insR jm_221 dX5_thread_50) (by decide)
theorem e221_51 : jv_ev d 221 51 [x0, x1, x2, x3, some (.int v), x5] st h = jv_ev d 221 53 [x0, x1, x2, x3, some (.int v), x5] (.int v :: st) h := jq_nx (jv_insR jm_221 dX5_thread_51) rfl
theorem e221_53 : jv_ev d 221 53 lc (.int w :: .int v :: .ref a :: st) h = (jv_ip h a 0 0 v w).bind fun h => jv_ev d 221 54 lc st h := jq_iast (jv_insR jm_221 dX5_thread_53)
theorem e221_54 : jv_ev d 221 54 [some (.ref a), x1, x2, x3, x4, x5] st h = jv_ev d 221 55 [some (.ref a), x1, x2, x3, x4, x5] (.ref a :: st) h := jq_nx (jv_insR jm_221 dX5_thread_54) rfl
theorem e221_54n : jv_ev d 221 54 [some .null, x1, x2, x3, x4, x5] st h = jv_ev d 221 55 [some .null, x1, x2, x3, x4, x5] (.null :: st) h := jq_nx (jv_insR jm_221 dX5_thread_54) rfl
theorem e221_55 : jv_ev d 221 55 lc (.ref a :: st) h = (jv_gf h a [(6, 13, .object "RainLoom$Asked")]).bind fun r => jv_ev d 221 58 lc (r :: st) h := jq_get (jv_insR jm_221 dX5_thread_55) jo_221 jF_7_45
theorem e221_58 : jv_ev d 221 58 lc (.ref a :: st) h = (jv_gf h a [(7, 0, .array .int)]).bind fun r => jv_ev d 221 61 lc (r :: st) h := jq_get (jv_insR jm_221 dX5_thread_58) jo_221 jF_7_95
theorem e221_61 : jv_ev d 221 61 lc st h = jv_ev d 221 63 lc (.int 7 :: st) h := jq_bipush (jv_insR jm_221 dX5_thread_61) (by decide)
theorem e221_63 : jv_ev d 221 63 [x0, x1, some (.int v), x3, x4, x5] st h = jv_ev d 221 64 [x0, x1, some (.int v), x3, x4, x5] (.int v :: st) h := jq_nx (jv_insR jm_221 dX5_thread_63) rfl
theorem e221_64 : jv_ev d 221 64 lc (.int w :: .int v :: .ref a :: st) h = (jv_ip h a 0 0 v w).bind fun h => jv_ev d 221 65 lc st h := jq_iast (jv_insR jm_221 dX5_thread_64)
theorem e221_65 : jv_ev d 221 65 [some (.ref a), x1, x2, x3, x4, x5] st h = jv_ev d 221 66 [some (.ref a), x1, x2, x3, x4, x5] (.ref a :: st) h := jq_nx (jv_insR jm_221 dX5_thread_65) rfl
theorem e221_65n : jv_ev d 221 65 [some .null, x1, x2, x3, x4, x5] st h = jv_ev d 221 66 [some .null, x1, x2, x3, x4, x5] (.null :: st) h := jq_nx (jv_insR jm_221 dX5_thread_65) rfl
theorem e221_66 : jv_ev d 221 66 lc (.ref a :: st) h = (jv_gf h a [(6, 13, .object "RainLoom$Asked")]).bind fun r => jv_ev d 221 69 lc (r :: st) h := jq_get (jv_insR jm_221 dX5_thread_66) jo_221 jF_7_45
theorem e221_69 : jv_ev d 221 69 lc (.ref a :: st) h = (jv_gf h a [(7, 0, .array .int)]).bind fun r => jv_ev d 221 72 lc (r :: st) h := jq_get (jv_insR jm_221 dX5_thread_69) jo_221 jF_7_95
theorem e221_72 : jv_ev d 221 72 lc st h = jv_ev d 221 74 lc (.int 8 :: st) h := jq_bipush (jv_insR jm_221 dX5_thread_72) (by decide)
theorem e221_74 : jv_ev d 221 74 [x0, some (.ref a), x2, x3, x4, x5] st h = jv_ev d 221 75 [x0, some (.ref a), x2, x3, x4, x5] (.ref a :: st) h := jq_nx (jv_insR jm_221 dX5_thread_74) rfl
theorem e221_74n : jv_ev d 221 74 [x0, some .null, x2, x3, x4, x5] st h = jv_ev d 221 75 [x0, some .null, x2, x3, x4, x5] (.null :: st) h := jq_nx (jv_insR jm_221 dX5_thread_74) rfl
theorem e221_75 : jv_ev d 221 75 lc (.ref a :: st) h = (jv_gf h a [(5, 2, .object "java/util/ArrayList")]).bind fun r => jv_ev d 221 78 lc (r :: st) h := jq_get (jv_insR jm_221 dX5_thread_75) jo_221 jF_7_49
theorem e221_78 : jv_ev d 221 78 [x0, x1, some (.int v), x3, x4, x5] st h = jv_ev d 221 79 [x0, x1, some (.int v), x3, x4, x5] (.int v :: st) h := jq_nx (jv_insR jm_221 dX5_thread_78) rfl
theorem e221_79 : jv_ev d 221 79 lc [z0, .ref b, y0, y1] h = (jv_rc h b [(18, 259)]).bind fun y => (jv_cd d y [.ref b, z0] h).bind fun r => jv_on r (fun v h => jv_ev d 221 82 lc (v.toList ++ [y0, y1]) h) (fun q h => some (.inr q, h)) := jq_V (as := [z0]) (rest := [y0, y1]) (jv_insR jm_221 dX5_thread_79) jo_221 jV_7_61 rfl rfl rfl rfl
theorem e221_82 : jv_ev d 221 82 lc (.ref a :: st) h = (jv_cls h a).bind fun ci => if jt_CK.contains (7, 65, ci) = true then jv_ev d 221 85 lc (.ref a :: st) h else none := jq_cast (jv_insR jm_221 dX5_thread_82) jo_221
theorem e221_85 : jv_ev d 221 85 lc (.ref a :: st) h = (jv_gf h a [(17, 1, .int)]).bind fun r => jv_ev d 221 88 lc (r :: st) h := jq_get (jv_insR jm_221 dX5_thread_85) jo_221 jF_7_106
theorem e221_88 : jv_ev d 221 88 lc (.int w :: .int v :: .ref a :: st) h = (jv_ip h a 0 0 v w).bind fun h => jv_ev d 221 89 lc st h := jq_iast (jv_insR jm_221 dX5_thread_88)
theorem e221_89 : jv_ev d 221 89 lc st h = jv_ev d 221 91 lc (.int 9 :: st) h := jq_bipush (jv_insR jm_221 dX5_thread_89) (by decide)
theorem e221_91 : jv_ev d 221 91 [x0, x1, x2, x3, x4, some (.ref a)] st h = jv_ev d 221 93 [x0, x1, x2, x3, x4, some (.ref a)] (.ref a :: st) h := jq_nx (jv_insR jm_221 dX5_thread_91) rfl
theorem e221_91n : jv_ev d 221 91 [x0, x1, x2, x3, x4, some .null] st h = jv_ev d 221 93 [x0, x1, x2, x3, x4, some .null] (.null :: st) h := jq_nx (jv_insR jm_221 dX5_thread_91) rfl
theorem e221_93 : jv_ev d 221 93 [some (.ref a), x1, x2, x3, x4, x5] st h = jv_ev d 221 94 [some (.ref a), x1, x2, x3, x4, x5] (.ref a :: st) h := jq_nx (jv_insR jm_221 dX5_thread_93) rfl
theorem e221_93n : jv_ev d 221 93 [some .null, x1, x2, x3, x4, x5] st h = jv_ev d 221 94 [some .null, x1, x2, x3, x4, x5] (.null :: st) h := jq_nx (jv_insR jm_221 dX5_thread_93) rfl
theorem e221_94 : jv_ev d 221 94 lc (.ref a :: st) h = (jv_gf h a [(6, 13, .object "RainLoom$Asked")]).bind fun r => jv_ev d 221 97 lc (r :: st) h := jq_get (jv_insR jm_221 dX5_thread_94) jo_221 jF_7_45
theorem e221_97 : jv_ev d 221 97 lc [z0, .ref b, y0] h = (jv_rc h b [(12, 240)]).bind fun y => (jv_cd d y [.ref b, z0] h).bind fun r => jv_on r (fun v h => jv_ev d 221 100 lc (v.toList ++ [y0]) h) (fun q h => some (.inr q, h)) := jq_V (as := [z0]) (rest := [y0]) (jv_insR jm_221 dX5_thread_97) jo_221 jV_7_108 rfl rfl rfl rfl
theorem e221_100 : jv_ev d 221 100 lc [z1, z0] h = (jv_cd d 309 [z0, z1] h).bind fun r => jv_on r (fun v h => jv_ev d 221 103 lc (v.toList ++ []) h) (fun q h => some (.inr q, h)) := jq_S (as := [z0, z1]) (rest := []) (jv_insR jm_221 dX5_thread_100) jo_221 jT_7_114 rfl rfl rfl rfl
theorem e221_103 : jv_ev d 221 103 lc [.int v] h = some (.inl (some (.int v)), h) := jq_reti (jv_insR jm_221 dX5_thread_103) jr_221
/-! 222: RainLoom$Land.begun()LRainLoom$Asked; -/
theorem n222 : jv_cd (d + 1) 222 [.ref a0] h = jv_ev d 222 0 [some (.ref a0), none] [] h := rfl
theorem e222_0 : jv_ev d 222 0 lc st h = jv_ev d 222 1 lc (.int 0 :: st) h := jq_iconst (jv_insR jm_222 dX5_begun_0) (by decide)
theorem e222_1 : jv_ev d 222 1 [x0, x1] (.int v :: st) h = jv_ev d 222 2 [x0, some (.int v)] st h := jq_nx (jv_insR jm_222 dX5_begun_1) rfl
theorem e222_2 : jv_ev d 222 2 [x0, some (.int v)] st h = jv_ev d 222 3 [x0, some (.int v)] (.int v :: st) h := jq_nx (jv_insR jm_222 dX5_begun_2) rfl
theorem e222_3 : jv_ev d 222 3 lc st h = jv_ev d 222 5 lc (.int 9 :: st) h := jq_bipush (jv_insR jm_222 dX5_begun_3) (by decide)
theorem e222_5 : jv_ev d 222 5 lc (.int w :: .int v :: st) h = if w ≤ v then jv_ev d 222 24 lc st h else jv_ev d 222 8 lc st h := jq_if (jv_insR jm_222 dX5_begun_5) rfl (by decide)
theorem e222_8 : jv_ev d 222 8 [some (.ref a), x1] st h = jv_ev d 222 9 [some (.ref a), x1] (.ref a :: st) h := jq_nx (jv_insR jm_222 dX5_begun_8) rfl
theorem e222_9 : jv_ev d 222 9 lc (.ref a :: st) h = (jv_gf h a [(6, 13, .object "RainLoom$Asked")]).bind fun r => jv_ev d 222 12 lc (r :: st) h := jq_get (jv_insR jm_222 dX5_begun_9) jo_222 jF_7_45
theorem e222_12 : jv_ev d 222 12 lc (.ref a :: st) h = (jv_gf h a [(7, 0, .array .int)]).bind fun r => jv_ev d 222 15 lc (r :: st) h := jq_get (jv_insR jm_222 dX5_begun_12) jo_222 jF_7_95
theorem e222_15 : jv_ev d 222 15 [x0, some (.int v)] st h = jv_ev d 222 16 [x0, some (.int v)] (.int v :: st) h := jq_nx (jv_insR jm_222 dX5_begun_15) rfl
theorem e222_16 : jv_ev d 222 16 lc st h = jv_ev d 222 17 lc (.int 0 :: st) h := jq_iconst (jv_insR jm_222 dX5_begun_16) (by decide)
theorem e222_17 : jv_ev d 222 17 lc (.int w :: .int v :: .ref a :: st) h = (jv_ip h a 0 0 v w).bind fun h => jv_ev d 222 18 lc st h := jq_iast (jv_insR jm_222 dX5_begun_17)
theorem e222_18 : jv_ev d 222 18 [x0, some (.int v)] st h = jv_ev d 222 21 [x0, some (.int (v + 1))] st h := jq_nx (jv_insR jm_222 dX5_begun_18) rfl
theorem e222_21 : jv_ev d 222 21 lc st h = jv_ev d 222 2 lc st h := jq_go (jv_insR jm_222 dX5_begun_21) (by decide)
theorem e222_24 : jv_ev d 222 24 [some (.ref a), x1] st h = jv_ev d 222 25 [some (.ref a), x1] (.ref a :: st) h := jq_nx (jv_insR jm_222 dX5_begun_24) rfl
theorem e222_25 : jv_ev d 222 25 lc (.ref a :: st) h = (jv_gf h a [(6, 13, .object "RainLoom$Asked")]).bind fun r => jv_ev d 222 28 lc (r :: st) h := jq_get (jv_insR jm_222 dX5_begun_25) jo_222 jF_7_45
theorem e222_28 : jv_ev d 222 28 lc [.ref a] h = some (.inl (some (.ref a)), h) := jq_reta (jv_insR jm_222 dX5_begun_28) jr_222 rfl
/-! 223: RainLoom$Land.takes(LRainLoom$Land;)V -/
theorem n223 : jv_cd (d + 1) 223 [.ref a0, .ref a1] h = jv_ev d 223 0 [some (.ref a0), some (.ref a1)] [] h := rfl
theorem e223_0 : jv_ev d 223 0 [x0, some (.ref a)] st h = jv_ev d 223 1 [x0, some (.ref a)] (.ref a :: st) h := jq_nx (jv_insR jm_223 dX5_takes_0) rfl
theorem e223_1 : jv_ev d 223 1 lc (.ref a :: st) h = (jv_gf h a [(6, 0, .array .int)]).bind fun r => jv_ev d 223 4 lc (r :: st) h := jq_get (jv_insR jm_223 dX5_takes_1) jo_223 jF_7_9
theorem e223_4 : jv_ev d 223 4 [some (.ref a), x1] st h = jv_ev d 223 5 [some (.ref a), x1] (.ref a :: st) h := jq_nx (jv_insR jm_223 dX5_takes_4) rfl
theorem e223_5 : jv_ev d 223 5 lc (.ref a :: st) h = (jv_gf h a [(6, 0, .array .int)]).bind fun r => jv_ev d 223 8 lc (r :: st) h := jq_get (jv_insR jm_223 dX5_takes_5) jo_223 jF_7_9
theorem e223_8 : jv_ev d 223 8 lc [z1, z0] h = (jv_cd d 224 [z0, z1] h).bind fun r => jv_on r (fun v h => jv_ev d 223 11 lc (v.toList ++ []) h) (fun q h => some (.inr q, h)) := jq_S (as := [z0, z1]) (rest := []) (jv_insR jm_223 dX5_takes_8) jo_223 jT_7_91 rfl rfl rfl rfl
theorem e223_11 : jv_ev d 223 11 [x0, some (.ref a)] st h = jv_ev d 223 12 [x0, some (.ref a)] (.ref a :: st) h := jq_nx (jv_insR jm_223 dX5_takes_11) rfl
theorem e223_12 : jv_ev d 223 12 lc (.ref a :: st) h = (jv_gf h a [(6, 1, .array .int)]).bind fun r => jv_ev d 223 15 lc (r :: st) h := jq_get (jv_insR jm_223 dX5_takes_12) jo_223 jF_7_15
theorem e223_15 : jv_ev d 223 15 [some (.ref a), x1] st h = jv_ev d 223 16 [some (.ref a), x1] (.ref a :: st) h := jq_nx (jv_insR jm_223 dX5_takes_15) rfl
theorem e223_16 : jv_ev d 223 16 lc (.ref a :: st) h = (jv_gf h a [(6, 1, .array .int)]).bind fun r => jv_ev d 223 19 lc (r :: st) h := jq_get (jv_insR jm_223 dX5_takes_16) jo_223 jF_7_15
theorem e223_19 : jv_ev d 223 19 lc [z1, z0] h = (jv_cd d 224 [z0, z1] h).bind fun r => jv_on r (fun v h => jv_ev d 223 22 lc (v.toList ++ []) h) (fun q h => some (.inr q, h)) := jq_S (as := [z0, z1]) (rest := []) (jv_insR jm_223 dX5_takes_19) jo_223 jT_7_91 rfl rfl rfl rfl
theorem e223_22 : jv_ev d 223 22 [x0, some (.ref a)] st h = jv_ev d 223 23 [x0, some (.ref a)] (.ref a :: st) h := jq_nx (jv_insR jm_223 dX5_takes_22) rfl
theorem e223_23 : jv_ev d 223 23 lc (.ref a :: st) h = (jv_gf h a [(6, 2, .array .int)]).bind fun r => jv_ev d 223 26 lc (r :: st) h := jq_get (jv_insR jm_223 dX5_takes_23) jo_223 jF_7_18
theorem e223_26 : jv_ev d 223 26 [some (.ref a), x1] st h = jv_ev d 223 27 [some (.ref a), x1] (.ref a :: st) h := jq_nx (jv_insR jm_223 dX5_takes_26) rfl
theorem e223_27 : jv_ev d 223 27 lc (.ref a :: st) h = (jv_gf h a [(6, 2, .array .int)]).bind fun r => jv_ev d 223 30 lc (r :: st) h := jq_get (jv_insR jm_223 dX5_takes_27) jo_223 jF_7_18
theorem e223_30 : jv_ev d 223 30 lc [z1, z0] h = (jv_cd d 224 [z0, z1] h).bind fun r => jv_on r (fun v h => jv_ev d 223 33 lc (v.toList ++ []) h) (fun q h => some (.inr q, h)) := jq_S (as := [z0, z1]) (rest := []) (jv_insR jm_223 dX5_takes_30) jo_223 jT_7_91 rfl rfl rfl rfl
theorem e223_33 : jv_ev d 223 33 [x0, some (.ref a)] st h = jv_ev d 223 34 [x0, some (.ref a)] (.ref a :: st) h := jq_nx (jv_insR jm_223 dX5_takes_33) rfl
theorem e223_34 : jv_ev d 223 34 lc (.ref a :: st) h = (jv_gf h a [(6, 3, .array .int)]).bind fun r => jv_ev d 223 37 lc (r :: st) h := jq_get (jv_insR jm_223 dX5_takes_34) jo_223 jF_7_21
theorem e223_37 : jv_ev d 223 37 [some (.ref a), x1] st h = jv_ev d 223 38 [some (.ref a), x1] (.ref a :: st) h := jq_nx (jv_insR jm_223 dX5_takes_37) rfl
theorem e223_38 : jv_ev d 223 38 lc (.ref a :: st) h = (jv_gf h a [(6, 3, .array .int)]).bind fun r => jv_ev d 223 41 lc (r :: st) h := jq_get (jv_insR jm_223 dX5_takes_38) jo_223 jF_7_21
theorem e223_41 : jv_ev d 223 41 lc [z1, z0] h = (jv_cd d 224 [z0, z1] h).bind fun r => jv_on r (fun v h => jv_ev d 223 44 lc (v.toList ++ []) h) (fun q h => some (.inr q, h)) := jq_S (as := [z0, z1]) (rest := []) (jv_insR jm_223 dX5_takes_41) jo_223 jT_7_91 rfl rfl rfl rfl
theorem e223_44 : jv_ev d 223 44 [x0, some (.ref a)] st h = jv_ev d 223 45 [x0, some (.ref a)] (.ref a :: st) h := jq_nx (jv_insR jm_223 dX5_takes_44) rfl
theorem e223_45 : jv_ev d 223 45 lc (.ref a :: st) h = (jv_gf h a [(6, 4, .array .int)]).bind fun r => jv_ev d 223 48 lc (r :: st) h := jq_get (jv_insR jm_223 dX5_takes_45) jo_223 jF_7_24
theorem e223_48 : jv_ev d 223 48 [some (.ref a), x1] st h = jv_ev d 223 49 [some (.ref a), x1] (.ref a :: st) h := jq_nx (jv_insR jm_223 dX5_takes_48) rfl
theorem e223_49 : jv_ev d 223 49 lc (.ref a :: st) h = (jv_gf h a [(6, 4, .array .int)]).bind fun r => jv_ev d 223 52 lc (r :: st) h := jq_get (jv_insR jm_223 dX5_takes_49) jo_223 jF_7_24
theorem e223_52 : jv_ev d 223 52 lc [z1, z0] h = (jv_cd d 224 [z0, z1] h).bind fun r => jv_on r (fun v h => jv_ev d 223 55 lc (v.toList ++ []) h) (fun q h => some (.inr q, h)) := jq_S (as := [z0, z1]) (rest := []) (jv_insR jm_223 dX5_takes_52) jo_223 jT_7_91 rfl rfl rfl rfl
theorem e223_55 : jv_ev d 223 55 [x0, some (.ref a)] st h = jv_ev d 223 56 [x0, some (.ref a)] (.ref a :: st) h := jq_nx (jv_insR jm_223 dX5_takes_55) rfl
theorem e223_56 : jv_ev d 223 56 lc (.ref a :: st) h = (jv_gf h a [(6, 5, .array .int)]).bind fun r => jv_ev d 223 59 lc (r :: st) h := jq_get (jv_insR jm_223 dX5_takes_56) jo_223 jF_7_27
theorem e223_59 : jv_ev d 223 59 [some (.ref a), x1] st h = jv_ev d 223 60 [some (.ref a), x1] (.ref a :: st) h := jq_nx (jv_insR jm_223 dX5_takes_59) rfl
theorem e223_60 : jv_ev d 223 60 lc (.ref a :: st) h = (jv_gf h a [(6, 5, .array .int)]).bind fun r => jv_ev d 223 63 lc (r :: st) h := jq_get (jv_insR jm_223 dX5_takes_60) jo_223 jF_7_27
theorem e223_63 : jv_ev d 223 63 lc [z1, z0] h = (jv_cd d 224 [z0, z1] h).bind fun r => jv_on r (fun v h => jv_ev d 223 66 lc (v.toList ++ []) h) (fun q h => some (.inr q, h)) := jq_S (as := [z0, z1]) (rest := []) (jv_insR jm_223 dX5_takes_63) jo_223 jT_7_91 rfl rfl rfl rfl
theorem e223_66 : jv_ev d 223 66 [x0, some (.ref a)] st h = jv_ev d 223 67 [x0, some (.ref a)] (.ref a :: st) h := jq_nx (jv_insR jm_223 dX5_takes_66) rfl
theorem e223_67 : jv_ev d 223 67 lc (.ref a :: st) h = (jv_gf h a [(6, 6, .array .int)]).bind fun r => jv_ev d 223 70 lc (r :: st) h := jq_get (jv_insR jm_223 dX5_takes_67) jo_223 jF_7_30
theorem e223_70 : jv_ev d 223 70 [some (.ref a), x1] st h = jv_ev d 223 71 [some (.ref a), x1] (.ref a :: st) h := jq_nx (jv_insR jm_223 dX5_takes_70) rfl
theorem e223_71 : jv_ev d 223 71 lc (.ref a :: st) h = (jv_gf h a [(6, 6, .array .int)]).bind fun r => jv_ev d 223 74 lc (r :: st) h := jq_get (jv_insR jm_223 dX5_takes_71) jo_223 jF_7_30
theorem e223_74 : jv_ev d 223 74 lc [z1, z0] h = (jv_cd d 224 [z0, z1] h).bind fun r => jv_on r (fun v h => jv_ev d 223 77 lc (v.toList ++ []) h) (fun q h => some (.inr q, h)) := jq_S (as := [z0, z1]) (rest := []) (jv_insR jm_223 dX5_takes_74) jo_223 jT_7_91 rfl rfl rfl rfl
theorem e223_77 : jv_ev d 223 77 [x0, some (.ref a)] st h = jv_ev d 223 78 [x0, some (.ref a)] (.ref a :: st) h := jq_nx (jv_insR jm_223 dX5_takes_77) rfl
theorem e223_78 : jv_ev d 223 78 lc (.ref a :: st) h = (jv_gf h a [(6, 7, .array .int)]).bind fun r => jv_ev d 223 81 lc (r :: st) h := jq_get (jv_insR jm_223 dX5_takes_78) jo_223 jF_7_33
theorem e223_81 : jv_ev d 223 81 [some (.ref a), x1] st h = jv_ev d 223 82 [some (.ref a), x1] (.ref a :: st) h := jq_nx (jv_insR jm_223 dX5_takes_81) rfl
theorem e223_82 : jv_ev d 223 82 lc (.ref a :: st) h = (jv_gf h a [(6, 7, .array .int)]).bind fun r => jv_ev d 223 85 lc (r :: st) h := jq_get (jv_insR jm_223 dX5_takes_82) jo_223 jF_7_33
theorem e223_85 : jv_ev d 223 85 lc [z1, z0] h = (jv_cd d 224 [z0, z1] h).bind fun r => jv_on r (fun v h => jv_ev d 223 88 lc (v.toList ++ []) h) (fun q h => some (.inr q, h)) := jq_S (as := [z0, z1]) (rest := []) (jv_insR jm_223 dX5_takes_85) jo_223 jT_7_91 rfl rfl rfl rfl
theorem e223_88 : jv_ev d 223 88 [x0, some (.ref a)] st h = jv_ev d 223 89 [x0, some (.ref a)] (.ref a :: st) h := jq_nx (jv_insR jm_223 dX5_takes_88) rfl
theorem e223_89 : jv_ev d 223 89 lc (.ref a :: st) h = (jv_gf h a [(6, 8, .array .int)]).bind fun r => jv_ev d 223 92 lc (r :: st) h := jq_get (jv_insR jm_223 dX5_takes_89) jo_223 jF_7_36
theorem e223_92 : jv_ev d 223 92 [some (.ref a), x1] st h = jv_ev d 223 93 [some (.ref a), x1] (.ref a :: st) h := jq_nx (jv_insR jm_223 dX5_takes_92) rfl
theorem e223_93 : jv_ev d 223 93 lc (.ref a :: st) h = (jv_gf h a [(6, 8, .array .int)]).bind fun r => jv_ev d 223 96 lc (r :: st) h := jq_get (jv_insR jm_223 dX5_takes_93) jo_223 jF_7_36
theorem e223_96 : jv_ev d 223 96 lc [z1, z0] h = (jv_cd d 224 [z0, z1] h).bind fun r => jv_on r (fun v h => jv_ev d 223 99 lc (v.toList ++ []) h) (fun q h => some (.inr q, h)) := jq_S (as := [z0, z1]) (rest := []) (jv_insR jm_223 dX5_takes_96) jo_223 jT_7_91 rfl rfl rfl rfl
theorem e223_99 : jv_ev d 223 99 [x0, some (.ref a)] st h = jv_ev d 223 100 [x0, some (.ref a)] (.ref a :: st) h := jq_nx (jv_insR jm_223 dX5_takes_99) rfl
theorem e223_100 : jv_ev d 223 100 lc (.ref a :: st) h = (jv_gf h a [(6, 9, .array .int)]).bind fun r => jv_ev d 223 103 lc (r :: st) h := jq_get (jv_insR jm_223 dX5_takes_100) jo_223 jF_7_39
theorem e223_103 : jv_ev d 223 103 [some (.ref a), x1] st h = jv_ev d 223 104 [some (.ref a), x1] (.ref a :: st) h := jq_nx (jv_insR jm_223 dX5_takes_103) rfl
theorem e223_104 : jv_ev d 223 104 lc (.ref a :: st) h = (jv_gf h a [(6, 9, .array .int)]).bind fun r => jv_ev d 223 107 lc (r :: st) h := jq_get (jv_insR jm_223 dX5_takes_104) jo_223 jF_7_39
theorem e223_107 : jv_ev d 223 107 lc [z1, z0] h = (jv_cd d 224 [z0, z1] h).bind fun r => jv_on r (fun v h => jv_ev d 223 110 lc (v.toList ++ []) h) (fun q h => some (.inr q, h)) := jq_S (as := [z0, z1]) (rest := []) (jv_insR jm_223 dX5_takes_107) jo_223 jT_7_91 rfl rfl rfl rfl
theorem e223_110 : jv_ev d 223 110 [some (.ref a), x1] st h = jv_ev d 223 111 [some (.ref a), x1] (.ref a :: st) h := jq_nx (jv_insR jm_223 dX5_takes_110) rfl
theorem e223_111 : jv_ev d 223 111 [x0, some (.ref a)] st h = jv_ev d 223 112 [x0, some (.ref a)] (.ref a :: st) h := jq_nx (jv_insR jm_223 dX5_takes_111) rfl
theorem e223_112 : jv_ev d 223 112 lc (.ref a :: st) h = (jv_gf h a [(6, 10, .int)]).bind fun r => jv_ev d 223 115 lc (r :: st) h := jq_get (jv_insR jm_223 dX5_takes_112) jo_223 jF_7_77
theorem e223_115 : jv_ev d 223 115 lc (r :: .ref a :: st) h = (jv_pf h a [(6, 10, .int)] r).bind fun h => jv_ev d 223 118 lc st h := jq_put (jv_insR jm_223 dX5_takes_115) jo_223 ji_223 jG_7_77
theorem e223_118 : jv_ev d 223 118 [some (.ref a), x1] st h = jv_ev d 223 119 [some (.ref a), x1] (.ref a :: st) h := jq_nx (jv_insR jm_223 dX5_takes_118) rfl
theorem e223_119 : jv_ev d 223 119 [x0, some (.ref a)] st h = jv_ev d 223 120 [x0, some (.ref a)] (.ref a :: st) h := jq_nx (jv_insR jm_223 dX5_takes_119) rfl
theorem e223_120 : jv_ev d 223 120 lc (.ref a :: st) h = (jv_gf h a [(6, 11, .int)]).bind fun r => jv_ev d 223 123 lc (r :: st) h := jq_get (jv_insR jm_223 dX5_takes_120) jo_223 jF_7_78
theorem e223_123 : jv_ev d 223 123 lc (r :: .ref a :: st) h = (jv_pf h a [(6, 11, .int)] r).bind fun h => jv_ev d 223 126 lc st h := jq_put (jv_insR jm_223 dX5_takes_123) jo_223 ji_223 jG_7_78
theorem e223_126 : jv_ev d 223 126 [some (.ref a), x1] st h = jv_ev d 223 127 [some (.ref a), x1] (.ref a :: st) h := jq_nx (jv_insR jm_223 dX5_takes_126) rfl
theorem e223_127 : jv_ev d 223 127 [x0, some (.ref a)] st h = jv_ev d 223 128 [x0, some (.ref a)] (.ref a :: st) h := jq_nx (jv_insR jm_223 dX5_takes_127) rfl
theorem e223_128 : jv_ev d 223 128 lc (.ref a :: st) h = (jv_gf h a [(6, 12, .int)]).bind fun r => jv_ev d 223 131 lc (r :: st) h := jq_get (jv_insR jm_223 dX5_takes_128) jo_223 jF_7_84
theorem e223_131 : jv_ev d 223 131 lc (r :: .ref a :: st) h = (jv_pf h a [(6, 12, .int)] r).bind fun h => jv_ev d 223 134 lc st h := jq_put (jv_insR jm_223 dX5_takes_131) jo_223 ji_223 jG_7_84
theorem e223_134 : jv_ev d 223 134 lc [] h = some (.inl none, h) := jq_retv (jv_insR jm_223 dX5_takes_134) jr_223
/-! 224: RainLoom$Land.copies([I[I)V -/
theorem n224 : jv_cd (d + 1) 224 [.ref a0, .ref a1] h = jv_ev d 224 0 [some (.ref a0), some (.ref a1)] [] h := rfl
theorem e224_0 : jv_ev d 224 0 [some (.ref a), x1] st h = jv_ev d 224 1 [some (.ref a), x1] (.ref a :: st) h := jq_nx (jv_insR jm_224 dX5_copies_0) rfl
theorem e224_1 : jv_ev d 224 1 lc st h = jv_ev d 224 2 lc (.int 0 :: st) h := jq_iconst (jv_insR jm_224 dX5_copies_1) (by decide)
theorem e224_2 : jv_ev d 224 2 [x0, some (.ref a)] st h = jv_ev d 224 3 [x0, some (.ref a)] (.ref a :: st) h := jq_nx (jv_insR jm_224 dX5_copies_2) rfl
theorem e224_3 : jv_ev d 224 3 lc st h = jv_ev d 224 4 lc (.int 0 :: st) h := jq_iconst (jv_insR jm_224 dX5_copies_3) (by decide)
theorem e224_4 : jv_ev d 224 4 [some (.ref a), x1] st h = jv_ev d 224 5 [some (.ref a), x1] (.ref a :: st) h := jq_nx (jv_insR jm_224 dX5_copies_4) rfl
theorem e224_5 : jv_ev d 224 5 lc (.ref a :: st) h = (jv_al h a).bind fun v => jv_ev d 224 6 lc (.int v :: st) h := jq_alen (jv_insR jm_224 dX5_copies_5)
theorem e224_6 : jv_ev d 224 6 lc [.int w, .int v, .ref b, .int u, .ref a] h = (jv_cp h a u b v w).bind fun h => jv_ev d 224 9 lc [] h := jq_cp (jv_insR jm_224 dX5_copies_6) jo_224 jT_7_85 (Nat.le_of_ble_eq_true rfl)
theorem e224_9 : jv_ev d 224 9 lc [] h = some (.inl none, h) := jq_retv (jv_insR jm_224 dX5_copies_9) jr_224
/-! 225: RainLoom$Land.falls(LRainLoom$Text;IIIII)I -/
theorem n225 : jv_cd (d + 1) 225 [.ref a0, .ref a1, .int i2, .int i3, .int i4, .int i5, .int i6] h = jv_ev d 225 0 [some (.ref a0), some (.ref a1), some (.int i2), some (.int i3), some (.int i4), some (.int i5), some (.int i6), none, none, none, none, none, none, none] [] h := rfl
theorem e225_0 : jv_ev d 225 0 lc st h = jv_ev d 225 1 lc (.int 0 :: st) h := jq_iconst (jv_insR jm_225 dX5_falls_0) (by decide)
theorem e225_1 : jv_ev d 225 1 [x0, x1, x2, x3, x4, x5, x6, x7, x8, x9, x10, x11, x12, x13] (.int v :: st) h = jv_ev d 225 3 [x0, x1, x2, x3, x4, x5, x6, some (.int v), x8, x9, x10, x11, x12, x13] st h := jq_nx (jv_insR jm_225 dX5_falls_1) rfl
theorem e225_3 : jv_ev d 225 3 lc st h = jv_ev d 225 4 lc (.int 1 :: st) h := jq_iconst (jv_insR jm_225 dX5_falls_3) (by decide)
theorem e225_4 : jv_ev d 225 4 [x0, x1, x2, x3, x4, x5, x6, x7, x8, x9, x10, x11, x12, x13] (.int v :: st) h = jv_ev d 225 6 [x0, x1, x2, x3, x4, x5, x6, x7, some (.int v), x9, x10, x11, x12, x13] st h := jq_nx (jv_insR jm_225 dX5_falls_4) rfl
theorem e225_6 : jv_ev d 225 6 lc st h = jv_ev d 225 7 lc (.int 0 :: st) h := jq_iconst (jv_insR jm_225 dX5_falls_6) (by decide)
theorem e225_7 : jv_ev d 225 7 [x0, x1, x2, x3, x4, x5, x6, x7, x8, x9, x10, x11, x12, x13] (.int v :: st) h = jv_ev d 225 9 [x0, x1, x2, x3, x4, x5, x6, x7, x8, some (.int v), x10, x11, x12, x13] st h := jq_nx (jv_insR jm_225 dX5_falls_7) rfl
theorem e225_9 : jv_ev d 225 9 [x0, x1, x2, x3, x4, x5, x6, x7, x8, some (.int v), x10, x11, x12, x13] st h = jv_ev d 225 11 [x0, x1, x2, x3, x4, x5, x6, x7, x8, some (.int v), x10, x11, x12, x13] (.int v :: st) h := jq_nx (jv_insR jm_225 dX5_falls_9) rfl
theorem e225_11 : jv_ev d 225 11 [x0, x1, x2, some (.int v), x4, x5, x6, x7, x8, x9, x10, x11, x12, x13] st h = jv_ev d 225 12 [x0, x1, x2, some (.int v), x4, x5, x6, x7, x8, x9, x10, x11, x12, x13] (.int v :: st) h := jq_nx (jv_insR jm_225 dX5_falls_11) rfl
theorem e225_12 : jv_ev d 225 12 [x0, x1, x2, x3, some (.int v), x5, x6, x7, x8, x9, x10, x11, x12, x13] st h = jv_ev d 225 14 [x0, x1, x2, x3, some (.int v), x5, x6, x7, x8, x9, x10, x11, x12, x13] (.int v :: st) h := jq_nx (jv_insR jm_225 dX5_falls_12) rfl
theorem e225_14 : jv_ev d 225 14 lc (.int w :: .int v :: st) h = jv_ev d 225 15 lc (.int (v * w) :: st) h := jq_nx (jv_insR jm_225 dX5_falls_14) rfl
theorem e225_15 : jv_ev d 225 15 lc (.int w :: .int v :: st) h = if w ≤ v then jv_ev d 225 161 lc st h else jv_ev d 225 18 lc st h := jq_if (jv_insR jm_225 dX5_falls_15) rfl (by decide)
theorem e225_18 : jv_ev d 225 18 [x0, x1, x2, x3, x4, x5, x6, x7, some (.int v), x9, x10, x11, x12, x13] st h = jv_ev d 225 20 [x0, x1, x2, x3, x4, x5, x6, x7, some (.int v), x9, x10, x11, x12, x13] (.int v :: st) h := jq_nx (jv_insR jm_225 dX5_falls_18) rfl
theorem e225_20 : jv_ev d 225 20 lc (.int v :: st) h = if v = 0 then jv_ev d 225 161 lc st h else jv_ev d 225 23 lc st h := jq_if (jv_insR jm_225 dX5_falls_20) rfl (by decide)
theorem e225_23 : jv_ev d 225 23 [x0, x1, x2, x3, x4, x5, x6, x7, x8, some (.int v), x10, x11, x12, x13] st h = jv_ev d 225 25 [x0, x1, x2, x3, x4, x5, x6, x7, x8, some (.int v), x10, x11, x12, x13] (.int v :: st) h := jq_nx (jv_insR jm_225 dX5_falls_23) rfl
theorem e225_25 : jv_ev d 225 25 [x0, x1, x2, some (.int v), x4, x5, x6, x7, x8, x9, x10, x11, x12, x13] st h = jv_ev d 225 26 [x0, x1, x2, some (.int v), x4, x5, x6, x7, x8, x9, x10, x11, x12, x13] (.int v :: st) h := jq_nx (jv_insR jm_225 dX5_falls_25) rfl
theorem e225_26 : jv_ev d 225 26 lc (.int w :: .int v :: st) h = if w = 0 then none else jv_ev d 225 27 lc (.int (v - v / w * w) :: st) h := jq_irem (jv_insR jm_225 dX5_falls_26)
theorem e225_27 : jv_ev d 225 27 [x0, x1, x2, x3, x4, x5, x6, x7, x8, x9, x10, x11, x12, x13] (.int v :: st) h = jv_ev d 225 29 [x0, x1, x2, x3, x4, x5, x6, x7, x8, x9, some (.int v), x11, x12, x13] st h := jq_nx (jv_insR jm_225 dX5_falls_27) rfl
theorem e225_29 : jv_ev d 225 29 [x0, x1, x2, x3, x4, x5, x6, x7, x8, some (.int v), x10, x11, x12, x13] st h = jv_ev d 225 31 [x0, x1, x2, x3, x4, x5, x6, x7, x8, some (.int v), x10, x11, x12, x13] (.int v :: st) h := jq_nx (jv_insR jm_225 dX5_falls_29) rfl
theorem e225_31 : jv_ev d 225 31 [x0, x1, x2, some (.int v), x4, x5, x6, x7, x8, x9, x10, x11, x12, x13] st h = jv_ev d 225 32 [x0, x1, x2, some (.int v), x4, x5, x6, x7, x8, x9, x10, x11, x12, x13] (.int v :: st) h := jq_nx (jv_insR jm_225 dX5_falls_31) rfl
theorem e225_32 : jv_ev d 225 32 lc (.int w :: .int v :: st) h = if w = 0 then none else jv_ev d 225 33 lc (.int (v / w) :: st) h := jq_idiv (jv_insR jm_225 dX5_falls_32)
theorem e225_33 : jv_ev d 225 33 [x0, x1, x2, x3, x4, x5, x6, x7, x8, x9, x10, x11, x12, x13] (.int v :: st) h = jv_ev d 225 35 [x0, x1, x2, x3, x4, x5, x6, x7, x8, x9, x10, some (.int v), x12, x13] st h := jq_nx (jv_insR jm_225 dX5_falls_33) rfl
theorem e225_35 : jv_ev d 225 35 [some (.ref a), x1, x2, x3, x4, x5, x6, x7, x8, x9, x10, x11, x12, x13] st h = jv_ev d 225 36 [some (.ref a), x1, x2, x3, x4, x5, x6, x7, x8, x9, x10, x11, x12, x13] (.ref a :: st) h := jq_nx (jv_insR jm_225 dX5_falls_35) rfl
theorem e225_36 : jv_ev d 225 36 [x0, some (.ref a), x2, x3, x4, x5, x6, x7, x8, x9, x10, x11, x12, x13] st h = jv_ev d 225 37 [x0, some (.ref a), x2, x3, x4, x5, x6, x7, x8, x9, x10, x11, x12, x13] (.ref a :: st) h := jq_nx (jv_insR jm_225 dX5_falls_36) rfl
theorem e225_37 : jv_ev d 225 37 [x0, x1, some (.int v), x3, x4, x5, x6, x7, x8, x9, x10, x11, x12, x13] st h = jv_ev d 225 38 [x0, x1, some (.int v), x3, x4, x5, x6, x7, x8, x9, x10, x11, x12, x13] (.int v :: st) h := jq_nx (jv_insR jm_225 dX5_falls_37) rfl
theorem e225_38 : jv_ev d 225 38 [x0, x1, x2, x3, x4, x5, x6, x7, x8, x9, some (.int v), x11, x12, x13] st h = jv_ev d 225 40 [x0, x1, x2, x3, x4, x5, x6, x7, x8, x9, some (.int v), x11, x12, x13] (.int v :: st) h := jq_nx (jv_insR jm_225 dX5_falls_38) rfl
theorem e225_40 : jv_ev d 225 40 [some (.ref a), x1, x2, x3, x4, x5, x6, x7, x8, x9, x10, x11, x12, x13] st h = jv_ev d 225 41 [some (.ref a), x1, x2, x3, x4, x5, x6, x7, x8, x9, x10, x11, x12, x13] (.ref a :: st) h := jq_nx (jv_insR jm_225 dX5_falls_40) rfl
theorem e225_41 : jv_ev d 225 41 lc (.ref a :: st) h = (jv_gf h a [(6, 3, .array .int)]).bind fun r => jv_ev d 225 44 lc (r :: st) h := jq_get (jv_insR jm_225 dX5_falls_41) jo_225 jF_7_21
theorem e225_44 : jv_ev d 225 44 [x0, x1, some (.int v), x3, x4, x5, x6, x7, x8, x9, x10, x11, x12, x13] st h = jv_ev d 225 45 [x0, x1, some (.int v), x3, x4, x5, x6, x7, x8, x9, x10, x11, x12, x13] (.int v :: st) h := jq_nx (jv_insR jm_225 dX5_falls_44) rfl
theorem e225_45 : jv_ev d 225 45 lc (.int v :: .ref a :: st) h = (jv_ig h a 0 0 v).bind fun w => jv_ev d 225 46 lc (.int w :: st) h := jq_iald (jv_insR jm_225 dX5_falls_45)
theorem e225_46 : jv_ev d 225 46 [x0, x1, x2, x3, x4, x5, x6, x7, x8, x9, x10, some (.int v), x12, x13] st h = jv_ev d 225 48 [x0, x1, x2, x3, x4, x5, x6, x7, x8, x9, x10, some (.int v), x12, x13] (.int v :: st) h := jq_nx (jv_insR jm_225 dX5_falls_46) rfl
theorem e225_48 : jv_ev d 225 48 lc (.int w :: .int v :: st) h = jv_ev d 225 49 lc (.int (v + w) :: st) h := jq_nx (jv_insR jm_225 dX5_falls_48) rfl
theorem e225_49 : jv_ev d 225 49 lc [z3, z2, z1, z0, .ref b] h = (jv_rc h b [(6, 221)]).bind fun y => (jv_cd d y [.ref b, z0, z1, z2, z3] h).bind fun r => jv_on r (fun v h => jv_ev d 225 52 lc (v.toList ++ []) h) (fun q h => some (.inr q, h)) := jq_V (as := [z0, z1, z2, z3]) (rest := []) (jv_insR jm_225 dX5_falls_49) jo_225 jV_7_127 rfl rfl rfl rfl
theorem e225_52 : jv_ev d 225 52 [x0, x1, x2, x3, x4, x5, x6, x7, x8, x9, x10, x11, x12, x13] (.int v :: st) h = jv_ev d 225 54 [x0, x1, x2, x3, x4, x5, x6, x7, x8, x9, x10, x11, some (.int v), x13] st h := jq_nx (jv_insR jm_225 dX5_falls_52) rfl
theorem e225_54 : jv_ev d 225 54 [x0, x1, x2, x3, x4, x5, x6, x7, x8, x9, x10, x11, some (.int v), x13] st h = jv_ev d 225 56 [x0, x1, x2, x3, x4, x5, x6, x7, x8, x9, x10, x11, some (.int v), x13] (.int v :: st) h := jq_nx (jv_insR jm_225 dX5_falls_54) rfl
theorem e225_56 : jv_ev d 225 56 [some (.ref a), x1, x2, x3, x4, x5, x6, x7, x8, x9, x10, x11, x12, x13] st h = jv_ev d 225 57 [some (.ref a), x1, x2, x3, x4, x5, x6, x7, x8, x9, x10, x11, x12, x13] (.ref a :: st) h := jq_nx (jv_insR jm_225 dX5_falls_56) rfl
theorem e225_57 : jv_ev d 225 57 lc (.ref a :: st) h = (jv_gf h a [(6, 10, .int)]).bind fun r => jv_ev d 225 60 lc (r :: st) h := jq_get (jv_insR jm_225 dX5_falls_57) jo_225 jF_7_77
theorem e225_60 : jv_ev d 225 60 lc (.int w :: .int v :: st) h = if w < v then jv_ev d 225 67 lc st h else jv_ev d 225 63 lc st h := jq_if (jv_insR jm_225 dX5_falls_60) rfl (by decide)
theorem e225_63 : jv_ev d 225 63 lc st h = jv_ev d 225 64 lc (.int 1 :: st) h := jq_iconst (jv_insR jm_225 dX5_falls_63) (by decide)
theorem e225_64 : jv_ev d 225 64 lc st h = jv_ev d 225 68 lc st h := jq_go (jv_insR jm_225 dX5_falls_64) (by decide)
theorem e225_67 : jv_ev d 225 67 lc st h = jv_ev d 225 68 lc (.int 0 :: st) h := jq_iconst (jv_insR jm_225 dX5_falls_67) (by decide)
theorem e225_68 : jv_ev d 225 68 [x0, x1, x2, x3, x4, x5, x6, x7, x8, x9, x10, x11, x12, x13] (.int v :: st) h = jv_ev d 225 70 [x0, x1, x2, x3, x4, x5, x6, x7, some (.int v), x9, x10, x11, x12, x13] st h := jq_nx (jv_insR jm_225 dX5_falls_68) rfl
theorem e225_70 : jv_ev d 225 70 [x0, x1, x2, x3, x4, x5, x6, x7, some (.int v), x9, x10, x11, x12, x13] st h = jv_ev d 225 72 [x0, x1, x2, x3, x4, x5, x6, x7, some (.int v), x9, x10, x11, x12, x13] (.int v :: st) h := jq_nx (jv_insR jm_225 dX5_falls_70) rfl
theorem e225_72 : jv_ev d 225 72 lc (.int v :: st) h = if ¬ v = 0 then jv_ev d 225 78 lc st h else jv_ev d 225 75 lc st h := jq_if (jv_insR jm_225 dX5_falls_72) rfl (by decide)
theorem e225_75 : jv_ev d 225 75 lc st h = jv_ev d 225 155 lc st h := jq_go (jv_insR jm_225 dX5_falls_75) (by decide)
theorem e225_78 : jv_ev d 225 78 [some (.ref a), x1, x2, x3, x4, x5, x6, x7, x8, x9, x10, x11, x12, x13] st h = jv_ev d 225 79 [some (.ref a), x1, x2, x3, x4, x5, x6, x7, x8, x9, x10, x11, x12, x13] (.ref a :: st) h := jq_nx (jv_insR jm_225 dX5_falls_78) rfl
theorem e225_79 : jv_ev d 225 79 lc (.ref a :: st) h = jv_ev d 225 80 lc (.ref a :: .ref a :: st) h := jq_nx (jv_insR jm_225 dX5_falls_79) rfl
theorem e225_80 : jv_ev d 225 80 lc (.ref a :: st) h = (jv_gf h a [(6, 10, .int)]).bind fun r => jv_ev d 225 83 lc (r :: st) h := jq_get (jv_insR jm_225 dX5_falls_80) jo_225 jF_7_77
theorem e225_83 : jv_ev d 225 83 [x0, x1, x2, x3, x4, x5, x6, x7, x8, x9, x10, x11, some (.int v), x13] st h = jv_ev d 225 85 [x0, x1, x2, x3, x4, x5, x6, x7, x8, x9, x10, x11, some (.int v), x13] (.int v :: st) h := jq_nx (jv_insR jm_225 dX5_falls_83) rfl
theorem e225_85 : jv_ev d 225 85 lc (.int w :: .int v :: st) h = jv_ev d 225 86 lc (.int (v - w) :: st) h := jq_nx (jv_insR jm_225 dX5_falls_85) rfl
theorem e225_86 : jv_ev d 225 86 lc (r :: .ref a :: st) h = (jv_pf h a [(6, 10, .int)] r).bind fun h => jv_ev d 225 89 lc st h := jq_put (jv_insR jm_225 dX5_falls_86) jo_225 ji_225 jG_7_77
theorem e225_89 : jv_ev d 225 89 [x0, x1, x2, x3, x4, x5, x6, some (.int v), x8, x9, x10, x11, x12, x13] st h = jv_ev d 225 91 [x0, x1, x2, x3, x4, x5, x6, some (.int v), x8, x9, x10, x11, x12, x13] (.int v :: st) h := jq_nx (jv_insR jm_225 dX5_falls_89) rfl
theorem e225_91 : jv_ev d 225 91 [x0, x1, x2, x3, x4, x5, x6, x7, x8, x9, x10, x11, some (.int v), x13] st h = jv_ev d 225 93 [x0, x1, x2, x3, x4, x5, x6, x7, x8, x9, x10, x11, some (.int v), x13] (.int v :: st) h := jq_nx (jv_insR jm_225 dX5_falls_91) rfl
theorem e225_93 : jv_ev d 225 93 lc (.int w :: .int v :: st) h = jv_ev d 225 94 lc (.int (v + w) :: st) h := jq_nx (jv_insR jm_225 dX5_falls_93) rfl
theorem e225_94 : jv_ev d 225 94 [x0, x1, x2, x3, x4, x5, x6, x7, x8, x9, x10, x11, x12, x13] (.int v :: st) h = jv_ev d 225 96 [x0, x1, x2, x3, x4, x5, x6, some (.int v), x8, x9, x10, x11, x12, x13] st h := jq_nx (jv_insR jm_225 dX5_falls_94) rfl
theorem e225_96 : jv_ev d 225 96 [x0, some (.ref a), x2, x3, x4, x5, x6, x7, x8, x9, x10, x11, x12, x13] st h = jv_ev d 225 97 [x0, some (.ref a), x2, x3, x4, x5, x6, x7, x8, x9, x10, x11, x12, x13] (.ref a :: st) h := jq_nx (jv_insR jm_225 dX5_falls_96) rfl
theorem e225_97 : jv_ev d 225 97 [x0, x1, x2, x3, x4, some (.int v), x6, x7, x8, x9, x10, x11, x12, x13] st h = jv_ev d 225 99 [x0, x1, x2, x3, x4, some (.int v), x6, x7, x8, x9, x10, x11, x12, x13] (.int v :: st) h := jq_nx (jv_insR jm_225 dX5_falls_97) rfl
theorem e225_99 : jv_ev d 225 99 [x0, x1, x2, x3, x4, x5, x6, x7, x8, x9, some (.int v), x11, x12, x13] st h = jv_ev d 225 101 [x0, x1, x2, x3, x4, x5, x6, x7, x8, x9, some (.int v), x11, x12, x13] (.int v :: st) h := jq_nx (jv_insR jm_225 dX5_falls_99) rfl
theorem e225_101 : jv_ev d 225 101 lc (.int w :: .int v :: st) h = jv_ev d 225 102 lc (.int (v + w) :: st) h := jq_nx (jv_insR jm_225 dX5_falls_101) rfl
theorem e225_102 : jv_ev d 225 102 [x0, x1, x2, x3, x4, x5, some (.int v), x7, x8, x9, x10, x11, x12, x13] st h = jv_ev d 225 104 [x0, x1, x2, x3, x4, x5, some (.int v), x7, x8, x9, x10, x11, x12, x13] (.int v :: st) h := jq_nx (jv_insR jm_225 dX5_falls_102) rfl
theorem e225_104 : jv_ev d 225 104 [x0, x1, x2, x3, x4, x5, x6, x7, x8, x9, x10, some (.int v), x12, x13] st h = jv_ev d 225 106 [x0, x1, x2, x3, x4, x5, x6, x7, x8, x9, x10, some (.int v), x12, x13] (.int v :: st) h := jq_nx (jv_insR jm_225 dX5_falls_104) rfl
theorem e225_106 : jv_ev d 225 106 lc (.int w :: .int v :: st) h = jv_ev d 225 107 lc (.int (v + w) :: st) h := jq_nx (jv_insR jm_225 dX5_falls_106) rfl
theorem e225_107 : jv_ev d 225 107 lc [z1, z0, .ref b] h = (jv_rc h b [(5, 212)]).bind fun y => (jv_cd d y [.ref b, z0, z1] h).bind fun r => jv_on r (fun v h => jv_ev d 225 110 lc (v.toList ++ []) h) (fun q h => some (.inr q, h)) := jq_V (as := [z0, z1]) (rest := []) (jv_insR jm_225 dX5_falls_107) jo_225 jV_7_131 rfl rfl rfl rfl
theorem e225_110 : jv_ev d 225 110 lc (.int v :: st) h = if ¬ v = 0 then jv_ev d 225 116 lc st h else jv_ev d 225 113 lc st h := jq_if (jv_insR jm_225 dX5_falls_110) rfl (by decide)
theorem e225_113 : jv_ev d 225 113 lc st h = jv_ev d 225 155 lc st h := jq_go (jv_insR jm_225 dX5_falls_113) (by decide)
theorem e225_116 : jv_ev d 225 116 [x0, x1, x2, x3, x4, x5, some (.int v), x7, x8, x9, x10, x11, x12, x13] st h = jv_ev d 225 118 [x0, x1, x2, x3, x4, x5, some (.int v), x7, x8, x9, x10, x11, x12, x13] (.int v :: st) h := jq_nx (jv_insR jm_225 dX5_falls_116) rfl
theorem e225_118 : jv_ev d 225 118 [x0, x1, x2, x3, x4, x5, x6, x7, x8, x9, x10, some (.int v), x12, x13] st h = jv_ev d 225 120 [x0, x1, x2, x3, x4, x5, x6, x7, x8, x9, x10, some (.int v), x12, x13] (.int v :: st) h := jq_nx (jv_insR jm_225 dX5_falls_118) rfl
theorem e225_120 : jv_ev d 225 120 lc (.int w :: .int v :: st) h = jv_ev d 225 121 lc (.int (v + w) :: st) h := jq_nx (jv_insR jm_225 dX5_falls_120) rfl
theorem e225_121 : jv_ev d 225 121 lc st h = jv_ev d 225 123 lc (.int 8 :: st) h := jq_bipush (jv_insR jm_225 dX5_falls_121) (by decide)
theorem e225_123 : jv_ev d 225 123 lc (.int w :: .int v :: st) h = jv_ev d 225 124 lc (.int (v * w) :: st) h := jq_nx (jv_insR jm_225 dX5_falls_123) rfl
theorem e225_124 : jv_ev d 225 124 [x0, x1, x2, x3, x4, some (.int v), x6, x7, x8, x9, x10, x11, x12, x13] st h = jv_ev d 225 126 [x0, x1, x2, x3, x4, some (.int v), x6, x7, x8, x9, x10, x11, x12, x13] (.int v :: st) h := jq_nx (jv_insR jm_225 dX5_falls_124) rfl
theorem e225_126 : jv_ev d 225 126 lc (.int w :: .int v :: st) h = jv_ev d 225 127 lc (.int (v + w) :: st) h := jq_nx (jv_insR jm_225 dX5_falls_126) rfl
theorem e225_127 : jv_ev d 225 127 [x0, x1, x2, x3, x4, x5, x6, x7, x8, x9, some (.int v), x11, x12, x13] st h = jv_ev d 225 129 [x0, x1, x2, x3, x4, x5, x6, x7, x8, x9, some (.int v), x11, x12, x13] (.int v :: st) h := jq_nx (jv_insR jm_225 dX5_falls_127) rfl
theorem e225_129 : jv_ev d 225 129 lc (.int w :: .int v :: st) h = jv_ev d 225 130 lc (.int (v + w) :: st) h := jq_nx (jv_insR jm_225 dX5_falls_129) rfl
theorem e225_130 : jv_ev d 225 130 [x0, x1, x2, x3, x4, x5, x6, x7, x8, x9, x10, x11, x12, x13] (.int v :: st) h = jv_ev d 225 132 [x0, x1, x2, x3, x4, x5, x6, x7, x8, x9, x10, x11, x12, some (.int v)] st h := jq_nx (jv_insR jm_225 dX5_falls_130) rfl
theorem e225_132 : jv_ev d 225 132 [some (.ref a), x1, x2, x3, x4, x5, x6, x7, x8, x9, x10, x11, x12, x13] st h = jv_ev d 225 133 [some (.ref a), x1, x2, x3, x4, x5, x6, x7, x8, x9, x10, x11, x12, x13] (.ref a :: st) h := jq_nx (jv_insR jm_225 dX5_falls_132) rfl
theorem e225_133 : jv_ev d 225 133 lc (.ref a :: st) h = (jv_gf h a [(6, 0, .array .int)]).bind fun r => jv_ev d 225 136 lc (r :: st) h := jq_get (jv_insR jm_225 dX5_falls_133) jo_225 jF_7_9
theorem e225_136 : jv_ev d 225 136 [x0, x1, x2, x3, x4, x5, x6, x7, x8, x9, x10, x11, x12, some (.int v)] st h = jv_ev d 225 138 [x0, x1, x2, x3, x4, x5, x6, x7, x8, x9, x10, x11, x12, some (.int v)] (.int v :: st) h := jq_nx (jv_insR jm_225 dX5_falls_136) rfl
theorem e225_138 : jv_ev d 225 138 lc st h = jv_ev d 225 141 lc (.int 999 :: st) h := jq_sipush (jv_insR jm_225 dX5_falls_138) (by decide)
theorem e225_141 : jv_ev d 225 141 [some (.ref a), x1, x2, x3, x4, x5, x6, x7, x8, x9, x10, x11, x12, x13] st h = jv_ev d 225 142 [some (.ref a), x1, x2, x3, x4, x5, x6, x7, x8, x9, x10, x11, x12, x13] (.ref a :: st) h := jq_nx (jv_insR jm_225 dX5_falls_141) rfl
theorem e225_142 : jv_ev d 225 142 lc (.ref a :: st) h = (jv_gf h a [(6, 0, .array .int)]).bind fun r => jv_ev d 225 145 lc (r :: st) h := jq_get (jv_insR jm_225 dX5_falls_142) jo_225 jF_7_9
theorem e225_145 : jv_ev d 225 145 [x0, x1, x2, x3, x4, x5, x6, x7, x8, x9, x10, x11, x12, some (.int v)] st h = jv_ev d 225 147 [x0, x1, x2, x3, x4, x5, x6, x7, x8, x9, x10, x11, x12, some (.int v)] (.int v :: st) h := jq_nx (jv_insR jm_225 dX5_falls_145) rfl
theorem e225_147 : jv_ev d 225 147 lc (.int v :: .ref a :: st) h = (jv_ig h a 0 0 v).bind fun w => jv_ev d 225 148 lc (.int w :: st) h := jq_iald (jv_insR jm_225 dX5_falls_147)
theorem e225_148 : jv_ev d 225 148 [x0, x1, x2, x3, x4, x5, x6, x7, x8, x9, x10, x11, some (.int v), x13] st h = jv_ev d 225 150 [x0, x1, x2, x3, x4, x5, x6, x7, x8, x9, x10, x11, some (.int v), x13] (.int v :: st) h := jq_nx (jv_insR jm_225 dX5_falls_148) rfl
theorem e225_150 : jv_ev d 225 150 lc (.int w :: .int v :: st) h = jv_ev d 225 151 lc (.int (v + w) :: st) h := jq_nx (jv_insR jm_225 dX5_falls_150) rfl
theorem e225_151 : jv_ev d 225 151 lc [z1, z0, y0, y1] h = (jv_cd d 309 [z0, z1] h).bind fun r => jv_on r (fun v h => jv_ev d 225 154 lc (v.toList ++ [y0, y1]) h) (fun q h => some (.inr q, h)) := jq_S (as := [z0, z1]) (rest := [y0, y1]) (jv_insR jm_225 dX5_falls_151) jo_225 jT_7_114 rfl rfl rfl rfl
theorem e225_154 : jv_ev d 225 154 lc (.int w :: .int v :: .ref a :: st) h = (jv_ip h a 0 0 v w).bind fun h => jv_ev d 225 155 lc st h := jq_iast (jv_insR jm_225 dX5_falls_154)
theorem e225_155 : jv_ev d 225 155 [x0, x1, x2, x3, x4, x5, x6, x7, x8, some (.int v), x10, x11, x12, x13] st h = jv_ev d 225 158 [x0, x1, x2, x3, x4, x5, x6, x7, x8, some (.int (v + 1)), x10, x11, x12, x13] st h := jq_nx (jv_insR jm_225 dX5_falls_155) rfl
theorem e225_158 : jv_ev d 225 158 lc st h = jv_ev d 225 9 lc st h := jq_go (jv_insR jm_225 dX5_falls_158) (by decide)
theorem e225_161 : jv_ev d 225 161 [some (.ref a), x1, x2, x3, x4, x5, x6, x7, x8, x9, x10, x11, x12, x13] st h = jv_ev d 225 162 [some (.ref a), x1, x2, x3, x4, x5, x6, x7, x8, x9, x10, x11, x12, x13] (.ref a :: st) h := jq_nx (jv_insR jm_225 dX5_falls_161) rfl
theorem e225_162 : jv_ev d 225 162 lc (.ref a :: st) h = (jv_gf h a [(6, 4, .array .int)]).bind fun r => jv_ev d 225 165 lc (r :: st) h := jq_get (jv_insR jm_225 dX5_falls_162) jo_225 jF_7_24
theorem e225_165 : jv_ev d 225 165 [x0, x1, some (.int v), x3, x4, x5, x6, x7, x8, x9, x10, x11, x12, x13] st h = jv_ev d 225 166 [x0, x1, some (.int v), x3, x4, x5, x6, x7, x8, x9, x10, x11, x12, x13] (.int v :: st) h := jq_nx (jv_insR jm_225 dX5_falls_165) rfl
theorem e225_166 : jv_ev d 225 166 lc (.int v :: .ref b :: st) h = jv_ev d 225 167 lc (.int v :: .ref b :: .int v :: .ref b :: st) h := jq_nx (jv_insR jm_225 dX5_falls_166) rfl
theorem e225_167 : jv_ev d 225 167 lc (.int v :: .ref a :: st) h = (jv_ig h a 0 0 v).bind fun w => jv_ev d 225 168 lc (.int w :: st) h := jq_iald (jv_insR jm_225 dX5_falls_167)
theorem e225_168 : jv_ev d 225 168 [x0, x1, x2, x3, x4, x5, x6, some (.int v), x8, x9, x10, x11, x12, x13] st h = jv_ev d 225 170 [x0, x1, x2, x3, x4, x5, x6, some (.int v), x8, x9, x10, x11, x12, x13] (.int v :: st) h := jq_nx (jv_insR jm_225 dX5_falls_168) rfl
theorem e225_170 : jv_ev d 225 170 lc (.int w :: .int v :: st) h = jv_ev d 225 171 lc (.int (v + w) :: st) h := jq_nx (jv_insR jm_225 dX5_falls_170) rfl
theorem e225_171 : jv_ev d 225 171 lc (.int w :: .int v :: .ref a :: st) h = (jv_ip h a 0 0 v w).bind fun h => jv_ev d 225 172 lc st h := jq_iast (jv_insR jm_225 dX5_falls_171)
theorem e225_172 : jv_ev d 225 172 [some (.ref a), x1, x2, x3, x4, x5, x6, x7, x8, x9, x10, x11, x12, x13] st h = jv_ev d 225 173 [some (.ref a), x1, x2, x3, x4, x5, x6, x7, x8, x9, x10, x11, x12, x13] (.ref a :: st) h := jq_nx (jv_insR jm_225 dX5_falls_172) rfl
theorem e225_173 : jv_ev d 225 173 lc (.ref a :: st) h = (jv_gf h a [(6, 5, .array .int)]).bind fun r => jv_ev d 225 176 lc (r :: st) h := jq_get (jv_insR jm_225 dX5_falls_173) jo_225 jF_7_27
theorem e225_176 : jv_ev d 225 176 [x0, x1, some (.int v), x3, x4, x5, x6, x7, x8, x9, x10, x11, x12, x13] st h = jv_ev d 225 177 [x0, x1, some (.int v), x3, x4, x5, x6, x7, x8, x9, x10, x11, x12, x13] (.int v :: st) h := jq_nx (jv_insR jm_225 dX5_falls_176) rfl
theorem e225_177 : jv_ev d 225 177 lc (.int v :: .ref b :: st) h = jv_ev d 225 178 lc (.int v :: .ref b :: .int v :: .ref b :: st) h := jq_nx (jv_insR jm_225 dX5_falls_177) rfl
theorem e225_178 : jv_ev d 225 178 lc (.int v :: .ref a :: st) h = (jv_ig h a 0 0 v).bind fun w => jv_ev d 225 179 lc (.int w :: st) h := jq_iald (jv_insR jm_225 dX5_falls_178)
theorem e225_179 : jv_ev d 225 179 [x0, x1, x2, x3, x4, x5, x6, x7, some (.int v), x9, x10, x11, x12, x13] st h = jv_ev d 225 181 [x0, x1, x2, x3, x4, x5, x6, x7, some (.int v), x9, x10, x11, x12, x13] (.int v :: st) h := jq_nx (jv_insR jm_225 dX5_falls_179) rfl
theorem e225_181 : jv_ev d 225 181 lc (.int v :: st) h = if v = 0 then jv_ev d 225 188 lc st h else jv_ev d 225 184 lc st h := jq_if (jv_insR jm_225 dX5_falls_181) rfl (by decide)
theorem e225_184 : jv_ev d 225 184 lc st h = jv_ev d 225 185 lc (.int 0 :: st) h := jq_iconst (jv_insR jm_225 dX5_falls_184) (by decide)
theorem e225_185 : jv_ev d 225 185 lc st h = jv_ev d 225 189 lc st h := jq_go (jv_insR jm_225 dX5_falls_185) (by decide)
theorem e225_188 : jv_ev d 225 188 lc st h = jv_ev d 225 189 lc (.int 1 :: st) h := jq_iconst (jv_insR jm_225 dX5_falls_188) (by decide)
theorem e225_189 : jv_ev d 225 189 lc (.int w :: .int v :: st) h = jv_ev d 225 190 lc (.int (v + w) :: st) h := jq_nx (jv_insR jm_225 dX5_falls_189) rfl
theorem e225_190 : jv_ev d 225 190 lc (.int w :: .int v :: .ref a :: st) h = (jv_ip h a 0 0 v w).bind fun h => jv_ev d 225 191 lc st h := jq_iast (jv_insR jm_225 dX5_falls_190)
theorem e225_191 : jv_ev d 225 191 [some (.ref a), x1, x2, x3, x4, x5, x6, x7, x8, x9, x10, x11, x12, x13] st h = jv_ev d 225 192 [some (.ref a), x1, x2, x3, x4, x5, x6, x7, x8, x9, x10, x11, x12, x13] (.ref a :: st) h := jq_nx (jv_insR jm_225 dX5_falls_191) rfl
theorem e225_192 : jv_ev d 225 192 lc (.ref a :: st) h = (jv_gf h a [(6, 3, .array .int)]).bind fun r => jv_ev d 225 195 lc (r :: st) h := jq_get (jv_insR jm_225 dX5_falls_192) jo_225 jF_7_21
theorem e225_195 : jv_ev d 225 195 [x0, x1, some (.int v), x3, x4, x5, x6, x7, x8, x9, x10, x11, x12, x13] st h = jv_ev d 225 196 [x0, x1, some (.int v), x3, x4, x5, x6, x7, x8, x9, x10, x11, x12, x13] (.int v :: st) h := jq_nx (jv_insR jm_225 dX5_falls_195) rfl
theorem e225_196 : jv_ev d 225 196 lc (.int v :: .ref b :: st) h = jv_ev d 225 197 lc (.int v :: .ref b :: .int v :: .ref b :: st) h := jq_nx (jv_insR jm_225 dX5_falls_196) rfl
theorem e225_197 : jv_ev d 225 197 lc (.int v :: .ref a :: st) h = (jv_ig h a 0 0 v).bind fun w => jv_ev d 225 198 lc (.int w :: st) h := jq_iald (jv_insR jm_225 dX5_falls_197)
theorem e225_198 : jv_ev d 225 198 [x0, x1, x2, x3, some (.int v), x5, x6, x7, x8, x9, x10, x11, x12, x13] st h = jv_ev d 225 200 [x0, x1, x2, x3, some (.int v), x5, x6, x7, x8, x9, x10, x11, x12, x13] (.int v :: st) h := jq_nx (jv_insR jm_225 dX5_falls_198) rfl
theorem e225_200 : jv_ev d 225 200 lc (.int w :: .int v :: st) h = jv_ev d 225 201 lc (.int (v + w) :: st) h := jq_nx (jv_insR jm_225 dX5_falls_200) rfl
theorem e225_201 : jv_ev d 225 201 lc (.int w :: .int v :: .ref a :: st) h = (jv_ip h a 0 0 v w).bind fun h => jv_ev d 225 202 lc st h := jq_iast (jv_insR jm_225 dX5_falls_201)
theorem e225_202 : jv_ev d 225 202 [x0, x1, x2, x3, x4, x5, x6, some (.int v), x8, x9, x10, x11, x12, x13] st h = jv_ev d 225 204 [x0, x1, x2, x3, x4, x5, x6, some (.int v), x8, x9, x10, x11, x12, x13] (.int v :: st) h := jq_nx (jv_insR jm_225 dX5_falls_202) rfl
theorem e225_204 : jv_ev d 225 204 lc [.int v] h = some (.inl (some (.int v)), h) := jq_reti (jv_insR jm_225 dX5_falls_204) jr_225
/-! 226: RainLoom$Land.dries(LRainLoom$Text;I)I -/
theorem n226 : jv_cd (d + 1) 226 [.ref a0, .ref a1, .int i2] h = jv_ev d 226 0 [some (.ref a0), some (.ref a1), some (.int i2), none] [] h := rfl
theorem e226_0 : jv_ev d 226 0 [x0, some (.ref a), x2, x3] st h = jv_ev d 226 1 [x0, some (.ref a), x2, x3] (.ref a :: st) h := jq_nx (jv_insR jm_226 dX5_dries_0) rfl
theorem e226_0n : jv_ev d 226 0 [x0, some .null, x2, x3] st h = jv_ev d 226 1 [x0, some .null, x2, x3] (.null :: st) h := jq_nx (jv_insR jm_226 dX5_dries_0) rfl
theorem e226_1 : jv_ev d 226 1 lc (.ref a :: st) h = (jv_gf h a [(5, 3, .array (.object "RainLoom$Law"))]).bind fun r => jv_ev d 226 4 lc (r :: st) h := jq_get (jv_insR jm_226 dX5_dries_1) jo_226 jF_7_98
theorem e226_4 : jv_ev d 226 4 lc st h = jv_ev d 226 5 lc (.int 1 :: st) h := jq_iconst (jv_insR jm_226 dX5_dries_4) (by decide)
theorem e226_5 : jv_ev d 226 5 lc (.int v :: .ref a :: st) h = (jv_rg h a v).bind fun w => jv_ev d 226 6 lc (w :: st) h := jq_aald (jv_insR jm_226 dX5_dries_5)
theorem e226_6 : jv_ev d 226 6 [x0, x1, x2, x3] (.ref a :: st) h = jv_ev d 226 7 [x0, x1, x2, some (.ref a)] st h := jq_nx (jv_insR jm_226 dX5_dries_6) rfl
theorem e226_6n : jv_ev d 226 6 [x0, x1, x2, x3] (.null :: st) h = jv_ev d 226 7 [x0, x1, x2, some .null] st h := jq_nx (jv_insR jm_226 dX5_dries_6) rfl
theorem e226_7 : jv_ev d 226 7 [x0, x1, x2, some (.ref a)] st h = jv_ev d 226 8 [x0, x1, x2, some (.ref a)] (.ref a :: st) h := jq_nx (jv_insR jm_226 dX5_dries_7) rfl
theorem e226_7n : jv_ev d 226 7 [x0, x1, x2, some .null] st h = jv_ev d 226 8 [x0, x1, x2, some .null] (.null :: st) h := jq_nx (jv_insR jm_226 dX5_dries_7) rfl
theorem e226_8R : jv_ev d 226 8 lc (.ref a :: st) h = if jt_off ≤ a then jv_ev d 226 13 lc st h else none := jq_nr1 (jv_insR jm_226 dX5_dries_8) (by decide)
theorem e226_8N : jv_ev d 226 8 lc (.null :: st) h = jv_ev d 226 11 lc st h := jq_nn1 (jv_insR jm_226 dX5_dries_8)
theorem e226_11 : jv_ev d 226 11 lc st h = jv_ev d 226 12 lc (.int 1 :: st) h := jq_iconst (jv_insR jm_226 dX5_dries_11) (by decide)
theorem e226_12 : jv_ev d 226 12 lc [.int v] h = some (.inl (some (.int v)), h) := jq_reti (jv_insR jm_226 dX5_dries_12) jr_226
theorem e226_13 : jv_ev d 226 13 [some (.ref a), x1, x2, x3] st h = jv_ev d 226 14 [some (.ref a), x1, x2, x3] (.ref a :: st) h := jq_nx (jv_insR jm_226 dX5_dries_13) rfl
theorem e226_13n : jv_ev d 226 13 [some .null, x1, x2, x3] st h = jv_ev d 226 14 [some .null, x1, x2, x3] (.null :: st) h := jq_nx (jv_insR jm_226 dX5_dries_13) rfl
theorem e226_14 : jv_ev d 226 14 lc [.ref b] h = (jv_rc h b [(6, 222)]).bind fun y => (jv_cd d y [.ref b] h).bind fun r => jv_on r (fun v h => jv_ev d 226 17 lc (v.toList ++ []) h) (fun q h => some (.inr q, h)) := jq_V (as := []) (rest := []) (jv_insR jm_226 dX5_dries_14) jo_226 jV_7_102 rfl rfl rfl rfl
theorem e226_17 : jv_ev d 226 17 lc (.ref a :: st) h = jv_ev d 226 18 lc st h := jq_nx (jv_insR jm_226 dX5_dries_17) rfl
theorem e226_18 : jv_ev d 226 18 [some (.ref a), x1, x2, x3] st h = jv_ev d 226 19 [some (.ref a), x1, x2, x3] (.ref a :: st) h := jq_nx (jv_insR jm_226 dX5_dries_18) rfl
theorem e226_18n : jv_ev d 226 18 [some .null, x1, x2, x3] st h = jv_ev d 226 19 [some .null, x1, x2, x3] (.null :: st) h := jq_nx (jv_insR jm_226 dX5_dries_18) rfl
theorem e226_19 : jv_ev d 226 19 lc (.ref a :: st) h = (jv_gf h a [(6, 13, .object "RainLoom$Asked")]).bind fun r => jv_ev d 226 22 lc (r :: st) h := jq_get (jv_insR jm_226 dX5_dries_19) jo_226 jF_7_45
theorem e226_22 : jv_ev d 226 22 lc (.ref a :: st) h = (jv_gf h a [(7, 0, .array .int)]).bind fun r => jv_ev d 226 25 lc (r :: st) h := jq_get (jv_insR jm_226 dX5_dries_22) jo_226 jF_7_95
theorem e226_25 : jv_ev d 226 25 lc st h = jv_ev d 226 26 lc (.int 3 :: st) h := jq_iconst (jv_insR jm_226 dX5_dries_25) (by decide)
theorem e226_26 : jv_ev d 226 26 [some (.ref a), x1, x2, x3] st h = jv_ev d 226 27 [some (.ref a), x1, x2, x3] (.ref a :: st) h := jq_nx (jv_insR jm_226 dX5_dries_26) rfl
theorem e226_26n : jv_ev d 226 26 [some .null, x1, x2, x3] st h = jv_ev d 226 27 [some .null, x1, x2, x3] (.null :: st) h := jq_nx (jv_insR jm_226 dX5_dries_26) rfl
theorem e226_27 : jv_ev d 226 27 lc (.ref a :: st) h = (jv_gf h a [(6, 0, .array .int)]).bind fun r => jv_ev d 226 30 lc (r :: st) h := jq_get (jv_insR jm_226 dX5_dries_27) jo_226 jF_7_9
theorem e226_30 : jv_ev d 226 30 [x0, x1, some (.int v), x3] st h = jv_ev d 226 31 [x0, x1, some (.int v), x3] (.int v :: st) h := jq_nx (jv_insR jm_226 dX5_dries_30) rfl
theorem e226_31 : jv_ev d 226 31 lc (.int v :: .ref a :: st) h = (jv_ig h a 0 0 v).bind fun w => jv_ev d 226 32 lc (.int w :: st) h := jq_iald (jv_insR jm_226 dX5_dries_31)
theorem e226_32 : jv_ev d 226 32 lc (.int w :: .int v :: .ref a :: st) h = (jv_ip h a 0 0 v w).bind fun h => jv_ev d 226 33 lc st h := jq_iast (jv_insR jm_226 dX5_dries_32)
theorem e226_33 : jv_ev d 226 33 [some (.ref a), x1, x2, x3] st h = jv_ev d 226 34 [some (.ref a), x1, x2, x3] (.ref a :: st) h := jq_nx (jv_insR jm_226 dX5_dries_33) rfl
theorem e226_33n : jv_ev d 226 33 [some .null, x1, x2, x3] st h = jv_ev d 226 34 [some .null, x1, x2, x3] (.null :: st) h := jq_nx (jv_insR jm_226 dX5_dries_33) rfl
theorem e226_34 : jv_ev d 226 34 lc (.ref a :: st) h = (jv_gf h a [(6, 13, .object "RainLoom$Asked")]).bind fun r => jv_ev d 226 37 lc (r :: st) h := jq_get (jv_insR jm_226 dX5_dries_34) jo_226 jF_7_45
theorem e226_37 : jv_ev d 226 37 lc (.ref a :: st) h = (jv_gf h a [(7, 0, .array .int)]).bind fun r => jv_ev d 226 40 lc (r :: st) h := jq_get (jv_insR jm_226 dX5_dries_37) jo_226 jF_7_95
theorem e226_40 : jv_ev d 226 40 lc st h = jv_ev d 226 41 lc (.int 4 :: st) h := jq_iconst (jv_insR jm_226 dX5_dries_40) (by decide)
theorem e226_41 : jv_ev d 226 41 [x0, some (.ref a), x2, x3] st h = jv_ev d 226 42 [x0, some (.ref a), x2, x3] (.ref a :: st) h := jq_nx (jv_insR jm_226 dX5_dries_41) rfl
theorem e226_41n : jv_ev d 226 41 [x0, some .null, x2, x3] st h = jv_ev d 226 42 [x0, some .null, x2, x3] (.null :: st) h := jq_nx (jv_insR jm_226 dX5_dries_41) rfl
theorem e226_42 : jv_ev d 226 42 [x0, x1, some (.int v), x3] st h = jv_ev d 226 43 [x0, x1, some (.int v), x3] (.int v :: st) h := jq_nx (jv_insR jm_226 dX5_dries_42) rfl
theorem e226_43 : jv_ev d 226 43 lc [z0, .ref b, y0, y1] h = (jv_rc h b [(5, 213)]).bind fun y => (jv_cd d y [.ref b, z0] h).bind fun r => jv_on r (fun v h => jv_ev d 226 46 lc (v.toList ++ [y0, y1]) h) (fun q h => some (.inr q, h)) := jq_V (as := [z0]) (rest := [y0, y1]) (jv_insR jm_226 dX5_dries_43) jo_226 jV_7_120 rfl rfl rfl rfl
theorem e226_46 : jv_ev d 226 46 lc (.int w :: .int v :: .ref a :: st) h = (jv_ip h a 0 0 v w).bind fun h => jv_ev d 226 47 lc st h := jq_iast (jv_insR jm_226 dX5_dries_46)
theorem e226_47 : jv_ev d 226 47 [some (.ref a), x1, x2, x3] st h = jv_ev d 226 48 [some (.ref a), x1, x2, x3] (.ref a :: st) h := jq_nx (jv_insR jm_226 dX5_dries_47) rfl
theorem e226_47n : jv_ev d 226 47 [some .null, x1, x2, x3] st h = jv_ev d 226 48 [some .null, x1, x2, x3] (.null :: st) h := jq_nx (jv_insR jm_226 dX5_dries_47) rfl
theorem e226_48 : jv_ev d 226 48 lc (.ref a :: st) h = (jv_gf h a [(6, 13, .object "RainLoom$Asked")]).bind fun r => jv_ev d 226 51 lc (r :: st) h := jq_get (jv_insR jm_226 dX5_dries_48) jo_226 jF_7_45
theorem e226_51 : jv_ev d 226 51 lc (.ref a :: st) h = (jv_gf h a [(7, 0, .array .int)]).bind fun r => jv_ev d 226 54 lc (r :: st) h := jq_get (jv_insR jm_226 dX5_dries_51) jo_226 jF_7_95
theorem e226_54 : jv_ev d 226 54 lc st h = jv_ev d 226 55 lc (.int 5 :: st) h := jq_iconst (jv_insR jm_226 dX5_dries_54) (by decide)
theorem e226_55 : jv_ev d 226 55 [x0, some (.ref a), x2, x3] st h = jv_ev d 226 56 [x0, some (.ref a), x2, x3] (.ref a :: st) h := jq_nx (jv_insR jm_226 dX5_dries_55) rfl
theorem e226_55n : jv_ev d 226 55 [x0, some .null, x2, x3] st h = jv_ev d 226 56 [x0, some .null, x2, x3] (.null :: st) h := jq_nx (jv_insR jm_226 dX5_dries_55) rfl
theorem e226_56 : jv_ev d 226 56 [x0, x1, some (.int v), x3] st h = jv_ev d 226 57 [x0, x1, some (.int v), x3] (.int v :: st) h := jq_nx (jv_insR jm_226 dX5_dries_56) rfl
theorem e226_57 : jv_ev d 226 57 lc [z0, .ref b, y0, y1] h = (jv_rc h b [(5, 214)]).bind fun y => (jv_cd d y [.ref b, z0] h).bind fun r => jv_on r (fun v h => jv_ev d 226 60 lc (v.toList ++ [y0, y1]) h) (fun q h => some (.inr q, h)) := jq_V (as := [z0]) (rest := [y0, y1]) (jv_insR jm_226 dX5_dries_57) jo_226 jV_7_124 rfl rfl rfl rfl
theorem e226_60 : jv_ev d 226 60 lc (.int w :: .int v :: .ref a :: st) h = (jv_ip h a 0 0 v w).bind fun h => jv_ev d 226 61 lc st h := jq_iast (jv_insR jm_226 dX5_dries_60)
theorem e226_61 : jv_ev d 226 61 [some (.ref a), x1, x2, x3] st h = jv_ev d 226 62 [some (.ref a), x1, x2, x3] (.ref a :: st) h := jq_nx (jv_insR jm_226 dX5_dries_61) rfl
theorem e226_61n : jv_ev d 226 61 [some .null, x1, x2, x3] st h = jv_ev d 226 62 [some .null, x1, x2, x3] (.null :: st) h := jq_nx (jv_insR jm_226 dX5_dries_61) rfl
theorem e226_62 : jv_ev d 226 62 lc (.ref a :: st) h = (jv_gf h a [(6, 13, .object "RainLoom$Asked")]).bind fun r => jv_ev d 226 65 lc (r :: st) h := jq_get (jv_insR jm_226 dX5_dries_62) jo_226 jF_7_45
theorem e226_65 : jv_ev d 226 65 lc (.ref a :: st) h = (jv_gf h a [(7, 0, .array .int)]).bind fun r => jv_ev d 226 68 lc (r :: st) h := jq_get (jv_insR jm_226 dX5_dries_65) jo_226 jF_7_95
theorem e226_68 : jv_ev d 226 68 lc st h = jv_ev d 226 70 lc (.int 6 :: st) h := jq_bipush (jv_insR jm_226 dX5_dries_68) (by decide)
theorem e226_70 : jv_ev d 226 70 [some (.ref a), x1, x2, x3] st h = jv_ev d 226 71 [some (.ref a), x1, x2, x3] (.ref a :: st) h := jq_nx (jv_insR jm_226 dX5_dries_70) rfl
theorem e226_70n : jv_ev d 226 70 [some .null, x1, x2, x3] st h = jv_ev d 226 71 [some .null, x1, x2, x3] (.null :: st) h := jq_nx (jv_insR jm_226 dX5_dries_70) rfl
theorem e226_71 : jv_ev d 226 71 lc (.ref a :: st) h = (jv_gf h a [(6, 11, .int)]).bind fun r => jv_ev d 226 74 lc (r :: st) h := jq_get (jv_insR jm_226 dX5_dries_71) jo_226 jF_7_78
theorem e226_74 : jv_ev d 226 74 lc (.int w :: .int v :: .ref a :: st) h = (jv_ip h a 0 0 v w).bind fun h => jv_ev d 226 75 lc st h := jq_iast (jv_insR jm_226 dX5_dries_74)
theorem e226_75 : jv_ev d 226 75 lc st h = jv_ev d 226 77 lc (.int 99 :: st) h := jq_bipush (jv_insR jm_226 dX5_dries_75) (by decide)
theorem e226_77 : jv_ev d 226 77 [x0, x1, x2, some (.ref a)] st h = jv_ev d 226 78 [x0, x1, x2, some (.ref a)] (.ref a :: st) h := jq_nx (jv_insR jm_226 dX5_dries_77) rfl
theorem e226_77n : jv_ev d 226 77 [x0, x1, x2, some .null] st h = jv_ev d 226 78 [x0, x1, x2, some .null] (.null :: st) h := jq_nx (jv_insR jm_226 dX5_dries_77) rfl
theorem e226_78 : jv_ev d 226 78 [some (.ref a), x1, x2, x3] st h = jv_ev d 226 79 [some (.ref a), x1, x2, x3] (.ref a :: st) h := jq_nx (jv_insR jm_226 dX5_dries_78) rfl
theorem e226_78n : jv_ev d 226 78 [some .null, x1, x2, x3] st h = jv_ev d 226 79 [some .null, x1, x2, x3] (.null :: st) h := jq_nx (jv_insR jm_226 dX5_dries_78) rfl
theorem e226_79 : jv_ev d 226 79 lc (.ref a :: st) h = (jv_gf h a [(6, 13, .object "RainLoom$Asked")]).bind fun r => jv_ev d 226 82 lc (r :: st) h := jq_get (jv_insR jm_226 dX5_dries_79) jo_226 jF_7_45
theorem e226_82 : jv_ev d 226 82 lc [z0, .ref b, y0] h = (jv_rc h b [(12, 240)]).bind fun y => (jv_cd d y [.ref b, z0] h).bind fun r => jv_on r (fun v h => jv_ev d 226 85 lc (v.toList ++ [y0]) h) (fun q h => some (.inr q, h)) := jq_V (as := [z0]) (rest := [y0]) (jv_insR jm_226 dX5_dries_82) jo_226 jV_7_108 rfl rfl rfl rfl
theorem e226_85 : jv_ev d 226 85 lc [z1, z0] h = (jv_cd d 309 [z0, z1] h).bind fun r => jv_on r (fun v h => jv_ev d 226 88 lc (v.toList ++ []) h) (fun q h => some (.inr q, h)) := jq_S (as := [z0, z1]) (rest := []) (jv_insR jm_226 dX5_dries_85) jo_226 jT_7_114 rfl rfl rfl rfl
theorem e226_88 : jv_ev d 226 88 lc [.int v] h = some (.inl (some (.int v)), h) := jq_reti (jv_insR jm_226 dX5_dries_88) jr_226
/-! 227: RainLoom$Land.gathers(LRainLoom$Text;)I -/
theorem n227 : jv_cd (d + 1) 227 [.ref a0, .ref a1] h = jv_ev d 227 0 [some (.ref a0), some (.ref a1), none] [] h := rfl
theorem e227_0 : jv_ev d 227 0 [x0, some (.ref a), x2] st h = jv_ev d 227 1 [x0, some (.ref a), x2] (.ref a :: st) h := jq_nx (jv_insR jm_227 dX5_gathers_0) rfl
theorem e227_0n : jv_ev d 227 0 [x0, some .null, x2] st h = jv_ev d 227 1 [x0, some .null, x2] (.null :: st) h := jq_nx (jv_insR jm_227 dX5_gathers_0) rfl
theorem e227_1 : jv_ev d 227 1 lc (.ref a :: st) h = (jv_gf h a [(5, 3, .array (.object "RainLoom$Law"))]).bind fun r => jv_ev d 227 4 lc (r :: st) h := jq_get (jv_insR jm_227 dX5_gathers_1) jo_227 jF_7_98
theorem e227_4 : jv_ev d 227 4 lc st h = jv_ev d 227 5 lc (.int 2 :: st) h := jq_iconst (jv_insR jm_227 dX5_gathers_4) (by decide)
theorem e227_5 : jv_ev d 227 5 lc (.int v :: .ref a :: st) h = (jv_rg h a v).bind fun w => jv_ev d 227 6 lc (w :: st) h := jq_aald (jv_insR jm_227 dX5_gathers_5)
theorem e227_6 : jv_ev d 227 6 [x0, x1, x2] (.ref a :: st) h = jv_ev d 227 7 [x0, x1, some (.ref a)] st h := jq_nx (jv_insR jm_227 dX5_gathers_6) rfl
theorem e227_6n : jv_ev d 227 6 [x0, x1, x2] (.null :: st) h = jv_ev d 227 7 [x0, x1, some .null] st h := jq_nx (jv_insR jm_227 dX5_gathers_6) rfl
theorem e227_7 : jv_ev d 227 7 [x0, x1, some (.ref a)] st h = jv_ev d 227 8 [x0, x1, some (.ref a)] (.ref a :: st) h := jq_nx (jv_insR jm_227 dX5_gathers_7) rfl
theorem e227_7n : jv_ev d 227 7 [x0, x1, some .null] st h = jv_ev d 227 8 [x0, x1, some .null] (.null :: st) h := jq_nx (jv_insR jm_227 dX5_gathers_7) rfl
theorem e227_8R : jv_ev d 227 8 lc (.ref a :: st) h = if jt_off ≤ a then jv_ev d 227 13 lc st h else none := jq_nr1 (jv_insR jm_227 dX5_gathers_8) (by decide)
theorem e227_8N : jv_ev d 227 8 lc (.null :: st) h = jv_ev d 227 11 lc st h := jq_nn1 (jv_insR jm_227 dX5_gathers_8)
theorem e227_11 : jv_ev d 227 11 lc st h = jv_ev d 227 12 lc (.int 0 :: st) h := jq_iconst (jv_insR jm_227 dX5_gathers_11) (by decide)
theorem e227_12 : jv_ev d 227 12 lc [.int v] h = some (.inl (some (.int v)), h) := jq_reti (jv_insR jm_227 dX5_gathers_12) jr_227
theorem e227_13 : jv_ev d 227 13 [some (.ref a), x1, x2] st h = jv_ev d 227 14 [some (.ref a), x1, x2] (.ref a :: st) h := jq_nx (jv_insR jm_227 dX5_gathers_13) rfl
theorem e227_13n : jv_ev d 227 13 [some .null, x1, x2] st h = jv_ev d 227 14 [some .null, x1, x2] (.null :: st) h := jq_nx (jv_insR jm_227 dX5_gathers_13) rfl
theorem e227_14 : jv_ev d 227 14 lc [.ref b] h = (jv_rc h b [(6, 222)]).bind fun y => (jv_cd d y [.ref b] h).bind fun r => jv_on r (fun v h => jv_ev d 227 17 lc (v.toList ++ []) h) (fun q h => some (.inr q, h)) := jq_V (as := []) (rest := []) (jv_insR jm_227 dX5_gathers_14) jo_227 jV_7_102 rfl rfl rfl rfl
theorem e227_17 : jv_ev d 227 17 lc (.ref a :: st) h = jv_ev d 227 18 lc st h := jq_nx (jv_insR jm_227 dX5_gathers_17) rfl
theorem e227_18 : jv_ev d 227 18 [some (.ref a), x1, x2] st h = jv_ev d 227 19 [some (.ref a), x1, x2] (.ref a :: st) h := jq_nx (jv_insR jm_227 dX5_gathers_18) rfl
theorem e227_18n : jv_ev d 227 18 [some .null, x1, x2] st h = jv_ev d 227 19 [some .null, x1, x2] (.null :: st) h := jq_nx (jv_insR jm_227 dX5_gathers_18) rfl
theorem e227_19 : jv_ev d 227 19 lc (.ref a :: st) h = (jv_gf h a [(6, 13, .object "RainLoom$Asked")]).bind fun r => jv_ev d 227 22 lc (r :: st) h := jq_get (jv_insR jm_227 dX5_gathers_19) jo_227 jF_7_45
theorem e227_22 : jv_ev d 227 22 lc (.ref a :: st) h = (jv_gf h a [(7, 0, .array .int)]).bind fun r => jv_ev d 227 25 lc (r :: st) h := jq_get (jv_insR jm_227 dX5_gathers_22) jo_227 jF_7_95
theorem e227_25 : jv_ev d 227 25 lc st h = jv_ev d 227 27 lc (.int 6 :: st) h := jq_bipush (jv_insR jm_227 dX5_gathers_25) (by decide)
theorem e227_27 : jv_ev d 227 27 [some (.ref a), x1, x2] st h = jv_ev d 227 28 [some (.ref a), x1, x2] (.ref a :: st) h := jq_nx (jv_insR jm_227 dX5_gathers_27) rfl
theorem e227_27n : jv_ev d 227 27 [some .null, x1, x2] st h = jv_ev d 227 28 [some .null, x1, x2] (.null :: st) h := jq_nx (jv_insR jm_227 dX5_gathers_27) rfl
theorem e227_28 : jv_ev d 227 28 lc (.ref a :: st) h = (jv_gf h a [(6, 11, .int)]).bind fun r => jv_ev d 227 31 lc (r :: st) h := jq_get (jv_insR jm_227 dX5_gathers_28) jo_227 jF_7_78
theorem e227_31 : jv_ev d 227 31 lc (.int w :: .int v :: .ref a :: st) h = (jv_ip h a 0 0 v w).bind fun h => jv_ev d 227 32 lc st h := jq_iast (jv_insR jm_227 dX5_gathers_31)
theorem e227_32 : jv_ev d 227 32 lc st h = jv_ev d 227 35 lc (.int 999 :: st) h := jq_sipush (jv_insR jm_227 dX5_gathers_32) (by decide)
theorem e227_35 : jv_ev d 227 35 [x0, x1, some (.ref a)] st h = jv_ev d 227 36 [x0, x1, some (.ref a)] (.ref a :: st) h := jq_nx (jv_insR jm_227 dX5_gathers_35) rfl
theorem e227_35n : jv_ev d 227 35 [x0, x1, some .null] st h = jv_ev d 227 36 [x0, x1, some .null] (.null :: st) h := jq_nx (jv_insR jm_227 dX5_gathers_35) rfl
theorem e227_36 : jv_ev d 227 36 [some (.ref a), x1, x2] st h = jv_ev d 227 37 [some (.ref a), x1, x2] (.ref a :: st) h := jq_nx (jv_insR jm_227 dX5_gathers_36) rfl
theorem e227_36n : jv_ev d 227 36 [some .null, x1, x2] st h = jv_ev d 227 37 [some .null, x1, x2] (.null :: st) h := jq_nx (jv_insR jm_227 dX5_gathers_36) rfl
theorem e227_37 : jv_ev d 227 37 lc (.ref a :: st) h = (jv_gf h a [(6, 13, .object "RainLoom$Asked")]).bind fun r => jv_ev d 227 40 lc (r :: st) h := jq_get (jv_insR jm_227 dX5_gathers_37) jo_227 jF_7_45
theorem e227_40 : jv_ev d 227 40 lc [z0, .ref b, y0] h = (jv_rc h b [(12, 240)]).bind fun y => (jv_cd d y [.ref b, z0] h).bind fun r => jv_on r (fun v h => jv_ev d 227 43 lc (v.toList ++ [y0]) h) (fun q h => some (.inr q, h)) := jq_V (as := [z0]) (rest := [y0]) (jv_insR jm_227 dX5_gathers_40) jo_227 jV_7_108 rfl rfl rfl rfl
theorem e227_43 : jv_ev d 227 43 lc [z1, z0] h = (jv_cd d 309 [z0, z1] h).bind fun r => jv_on r (fun v h => jv_ev d 227 46 lc (v.toList ++ []) h) (fun q h => some (.inr q, h)) := jq_S (as := [z0, z1]) (rest := []) (jv_insR jm_227 dX5_gathers_43) jo_227 jT_7_114 rfl rfl rfl rfl
theorem e227_46 : jv_ev d 227 46 lc [.int v] h = some (.inl (some (.int v)), h) := jq_reti (jv_insR jm_227 dX5_gathers_46) jr_227
/-! 228: RainLoom$Land.sum([I)I -/
theorem n228 : jv_cd (d + 1) 228 [.ref a0] h = jv_ev d 228 0 [some (.ref a0), none, none] [] h := rfl
theorem e228_0 : jv_ev d 228 0 lc st h = jv_ev d 228 1 lc (.int 0 :: st) h := jq_iconst (jv_insR jm_228 dX5_sum_0) (by decide)
theorem e228_1 : jv_ev d 228 1 [x0, x1, x2] (.int v :: st) h = jv_ev d 228 2 [x0, some (.int v), x2] st h := jq_nx (jv_insR jm_228 dX5_sum_1) rfl
theorem e228_2 : jv_ev d 228 2 lc st h = jv_ev d 228 3 lc (.int 0 :: st) h := jq_iconst (jv_insR jm_228 dX5_sum_2) (by decide)
theorem e228_3 : jv_ev d 228 3 [x0, x1, x2] (.int v :: st) h = jv_ev d 228 4 [x0, x1, some (.int v)] st h := jq_nx (jv_insR jm_228 dX5_sum_3) rfl
theorem e228_4 : jv_ev d 228 4 [x0, x1, some (.int v)] st h = jv_ev d 228 5 [x0, x1, some (.int v)] (.int v :: st) h := jq_nx (jv_insR jm_228 dX5_sum_4) rfl
theorem e228_5 : jv_ev d 228 5 [some (.ref a), x1, x2] st h = jv_ev d 228 6 [some (.ref a), x1, x2] (.ref a :: st) h := jq_nx (jv_insR jm_228 dX5_sum_5) rfl
theorem e228_6 : jv_ev d 228 6 lc (.ref a :: st) h = (jv_al h a).bind fun v => jv_ev d 228 7 lc (.int v :: st) h := jq_alen (jv_insR jm_228 dX5_sum_6)
theorem e228_7 : jv_ev d 228 7 lc (.int w :: .int v :: st) h = if w ≤ v then jv_ev d 228 22 lc st h else jv_ev d 228 10 lc st h := jq_if (jv_insR jm_228 dX5_sum_7) rfl (by decide)
theorem e228_10 : jv_ev d 228 10 [x0, some (.int v), x2] st h = jv_ev d 228 11 [x0, some (.int v), x2] (.int v :: st) h := jq_nx (jv_insR jm_228 dX5_sum_10) rfl
theorem e228_11 : jv_ev d 228 11 [some (.ref a), x1, x2] st h = jv_ev d 228 12 [some (.ref a), x1, x2] (.ref a :: st) h := jq_nx (jv_insR jm_228 dX5_sum_11) rfl
theorem e228_12 : jv_ev d 228 12 [x0, x1, some (.int v)] st h = jv_ev d 228 13 [x0, x1, some (.int v)] (.int v :: st) h := jq_nx (jv_insR jm_228 dX5_sum_12) rfl
theorem e228_13 : jv_ev d 228 13 lc (.int v :: .ref a :: st) h = (jv_ig h a 0 0 v).bind fun w => jv_ev d 228 14 lc (.int w :: st) h := jq_iald (jv_insR jm_228 dX5_sum_13)
theorem e228_14 : jv_ev d 228 14 lc (.int w :: .int v :: st) h = jv_ev d 228 15 lc (.int (v + w) :: st) h := jq_nx (jv_insR jm_228 dX5_sum_14) rfl
theorem e228_15 : jv_ev d 228 15 [x0, x1, x2] (.int v :: st) h = jv_ev d 228 16 [x0, some (.int v), x2] st h := jq_nx (jv_insR jm_228 dX5_sum_15) rfl
theorem e228_16 : jv_ev d 228 16 [x0, x1, some (.int v)] st h = jv_ev d 228 19 [x0, x1, some (.int (v + 1))] st h := jq_nx (jv_insR jm_228 dX5_sum_16) rfl
theorem e228_19 : jv_ev d 228 19 lc st h = jv_ev d 228 4 lc st h := jq_go (jv_insR jm_228 dX5_sum_19) (by decide)
theorem e228_22 : jv_ev d 228 22 [x0, some (.int v), x2] st h = jv_ev d 228 23 [x0, some (.int v), x2] (.int v :: st) h := jq_nx (jv_insR jm_228 dX5_sum_22) rfl
theorem e228_23 : jv_ev d 228 23 lc [.int v] h = some (.inl (some (.int v)), h) := jq_reti (jv_insR jm_228 dX5_sum_23) jr_228
/-! 229: RainLoom$Asked.<init>()V -/
theorem n229 : jv_cd (d + 1) 229 [.ref a0] h = jv_ev d 229 0 [some (.ref a0)] [] h := rfl
theorem e229_0 : jv_ev d 229 0 [some (.ref a)] st h = jv_ev d 229 1 [some (.ref a)] (.ref a :: st) h := jq_nx (jv_insR jm_229 dX6_init_0) rfl
theorem e229_1 : jv_ev d 229 1 lc [.ref b] h = if jt_off ≤ b then jv_ev d 229 4 lc [] h else none := jq_O (jv_insR jm_229 dX6_init_1) jo_229 jP_8_1 (Nat.le_of_ble_eq_true rfl)
theorem e229_4 : jv_ev d 229 4 [some (.ref a)] st h = jv_ev d 229 5 [some (.ref a)] (.ref a :: st) h := jq_nx (jv_insR jm_229 dX6_init_4) rfl
theorem e229_5 : jv_ev d 229 5 lc st h = jv_ev d 229 7 lc (.int 9 :: st) h := jq_bipush (jv_insR jm_229 dX6_init_5) (by decide)
theorem e229_7 : jv_ev d 229 7 lc (.int v :: st) h = if v < 0 ∨ 100000 < v.toNatClampNeg then none else jv_ev d 229 9 lc (.ref h.length :: st) (h ++ [.inl (0, v.toNatClampNeg, .inl (fun _ => 0))]) := jq_newa (jv_insR jm_229 dX6_init_7)
theorem e229_9 : jv_ev d 229 9 lc (r :: .ref a :: st) h = (jv_pf h a [(7, 0, .array .int)] r).bind fun h => jv_ev d 229 12 lc st h := jq_put (jv_insR jm_229 dX6_init_9) jo_229 ji_229 jG_8_7i
theorem e229_12 : jv_ev d 229 12 lc [] h = some (.inl none, h) := jq_retv (jv_insR jm_229 dX6_init_12) jr_229
/-! 230: RainLoom$Part.<init>()V -/
theorem n230 : jv_cd (d + 1) 230 [.ref a0] h = jv_ev d 230 0 [some (.ref a0)] [] h := rfl
theorem e230_0 : jv_ev d 230 0 [some (.ref a)] st h = jv_ev d 230 1 [some (.ref a)] (.ref a :: st) h := jq_nx (jv_insR jm_230 dX7_init_0) rfl
theorem e230_1 : jv_ev d 230 1 lc [.ref b] h = if jt_off ≤ b then jv_ev d 230 4 lc [] h else none := jq_O (jv_insR jm_230 dX7_init_1) jo_230 jP_9_1 (Nat.le_of_ble_eq_true rfl)
theorem e230_4 : jv_ev d 230 4 lc [] h = some (.inl none, h) := jq_retv (jv_insR jm_230 dX7_init_4) jr_230
/-! 231: RainLoom$Falling.<init>()V -/
theorem n231 : jv_cd (d + 1) 231 [.ref a0] h = jv_ev d 231 0 [some (.ref a0)] [] h := rfl
theorem e231_0 : jv_ev d 231 0 [some (.ref a)] st h = jv_ev d 231 1 [some (.ref a)] (.ref a :: st) h := jq_nx (jv_insR jm_231 dX8_init_0) rfl
theorem e231_1 : jv_ev d 231 1 lc [.ref b] h = if jt_off ≤ b ∧ (jt_SU.contains 230 = false ∨ jv_cls h b = some 20) then ((jv_cd d 230 [.ref b] h).bind fun r => jv_on r (fun v h => jv_ev d 231 4 lc (v.toList ++ []) h) (fun q h => some (.inr q, h))) else none := jq_P (as := []) (rest := []) (jv_insR jm_231 dX8_init_1) jo_231 jP_10_1 rfl rfl rfl rfl
theorem e231_4 : jv_ev d 231 4 lc [] h = some (.inl none, h) := jq_retv (jv_insR jm_231 dX8_init_4) jr_231
/-! 232: RainLoom$Falling.goes(LRainLoom$Land;LRainLoom$Text;)V -/
theorem n232 : jv_cd (d + 1) 232 [.ref a0, .ref a1, .ref a2] h = jv_ev d 232 0 [some (.ref a0), some (.ref a1), some (.ref a2), none, none, none] [] h := rfl
theorem e232_0 : jv_ev d 232 0 lc st h = jv_ev d 232 1 lc (.int 0 :: st) h := jq_iconst (jv_insR jm_232 dX8_goes_0) (by decide)
theorem e232_1 : jv_ev d 232 1 [x0, x1, x2, x3, x4, x5] (.int v :: st) h = jv_ev d 232 2 [x0, x1, x2, some (.int v), x4, x5] st h := jq_nx (jv_insR jm_232 dX8_goes_1) rfl
theorem e232_2 : jv_ev d 232 2 [x0, x1, x2, some (.int v), x4, x5] st h = jv_ev d 232 3 [x0, x1, x2, some (.int v), x4, x5] (.int v :: st) h := jq_nx (jv_insR jm_232 dX8_goes_2) rfl
theorem e232_3 : jv_ev d 232 3 [x0, x1, some (.ref a), x3, x4, x5] st h = jv_ev d 232 4 [x0, x1, some (.ref a), x3, x4, x5] (.ref a :: st) h := jq_nx (jv_insR jm_232 dX8_goes_3) rfl
theorem e232_4 : jv_ev d 232 4 lc (.ref a :: st) h = (jv_gf h a [(5, 2, .object "java/util/ArrayList")]).bind fun r => jv_ev d 232 7 lc (r :: st) h := jq_get (jv_insR jm_232 dX8_goes_4) jo_232 jF_10_7
theorem e232_7 : jv_ev d 232 7 lc [.ref b, y0] h = (jv_rc h b [(18, 258)]).bind fun y => (jv_cd d y [.ref b] h).bind fun r => jv_on r (fun v h => jv_ev d 232 10 lc (v.toList ++ [y0]) h) (fun q h => some (.inr q, h)) := jq_V (as := []) (rest := [y0]) (jv_insR jm_232 dX8_goes_7) jo_232 jV_10_13 rfl rfl rfl rfl
theorem e232_10 : jv_ev d 232 10 lc (.int w :: .int v :: st) h = if w ≤ v then jv_ev d 232 98 lc st h else jv_ev d 232 13 lc st h := jq_if (jv_insR jm_232 dX8_goes_10) rfl (by decide)
theorem e232_13 : jv_ev d 232 13 [x0, some (.ref a), x2, x3, x4, x5] st h = jv_ev d 232 14 [x0, some (.ref a), x2, x3, x4, x5] (.ref a :: st) h := jq_nx (jv_insR jm_232 dX8_goes_13) rfl
theorem e232_14 : jv_ev d 232 14 lc (.ref a :: st) h = (jv_gf h a [(6, 6, .array .int)]).bind fun r => jv_ev d 232 17 lc (r :: st) h := jq_get (jv_insR jm_232 dX8_goes_14) jo_232 jF_10_19
theorem e232_17 : jv_ev d 232 17 [x0, x1, x2, some (.int v), x4, x5] st h = jv_ev d 232 18 [x0, x1, x2, some (.int v), x4, x5] (.int v :: st) h := jq_nx (jv_insR jm_232 dX8_goes_17) rfl
theorem e232_18 : jv_ev d 232 18 lc (.int v :: .ref a :: st) h = (jv_ig h a 0 0 v).bind fun w => jv_ev d 232 19 lc (.int w :: st) h := jq_iald (jv_insR jm_232 dX8_goes_18)
theorem e232_19 : jv_ev d 232 19 lc (.int v :: st) h = if 0 ≤ v then jv_ev d 232 25 lc st h else jv_ev d 232 22 lc st h := jq_if (jv_insR jm_232 dX8_goes_19) rfl (by decide)
theorem e232_22 : jv_ev d 232 22 lc st h = jv_ev d 232 92 lc st h := jq_go (jv_insR jm_232 dX8_goes_22) (by decide)
theorem e232_25 : jv_ev d 232 25 [x0, some (.ref a), x2, x3, x4, x5] st h = jv_ev d 232 26 [x0, some (.ref a), x2, x3, x4, x5] (.ref a :: st) h := jq_nx (jv_insR jm_232 dX8_goes_25) rfl
theorem e232_26 : jv_ev d 232 26 lc (.ref a :: st) h = (jv_gf h a [(6, 12, .int)]).bind fun r => jv_ev d 232 29 lc (r :: st) h := jq_get (jv_insR jm_232 dX8_goes_26) jo_232 jF_10_25
theorem e232_29 : jv_ev d 232 29 lc st h = jv_ev d 232 31 lc (.int 8 :: st) h := jq_bipush (jv_insR jm_232 dX8_goes_29) (by decide)
theorem e232_31 : jv_ev d 232 31 [x0, some (.ref a), x2, x3, x4, x5] st h = jv_ev d 232 32 [x0, some (.ref a), x2, x3, x4, x5] (.ref a :: st) h := jq_nx (jv_insR jm_232 dX8_goes_31) rfl
theorem e232_32 : jv_ev d 232 32 lc (.ref a :: st) h = (jv_gf h a [(6, 11, .int)]).bind fun r => jv_ev d 232 35 lc (r :: st) h := jq_get (jv_insR jm_232 dX8_goes_32) jo_232 jF_10_29
theorem e232_35 : jv_ev d 232 35 lc (.int w :: .int v :: st) h = jv_ev d 232 36 lc (.int (v * w) :: st) h := jq_nx (jv_insR jm_232 dX8_goes_35) rfl
theorem e232_36 : jv_ev d 232 36 [x0, x1, x2, some (.int v), x4, x5] st h = jv_ev d 232 37 [x0, x1, x2, some (.int v), x4, x5] (.int v :: st) h := jq_nx (jv_insR jm_232 dX8_goes_36) rfl
theorem e232_37 : jv_ev d 232 37 lc (.int w :: .int v :: st) h = jv_ev d 232 38 lc (.int (v + w) :: st) h := jq_nx (jv_insR jm_232 dX8_goes_37) rfl
theorem e232_38 : jv_ev d 232 38 lc st h = jv_ev d 232 40 lc (.int 100 :: st) h := jq_bipush (jv_insR jm_232 dX8_goes_38) (by decide)
theorem e232_40 : jv_ev d 232 40 lc [z2, z1, z0] h = (jv_cd d 139 [z0, z1, z2] h).bind fun r => jv_on r (fun v h => jv_ev d 232 43 lc (v.toList ++ []) h) (fun q h => some (.inr q, h)) := jq_S (as := [z0, z1, z2]) (rest := []) (jv_insR jm_232 dX8_goes_40) jo_232 jT_10_32 rfl rfl rfl rfl
theorem e232_43 : jv_ev d 232 43 [x0, x1, some (.ref a), x3, x4, x5] st h = jv_ev d 232 44 [x0, x1, some (.ref a), x3, x4, x5] (.ref a :: st) h := jq_nx (jv_insR jm_232 dX8_goes_43) rfl
theorem e232_44 : jv_ev d 232 44 lc (.ref a :: st) h = (jv_gf h a [(5, 7, .int)]).bind fun r => jv_ev d 232 47 lc (r :: st) h := jq_get (jv_insR jm_232 dX8_goes_44) jo_232 jF_10_38
theorem e232_47 : jv_ev d 232 47 lc (.int w :: .int v :: st) h = if w ≤ v then jv_ev d 232 54 lc st h else jv_ev d 232 50 lc st h := jq_if (jv_insR jm_232 dX8_goes_47) rfl (by decide)
theorem e232_50 : jv_ev d 232 50 lc st h = jv_ev d 232 51 lc (.int 1 :: st) h := jq_iconst (jv_insR jm_232 dX8_goes_50) (by decide)
theorem e232_51 : jv_ev d 232 51 lc st h = jv_ev d 232 55 lc st h := jq_go (jv_insR jm_232 dX8_goes_51) (by decide)
theorem e232_54 : jv_ev d 232 54 lc st h = jv_ev d 232 55 lc (.int 0 :: st) h := jq_iconst (jv_insR jm_232 dX8_goes_54) (by decide)
theorem e232_55 : jv_ev d 232 55 [x0, x1, x2, x3, x4, x5] (.int v :: st) h = jv_ev d 232 57 [x0, x1, x2, x3, some (.int v), x5] st h := jq_nx (jv_insR jm_232 dX8_goes_55) rfl
theorem e232_57 : jv_ev d 232 57 [x0, some (.ref a), x2, x3, x4, x5] st h = jv_ev d 232 58 [x0, some (.ref a), x2, x3, x4, x5] (.ref a :: st) h := jq_nx (jv_insR jm_232 dX8_goes_57) rfl
theorem e232_58 : jv_ev d 232 58 [x0, x1, some (.ref a), x3, x4, x5] st h = jv_ev d 232 59 [x0, x1, some (.ref a), x3, x4, x5] (.ref a :: st) h := jq_nx (jv_insR jm_232 dX8_goes_58) rfl
theorem e232_59 : jv_ev d 232 59 [x0, x1, x2, some (.int v), x4, x5] st h = jv_ev d 232 60 [x0, x1, x2, some (.int v), x4, x5] (.int v :: st) h := jq_nx (jv_insR jm_232 dX8_goes_59) rfl
theorem e232_60 : jv_ev d 232 60 [x0, some (.ref a), x2, x3, x4, x5] st h = jv_ev d 232 61 [x0, some (.ref a), x2, x3, x4, x5] (.ref a :: st) h := jq_nx (jv_insR jm_232 dX8_goes_60) rfl
theorem e232_61 : jv_ev d 232 61 lc (.ref a :: st) h = (jv_gf h a [(6, 6, .array .int)]).bind fun r => jv_ev d 232 64 lc (r :: st) h := jq_get (jv_insR jm_232 dX8_goes_61) jo_232 jF_10_19
theorem e232_64 : jv_ev d 232 64 [x0, x1, x2, some (.int v), x4, x5] st h = jv_ev d 232 65 [x0, x1, x2, some (.int v), x4, x5] (.int v :: st) h := jq_nx (jv_insR jm_232 dX8_goes_64) rfl
theorem e232_65 : jv_ev d 232 65 lc (.int v :: .ref a :: st) h = (jv_ig h a 0 0 v).bind fun w => jv_ev d 232 66 lc (.int w :: st) h := jq_iald (jv_insR jm_232 dX8_goes_65)
theorem e232_66 : jv_ev d 232 66 [x0, some (.ref a), x2, x3, x4, x5] st h = jv_ev d 232 67 [x0, some (.ref a), x2, x3, x4, x5] (.ref a :: st) h := jq_nx (jv_insR jm_232 dX8_goes_66) rfl
theorem e232_67 : jv_ev d 232 67 lc (.ref a :: st) h = (jv_gf h a [(6, 7, .array .int)]).bind fun r => jv_ev d 232 70 lc (r :: st) h := jq_get (jv_insR jm_232 dX8_goes_67) jo_232 jF_10_41
theorem e232_70 : jv_ev d 232 70 [x0, x1, x2, some (.int v), x4, x5] st h = jv_ev d 232 71 [x0, x1, x2, some (.int v), x4, x5] (.int v :: st) h := jq_nx (jv_insR jm_232 dX8_goes_70) rfl
theorem e232_71 : jv_ev d 232 71 lc (.int v :: .ref a :: st) h = (jv_ig h a 0 0 v).bind fun w => jv_ev d 232 72 lc (.int w :: st) h := jq_iald (jv_insR jm_232 dX8_goes_71)
theorem e232_72 : jv_ev d 232 72 [x0, some (.ref a), x2, x3, x4, x5] st h = jv_ev d 232 73 [x0, some (.ref a), x2, x3, x4, x5] (.ref a :: st) h := jq_nx (jv_insR jm_232 dX8_goes_72) rfl
theorem e232_73 : jv_ev d 232 73 lc (.ref a :: st) h = (jv_gf h a [(6, 8, .array .int)]).bind fun r => jv_ev d 232 76 lc (r :: st) h := jq_get (jv_insR jm_232 dX8_goes_73) jo_232 jF_10_44
theorem e232_76 : jv_ev d 232 76 [x0, x1, x2, some (.int v), x4, x5] st h = jv_ev d 232 77 [x0, x1, x2, some (.int v), x4, x5] (.int v :: st) h := jq_nx (jv_insR jm_232 dX8_goes_76) rfl
theorem e232_77 : jv_ev d 232 77 lc (.int v :: .ref a :: st) h = (jv_ig h a 0 0 v).bind fun w => jv_ev d 232 78 lc (.int w :: st) h := jq_iald (jv_insR jm_232 dX8_goes_77)
theorem e232_78 : jv_ev d 232 78 [x0, x1, x2, x3, some (.int v), x5] st h = jv_ev d 232 80 [x0, x1, x2, x3, some (.int v), x5] (.int v :: st) h := jq_nx (jv_insR jm_232 dX8_goes_78) rfl
theorem e232_80 : jv_ev d 232 80 lc (.int w :: .int v :: st) h = jv_ev d 232 81 lc (.int (v + w) :: st) h := jq_nx (jv_insR jm_232 dX8_goes_80) rfl
theorem e232_81 : jv_ev d 232 81 [x0, some (.ref a), x2, x3, x4, x5] st h = jv_ev d 232 82 [x0, some (.ref a), x2, x3, x4, x5] (.ref a :: st) h := jq_nx (jv_insR jm_232 dX8_goes_81) rfl
theorem e232_82 : jv_ev d 232 82 lc (.ref a :: st) h = (jv_gf h a [(6, 9, .array .int)]).bind fun r => jv_ev d 232 85 lc (r :: st) h := jq_get (jv_insR jm_232 dX8_goes_82) jo_232 jF_10_47
theorem e232_85 : jv_ev d 232 85 [x0, x1, x2, some (.int v), x4, x5] st h = jv_ev d 232 86 [x0, x1, x2, some (.int v), x4, x5] (.int v :: st) h := jq_nx (jv_insR jm_232 dX8_goes_85) rfl
theorem e232_86 : jv_ev d 232 86 lc (.int v :: .ref a :: st) h = (jv_ig h a 0 0 v).bind fun w => jv_ev d 232 87 lc (.int w :: st) h := jq_iald (jv_insR jm_232 dX8_goes_86)
theorem e232_87 : jv_ev d 232 87 lc [z5, z4, z3, z2, z1, z0, .ref b] h = (jv_rc h b [(6, 225)]).bind fun y => (jv_cd d y [.ref b, z0, z1, z2, z3, z4, z5] h).bind fun r => jv_on r (fun v h => jv_ev d 232 90 lc (v.toList ++ []) h) (fun q h => some (.inr q, h)) := jq_V (as := [z0, z1, z2, z3, z4, z5]) (rest := []) (jv_insR jm_232 dX8_goes_87) jo_232 jV_10_50 rfl rfl rfl rfl
theorem e232_90 : jv_ev d 232 90 [x0, x1, x2, x3, x4, x5] (.int v :: st) h = jv_ev d 232 92 [x0, x1, x2, x3, x4, some (.int v)] st h := jq_nx (jv_insR jm_232 dX8_goes_90) rfl
theorem e232_92 : jv_ev d 232 92 [x0, x1, x2, some (.int v), x4, x5] st h = jv_ev d 232 95 [x0, x1, x2, some (.int (v + 1)), x4, x5] st h := jq_nx (jv_insR jm_232 dX8_goes_92) rfl
theorem e232_95 : jv_ev d 232 95 lc st h = jv_ev d 232 2 lc st h := jq_go (jv_insR jm_232 dX8_goes_95) (by decide)
theorem e232_98 : jv_ev d 232 98 lc [] h = some (.inl none, h) := jq_retv (jv_insR jm_232 dX8_goes_98) jr_232
/-! 233: RainLoom$Counting.<init>()V -/
theorem n233 : jv_cd (d + 1) 233 [.ref a0] h = jv_ev d 233 0 [some (.ref a0)] [] h := rfl
theorem e233_0 : jv_ev d 233 0 [some (.ref a)] st h = jv_ev d 233 1 [some (.ref a)] (.ref a :: st) h := jq_nx (jv_insR jm_233 dX9_init_0) rfl
theorem e233_1 : jv_ev d 233 1 lc [.ref b] h = if jt_off ≤ b ∧ (jt_SU.contains 230 = false ∨ jv_cls h b = some 20) then ((jv_cd d 230 [.ref b] h).bind fun r => jv_on r (fun v h => jv_ev d 233 4 lc (v.toList ++ []) h) (fun q h => some (.inr q, h))) else none := jq_P (as := []) (rest := []) (jv_insR jm_233 dX9_init_1) jo_233 jP_11_3 rfl rfl rfl rfl
theorem e233_4 : jv_ev d 233 4 lc [] h = some (.inl none, h) := jq_retv (jv_insR jm_233 dX9_init_4) jr_233
/-! 234: RainLoom$Counting.goes(LRainLoom$Land;LRainLoom$Text;)V -/
theorem n234 : jv_cd (d + 1) 234 [.ref a0, .ref a1, .ref a2] h = jv_ev d 234 0 [some (.ref a0), some (.ref a1), some (.ref a2), none] [] h := rfl
theorem e234_0 : jv_ev d 234 0 lc st h = jv_ev d 234 1 lc (.int 0 :: st) h := jq_iconst (jv_insR jm_234 dX9_goes_0) (by decide)
theorem e234_1 : jv_ev d 234 1 [x0, x1, x2, x3] (.int v :: st) h = jv_ev d 234 2 [x0, x1, x2, some (.int v)] st h := jq_nx (jv_insR jm_234 dX9_goes_1) rfl
theorem e234_2 : jv_ev d 234 2 [x0, x1, x2, some (.int v)] st h = jv_ev d 234 3 [x0, x1, x2, some (.int v)] (.int v :: st) h := jq_nx (jv_insR jm_234 dX9_goes_2) rfl
theorem e234_3 : jv_ev d 234 3 lc st h = jv_ev d 234 5 lc (.int 48 :: st) h := jq_bipush (jv_insR jm_234 dX9_goes_3) (by decide)
theorem e234_5 : jv_ev d 234 5 lc (.int w :: .int v :: st) h = if w ≤ v then jv_ev d 234 73 lc st h else jv_ev d 234 8 lc st h := jq_if (jv_insR jm_234 dX9_goes_5) rfl (by decide)
theorem e234_8 : jv_ev d 234 8 [x0, x1, some (.ref a), x3] st h = jv_ev d 234 9 [x0, x1, some (.ref a), x3] (.ref a :: st) h := jq_nx (jv_insR jm_234 dX9_goes_8) rfl
theorem e234_9 : jv_ev d 234 9 [x0, x1, x2, some (.int v)] st h = jv_ev d 234 10 [x0, x1, x2, some (.int v)] (.int v :: st) h := jq_nx (jv_insR jm_234 dX9_goes_9) rfl
theorem e234_10 : jv_ev d 234 10 lc [z0, .ref b] h = (jv_rc h b [(5, 211)]).bind fun y => (jv_cd d y [.ref b, z0] h).bind fun r => jv_on r (fun v h => jv_ev d 234 13 lc (v.toList ++ []) h) (fun q h => some (.inr q, h)) := jq_V (as := [z0]) (rest := []) (jv_insR jm_234 dX9_goes_10) jo_234 jV_11_9 rfl rfl rfl rfl
theorem e234_13 : jv_ev d 234 13 lc (.int v :: st) h = if ¬ v = 0 then jv_ev d 234 19 lc st h else jv_ev d 234 16 lc st h := jq_if (jv_insR jm_234 dX9_goes_13) rfl (by decide)
theorem e234_16 : jv_ev d 234 16 lc st h = jv_ev d 234 67 lc st h := jq_go (jv_insR jm_234 dX9_goes_16) (by decide)
theorem e234_19 : jv_ev d 234 19 [x0, some (.ref a), x2, x3] st h = jv_ev d 234 20 [x0, some (.ref a), x2, x3] (.ref a :: st) h := jq_nx (jv_insR jm_234 dX9_goes_19) rfl
theorem e234_20 : jv_ev d 234 20 [x0, x1, some (.ref a), x3] st h = jv_ev d 234 21 [x0, x1, some (.ref a), x3] (.ref a :: st) h := jq_nx (jv_insR jm_234 dX9_goes_20) rfl
theorem e234_21 : jv_ev d 234 21 [x0, x1, x2, some (.int v)] st h = jv_ev d 234 22 [x0, x1, x2, some (.int v)] (.int v :: st) h := jq_nx (jv_insR jm_234 dX9_goes_21) rfl
theorem e234_22 : jv_ev d 234 22 lc [z1, z0, .ref b] h = (jv_rc h b [(6, 219)]).bind fun y => (jv_cd d y [.ref b, z0, z1] h).bind fun r => jv_on r (fun v h => jv_ev d 234 25 lc (v.toList ++ []) h) (fun q h => some (.inr q, h)) := jq_V (as := [z0, z1]) (rest := []) (jv_insR jm_234 dX9_goes_22) jo_234 jV_11_15 rfl rfl rfl rfl
theorem e234_25 : jv_ev d 234 25 lc (.int v :: st) h = if v = 0 then jv_ev d 234 43 lc st h else jv_ev d 234 28 lc st h := jq_if (jv_insR jm_234 dX9_goes_25) rfl (by decide)
theorem e234_28 : jv_ev d 234 28 [x0, some (.ref a), x2, x3] st h = jv_ev d 234 29 [x0, some (.ref a), x2, x3] (.ref a :: st) h := jq_nx (jv_insR jm_234 dX9_goes_28) rfl
theorem e234_29 : jv_ev d 234 29 lc (.ref a :: st) h = (jv_gf h a [(6, 1, .array .int)]).bind fun r => jv_ev d 234 32 lc (r :: st) h := jq_get (jv_insR jm_234 dX9_goes_29) jo_234 jF_11_21
theorem e234_32 : jv_ev d 234 32 [x0, x1, some (.ref a), x3] st h = jv_ev d 234 33 [x0, x1, some (.ref a), x3] (.ref a :: st) h := jq_nx (jv_insR jm_234 dX9_goes_32) rfl
theorem e234_33 : jv_ev d 234 33 lc (.ref a :: st) h = (jv_gf h a [(5, 0, .array .int)]).bind fun r => jv_ev d 234 36 lc (r :: st) h := jq_get (jv_insR jm_234 dX9_goes_33) jo_234 jF_11_25
theorem e234_36 : jv_ev d 234 36 [x0, x1, x2, some (.int v)] st h = jv_ev d 234 37 [x0, x1, x2, some (.int v)] (.int v :: st) h := jq_nx (jv_insR jm_234 dX9_goes_36) rfl
theorem e234_37 : jv_ev d 234 37 lc (.int v :: .ref a :: st) h = (jv_ig h a 0 0 v).bind fun w => jv_ev d 234 38 lc (.int w :: st) h := jq_iald (jv_insR jm_234 dX9_goes_37)
theorem e234_38 : jv_ev d 234 38 lc (.int v :: .ref b :: st) h = jv_ev d 234 39 lc (.int v :: .ref b :: .int v :: .ref b :: st) h := jq_nx (jv_insR jm_234 dX9_goes_38) rfl
theorem e234_39 : jv_ev d 234 39 lc (.int v :: .ref a :: st) h = (jv_ig h a 0 0 v).bind fun w => jv_ev d 234 40 lc (.int w :: st) h := jq_iald (jv_insR jm_234 dX9_goes_39)
theorem e234_40 : jv_ev d 234 40 lc st h = jv_ev d 234 41 lc (.int 1 :: st) h := jq_iconst (jv_insR jm_234 dX9_goes_40) (by decide)
theorem e234_41 : jv_ev d 234 41 lc (.int w :: .int v :: st) h = jv_ev d 234 42 lc (.int (v + w) :: st) h := jq_nx (jv_insR jm_234 dX9_goes_41) rfl
theorem e234_42 : jv_ev d 234 42 lc (.int w :: .int v :: .ref a :: st) h = (jv_ip h a 0 0 v w).bind fun h => jv_ev d 234 43 lc st h := jq_iast (jv_insR jm_234 dX9_goes_42)
theorem e234_43 : jv_ev d 234 43 [x0, some (.ref a), x2, x3] st h = jv_ev d 234 44 [x0, some (.ref a), x2, x3] (.ref a :: st) h := jq_nx (jv_insR jm_234 dX9_goes_43) rfl
theorem e234_44 : jv_ev d 234 44 [x0, x1, some (.ref a), x3] st h = jv_ev d 234 45 [x0, x1, some (.ref a), x3] (.ref a :: st) h := jq_nx (jv_insR jm_234 dX9_goes_44) rfl
theorem e234_45 : jv_ev d 234 45 [x0, x1, x2, some (.int v)] st h = jv_ev d 234 46 [x0, x1, x2, some (.int v)] (.int v :: st) h := jq_nx (jv_insR jm_234 dX9_goes_45) rfl
theorem e234_46 : jv_ev d 234 46 lc [z1, z0, .ref b] h = (jv_rc h b [(6, 220)]).bind fun y => (jv_cd d y [.ref b, z0, z1] h).bind fun r => jv_on r (fun v h => jv_ev d 234 49 lc (v.toList ++ []) h) (fun q h => some (.inr q, h)) := jq_V (as := [z0, z1]) (rest := []) (jv_insR jm_234 dX9_goes_46) jo_234 jV_11_28 rfl rfl rfl rfl
theorem e234_49 : jv_ev d 234 49 lc (.int v :: st) h = if v = 0 then jv_ev d 234 67 lc st h else jv_ev d 234 52 lc st h := jq_if (jv_insR jm_234 dX9_goes_49) rfl (by decide)
theorem e234_52 : jv_ev d 234 52 [x0, some (.ref a), x2, x3] st h = jv_ev d 234 53 [x0, some (.ref a), x2, x3] (.ref a :: st) h := jq_nx (jv_insR jm_234 dX9_goes_52) rfl
theorem e234_53 : jv_ev d 234 53 lc (.ref a :: st) h = (jv_gf h a [(6, 2, .array .int)]).bind fun r => jv_ev d 234 56 lc (r :: st) h := jq_get (jv_insR jm_234 dX9_goes_53) jo_234 jF_11_31
theorem e234_56 : jv_ev d 234 56 [x0, x1, some (.ref a), x3] st h = jv_ev d 234 57 [x0, x1, some (.ref a), x3] (.ref a :: st) h := jq_nx (jv_insR jm_234 dX9_goes_56) rfl
theorem e234_57 : jv_ev d 234 57 lc (.ref a :: st) h = (jv_gf h a [(5, 0, .array .int)]).bind fun r => jv_ev d 234 60 lc (r :: st) h := jq_get (jv_insR jm_234 dX9_goes_57) jo_234 jF_11_25
theorem e234_60 : jv_ev d 234 60 [x0, x1, x2, some (.int v)] st h = jv_ev d 234 61 [x0, x1, x2, some (.int v)] (.int v :: st) h := jq_nx (jv_insR jm_234 dX9_goes_60) rfl
theorem e234_61 : jv_ev d 234 61 lc (.int v :: .ref a :: st) h = (jv_ig h a 0 0 v).bind fun w => jv_ev d 234 62 lc (.int w :: st) h := jq_iald (jv_insR jm_234 dX9_goes_61)
theorem e234_62 : jv_ev d 234 62 lc (.int v :: .ref b :: st) h = jv_ev d 234 63 lc (.int v :: .ref b :: .int v :: .ref b :: st) h := jq_nx (jv_insR jm_234 dX9_goes_62) rfl
theorem e234_63 : jv_ev d 234 63 lc (.int v :: .ref a :: st) h = (jv_ig h a 0 0 v).bind fun w => jv_ev d 234 64 lc (.int w :: st) h := jq_iald (jv_insR jm_234 dX9_goes_63)
theorem e234_64 : jv_ev d 234 64 lc st h = jv_ev d 234 65 lc (.int 1 :: st) h := jq_iconst (jv_insR jm_234 dX9_goes_64) (by decide)
theorem e234_65 : jv_ev d 234 65 lc (.int w :: .int v :: st) h = jv_ev d 234 66 lc (.int (v + w) :: st) h := jq_nx (jv_insR jm_234 dX9_goes_65) rfl
theorem e234_66 : jv_ev d 234 66 lc (.int w :: .int v :: .ref a :: st) h = (jv_ip h a 0 0 v w).bind fun h => jv_ev d 234 67 lc st h := jq_iast (jv_insR jm_234 dX9_goes_66)
theorem e234_67 : jv_ev d 234 67 [x0, x1, x2, some (.int v)] st h = jv_ev d 234 70 [x0, x1, x2, some (.int (v + 1))] st h := jq_nx (jv_insR jm_234 dX9_goes_67) rfl
theorem e234_70 : jv_ev d 234 70 lc st h = jv_ev d 234 2 lc st h := jq_go (jv_insR jm_234 dX9_goes_70) (by decide)
theorem e234_73 : jv_ev d 234 73 lc [] h = some (.inl none, h) := jq_retv (jv_insR jm_234 dX9_goes_73) jr_234
/-! 235: RainLoom$Drying.<init>()V -/
theorem n235 : jv_cd (d + 1) 235 [.ref a0] h = jv_ev d 235 0 [some (.ref a0)] [] h := rfl
theorem e235_0 : jv_ev d 235 0 [some (.ref a)] st h = jv_ev d 235 1 [some (.ref a)] (.ref a :: st) h := jq_nx (jv_insR jm_235 dX10_init_0) rfl
theorem e235_1 : jv_ev d 235 1 lc [.ref b] h = if jt_off ≤ b ∧ (jt_SU.contains 230 = false ∨ jv_cls h b = some 20) then ((jv_cd d 230 [.ref b] h).bind fun r => jv_on r (fun v h => jv_ev d 235 4 lc (v.toList ++ []) h) (fun q h => some (.inr q, h))) else none := jq_P (as := []) (rest := []) (jv_insR jm_235 dX10_init_1) jo_235 jP_12_3 rfl rfl rfl rfl
theorem e235_4 : jv_ev d 235 4 lc [] h = some (.inl none, h) := jq_retv (jv_insR jm_235 dX10_init_4) jr_235
/-! 236: RainLoom$Drying.goes(LRainLoom$Land;LRainLoom$Text;)V -/
theorem n236 : jv_cd (d + 1) 236 [.ref a0, .ref a1, .ref a2] h = jv_ev d 236 0 [some (.ref a0), some (.ref a1), some (.ref a2), none] [] h := rfl
theorem e236_0 : jv_ev d 236 0 lc st h = jv_ev d 236 1 lc (.int 0 :: st) h := jq_iconst (jv_insR jm_236 dX10_goes_0) (by decide)
theorem e236_1 : jv_ev d 236 1 [x0, x1, x2, x3] (.int v :: st) h = jv_ev d 236 2 [x0, x1, x2, some (.int v)] st h := jq_nx (jv_insR jm_236 dX10_goes_1) rfl
theorem e236_2 : jv_ev d 236 2 [x0, x1, x2, some (.int v)] st h = jv_ev d 236 3 [x0, x1, x2, some (.int v)] (.int v :: st) h := jq_nx (jv_insR jm_236 dX10_goes_2) rfl
theorem e236_3 : jv_ev d 236 3 lc st h = jv_ev d 236 5 lc (.int 48 :: st) h := jq_bipush (jv_insR jm_236 dX10_goes_3) (by decide)
theorem e236_5 : jv_ev d 236 5 lc (.int w :: .int v :: st) h = if w ≤ v then jv_ev d 236 45 lc st h else jv_ev d 236 8 lc st h := jq_if (jv_insR jm_236 dX10_goes_5) rfl (by decide)
theorem e236_8 : jv_ev d 236 8 [x0, x1, some (.ref a), x3] st h = jv_ev d 236 9 [x0, x1, some (.ref a), x3] (.ref a :: st) h := jq_nx (jv_insR jm_236 dX10_goes_8) rfl
theorem e236_9 : jv_ev d 236 9 [x0, x1, x2, some (.int v)] st h = jv_ev d 236 10 [x0, x1, x2, some (.int v)] (.int v :: st) h := jq_nx (jv_insR jm_236 dX10_goes_9) rfl
theorem e236_10 : jv_ev d 236 10 lc [z0, .ref b] h = (jv_rc h b [(5, 211)]).bind fun y => (jv_cd d y [.ref b, z0] h).bind fun r => jv_on r (fun v h => jv_ev d 236 13 lc (v.toList ++ []) h) (fun q h => some (.inr q, h)) := jq_V (as := [z0]) (rest := []) (jv_insR jm_236 dX10_goes_10) jo_236 jV_12_9 rfl rfl rfl rfl
theorem e236_13 : jv_ev d 236 13 lc (.int v :: st) h = if v = 0 then jv_ev d 236 39 lc st h else jv_ev d 236 16 lc st h := jq_if (jv_insR jm_236 dX10_goes_13) rfl (by decide)
theorem e236_16 : jv_ev d 236 16 [x0, some (.ref a), x2, x3] st h = jv_ev d 236 17 [x0, some (.ref a), x2, x3] (.ref a :: st) h := jq_nx (jv_insR jm_236 dX10_goes_16) rfl
theorem e236_17 : jv_ev d 236 17 lc (.ref a :: st) h = (jv_gf h a [(6, 0, .array .int)]).bind fun r => jv_ev d 236 20 lc (r :: st) h := jq_get (jv_insR jm_236 dX10_goes_17) jo_236 jF_12_15
theorem e236_20 : jv_ev d 236 20 [x0, x1, x2, some (.int v)] st h = jv_ev d 236 21 [x0, x1, x2, some (.int v)] (.int v :: st) h := jq_nx (jv_insR jm_236 dX10_goes_20) rfl
theorem e236_21 : jv_ev d 236 21 lc st h = jv_ev d 236 22 lc (.int 0 :: st) h := jq_iconst (jv_insR jm_236 dX10_goes_21) (by decide)
theorem e236_22 : jv_ev d 236 22 [x0, some (.ref a), x2, x3] st h = jv_ev d 236 23 [x0, some (.ref a), x2, x3] (.ref a :: st) h := jq_nx (jv_insR jm_236 dX10_goes_22) rfl
theorem e236_23 : jv_ev d 236 23 lc (.ref a :: st) h = (jv_gf h a [(6, 0, .array .int)]).bind fun r => jv_ev d 236 26 lc (r :: st) h := jq_get (jv_insR jm_236 dX10_goes_23) jo_236 jF_12_15
theorem e236_26 : jv_ev d 236 26 [x0, x1, x2, some (.int v)] st h = jv_ev d 236 27 [x0, x1, x2, some (.int v)] (.int v :: st) h := jq_nx (jv_insR jm_236 dX10_goes_26) rfl
theorem e236_27 : jv_ev d 236 27 lc (.int v :: .ref a :: st) h = (jv_ig h a 0 0 v).bind fun w => jv_ev d 236 28 lc (.int w :: st) h := jq_iald (jv_insR jm_236 dX10_goes_27)
theorem e236_28 : jv_ev d 236 28 [x0, some (.ref a), x2, x3] st h = jv_ev d 236 29 [x0, some (.ref a), x2, x3] (.ref a :: st) h := jq_nx (jv_insR jm_236 dX10_goes_28) rfl
theorem e236_29 : jv_ev d 236 29 [x0, x1, some (.ref a), x3] st h = jv_ev d 236 30 [x0, x1, some (.ref a), x3] (.ref a :: st) h := jq_nx (jv_insR jm_236 dX10_goes_29) rfl
theorem e236_30 : jv_ev d 236 30 [x0, x1, x2, some (.int v)] st h = jv_ev d 236 31 [x0, x1, x2, some (.int v)] (.int v :: st) h := jq_nx (jv_insR jm_236 dX10_goes_30) rfl
theorem e236_31 : jv_ev d 236 31 lc [z1, z0, .ref b, y0, y1, y2, y3] h = (jv_rc h b [(6, 226)]).bind fun y => (jv_cd d y [.ref b, z0, z1] h).bind fun r => jv_on r (fun v h => jv_ev d 236 34 lc (v.toList ++ [y0, y1, y2, y3]) h) (fun q h => some (.inr q, h)) := jq_V (as := [z0, z1]) (rest := [y0, y1, y2, y3]) (jv_insR jm_236 dX10_goes_31) jo_236 jV_12_21 rfl rfl rfl rfl
theorem e236_34 : jv_ev d 236 34 lc (.int w :: .int v :: st) h = jv_ev d 236 35 lc (.int (v - w) :: st) h := jq_nx (jv_insR jm_236 dX10_goes_34) rfl
theorem e236_35 : jv_ev d 236 35 lc [z1, z0, y0, y1] h = (jv_cd d 308 [z0, z1] h).bind fun r => jv_on r (fun v h => jv_ev d 236 38 lc (v.toList ++ [y0, y1]) h) (fun q h => some (.inr q, h)) := jq_S (as := [z0, z1]) (rest := [y0, y1]) (jv_insR jm_236 dX10_goes_35) jo_236 jT_12_25 rfl rfl rfl rfl
theorem e236_38 : jv_ev d 236 38 lc (.int w :: .int v :: .ref a :: st) h = (jv_ip h a 0 0 v w).bind fun h => jv_ev d 236 39 lc st h := jq_iast (jv_insR jm_236 dX10_goes_38)
theorem e236_39 : jv_ev d 236 39 [x0, x1, x2, some (.int v)] st h = jv_ev d 236 42 [x0, x1, x2, some (.int (v + 1))] st h := jq_nx (jv_insR jm_236 dX10_goes_39) rfl
theorem e236_42 : jv_ev d 236 42 lc st h = jv_ev d 236 2 lc st h := jq_go (jv_insR jm_236 dX10_goes_42) (by decide)
theorem e236_45 : jv_ev d 236 45 lc [] h = some (.inl none, h) := jq_retv (jv_insR jm_236 dX10_goes_45) jr_236
/-! 237: RainLoom$Gathering.<init>()V -/
theorem n237 : jv_cd (d + 1) 237 [.ref a0] h = jv_ev d 237 0 [some (.ref a0)] [] h := rfl
theorem e237_0 : jv_ev d 237 0 [some (.ref a)] st h = jv_ev d 237 1 [some (.ref a)] (.ref a :: st) h := jq_nx (jv_insR jm_237 dX11_init_0) rfl
theorem e237_1 : jv_ev d 237 1 lc [.ref b] h = if jt_off ≤ b ∧ (jt_SU.contains 230 = false ∨ jv_cls h b = some 20) then ((jv_cd d 230 [.ref b] h).bind fun r => jv_on r (fun v h => jv_ev d 237 4 lc (v.toList ++ []) h) (fun q h => some (.inr q, h))) else none := jq_P (as := []) (rest := []) (jv_insR jm_237 dX11_init_1) jo_237 jP_13_3 rfl rfl rfl rfl
theorem e237_4 : jv_ev d 237 4 lc [] h = some (.inl none, h) := jq_retv (jv_insR jm_237 dX11_init_4) jr_237
/-! 238: RainLoom$Gathering.goes(LRainLoom$Land;LRainLoom$Text;)V -/
theorem n238 : jv_cd (d + 1) 238 [.ref a0, .ref a1, .ref a2] h = jv_ev d 238 0 [some (.ref a0), some (.ref a1), some (.ref a2)] [] h := rfl
theorem e238_0 : jv_ev d 238 0 [x0, some (.ref a), x2] st h = jv_ev d 238 1 [x0, some (.ref a), x2] (.ref a :: st) h := jq_nx (jv_insR jm_238 dX11_goes_0) rfl
theorem e238_1 : jv_ev d 238 1 lc st h = jv_ev d 238 4 lc (.int 9999 :: st) h := jq_sipush (jv_insR jm_238 dX11_goes_1) (by decide)
theorem e238_4 : jv_ev d 238 4 [x0, some (.ref a), x2] st h = jv_ev d 238 5 [x0, some (.ref a), x2] (.ref a :: st) h := jq_nx (jv_insR jm_238 dX11_goes_4) rfl
theorem e238_5 : jv_ev d 238 5 lc (.ref a :: st) h = (jv_gf h a [(6, 10, .int)]).bind fun r => jv_ev d 238 8 lc (r :: st) h := jq_get (jv_insR jm_238 dX11_goes_5) jo_238 jF_13_9
theorem e238_8 : jv_ev d 238 8 [x0, some (.ref a), x2] st h = jv_ev d 238 9 [x0, some (.ref a), x2] (.ref a :: st) h := jq_nx (jv_insR jm_238 dX11_goes_8) rfl
theorem e238_9 : jv_ev d 238 9 [x0, x1, some (.ref a)] st h = jv_ev d 238 10 [x0, x1, some (.ref a)] (.ref a :: st) h := jq_nx (jv_insR jm_238 dX11_goes_9) rfl
theorem e238_10 : jv_ev d 238 10 lc [z0, .ref b, y0, y1, y2] h = (jv_rc h b [(6, 227)]).bind fun y => (jv_cd d y [.ref b, z0] h).bind fun r => jv_on r (fun v h => jv_ev d 238 13 lc (v.toList ++ [y0, y1, y2]) h) (fun q h => some (.inr q, h)) := jq_V (as := [z0]) (rest := [y0, y1, y2]) (jv_insR jm_238 dX11_goes_10) jo_238 jV_13_15 rfl rfl rfl rfl
theorem e238_13 : jv_ev d 238 13 lc (.int w :: .int v :: st) h = jv_ev d 238 14 lc (.int (v + w) :: st) h := jq_nx (jv_insR jm_238 dX11_goes_13) rfl
theorem e238_14 : jv_ev d 238 14 lc [z1, z0, y0] h = (jv_cd d 309 [z0, z1] h).bind fun r => jv_on r (fun v h => jv_ev d 238 17 lc (v.toList ++ [y0]) h) (fun q h => some (.inr q, h)) := jq_S (as := [z0, z1]) (rest := [y0]) (jv_insR jm_238 dX11_goes_14) jo_238 jT_13_19 rfl rfl rfl rfl
theorem e238_17 : jv_ev d 238 17 lc (r :: .ref a :: st) h = (jv_pf h a [(6, 10, .int)] r).bind fun h => jv_ev d 238 20 lc st h := jq_put (jv_insR jm_238 dX11_goes_17) jo_238 ji_238 jG_13_9
theorem e238_20 : jv_ev d 238 20 [x0, some (.ref a), x2] st h = jv_ev d 238 21 [x0, some (.ref a), x2] (.ref a :: st) h := jq_nx (jv_insR jm_238 dX11_goes_20) rfl
theorem e238_21 : jv_ev d 238 21 lc (.ref a :: st) h = jv_ev d 238 22 lc (.ref a :: .ref a :: st) h := jq_nx (jv_insR jm_238 dX11_goes_21) rfl
theorem e238_22 : jv_ev d 238 22 lc (.ref a :: st) h = (jv_gf h a [(6, 11, .int)]).bind fun r => jv_ev d 238 25 lc (r :: st) h := jq_get (jv_insR jm_238 dX11_goes_22) jo_238 jF_13_25
theorem e238_25 : jv_ev d 238 25 lc st h = jv_ev d 238 26 lc (.int 1 :: st) h := jq_iconst (jv_insR jm_238 dX11_goes_25) (by decide)
theorem e238_26 : jv_ev d 238 26 lc (.int w :: .int v :: st) h = jv_ev d 238 27 lc (.int (v + w) :: st) h := jq_nx (jv_insR jm_238 dX11_goes_26) rfl
theorem e238_27 : jv_ev d 238 27 lc (r :: .ref a :: st) h = (jv_pf h a [(6, 11, .int)] r).bind fun h => jv_ev d 238 30 lc st h := jq_put (jv_insR jm_238 dX11_goes_27) jo_238 ji_238 jG_13_25
theorem e238_30 : jv_ev d 238 30 lc [] h = some (.inl none, h) := jq_retv (jv_insR jm_238 dX11_goes_30) jr_238
/-! 239: RainLoom$Law.<init>()V -/
theorem n239 : jv_cd (d + 1) 239 [.ref a0] h = jv_ev d 239 0 [some (.ref a0)] [] h := rfl
theorem e239_0 : jv_ev d 239 0 [some (.ref a)] st h = jv_ev d 239 1 [some (.ref a)] (.ref a :: st) h := jq_nx (jv_insR jm_239 dX13_init_0) rfl
theorem e239_1 : jv_ev d 239 1 lc [.ref b] h = if jt_off ≤ b then jv_ev d 239 4 lc [] h else none := jq_O (jv_insR jm_239 dX13_init_1) jo_239 jP_14_3 (Nat.le_of_ble_eq_true rfl)
theorem e239_4 : jv_ev d 239 4 [some (.ref a)] st h = jv_ev d 239 5 [some (.ref a)] (.ref a :: st) h := jq_nx (jv_insR jm_239 dX13_init_4) rfl
theorem e239_5 : jv_ev d 239 5 lc st h = jv_ev d 239 6 lc (.int 4 :: st) h := jq_iconst (jv_insR jm_239 dX13_init_5) (by decide)
theorem e239_6 : jv_ev d 239 6 lc (.int v :: st) h = if v < 0 ∨ 100000 < v.toNatClampNeg then none else jv_ev d 239 9 lc (.ref h.length :: st) (h ++ [.inl (8, v.toNatClampNeg, .inr (.inr (.inr (.inr (fun _ => none)))))]) := jq_anew (jv_insR jm_239 dX13_init_6) jo_239 jA_14_9
theorem e239_9 : jv_ev d 239 9 lc (r :: .ref a :: st) h = (jv_pf h a [(12, 0, .array (.object "RainLoom$Sum"))] r).bind fun h => jv_ev d 239 12 lc st h := jq_put (jv_insR jm_239 dX13_init_9) jo_239 ji_239 jG_14_11i
theorem e239_12 : jv_ev d 239 12 [some (.ref a)] st h = jv_ev d 239 13 [some (.ref a)] (.ref a :: st) h := jq_nx (jv_insR jm_239 dX13_init_12) rfl
theorem e239_13 : jv_ev d 239 13 lc st h = jv_ev d 239 14 lc (.int 4 :: st) h := jq_iconst (jv_insR jm_239 dX13_init_13) (by decide)
theorem e239_14 : jv_ev d 239 14 lc (.int v :: st) h = if v < 0 ∨ 100000 < v.toNatClampNeg then none else jv_ev d 239 17 lc (.ref h.length :: st) (h ++ [.inl (8, v.toNatClampNeg, .inr (.inr (.inr (.inr (fun _ => none)))))]) := jq_anew (jv_insR jm_239 dX13_init_14) jo_239 jA_14_9
theorem e239_17 : jv_ev d 239 17 lc (r :: .ref a :: st) h = (jv_pf h a [(12, 1, .array (.object "RainLoom$Sum"))] r).bind fun h => jv_ev d 239 20 lc st h := jq_put (jv_insR jm_239 dX13_init_17) jo_239 ji_239 jG_14_17i
theorem e239_20 : jv_ev d 239 20 [some (.ref a)] st h = jv_ev d 239 21 [some (.ref a)] (.ref a :: st) h := jq_nx (jv_insR jm_239 dX13_init_20) rfl
theorem e239_21 : jv_ev d 239 21 lc st h = jv_ev d 239 22 lc (.int 5 :: st) h := jq_iconst (jv_insR jm_239 dX13_init_21) (by decide)
theorem e239_22 : jv_ev d 239 22 lc (.int v :: st) h = if v < 0 ∨ 100000 < v.toNatClampNeg then none else jv_ev d 239 25 lc (.ref h.length :: st) (h ++ [.inl (8, v.toNatClampNeg, .inr (.inr (.inr (.inr (fun _ => none)))))]) := jq_anew (jv_insR jm_239 dX13_init_22) jo_239 jA_14_9
theorem e239_25 : jv_ev d 239 25 lc (r :: .ref a :: st) h = (jv_pf h a [(12, 2, .array (.object "RainLoom$Sum"))] r).bind fun h => jv_ev d 239 28 lc st h := jq_put (jv_insR jm_239 dX13_init_25) jo_239 ji_239 jG_14_20i
theorem e239_28 : jv_ev d 239 28 lc [] h = some (.inl none, h) := jq_retv (jv_insR jm_239 dX13_init_28) jr_239
/-! 240: RainLoom$Law.of(LRainLoom$Asked;)I -/
theorem n240 : jv_cd (d + 1) 240 [.ref a0, .ref a1] h = jv_ev d 240 0 [some (.ref a0), some (.ref a1), none, none] [] h := rfl
theorem e240_0 : jv_ev d 240 0 [x0, some (.ref a), x2, x3] st h = jv_ev d 240 1 [x0, some (.ref a), x2, x3] (.ref a :: st) h := jq_nx (jv_insR jm_240 dX13_of_0) rfl
theorem e240_1 : jv_ev d 240 1 lc st h = jv_ev d 240 2 lc (.int 0 :: st) h := jq_iconst (jv_insR jm_240 dX13_of_1) (by decide)
theorem e240_2 : jv_ev d 240 2 lc (r :: .ref a :: st) h = (jv_pf h a [(7, 1, .boolean)] r).bind fun h => jv_ev d 240 5 lc st h := jq_put (jv_insR jm_240 dX13_of_2) jo_240 ji_240 jG_14_23
theorem e240_5 : jv_ev d 240 5 lc st h = jv_ev d 240 6 lc (.int 0 :: st) h := jq_iconst (jv_insR jm_240 dX13_of_5) (by decide)
theorem e240_6 : jv_ev d 240 6 [x0, x1, x2, x3] (.int v :: st) h = jv_ev d 240 7 [x0, x1, some (.int v), x3] st h := jq_nx (jv_insR jm_240 dX13_of_6) rfl
theorem e240_7 : jv_ev d 240 7 [x0, x1, some (.int v), x3] st h = jv_ev d 240 8 [x0, x1, some (.int v), x3] (.int v :: st) h := jq_nx (jv_insR jm_240 dX13_of_7) rfl
theorem e240_8 : jv_ev d 240 8 [some (.ref a), x1, x2, x3] st h = jv_ev d 240 9 [some (.ref a), x1, x2, x3] (.ref a :: st) h := jq_nx (jv_insR jm_240 dX13_of_8) rfl
theorem e240_9 : jv_ev d 240 9 lc (.ref a :: st) h = (jv_gf h a [(12, 3, .int)]).bind fun r => jv_ev d 240 12 lc (r :: st) h := jq_get (jv_insR jm_240 dX13_of_9) jo_240 jF_14_29
theorem e240_12 : jv_ev d 240 12 lc (.int w :: .int v :: st) h = if w ≤ v then jv_ev d 240 44 lc st h else jv_ev d 240 15 lc st h := jq_if (jv_insR jm_240 dX13_of_12) rfl (by decide)
theorem e240_15 : jv_ev d 240 15 [some (.ref a), x1, x2, x3] st h = jv_ev d 240 16 [some (.ref a), x1, x2, x3] (.ref a :: st) h := jq_nx (jv_insR jm_240 dX13_of_15) rfl
theorem e240_16 : jv_ev d 240 16 lc (.ref a :: st) h = (jv_gf h a [(12, 0, .array (.object "RainLoom$Sum"))]).bind fun r => jv_ev d 240 19 lc (r :: st) h := jq_get (jv_insR jm_240 dX13_of_16) jo_240 jF_14_11
theorem e240_19 : jv_ev d 240 19 [x0, x1, some (.int v), x3] st h = jv_ev d 240 20 [x0, x1, some (.int v), x3] (.int v :: st) h := jq_nx (jv_insR jm_240 dX13_of_19) rfl
theorem e240_20 : jv_ev d 240 20 lc (.int v :: .ref a :: st) h = (jv_rg h a v).bind fun w => jv_ev d 240 21 lc (w :: st) h := jq_aald (jv_insR jm_240 dX13_of_20)
theorem e240_21 : jv_ev d 240 21 [x0, some (.ref a), x2, x3] st h = jv_ev d 240 22 [x0, some (.ref a), x2, x3] (.ref a :: st) h := jq_nx (jv_insR jm_240 dX13_of_21) rfl
theorem e240_22 : jv_ev d 240 22 lc [z0, .ref b] h = (jv_rc h b [(15, 247), (13, 243), (14, 245)]).bind fun y => (jv_cd d y [.ref b, z0] h).bind fun r => jv_on r (fun v h => jv_ev d 240 25 lc (v.toList ++ []) h) (fun q h => some (.inr q, h)) := jq_V (as := [z0]) (rest := []) (jv_insR jm_240 dX13_of_22) jo_240 jV_14_33 rfl rfl rfl rfl
theorem e240_25 : jv_ev d 240 25 [some (.ref a), x1, x2, x3] st h = jv_ev d 240 26 [some (.ref a), x1, x2, x3] (.ref a :: st) h := jq_nx (jv_insR jm_240 dX13_of_25) rfl
theorem e240_26 : jv_ev d 240 26 lc (.ref a :: st) h = (jv_gf h a [(12, 1, .array (.object "RainLoom$Sum"))]).bind fun r => jv_ev d 240 29 lc (r :: st) h := jq_get (jv_insR jm_240 dX13_of_26) jo_240 jF_14_17
theorem e240_29 : jv_ev d 240 29 [x0, x1, some (.int v), x3] st h = jv_ev d 240 30 [x0, x1, some (.int v), x3] (.int v :: st) h := jq_nx (jv_insR jm_240 dX13_of_29) rfl
theorem e240_30 : jv_ev d 240 30 lc (.int v :: .ref a :: st) h = (jv_rg h a v).bind fun w => jv_ev d 240 31 lc (w :: st) h := jq_aald (jv_insR jm_240 dX13_of_30)
theorem e240_31 : jv_ev d 240 31 [x0, some (.ref a), x2, x3] st h = jv_ev d 240 32 [x0, some (.ref a), x2, x3] (.ref a :: st) h := jq_nx (jv_insR jm_240 dX13_of_31) rfl
theorem e240_32 : jv_ev d 240 32 lc [z0, .ref b, y0] h = (jv_rc h b [(15, 247), (13, 243), (14, 245)]).bind fun y => (jv_cd d y [.ref b, z0] h).bind fun r => jv_on r (fun v h => jv_ev d 240 35 lc (v.toList ++ [y0]) h) (fun q h => some (.inr q, h)) := jq_V (as := [z0]) (rest := [y0]) (jv_insR jm_240 dX13_of_32) jo_240 jV_14_33 rfl rfl rfl rfl
theorem e240_35 : jv_ev d 240 35 lc (.int w :: .int v :: st) h = if v < w then jv_ev d 240 44 lc st h else jv_ev d 240 38 lc st h := jq_if (jv_insR jm_240 dX13_of_35) rfl (by decide)
theorem e240_38 : jv_ev d 240 38 [x0, x1, some (.int v), x3] st h = jv_ev d 240 41 [x0, x1, some (.int (v + 1)), x3] st h := jq_nx (jv_insR jm_240 dX13_of_38) rfl
theorem e240_41 : jv_ev d 240 41 lc st h = jv_ev d 240 7 lc st h := jq_go (jv_insR jm_240 dX13_of_41) (by decide)
theorem e240_44 : jv_ev d 240 44 [some (.ref a), x1, x2, x3] st h = jv_ev d 240 45 [some (.ref a), x1, x2, x3] (.ref a :: st) h := jq_nx (jv_insR jm_240 dX13_of_44) rfl
theorem e240_45 : jv_ev d 240 45 lc (.ref a :: st) h = (jv_gf h a [(12, 2, .array (.object "RainLoom$Sum"))]).bind fun r => jv_ev d 240 48 lc (r :: st) h := jq_get (jv_insR jm_240 dX13_of_45) jo_240 jF_14_20
theorem e240_48 : jv_ev d 240 48 [x0, x1, some (.int v), x3] st h = jv_ev d 240 49 [x0, x1, some (.int v), x3] (.int v :: st) h := jq_nx (jv_insR jm_240 dX13_of_48) rfl
theorem e240_49 : jv_ev d 240 49 lc (.int v :: .ref a :: st) h = (jv_rg h a v).bind fun w => jv_ev d 240 50 lc (w :: st) h := jq_aald (jv_insR jm_240 dX13_of_49)
theorem e240_50 : jv_ev d 240 50 [x0, some (.ref a), x2, x3] st h = jv_ev d 240 51 [x0, some (.ref a), x2, x3] (.ref a :: st) h := jq_nx (jv_insR jm_240 dX13_of_50) rfl
theorem e240_51 : jv_ev d 240 51 lc [z0, .ref b] h = (jv_rc h b [(15, 247), (13, 243), (14, 245)]).bind fun y => (jv_cd d y [.ref b, z0] h).bind fun r => jv_on r (fun v h => jv_ev d 240 54 lc (v.toList ++ []) h) (fun q h => some (.inr q, h)) := jq_V (as := [z0]) (rest := []) (jv_insR jm_240 dX13_of_51) jo_240 jV_14_33 rfl rfl rfl rfl
theorem e240_54 : jv_ev d 240 54 [x0, x1, x2, x3] (.int v :: st) h = jv_ev d 240 55 [x0, x1, x2, some (.int v)] st h := jq_nx (jv_insR jm_240 dX13_of_54) rfl
theorem e240_55 : jv_ev d 240 55 [x0, some (.ref a), x2, x3] st h = jv_ev d 240 56 [x0, some (.ref a), x2, x3] (.ref a :: st) h := jq_nx (jv_insR jm_240 dX13_of_55) rfl
theorem e240_56 : jv_ev d 240 56 lc (.ref a :: st) h = (jv_gf h a [(7, 1, .boolean)]).bind fun r => jv_ev d 240 59 lc (r :: st) h := jq_get (jv_insR jm_240 dX13_of_56) jo_240 jF_14_23
theorem e240_59 : jv_ev d 240 59 lc (.int v :: st) h = if v = 0 then jv_ev d 240 66 lc st h else jv_ev d 240 62 lc st h := jq_if (jv_insR jm_240 dX13_of_59) rfl (by decide)
theorem e240_62 : jv_ev d 240 62 lc st h = jv_ev d 240 63 lc (.int 0 :: st) h := jq_iconst (jv_insR jm_240 dX13_of_62) (by decide)
theorem e240_63 : jv_ev d 240 63 lc st h = jv_ev d 240 71 lc st h := jq_go (jv_insR jm_240 dX13_of_63) (by decide)
theorem e240_66 : jv_ev d 240 66 lc st h = jv_ev d 240 67 lc (.int 0 :: st) h := jq_iconst (jv_insR jm_240 dX13_of_66) (by decide)
theorem e240_67 : jv_ev d 240 67 [x0, x1, x2, some (.int v)] st h = jv_ev d 240 68 [x0, x1, x2, some (.int v)] (.int v :: st) h := jq_nx (jv_insR jm_240 dX13_of_67) rfl
theorem e240_68 : jv_ev d 240 68 lc [z1, z0] h = (jv_cd d 308 [z0, z1] h).bind fun r => jv_on r (fun v h => jv_ev d 240 71 lc (v.toList ++ []) h) (fun q h => some (.inr q, h)) := jq_S (as := [z0, z1]) (rest := []) (jv_insR jm_240 dX13_of_68) jo_240 jT_14_37 rfl rfl rfl rfl
theorem e240_71 : jv_ev d 240 71 lc [.int v] h = some (.inl (some (.int v)), h) := jq_reti (jv_insR jm_240 dX13_of_71) jr_240
/-! 241: RainLoom$Sum.<init>()V -/
theorem n241 : jv_cd (d + 1) 241 [.ref a0] h = jv_ev d 241 0 [some (.ref a0)] [] h := rfl
theorem e241_0 : jv_ev d 241 0 [some (.ref a)] st h = jv_ev d 241 1 [some (.ref a)] (.ref a :: st) h := jq_nx (jv_insR jm_241 dX14_init_0) rfl
theorem e241_1 : jv_ev d 241 1 lc [.ref b] h = if jt_off ≤ b then jv_ev d 241 4 lc [] h else none := jq_O (jv_insR jm_241 dX14_init_1) jo_241 jP_15_1 (Nat.le_of_ble_eq_true rfl)
theorem e241_4 : jv_ev d 241 4 lc [] h = some (.inl none, h) := jq_retv (jv_insR jm_241 dX14_init_4) jr_241
/-! 242: RainLoom$Number.<init>(I)V -/
theorem n242 : jv_cd (d + 1) 242 [.ref a0, .int i1] h = jv_ev d 242 0 [some (.ref a0), some (.int i1)] [] h := rfl
theorem e242_0 : jv_ev d 242 0 [some (.ref a), x1] st h = jv_ev d 242 1 [some (.ref a), x1] (.ref a :: st) h := jq_nx (jv_insR jm_242 dX15_init_0) rfl
theorem e242_1 : jv_ev d 242 1 lc [.ref b] h = if jt_off ≤ b ∧ (jt_SU.contains 241 = false ∨ jv_cls h b = some 20) then ((jv_cd d 241 [.ref b] h).bind fun r => jv_on r (fun v h => jv_ev d 242 4 lc (v.toList ++ []) h) (fun q h => some (.inr q, h))) else none := jq_P (as := []) (rest := []) (jv_insR jm_242 dX15_init_1) jo_242 jP_16_1 rfl rfl rfl rfl
theorem e242_4 : jv_ev d 242 4 [some (.ref a), x1] st h = jv_ev d 242 5 [some (.ref a), x1] (.ref a :: st) h := jq_nx (jv_insR jm_242 dX15_init_4) rfl
theorem e242_5 : jv_ev d 242 5 [x0, some (.int v)] st h = jv_ev d 242 6 [x0, some (.int v)] (.int v :: st) h := jq_nx (jv_insR jm_242 dX15_init_5) rfl
theorem e242_6 : jv_ev d 242 6 lc (r :: .ref a :: st) h = (jv_pf h a [(13, 0, .int)] r).bind fun h => jv_ev d 242 9 lc st h := jq_put (jv_insR jm_242 dX15_init_6) jo_242 ji_242 jG_16_7i
theorem e242_9 : jv_ev d 242 9 lc [] h = some (.inl none, h) := jq_retv (jv_insR jm_242 dX15_init_9) jr_242
/-! 243: RainLoom$Number.of(LRainLoom$Asked;)I -/
theorem n243 : jv_cd (d + 1) 243 [.ref a0, .ref a1] h = jv_ev d 243 0 [some (.ref a0), some (.ref a1)] [] h := rfl
theorem e243_0 : jv_ev d 243 0 [some (.ref a), x1] st h = jv_ev d 243 1 [some (.ref a), x1] (.ref a :: st) h := jq_nx (jv_insR jm_243 dX15_of_0) rfl
theorem e243_1 : jv_ev d 243 1 lc (.ref a :: st) h = (jv_gf h a [(13, 0, .int)]).bind fun r => jv_ev d 243 4 lc (r :: st) h := jq_get (jv_insR jm_243 dX15_of_1) jo_243 jF_16_7
theorem e243_4 : jv_ev d 243 4 lc [.int v] h = some (.inl (some (.int v)), h) := jq_reti (jv_insR jm_243 dX15_of_4) jr_243
/-! 244: RainLoom$Var.<init>(I)V -/
theorem n244 : jv_cd (d + 1) 244 [.ref a0, .int i1] h = jv_ev d 244 0 [some (.ref a0), some (.int i1)] [] h := rfl
theorem e244_0 : jv_ev d 244 0 [some (.ref a), x1] st h = jv_ev d 244 1 [some (.ref a), x1] (.ref a :: st) h := jq_nx (jv_insR jm_244 dX16_init_0) rfl
theorem e244_1 : jv_ev d 244 1 lc [.ref b] h = if jt_off ≤ b ∧ (jt_SU.contains 241 = false ∨ jv_cls h b = some 20) then ((jv_cd d 241 [.ref b] h).bind fun r => jv_on r (fun v h => jv_ev d 244 4 lc (v.toList ++ []) h) (fun q h => some (.inr q, h))) else none := jq_P (as := []) (rest := []) (jv_insR jm_244 dX16_init_1) jo_244 jP_17_1 rfl rfl rfl rfl
theorem e244_4 : jv_ev d 244 4 [some (.ref a), x1] st h = jv_ev d 244 5 [some (.ref a), x1] (.ref a :: st) h := jq_nx (jv_insR jm_244 dX16_init_4) rfl
theorem e244_5 : jv_ev d 244 5 [x0, some (.int v)] st h = jv_ev d 244 6 [x0, some (.int v)] (.int v :: st) h := jq_nx (jv_insR jm_244 dX16_init_5) rfl
theorem e244_6 : jv_ev d 244 6 lc (r :: .ref a :: st) h = (jv_pf h a [(14, 0, .int)] r).bind fun h => jv_ev d 244 9 lc st h := jq_put (jv_insR jm_244 dX16_init_6) jo_244 ji_244 jG_17_7i
theorem e244_9 : jv_ev d 244 9 lc [] h = some (.inl none, h) := jq_retv (jv_insR jm_244 dX16_init_9) jr_244
/-! 245: RainLoom$Var.of(LRainLoom$Asked;)I -/
theorem n245 : jv_cd (d + 1) 245 [.ref a0, .ref a1] h = jv_ev d 245 0 [some (.ref a0), some (.ref a1)] [] h := rfl
theorem e245_0 : jv_ev d 245 0 [x0, some (.ref a)] st h = jv_ev d 245 1 [x0, some (.ref a)] (.ref a :: st) h := jq_nx (jv_insR jm_245 dX16_of_0) rfl
theorem e245_1 : jv_ev d 245 1 lc (.ref a :: st) h = (jv_gf h a [(7, 0, .array .int)]).bind fun r => jv_ev d 245 4 lc (r :: st) h := jq_get (jv_insR jm_245 dX16_of_1) jo_245 jF_17_13
theorem e245_4 : jv_ev d 245 4 [some (.ref a), x1] st h = jv_ev d 245 5 [some (.ref a), x1] (.ref a :: st) h := jq_nx (jv_insR jm_245 dX16_of_4) rfl
theorem e245_5 : jv_ev d 245 5 lc (.ref a :: st) h = (jv_gf h a [(14, 0, .int)]).bind fun r => jv_ev d 245 8 lc (r :: st) h := jq_get (jv_insR jm_245 dX16_of_5) jo_245 jF_17_7
theorem e245_8 : jv_ev d 245 8 lc (.int v :: .ref a :: st) h = (jv_ig h a 0 0 v).bind fun w => jv_ev d 245 9 lc (.int w :: st) h := jq_iald (jv_insR jm_245 dX16_of_8)
theorem e245_9 : jv_ev d 245 9 lc [.int v] h = some (.inl (some (.int v)), h) := jq_reti (jv_insR jm_245 dX16_of_9) jr_245
/-! 246: RainLoom$Joined.<init>(ILRainLoom$Sum;LRainLoom$Sum;)V -/
theorem n246 : jv_cd (d + 1) 246 [.ref a0, .int i1, .ref a2, .ref a3] h = jv_ev d 246 0 [some (.ref a0), some (.int i1), some (.ref a2), some (.ref a3)] [] h := rfl
theorem e246_0 : jv_ev d 246 0 [some (.ref a), x1, x2, x3] st h = jv_ev d 246 1 [some (.ref a), x1, x2, x3] (.ref a :: st) h := jq_nx (jv_insR jm_246 dX17_init_0) rfl
theorem e246_1 : jv_ev d 246 1 lc [.ref b] h = if jt_off ≤ b ∧ (jt_SU.contains 241 = false ∨ jv_cls h b = some 20) then ((jv_cd d 241 [.ref b] h).bind fun r => jv_on r (fun v h => jv_ev d 246 4 lc (v.toList ++ []) h) (fun q h => some (.inr q, h))) else none := jq_P (as := []) (rest := []) (jv_insR jm_246 dX17_init_1) jo_246 jP_18_1 rfl rfl rfl rfl
theorem e246_4 : jv_ev d 246 4 [some (.ref a), x1, x2, x3] st h = jv_ev d 246 5 [some (.ref a), x1, x2, x3] (.ref a :: st) h := jq_nx (jv_insR jm_246 dX17_init_4) rfl
theorem e246_5 : jv_ev d 246 5 [x0, some (.int v), x2, x3] st h = jv_ev d 246 6 [x0, some (.int v), x2, x3] (.int v :: st) h := jq_nx (jv_insR jm_246 dX17_init_5) rfl
theorem e246_6 : jv_ev d 246 6 lc (r :: .ref a :: st) h = (jv_pf h a [(15, 0, .int)] r).bind fun h => jv_ev d 246 9 lc st h := jq_put (jv_insR jm_246 dX17_init_6) jo_246 ji_246 jG_18_7i
theorem e246_9 : jv_ev d 246 9 [some (.ref a), x1, x2, x3] st h = jv_ev d 246 10 [some (.ref a), x1, x2, x3] (.ref a :: st) h := jq_nx (jv_insR jm_246 dX17_init_9) rfl
theorem e246_10 : jv_ev d 246 10 [x0, x1, some (.ref a), x3] st h = jv_ev d 246 11 [x0, x1, some (.ref a), x3] (.ref a :: st) h := jq_nx (jv_insR jm_246 dX17_init_10) rfl
theorem e246_11 : jv_ev d 246 11 lc (r :: .ref a :: st) h = (jv_pf h a [(15, 1, .object "RainLoom$Sum")] r).bind fun h => jv_ev d 246 14 lc st h := jq_put (jv_insR jm_246 dX17_init_11) jo_246 ji_246 jG_18_13i
theorem e246_14 : jv_ev d 246 14 [some (.ref a), x1, x2, x3] st h = jv_ev d 246 15 [some (.ref a), x1, x2, x3] (.ref a :: st) h := jq_nx (jv_insR jm_246 dX17_init_14) rfl
theorem e246_15 : jv_ev d 246 15 [x0, x1, x2, some (.ref a)] st h = jv_ev d 246 16 [x0, x1, x2, some (.ref a)] (.ref a :: st) h := jq_nx (jv_insR jm_246 dX17_init_15) rfl
theorem e246_16 : jv_ev d 246 16 lc (r :: .ref a :: st) h = (jv_pf h a [(15, 2, .object "RainLoom$Sum")] r).bind fun h => jv_ev d 246 19 lc st h := jq_put (jv_insR jm_246 dX17_init_16) jo_246 ji_246 jG_18_17i
theorem e246_19 : jv_ev d 246 19 lc [] h = some (.inl none, h) := jq_retv (jv_insR jm_246 dX17_init_19) jr_246
/-! 247: RainLoom$Joined.of(LRainLoom$Asked;)I -/
theorem n247 : jv_cd (d + 1) 247 [.ref a0, .ref a1] h = jv_ev d 247 0 [some (.ref a0), some (.ref a1), none, none] [] h := rfl
theorem e247_0 : jv_ev d 247 0 [some (.ref a), x1, x2, x3] st h = jv_ev d 247 1 [some (.ref a), x1, x2, x3] (.ref a :: st) h := jq_nx (jv_insR jm_247 dX17_of_0) rfl
theorem e247_1 : jv_ev d 247 1 lc (.ref a :: st) h = (jv_gf h a [(15, 1, .object "RainLoom$Sum")]).bind fun r => jv_ev d 247 4 lc (r :: st) h := jq_get (jv_insR jm_247 dX17_of_1) jo_247 jF_18_13
theorem e247_4 : jv_ev d 247 4 [x0, some (.ref a), x2, x3] st h = jv_ev d 247 5 [x0, some (.ref a), x2, x3] (.ref a :: st) h := jq_nx (jv_insR jm_247 dX17_of_4) rfl
theorem e247_5 : jv_ev d 247 5 lc [z0, .ref b] h = (jv_rc h b [(15, 247), (13, 243), (14, 245)]).bind fun y => (jv_cd d y [.ref b, z0] h).bind fun r => jv_on r (fun v h => jv_ev d 247 8 lc (v.toList ++ []) h) (fun q h => some (.inr q, h)) := jq_V (as := [z0]) (rest := []) (jv_insR jm_247 dX17_of_5) jo_247 jV_18_20 rfl rfl rfl rfl
theorem e247_8 : jv_ev d 247 8 [x0, x1, x2, x3] (.int v :: st) h = jv_ev d 247 9 [x0, x1, some (.int v), x3] st h := jq_nx (jv_insR jm_247 dX17_of_8) rfl
theorem e247_9 : jv_ev d 247 9 [some (.ref a), x1, x2, x3] st h = jv_ev d 247 10 [some (.ref a), x1, x2, x3] (.ref a :: st) h := jq_nx (jv_insR jm_247 dX17_of_9) rfl
theorem e247_10 : jv_ev d 247 10 lc (.ref a :: st) h = (jv_gf h a [(15, 2, .object "RainLoom$Sum")]).bind fun r => jv_ev d 247 13 lc (r :: st) h := jq_get (jv_insR jm_247 dX17_of_10) jo_247 jF_18_17
theorem e247_13 : jv_ev d 247 13 [x0, some (.ref a), x2, x3] st h = jv_ev d 247 14 [x0, some (.ref a), x2, x3] (.ref a :: st) h := jq_nx (jv_insR jm_247 dX17_of_13) rfl
theorem e247_14 : jv_ev d 247 14 lc [z0, .ref b] h = (jv_rc h b [(15, 247), (13, 243), (14, 245)]).bind fun y => (jv_cd d y [.ref b, z0] h).bind fun r => jv_on r (fun v h => jv_ev d 247 17 lc (v.toList ++ []) h) (fun q h => some (.inr q, h)) := jq_V (as := [z0]) (rest := []) (jv_insR jm_247 dX17_of_14) jo_247 jV_18_20 rfl rfl rfl rfl
theorem e247_17 : jv_ev d 247 17 [x0, x1, x2, x3] (.int v :: st) h = jv_ev d 247 18 [x0, x1, x2, some (.int v)] st h := jq_nx (jv_insR jm_247 dX17_of_17) rfl
theorem e247_18 : jv_ev d 247 18 [some (.ref a), x1, x2, x3] st h = jv_ev d 247 19 [some (.ref a), x1, x2, x3] (.ref a :: st) h := jq_nx (jv_insR jm_247 dX17_of_18) rfl
theorem e247_19 : jv_ev d 247 19 lc (.ref a :: st) h = (jv_gf h a [(15, 0, .int)]).bind fun r => jv_ev d 247 22 lc (r :: st) h := jq_get (jv_insR jm_247 dX17_of_19) jo_247 jF_18_7
theorem e247_22 : jv_ev d 247 22 lc (.int v :: st) h = jv_tsl (fun t => jv_ev d 247 t lc st h) v [(42, 60), (43, 52), (44, 64), (45, 56)] 64 := jq_ts (jv_insR jm_247 dX17_of_22) [(42, 60), (43, 52), (44, 64), (45, 56)] 64 (by decide) (by decide) (by decide) (by decide)
theorem e247_52 : jv_ev d 247 52 [x0, x1, some (.int v), x3] st h = jv_ev d 247 53 [x0, x1, some (.int v), x3] (.int v :: st) h := jq_nx (jv_insR jm_247 dX17_of_52) rfl
theorem e247_53 : jv_ev d 247 53 [x0, x1, x2, some (.int v)] st h = jv_ev d 247 54 [x0, x1, x2, some (.int v)] (.int v :: st) h := jq_nx (jv_insR jm_247 dX17_of_53) rfl
theorem e247_54 : jv_ev d 247 54 lc (.int w :: .int v :: st) h = jv_ev d 247 55 lc (.int (v + w) :: st) h := jq_nx (jv_insR jm_247 dX17_of_54) rfl
theorem e247_55 : jv_ev d 247 55 lc [.int v] h = some (.inl (some (.int v)), h) := jq_reti (jv_insR jm_247 dX17_of_55) jr_247
theorem e247_56 : jv_ev d 247 56 [x0, x1, some (.int v), x3] st h = jv_ev d 247 57 [x0, x1, some (.int v), x3] (.int v :: st) h := jq_nx (jv_insR jm_247 dX17_of_56) rfl
theorem e247_57 : jv_ev d 247 57 [x0, x1, x2, some (.int v)] st h = jv_ev d 247 58 [x0, x1, x2, some (.int v)] (.int v :: st) h := jq_nx (jv_insR jm_247 dX17_of_57) rfl
theorem e247_58 : jv_ev d 247 58 lc (.int w :: .int v :: st) h = jv_ev d 247 59 lc (.int (v - w) :: st) h := jq_nx (jv_insR jm_247 dX17_of_58) rfl
theorem e247_59 : jv_ev d 247 59 lc [.int v] h = some (.inl (some (.int v)), h) := jq_reti (jv_insR jm_247 dX17_of_59) jr_247
theorem e247_60 : jv_ev d 247 60 [x0, x1, some (.int v), x3] st h = jv_ev d 247 61 [x0, x1, some (.int v), x3] (.int v :: st) h := jq_nx (jv_insR jm_247 dX17_of_60) rfl
theorem e247_61 : jv_ev d 247 61 [x0, x1, x2, some (.int v)] st h = jv_ev d 247 62 [x0, x1, x2, some (.int v)] (.int v :: st) h := jq_nx (jv_insR jm_247 dX17_of_61) rfl
theorem e247_62 : jv_ev d 247 62 lc (.int w :: .int v :: st) h = jv_ev d 247 63 lc (.int (v * w) :: st) h := jq_nx (jv_insR jm_247 dX17_of_62) rfl
theorem e247_63 : jv_ev d 247 63 lc [.int v] h = some (.inl (some (.int v)), h) := jq_reti (jv_insR jm_247 dX17_of_63) jr_247
theorem e247_64 : jv_ev d 247 64 [x0, x1, x2, some (.int v)] st h = jv_ev d 247 65 [x0, x1, x2, some (.int v)] (.int v :: st) h := jq_nx (jv_insR jm_247 dX17_of_64) rfl
theorem e247_65 : jv_ev d 247 65 lc (.int v :: st) h = if v = 0 then jv_ev d 247 72 lc st h else jv_ev d 247 68 lc st h := jq_if (jv_insR jm_247 dX17_of_65) rfl (by decide)
theorem e247_68 : jv_ev d 247 68 [x0, x1, some (.int v), x3] st h = jv_ev d 247 69 [x0, x1, some (.int v), x3] (.int v :: st) h := jq_nx (jv_insR jm_247 dX17_of_68) rfl
theorem e247_69 : jv_ev d 247 69 [x0, x1, x2, some (.int v)] st h = jv_ev d 247 70 [x0, x1, x2, some (.int v)] (.int v :: st) h := jq_nx (jv_insR jm_247 dX17_of_69) rfl
theorem e247_70 : jv_ev d 247 70 lc (.int w :: .int v :: st) h = if w = 0 then none else jv_ev d 247 71 lc (.int (v / w) :: st) h := jq_idiv (jv_insR jm_247 dX17_of_70)
theorem e247_71 : jv_ev d 247 71 lc [.int v] h = some (.inl (some (.int v)), h) := jq_reti (jv_insR jm_247 dX17_of_71) jr_247
theorem e247_72 : jv_ev d 247 72 [x0, some (.ref a), x2, x3] st h = jv_ev d 247 73 [x0, some (.ref a), x2, x3] (.ref a :: st) h := jq_nx (jv_insR jm_247 dX17_of_72) rfl
theorem e247_73 : jv_ev d 247 73 lc st h = jv_ev d 247 74 lc (.int 1 :: st) h := jq_iconst (jv_insR jm_247 dX17_of_73) (by decide)
theorem e247_74 : jv_ev d 247 74 lc (r :: .ref a :: st) h = (jv_pf h a [(7, 1, .boolean)] r).bind fun h => jv_ev d 247 77 lc st h := jq_put (jv_insR jm_247 dX17_of_74) jo_247 ji_247 jG_18_24
theorem e247_77 : jv_ev d 247 77 lc st h = jv_ev d 247 78 lc (.int 0 :: st) h := jq_iconst (jv_insR jm_247 dX17_of_77) (by decide)
theorem e247_78 : jv_ev d 247 78 lc [.int v] h = some (.inl (some (.int v)), h) := jq_reti (jv_insR jm_247 dX17_of_78) jr_247
/-! 248: RainLoom$Named.<init>(Ljava/lang/String;)V -/
theorem n248 : jv_cd (d + 1) 248 [.ref a0, .ref a1] h = jv_ev d 248 0 [some (.ref a0), some (.ref a1)] [] h := rfl
theorem e248_0 : jv_ev d 248 0 [some (.ref a), x1] st h = jv_ev d 248 1 [some (.ref a), x1] (.ref a :: st) h := jq_nx (jv_insR jm_248 dX18_init_0) rfl
theorem e248_1 : jv_ev d 248 1 lc [.ref b] h = if jt_off ≤ b then jv_ev d 248 4 lc [] h else none := jq_O (jv_insR jm_248 dX18_init_1) jo_248 jP_19_1 (Nat.le_of_ble_eq_true rfl)
theorem e248_4 : jv_ev d 248 4 [some (.ref a), x1] st h = jv_ev d 248 5 [some (.ref a), x1] (.ref a :: st) h := jq_nx (jv_insR jm_248 dX18_init_4) rfl
theorem e248_5 : jv_ev d 248 5 [x0, some (.ref a)] st h = jv_ev d 248 6 [x0, some (.ref a)] (.ref a :: st) h := jq_nx (jv_insR jm_248 dX18_init_5) rfl
theorem e248_6 : jv_ev d 248 6 lc (r :: .ref a :: st) h = (jv_pf h a [(16, 0, .object "java/lang/String"), (17, 0, .object "java/lang/String")] r).bind fun h => jv_ev d 248 9 lc st h := jq_put (jv_insR jm_248 dX18_init_6) jo_248 ji_248 jG_19_7i
theorem e248_9 : jv_ev d 248 9 lc [] h = some (.inl none, h) := jq_retv (jv_insR jm_248 dX18_init_9) jr_248
/-! 249: RainLoom$Field.<init>(Ljava/lang/String;)V -/
theorem n249 : jv_cd (d + 1) 249 [.ref a0, .ref a1] h = jv_ev d 249 0 [some (.ref a0), some (.ref a1)] [] h := rfl
theorem e249_0 : jv_ev d 249 0 [some (.ref a), x1] st h = jv_ev d 249 1 [some (.ref a), x1] (.ref a :: st) h := jq_nx (jv_insR jm_249 dX19_init_0) rfl
theorem e249_1 : jv_ev d 249 1 [x0, some (.ref a)] st h = jv_ev d 249 2 [x0, some (.ref a)] (.ref a :: st) h := jq_nx (jv_insR jm_249 dX19_init_1) rfl
theorem e249_2 : jv_ev d 249 2 lc [z0, .ref b] h = if jt_off ≤ b ∧ (jt_SU.contains 248 = false ∨ jv_cls h b = some 20) then ((jv_cd d 248 [.ref b, z0] h).bind fun r => jv_on r (fun v h => jv_ev d 249 5 lc (v.toList ++ []) h) (fun q h => some (.inr q, h))) else none := jq_P (as := [z0]) (rest := []) (jv_insR jm_249 dX19_init_2) jo_249 jP_20_1 rfl rfl rfl rfl
theorem e249_5 : jv_ev d 249 5 lc [] h = some (.inl none, h) := jq_retv (jv_insR jm_249 dX19_init_5) jr_249
/-! 250: RainLoom$Loom.<init>(Ljava/lang/String;)V -/
theorem n250 : jv_cd (d + 1) 250 [.ref a0, .ref a1] h = jv_ev d 250 0 [some (.ref a0), some (.ref a1)] [] h := rfl
theorem e250_0 : jv_ev d 250 0 [some (.ref a), x1] st h = jv_ev d 250 1 [some (.ref a), x1] (.ref a :: st) h := jq_nx (jv_insR jm_250 dX20_init_0) rfl
theorem e250_1 : jv_ev d 250 1 [x0, some (.ref a)] st h = jv_ev d 250 2 [x0, some (.ref a)] (.ref a :: st) h := jq_nx (jv_insR jm_250 dX20_init_1) rfl
theorem e250_2 : jv_ev d 250 2 lc [z0, .ref b] h = if jt_off ≤ b ∧ (jt_SU.contains 248 = false ∨ jv_cls h b = some 20) then ((jv_cd d 248 [.ref b, z0] h).bind fun r => jv_on r (fun v h => jv_ev d 250 5 lc (v.toList ++ []) h) (fun q h => some (.inr q, h))) else none := jq_P (as := [z0]) (rest := []) (jv_insR jm_250 dX20_init_2) jo_250 jP_21_1 rfl rfl rfl rfl
theorem e250_5 : jv_ev d 250 5 lc [] h = some (.inl none, h) := jq_retv (jv_insR jm_250 dX20_init_5) jr_250
end
