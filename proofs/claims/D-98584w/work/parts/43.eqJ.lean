/-! equations, an instruction a row: printed by gen_eq.py -/
set_option maxRecDepth 100000
section
variable {d : Nat} {h : jv_H} {lc : jv_L} {st : List Value} {u v w : Int32} {lv lw : Int64} {a b : Nat} {r : Value} {x0 x1 x2 x3 x4 x5 x6 x7 x8 x9 x10 x11 x12 x13 x14 x15 x16 x17 x18 x19 x20 x21 x22 x23 x24 x25 x26 x27 x28 x29 : Option Value} {y0 y1 y2 y3 y4 y5 y6 y7 z0 z1 z2 z3 z4 z5 z6 z7 z8 : Value} {a0 a1 a2 a3 a4 a5 a6 a7 a8 : Nat} {i0 i1 i2 i3 i4 i5 i6 i7 i8 : Int32} {l0 l1 l2 l3 l4 l5 l6 l7 l8 : Int64}
theorem jm_251 : jt_M[251]? = some (22, yJ0_init, cJ0_init, 1, (Option.none : Option Jvm.ClassFile.FieldType), []) := rfl
theorem jo_251 : jv_own 251 = 22 := rfl
theorem ji_251 : jv_init 251 = true := rfl
theorem jr_251 : jv_ret 251 = (Option.none : Option Jvm.ClassFile.FieldType) := rfl
theorem jm_252 : jt_M[252]? = some (22, yJ0_init_2, cJ0_init_2, 5, (Option.none : Option Jvm.ClassFile.FieldType), []) := rfl
theorem jo_252 : jv_own 252 = 22 := rfl
theorem ji_252 : jv_init 252 = true := rfl
theorem jr_252 : jv_ret 252 = (Option.none : Option Jvm.ClassFile.FieldType) := rfl
theorem jm_253 : jt_M[253]? = some (23, yJ1_init, cJ1_init, 5, (Option.none : Option Jvm.ClassFile.FieldType), []) := rfl
theorem jo_253 : jv_own 253 = 23 := rfl
theorem ji_253 : jv_init 253 = true := rfl
theorem jr_253 : jv_ret 253 = (Option.none : Option Jvm.ClassFile.FieldType) := rfl
theorem jm_254 : jt_M[254]? = some (24, yJ2_init, cJ2_init, 5, (Option.none : Option Jvm.ClassFile.FieldType), []) := rfl
theorem jo_254 : jv_own 254 = 24 := rfl
theorem ji_254 : jv_init 254 = true := rfl
theorem jr_254 : jv_ret 254 = (Option.none : Option Jvm.ClassFile.FieldType) := rfl
theorem jm_255 : jt_M[255]? = some (25, yJ3_init, cJ3_init, 1, (Option.none : Option Jvm.ClassFile.FieldType), []) := rfl
theorem jo_255 : jv_own 255 = 25 := rfl
theorem ji_255 : jv_init 255 = true := rfl
theorem jr_255 : jv_ret 255 = (Option.none : Option Jvm.ClassFile.FieldType) := rfl
theorem jm_256 : jt_M[256]? = some (26, yJ4_init, cJ4_init, 1, (Option.none : Option Jvm.ClassFile.FieldType), []) := rfl
theorem jo_256 : jv_own 256 = 26 := rfl
theorem ji_256 : jv_init 256 = true := rfl
theorem jr_256 : jv_ret 256 = (Option.none : Option Jvm.ClassFile.FieldType) := rfl
theorem jm_257 : jt_M[257]? = some (27, yJ5_init, cJ5_init, 1, (Option.none : Option Jvm.ClassFile.FieldType), []) := rfl
theorem jo_257 : jv_own 257 = 27 := rfl
theorem ji_257 : jv_init 257 = true := rfl
theorem jr_257 : jv_ret 257 = (Option.none : Option Jvm.ClassFile.FieldType) := rfl
theorem jm_258 : jt_M[258]? = some (27, yJ5_size, cJ5_size, 1, (Option.some Jvm.ClassFile.FieldType.int), []) := rfl
theorem jo_258 : jv_own 258 = 27 := rfl
theorem ji_258 : jv_init 258 = false := rfl
theorem jr_258 : jv_ret 258 = (Option.some Jvm.ClassFile.FieldType.int) := rfl
theorem jm_259 : jt_M[259]? = some (27, yJ5_get, cJ5_get, 2, (Option.some (Jvm.ClassFile.FieldType.object "java/lang/Object")), []) := rfl
theorem jo_259 : jv_own 259 = 27 := rfl
theorem ji_259 : jv_init 259 = false := rfl
theorem jr_259 : jv_ret 259 = (Option.some (Jvm.ClassFile.FieldType.object "java/lang/Object")) := rfl
theorem jm_260 : jt_M[260]? = some (27, yJ5_elementData, cJ5_elementData, 2, (Option.some (Jvm.ClassFile.FieldType.object "java/lang/Object")), []) := rfl
theorem jo_260 : jv_own 260 = 27 := rfl
theorem ji_260 : jv_init 260 = false := rfl
theorem jr_260 : jv_ret 260 = (Option.some (Jvm.ClassFile.FieldType.object "java/lang/Object")) := rfl
theorem jm_261 : jt_M[261]? = some (27, yJ5_add, cJ5_add, 2, (Option.some Jvm.ClassFile.FieldType.boolean), []) := rfl
theorem jo_261 : jv_own 261 = 27 := rfl
theorem ji_261 : jv_init 261 = false := rfl
theorem jr_261 : jv_ret 261 = (Option.some Jvm.ClassFile.FieldType.boolean) := rfl
theorem jm_262 : jt_M[262]? = some (27, yJ5_add_2, cJ5_add_2, 4, (Option.none : Option Jvm.ClassFile.FieldType), []) := rfl
theorem jo_262 : jv_own 262 = 27 := rfl
theorem ji_262 : jv_init 262 = false := rfl
theorem jr_262 : jv_ret 262 = (Option.none : Option Jvm.ClassFile.FieldType) := rfl
theorem jm_263 : jt_M[263]? = some (27, yJ5_grow, cJ5_grow, 1, (Option.some (Jvm.ClassFile.FieldType.array (Jvm.ClassFile.FieldType.object "java/lang/Object"))), []) := rfl
theorem jo_263 : jv_own 263 = 27 := rfl
theorem ji_263 : jv_init 263 = false := rfl
theorem jr_263 : jv_ret 263 = (Option.some (Jvm.ClassFile.FieldType.array (Jvm.ClassFile.FieldType.object "java/lang/Object"))) := rfl
theorem jm_264 : jt_M[264]? = some (27, yJ5_grow_2, cJ5_grow_2, 4, (Option.some (Jvm.ClassFile.FieldType.array (Jvm.ClassFile.FieldType.object "java/lang/Object"))), []) := rfl
theorem jo_264 : jv_own 264 = 27 := rfl
theorem ji_264 : jv_init 264 = false := rfl
theorem jr_264 : jv_ret 264 = (Option.some (Jvm.ClassFile.FieldType.array (Jvm.ClassFile.FieldType.object "java/lang/Object"))) := rfl
theorem jm_265 : jt_M[265]? = some (28, yJ6_checkIndex, cJ6_checkIndex, 2, (Option.some Jvm.ClassFile.FieldType.int), []) := rfl
theorem jo_265 : jv_own 265 = 28 := rfl
theorem ji_265 : jv_init 265 = false := rfl
theorem jr_265 : jv_ret 265 = (Option.some Jvm.ClassFile.FieldType.int) := rfl
theorem jm_266 : jt_M[266]? = some (29, yJ7_checkIndex, cJ7_checkIndex, 3, (Option.some Jvm.ClassFile.FieldType.int), []) := rfl
theorem jo_266 : jv_own 266 = 29 := rfl
theorem ji_266 : jv_init 266 = false := rfl
theorem jr_266 : jv_ret 266 = (Option.some Jvm.ClassFile.FieldType.int) := rfl
theorem jm_267 : jt_M[267]? = some (29, yJ7_checkFromIndexSize, cJ7_checkFromIndexSize, 4, (Option.some Jvm.ClassFile.FieldType.int), []) := rfl
theorem jo_267 : jv_own 267 = 29 := rfl
theorem ji_267 : jv_init 267 = false := rfl
theorem jr_267 : jv_ret 267 = (Option.some Jvm.ClassFile.FieldType.int) := rfl
theorem jm_268 : jt_M[268]? = some (30, yJ8_length, cJ8_length, 1, (Option.some Jvm.ClassFile.FieldType.int), []) := rfl
theorem jo_268 : jv_own 268 = 30 := rfl
theorem ji_268 : jv_init 268 = false := rfl
theorem jr_268 : jv_ret 268 = (Option.some Jvm.ClassFile.FieldType.int) := rfl
theorem jm_269 : jt_M[269]? = some (30, yJ8_coder, cJ8_coder, 1, (Option.some Jvm.ClassFile.FieldType.byte), []) := rfl
theorem jo_269 : jv_own 269 = 30 := rfl
theorem ji_269 : jv_init 269 = false := rfl
theorem jr_269 : jv_ret 269 = (Option.some Jvm.ClassFile.FieldType.byte) := rfl
theorem jm_270 : jt_M[270]? = some (30, yJ8_charAt, cJ8_charAt, 2, (Option.some Jvm.ClassFile.FieldType.char), []) := rfl
theorem jo_270 : jv_own 270 = 30 := rfl
theorem ji_270 : jv_init 270 = false := rfl
theorem jr_270 : jv_ret 270 = (Option.some Jvm.ClassFile.FieldType.char) := rfl
theorem jm_271 : jt_M[271]? = some (30, yJ8_isLatin1, cJ8_isLatin1, 1, (Option.some Jvm.ClassFile.FieldType.boolean), []) := rfl
theorem jo_271 : jv_own 271 = 30 := rfl
theorem ji_271 : jv_init 271 = false := rfl
theorem jr_271 : jv_ret 271 = (Option.some Jvm.ClassFile.FieldType.boolean) := rfl
theorem jm_272 : jt_M[272]? = some (30, yJ8_checkIndex, cJ8_checkIndex, 2, (Option.none : Option Jvm.ClassFile.FieldType), []) := rfl
theorem jo_272 : jv_own 272 = 30 := rfl
theorem ji_272 : jv_init 272 = false := rfl
theorem jr_272 : jv_ret 272 = (Option.none : Option Jvm.ClassFile.FieldType) := rfl
theorem jm_273 : jt_M[273]? = some (30, yJ8_checkBoundsOffCount, cJ8_checkBoundsOffCount, 3, (Option.some Jvm.ClassFile.FieldType.int), []) := rfl
theorem jo_273 : jv_own 273 = 30 := rfl
theorem ji_273 : jv_init 273 = false := rfl
theorem jr_273 : jv_ret 273 = (Option.some Jvm.ClassFile.FieldType.int) := rfl
theorem jm_274 : jt_M[274]? = some (30, yJ8_init, cJ8_init, 2, (Option.none : Option Jvm.ClassFile.FieldType), []) := rfl
theorem jo_274 : jv_own 274 = 30 := rfl
theorem ji_274 : jv_init 274 = true := rfl
theorem jr_274 : jv_ret 274 = (Option.none : Option Jvm.ClassFile.FieldType) := rfl
theorem jm_275 : jt_M[275]? = some (30, yJ8_init_2, cJ8_init_2, 5, (Option.none : Option Jvm.ClassFile.FieldType), []) := rfl
theorem jo_275 : jv_own 275 = 30 := rfl
theorem ji_275 : jv_init 275 = true := rfl
theorem jr_275 : jv_ret 275 = (Option.none : Option Jvm.ClassFile.FieldType) := rfl
theorem jm_276 : jt_M[276]? = some (30, yJ8_equals, cJ8_equals, 3, (Option.some Jvm.ClassFile.FieldType.boolean), []) := rfl
theorem jo_276 : jv_own 276 = 30 := rfl
theorem ji_276 : jv_init 276 = false := rfl
theorem jr_276 : jv_ret 276 = (Option.some Jvm.ClassFile.FieldType.boolean) := rfl
theorem jm_277 : jt_M[277]? = some (31, yJ9_charAt, cJ9_charAt, 2, (Option.some Jvm.ClassFile.FieldType.char), []) := rfl
theorem jo_277 : jv_own 277 = 31 := rfl
theorem ji_277 : jv_init 277 = false := rfl
theorem jr_277 : jv_ret 277 = (Option.some Jvm.ClassFile.FieldType.char) := rfl
theorem jm_278 : jt_M[278]? = some (31, yJ9_canEncode, cJ9_canEncode, 1, (Option.some Jvm.ClassFile.FieldType.boolean), []) := rfl
theorem jo_278 : jv_own 278 = 31 := rfl
theorem ji_278 : jv_init 278 = false := rfl
theorem jr_278 : jv_ret 278 = (Option.some Jvm.ClassFile.FieldType.boolean) := rfl
theorem jm_279 : jt_M[279]? = some (31, yJ9_inflate, cJ9_inflate, 5, (Option.none : Option Jvm.ClassFile.FieldType), []) := rfl
theorem jo_279 : jv_own 279 = 31 := rfl
theorem ji_279 : jv_init 279 = false := rfl
theorem jr_279 : jv_ret 279 = (Option.none : Option Jvm.ClassFile.FieldType) := rfl
theorem jm_280 : jt_M[280]? = some (31, yJ9_equals, cJ9_equals, 3, (Option.some Jvm.ClassFile.FieldType.boolean), []) := rfl
theorem jo_280 : jv_own 280 = 31 := rfl
theorem ji_280 : jv_init 280 = false := rfl
theorem jr_280 : jv_ret 280 = (Option.some Jvm.ClassFile.FieldType.boolean) := rfl
theorem jm_281 : jt_M[281]? = some (32, yJ10_charAt, cJ10_charAt, 2, (Option.some Jvm.ClassFile.FieldType.char), []) := rfl
theorem jo_281 : jv_own 281 = 32 := rfl
theorem ji_281 : jv_init 281 = false := rfl
theorem jr_281 : jv_ret 281 = (Option.some Jvm.ClassFile.FieldType.char) := rfl
theorem jm_282 : jt_M[282]? = some (32, yJ10_checkIndex, cJ10_checkIndex, 2, (Option.none : Option Jvm.ClassFile.FieldType), []) := rfl
theorem jo_282 : jv_own 282 = 32 := rfl
theorem ji_282 : jv_init 282 = false := rfl
theorem jr_282 : jv_ret 282 = (Option.none : Option Jvm.ClassFile.FieldType) := rfl
theorem jm_283 : jt_M[283]? = some (32, yJ10_length, cJ10_length, 1, (Option.some Jvm.ClassFile.FieldType.int), []) := rfl
theorem jo_283 : jv_own 283 = 32 := rfl
theorem ji_283 : jv_init 283 = false := rfl
theorem jr_283 : jv_ret 283 = (Option.some Jvm.ClassFile.FieldType.int) := rfl
theorem jm_284 : jt_M[284]? = some (32, yJ10_getChar, cJ10_getChar, 2, (Option.some Jvm.ClassFile.FieldType.char), []) := rfl
theorem jo_284 : jv_own 284 = 32 := rfl
theorem ji_284 : jv_init 284 = false := rfl
theorem jr_284 : jv_ret 284 = (Option.some Jvm.ClassFile.FieldType.char) := rfl
theorem jm_285 : jt_M[285]? = some (32, yJ10_newBytesFor, cJ10_newBytesFor, 1, (Option.some (Jvm.ClassFile.FieldType.array Jvm.ClassFile.FieldType.byte)), []) := rfl
theorem jo_285 : jv_own 285 = 32 := rfl
theorem ji_285 : jv_init 285 = false := rfl
theorem jr_285 : jv_ret 285 = (Option.some (Jvm.ClassFile.FieldType.array Jvm.ClassFile.FieldType.byte)) := rfl
theorem jm_286 : jt_M[286]? = some (32, yJ10_newBytesLength, cJ10_newBytesLength, 1, (Option.some Jvm.ClassFile.FieldType.int), []) := rfl
theorem jo_286 : jv_own 286 = 32 := rfl
theorem ji_286 : jv_init 286 = false := rfl
theorem jr_286 : jv_ret 286 = (Option.some Jvm.ClassFile.FieldType.int) := rfl
theorem jm_287 : jt_M[287]? = some (32, yJ10_inflate, cJ10_inflate, 6, (Option.none : Option Jvm.ClassFile.FieldType), []) := rfl
theorem jo_287 : jv_own 287 = 32 := rfl
theorem ji_287 : jv_init 287 = false := rfl
theorem jr_287 : jv_ret 287 = (Option.none : Option Jvm.ClassFile.FieldType) := rfl
theorem jm_288 : jt_M[288]? = some (32, yJ10_checkBoundsOffCount, cJ10_checkBoundsOffCount, 3, (Option.none : Option Jvm.ClassFile.FieldType), []) := rfl
theorem jo_288 : jv_own 288 = 32 := rfl
theorem ji_288 : jv_init 288 = false := rfl
theorem jr_288 : jv_ret 288 = (Option.none : Option Jvm.ClassFile.FieldType) := rfl
theorem jm_289 : jt_M[289]? = some (32, yJ10_putChar, cJ10_putChar, 3, (Option.none : Option Jvm.ClassFile.FieldType), []) := rfl
theorem jo_289 : jv_own 289 = 32 := rfl
theorem ji_289 : jv_init 289 = false := rfl
theorem jr_289 : jv_ret 289 = (Option.none : Option Jvm.ClassFile.FieldType) := rfl
theorem jm_290 : jt_M[290]? = some (32, yJ10_putCharSB, cJ10_putCharSB, 3, (Option.none : Option Jvm.ClassFile.FieldType), []) := rfl
theorem jo_290 : jv_own 290 = 32 := rfl
theorem ji_290 : jv_init 290 = false := rfl
theorem jr_290 : jv_ret 290 = (Option.none : Option Jvm.ClassFile.FieldType) := rfl
theorem jm_291 : jt_M[291]? = some (32, yJ10_compress, cJ10_compress, 6, (Option.some (Jvm.ClassFile.FieldType.array Jvm.ClassFile.FieldType.byte)), []) := rfl
theorem jo_291 : jv_own 291 = 32 := rfl
theorem ji_291 : jv_init 291 = false := rfl
theorem jr_291 : jv_ret 291 = (Option.some (Jvm.ClassFile.FieldType.array Jvm.ClassFile.FieldType.byte)) := rfl
theorem jm_292 : jt_M[292]? = some (32, yJ10_compress_2, cJ10_compress_2, 7, (Option.some Jvm.ClassFile.FieldType.int), []) := rfl
theorem jo_292 : jv_own 292 = 32 := rfl
theorem ji_292 : jv_init 292 = false := rfl
theorem jr_292 : jv_ret 292 = (Option.some Jvm.ClassFile.FieldType.int) := rfl
theorem jm_293 : jt_M[293]? = some (32, yJ10_coderFromArrayLen, cJ10_coderFromArrayLen, 2, (Option.some Jvm.ClassFile.FieldType.byte), []) := rfl
theorem jo_293 : jv_own 293 = 32 := rfl
theorem ji_293 : jv_init 293 = false := rfl
theorem jr_293 : jv_ret 293 = (Option.some Jvm.ClassFile.FieldType.byte) := rfl
theorem jm_294 : jt_M[294]? = some (33, yJ11_init, cJ11_init, 2, (Option.none : Option Jvm.ClassFile.FieldType), []) := rfl
theorem jo_294 : jv_own 294 = 33 := rfl
theorem ji_294 : jv_init 294 = true := rfl
theorem jr_294 : jv_ret 294 = (Option.none : Option Jvm.ClassFile.FieldType) := rfl
theorem jm_295 : jt_M[295]? = some (33, yJ11_append, cJ11_append, 2, (Option.some (Jvm.ClassFile.FieldType.object "java/lang/AbstractStringBuilder")), []) := rfl
theorem jo_295 : jv_own 295 = 33 := rfl
theorem ji_295 : jv_init 295 = false := rfl
theorem jr_295 : jv_ret 295 = (Option.some (Jvm.ClassFile.FieldType.object "java/lang/AbstractStringBuilder")) := rfl
theorem jm_296 : jt_M[296]? = some (33, yJ11_ensureCapacityInternal, cJ11_ensureCapacityInternal, 3, (Option.none : Option Jvm.ClassFile.FieldType), []) := rfl
theorem jo_296 : jv_own 296 = 33 := rfl
theorem ji_296 : jv_init 296 = false := rfl
theorem jr_296 : jv_ret 296 = (Option.none : Option Jvm.ClassFile.FieldType) := rfl
theorem jm_297 : jt_M[297]? = some (33, yJ11_newCapacity, cJ11_newCapacity, 6, (Option.some Jvm.ClassFile.FieldType.int), []) := rfl
theorem jo_297 : jv_own 297 = 33 := rfl
theorem ji_297 : jv_init 297 = false := rfl
theorem jr_297 : jv_ret 297 = (Option.some Jvm.ClassFile.FieldType.int) := rfl
theorem jm_298 : jt_M[298]? = some (33, yJ11_isLatin1, cJ11_isLatin1, 1, (Option.some Jvm.ClassFile.FieldType.boolean), []) := rfl
theorem jo_298 : jv_own 298 = 33 := rfl
theorem ji_298 : jv_init 298 = false := rfl
theorem jr_298 : jv_ret 298 = (Option.some Jvm.ClassFile.FieldType.boolean) := rfl
theorem jm_299 : jt_M[299]? = some (33, yJ11_inflate, cJ11_inflate, 2, (Option.none : Option Jvm.ClassFile.FieldType), []) := rfl
theorem jo_299 : jv_own 299 = 33 := rfl
theorem ji_299 : jv_init 299 = false := rfl
theorem jr_299 : jv_ret 299 = (Option.none : Option Jvm.ClassFile.FieldType) := rfl
theorem jm_300 : jt_M[300]? = some (33, yJ11_getValue, cJ11_getValue, 1, (Option.some (Jvm.ClassFile.FieldType.array Jvm.ClassFile.FieldType.byte)), []) := rfl
theorem jo_300 : jv_own 300 = 33 := rfl
theorem ji_300 : jv_init 300 = false := rfl
theorem jr_300 : jv_ret 300 = (Option.some (Jvm.ClassFile.FieldType.array Jvm.ClassFile.FieldType.byte)) := rfl
theorem jm_301 : jt_M[301]? = some (33, yJ11_length, cJ11_length, 1, (Option.some Jvm.ClassFile.FieldType.int), []) := rfl
theorem jo_301 : jv_own 301 = 33 := rfl
theorem ji_301 : jv_init 301 = false := rfl
theorem jr_301 : jv_ret 301 = (Option.some Jvm.ClassFile.FieldType.int) := rfl
theorem jm_302 : jt_M[302]? = some (34, yJ12_init, cJ12_init, 1, (Option.none : Option Jvm.ClassFile.FieldType), []) := rfl
theorem jo_302 : jv_own 302 = 34 := rfl
theorem ji_302 : jv_init 302 = true := rfl
theorem jr_302 : jv_ret 302 = (Option.none : Option Jvm.ClassFile.FieldType) := rfl
theorem jm_303 : jt_M[303]? = some (34, yJ12_append, cJ12_append, 2, (Option.some (Jvm.ClassFile.FieldType.object "java/lang/StringBuilder")), []) := rfl
theorem jo_303 : jv_own 303 = 34 := rfl
theorem ji_303 : jv_init 303 = false := rfl
theorem jr_303 : jv_ret 303 = (Option.some (Jvm.ClassFile.FieldType.object "java/lang/StringBuilder")) := rfl
theorem jm_304 : jt_M[304]? = some (34, yJ12_toString, cJ12_toString, 1, (Option.some (Jvm.ClassFile.FieldType.object "java/lang/String")), []) := rfl
theorem jo_304 : jv_own 304 = 34 := rfl
theorem ji_304 : jv_init 304 = false := rfl
theorem jr_304 : jv_ret 304 = (Option.some (Jvm.ClassFile.FieldType.object "java/lang/String")) := rfl
theorem jm_305 : jt_M[305]? = some (34, yJ12_length, cJ12_length, 1, (Option.some Jvm.ClassFile.FieldType.int), []) := rfl
theorem jo_305 : jv_own 305 = 34 := rfl
theorem ji_305 : jv_init 305 = false := rfl
theorem jr_305 : jv_ret 305 = (Option.some Jvm.ClassFile.FieldType.int) := rfl
theorem jm_306 : jt_M[306]? = some (35, yJ13_newLength, cJ13_newLength, 4, (Option.some Jvm.ClassFile.FieldType.int), []) := rfl
theorem jo_306 : jv_own 306 = 35 := rfl
theorem ji_306 : jv_init 306 = false := rfl
theorem jr_306 : jv_ret 306 = (Option.some Jvm.ClassFile.FieldType.int) := rfl
theorem jm_307 : jt_M[307]? = some (35, yJ13_hugeLength, cJ13_hugeLength, 3, (Option.some Jvm.ClassFile.FieldType.int), []) := rfl
theorem jo_307 : jv_own 307 = 35 := rfl
theorem ji_307 : jv_init 307 = false := rfl
theorem jr_307 : jv_ret 307 = (Option.some Jvm.ClassFile.FieldType.int) := rfl
theorem jm_308 : jt_M[308]? = some (36, yJ14_max, cJ14_max, 2, (Option.some Jvm.ClassFile.FieldType.int), []) := rfl
theorem jo_308 : jv_own 308 = 36 := rfl
theorem ji_308 : jv_init 308 = false := rfl
theorem jr_308 : jv_ret 308 = (Option.some Jvm.ClassFile.FieldType.int) := rfl
theorem jm_309 : jt_M[309]? = some (36, yJ14_min, cJ14_min, 2, (Option.some Jvm.ClassFile.FieldType.int), []) := rfl
theorem jo_309 : jv_own 309 = 36 := rfl
theorem ji_309 : jv_init 309 = false := rfl
theorem jr_309 : jv_ret 309 = (Option.some Jvm.ClassFile.FieldType.int) := rfl
theorem jm_310 : jt_M[310]? = some (36, yJ14_abs, cJ14_abs, 1, (Option.some Jvm.ClassFile.FieldType.int), []) := rfl
theorem jo_310 : jv_own 310 = 36 := rfl
theorem ji_310 : jv_init 310 = false := rfl
theorem jr_310 : jv_ret 310 = (Option.some Jvm.ClassFile.FieldType.int) := rfl
theorem jm_311 : jt_M[311]? = some (37, yJ15_copyOf, cJ15_copyOf, 3, (Option.some (Jvm.ClassFile.FieldType.array Jvm.ClassFile.FieldType.byte)), []) := rfl
theorem jo_311 : jv_own 311 = 37 := rfl
theorem ji_311 : jv_init 311 = false := rfl
theorem jr_311 : jv_ret 311 = (Option.some (Jvm.ClassFile.FieldType.array Jvm.ClassFile.FieldType.byte)) := rfl
theorem jm_312 : jt_M[312]? = some (37, yJ15_copyOfRange, cJ15_copyOfRange, 3, (Option.some (Jvm.ClassFile.FieldType.array Jvm.ClassFile.FieldType.byte)), []) := rfl
theorem jo_312 : jv_own 312 = 37 := rfl
theorem ji_312 : jv_init 312 = false := rfl
theorem jr_312 : jv_ret 312 = (Option.some (Jvm.ClassFile.FieldType.array Jvm.ClassFile.FieldType.byte)) := rfl
theorem jm_313 : jt_M[313]? = some (37, yJ15_copyOfRangeByte, cJ15_copyOfRangeByte, 5, (Option.some (Jvm.ClassFile.FieldType.array Jvm.ClassFile.FieldType.byte)), []) := rfl
theorem jo_313 : jv_own 313 = 37 := rfl
theorem ji_313 : jv_init 313 = false := rfl
theorem jr_313 : jv_ret 313 = (Option.some (Jvm.ClassFile.FieldType.array Jvm.ClassFile.FieldType.byte)) := rfl
theorem jm_314 : jt_M[314]? = some (37, yJ15_checkLength, cJ15_checkLength, 2, (Option.none : Option Jvm.ClassFile.FieldType), []) := rfl
theorem jo_314 : jv_own 314 = 37 := rfl
theorem ji_314 : jv_init 314 = false := rfl
theorem jr_314 : jv_ret 314 = (Option.none : Option Jvm.ClassFile.FieldType) := rfl
theorem jm_315 : jt_M[315]? = some (37, yJ15_copyOf_2, cJ15_copyOf_2, 2, (Option.some (Jvm.ClassFile.FieldType.array (Jvm.ClassFile.FieldType.object "java/lang/Object"))), []) := rfl
theorem jo_315 : jv_own 315 = 37 := rfl
theorem ji_315 : jv_init 315 = false := rfl
theorem jr_315 : jv_ret 315 = (Option.some (Jvm.ClassFile.FieldType.array (Jvm.ClassFile.FieldType.object "java/lang/Object"))) := rfl
theorem jm_316 : jt_M[316]? = some (37, yJ15_copyOf_3, cJ15_copyOf_3, 4, (Option.some (Jvm.ClassFile.FieldType.array (Jvm.ClassFile.FieldType.object "java/lang/Object"))), []) := rfl
theorem jo_316 : jv_own 316 = 37 := rfl
theorem ji_316 : jv_init 316 = false := rfl
theorem jr_316 : jv_ret 316 = (Option.some (Jvm.ClassFile.FieldType.array (Jvm.ClassFile.FieldType.object "java/lang/Object"))) := rfl
theorem jA_27_7 : jv_find jt_AN 27 7 = some (6) := rfl
theorem jF_27_48 : jv_F 27 48 = [(18, 2, .int)] := rfl
theorem jF_27_63 : jv_F 27 63 = [(18, 0, .int)] := rfl
theorem jF_27_9 : jv_F 27 9 = [(18, 1, .array (.object "java/lang/Object"))] := rfl
theorem jF_30_1048 : jv_F 30 1048 = [(20, 2, .boolean)] := rfl
theorem jF_30_15 : jv_F 30 15 = [(19, 1, .byte)] := rfl
theorem jF_30_9 : jv_F 30 9 = [(19, 0, .array .byte)] := rfl
theorem jF_33_15 : jv_F 33 15 = [(20, 0, .array .byte)] := rfl
theorem jF_33_22 : jv_F 33 22 = [(20, 1, .byte)] := rfl
theorem jF_33_79 : jv_F 33 79 = [(20, 3, .int)] := rfl
theorem jG_22_17i : jv_FP 22 true 17 = [(2, 1, .array (.object "java/lang/StackTraceElement"))] := rfl
theorem jG_22_24i : jv_FP 22 true 24 = [(2, 2, .object "java/util/List")] := rfl
theorem jG_22_31i : jv_FP 22 true 31 = [(2, 3, .object "java/lang/String")] := rfl
theorem jG_22_7i : jv_FP 22 true 7 = [(2, 0, .object "java/lang/Throwable")] := rfl
theorem jG_26_7i : jv_FP 26 true 7 = [(18, 0, .int)] := rfl
theorem jG_27_48 : jv_FP 27 false 48 = [(18, 2, .int)] := rfl
theorem jG_27_63 : jv_FP 27 false 63 = [(18, 0, .int)] := rfl
theorem jG_27_9 : jv_FP 27 false 9 = [(18, 1, .array (.object "java/lang/Object"))] := rfl
theorem jG_27_9i : jv_FP 27 true 9 = [(18, 1, .array (.object "java/lang/Object"))] := rfl
theorem jG_30_15i : jv_FP 30 true 15 = [(19, 1, .byte)] := rfl
theorem jG_30_9i : jv_FP 30 true 9 = [(19, 0, .array .byte)] := rfl
theorem jG_33_15 : jv_FP 33 false 15 = [(20, 0, .array .byte)] := rfl
theorem jG_33_15i : jv_FP 33 true 15 = [(20, 0, .array .byte)] := rfl
theorem jG_33_22 : jv_FP 33 false 22 = [(20, 1, .byte)] := rfl
theorem jG_33_22i : jv_FP 33 true 22 = [(20, 1, .byte)] := rfl
theorem jG_33_79 : jv_FP 33 false 79 = [(20, 3, .int)] := rfl
theorem jK_32_20 : jv_find jt_K 32 20 = some (.int (1073741823)) := rfl
theorem jK_33_39 : jv_find jt_K 33 39 = some (.int (2147483647)) := rfl
theorem jK_35_200 : jv_find jt_K 35 200 = some (.int (2147483639)) := rfl
theorem jN_34_18 : jv_find jt_N 34 18 = some (19) := rfl
theorem jP_22_1 : jv_find jt_P 22 1 = some ((0, none)) := rfl
theorem jP_23_16 : jv_find jt_P 23 16 = some ((4, some 252)) := rfl
theorem jP_24_16 : jv_find jt_P 24 16 = some ((4, some 253)) := rfl
theorem jP_25_1 : jv_find jt_P 25 1 = some ((0, none)) := rfl
theorem jP_26_1 : jv_find jt_P 26 1 = some ((0, some 255)) := rfl
theorem jP_27_1 : jv_find jt_P 27 1 = some ((0, some 256)) := rfl
theorem jP_30_1 : jv_find jt_P 30 1 = some ((0, none)) := rfl
theorem jP_30_489 : jv_find jt_P 30 489 = some ((2, some 275)) := rfl
theorem jP_33_3 : jv_find jt_P 33 3 = some ((0, none)) := rfl
theorem jP_34_1 : jv_find jt_P 34 1 = some ((1, some 294)) := rfl
theorem jP_34_137 : jv_find jt_P 34 137 = some ((1, some 274)) := rfl
theorem jP_34_343 : jv_find jt_P 34 343 = some ((0, some 301)) := rfl
theorem jP_34_50 : jv_find jt_P 34 50 = some ((1, some 295)) := rfl
theorem jS_22_13 : jv_find jt_G 22 13 = some (.ref 46) := rfl
theorem jS_22_20 : jv_find jt_G 22 20 = some (.ref 47) := rfl
theorem jS_27_39 : jv_find jt_G 27 39 = some (.ref 45) := rfl
theorem jS_30_1053 : jv_find jt_G 30 1053 = some (.ref 48) := rfl
theorem jS_30_38 : jv_find jt_G 30 38 = some (.int 1) := rfl
theorem jS_32_44 : jv_find jt_G 32 44 = some (.int 1) := rfl
theorem jS_32_59 : jv_find jt_G 32 59 = some (.int 0) := rfl
theorem jS_32_63 : jv_find jt_G 32 63 = some (.int 8) := rfl
theorem jS_33_18 : jv_find jt_G 33 18 = some (.int 1) := rfl
theorem jT_27_118 : jv_find jt_S 27 118 = some ((2, some 265)) := rfl
theorem jT_27_66 : jv_find jt_S 27 66 = some ((2, some 315)) := rfl
theorem jT_27_73 : jv_find jt_S 27 73 = some ((3, some 306)) := rfl
theorem jT_27_79 : jv_find jt_S 27 79 = some ((2, some 308)) := rfl
theorem jT_28_105 : jv_find jt_S 28 105 = some ((3, some 266)) := rfl
theorem jT_30_1051 : jv_find jt_S 30 1051 = some ((3, some 291)) := rfl
theorem jT_30_1059 : jv_find jt_S 30 1059 = some ((3, some 266)) := rfl
theorem jT_30_1065 : jv_find jt_S 30 1065 = some ((4, some 267)) := rfl
theorem jT_30_47 : jv_find jt_S 30 47 = some ((2, some 293)) := rfl
theorem jT_30_495 : jv_find jt_S 30 495 = some ((2, some 277)) := rfl
theorem jT_30_498 : jv_find jt_S 30 498 = some ((2, some 281)) := rfl
theorem jT_30_54 : jv_find jt_S 30 54 = some ((3, some 312)) := rfl
theorem jT_30_541 : jv_find jt_S 30 541 = some ((2, some 280)) := rfl
theorem jT_31_240 : jv_find jt_S 31 240 = some ((5, some 287)) := rfl
theorem jT_31_9 : jv_find jt_S 31 9 = some ((2, some 272)) := rfl
theorem jT_32_11 : jv_find jt_S 32 11 = some ((1, some 286)) := rfl
theorem jT_32_111 : jv_find jt_S 32 111 = some ((3, some 289)) := rfl
theorem jT_32_123 : jv_find jt_S 32 123 = some ((5, some 292)) := rfl
theorem jT_32_126 : jv_find jt_S 32 126 = some ((3, some 312)) := rfl
theorem jT_32_173 : jv_find jt_S 32 173 = some ((3, some 288)) := rfl
theorem jT_32_414 : jv_find jt_S 32 414 = some ((2, some 272)) := rfl
theorem jT_32_419 : jv_find jt_S 32 419 = some ((3, some 273)) := rfl
theorem jT_32_48 : jv_find jt_S 32 48 = some ((1, some 283)) := rfl
theorem jT_32_67 : jv_find jt_S 32 67 = some ((2, some 282)) := rfl
theorem jT_32_71 : jv_find jt_S 32 71 = some ((2, some 284)) := rfl
theorem jT_33_108 : jv_find jt_S 33 108 = some ((2, some 311)) := rfl
theorem jT_33_114 : jv_find jt_S 33 114 = some ((3, some 306)) := rfl
theorem jT_33_125 : jv_find jt_S 33 125 = some ((5, some 279)) := rfl
theorem jT_33_191 : jv_find jt_S 33 191 = some ((1, some 278)) := rfl
theorem jT_33_197 : jv_find jt_S 33 197 = some ((3, some 290)) := rfl
theorem jT_33_26 : jv_find jt_S 33 26 = some ((1, some 285)) := rfl
theorem jT_35_194 : jv_find jt_S 35 194 = some ((2, some 308)) := rfl
theorem jT_35_201 : jv_find jt_S 35 201 = some ((2, some 307)) := rfl
theorem jT_37_150 : jv_find jt_S 37 150 = some ((5, none)) := rfl
theorem jT_37_300 : jv_find jt_S 37 300 = some ((3, some 316)) := rfl
theorem jT_37_304 : jv_find jt_S 37 304 = some ((2, some 309)) := rfl
theorem jT_37_339 : jv_find jt_S 37 339 = some ((3, some 313)) := rfl
theorem jT_37_343 : jv_find jt_S 37 343 = some ((2, some 314)) := rfl
theorem jV_27_123 : jv_find jt_V 27 123 = some ((1, [(18, 260)])) := rfl
theorem jV_27_129 : jv_find jt_V 27 129 = some ((0, [(18, 263)])) := rfl
theorem jV_27_131 : jv_find jt_V 27 131 = some ((3, [(18, 262)])) := rfl
theorem jV_27_69 : jv_find jt_V 27 69 = some ((1, [(18, 264)])) := rfl
theorem jV_30_1047 : jv_find jt_V 30 1047 = some ((0, [(20, 298)])) := rfl
theorem jV_30_335 : jv_find jt_V 30 335 = some ((0, [(19, 269)])) := rfl
theorem jV_30_492 : jv_find jt_V 30 492 = some ((0, [(19, 271)])) := rfl
theorem jV_30_549 : jv_find jt_V 30 549 = some ((0, [(20, 305)])) := rfl
theorem jV_30_552 : jv_find jt_V 30 552 = some ((0, [(20, 300)])) := rfl
theorem jV_33_100 : jv_find jt_V 33 100 = some ((1, [(20, 296)])) := rfl
theorem jV_33_104 : jv_find jt_V 33 104 = some ((1, [(20, 297)])) := rfl
theorem jV_33_195 : jv_find jt_V 33 195 = some ((0, [(20, 299)])) := rfl
theorem jV_33_83 : jv_find jt_V 33 83 = some ((0, [(20, 298)])) := rfl
/-! 251: java/lang/Throwable.<init>()V -/
theorem n251 : jv_cd (d + 1) 251 [.ref a0] h = jv_ev d 251 0 [some (.ref a0)] [] h := rfl
theorem e251_0 : jv_ev d 251 0 [some (.ref a)] st h = jv_ev d 251 1 [some (.ref a)] (.ref a :: st) h := jq_nx (jv_insR jm_251 dJ0_init_0) rfl
theorem e251_1 : jv_ev d 251 1 lc [.ref b] h = if jt_off ≤ b then jv_ev d 251 4 lc [] h else none := jq_O (jv_insR jm_251 dJ0_init_1) jo_251 jP_22_1 (Nat.le_of_ble_eq_true rfl)
theorem e251_4 : jv_ev d 251 4 [some (.ref a)] st h = jv_ev d 251 5 [some (.ref a)] (.ref a :: st) h := jq_nx (jv_insR jm_251 dJ0_init_4) rfl
theorem e251_5 : jv_ev d 251 5 [some (.ref a)] st h = jv_ev d 251 6 [some (.ref a)] (.ref a :: st) h := jq_nx (jv_insR jm_251 dJ0_init_5) rfl
theorem e251_6 : jv_ev d 251 6 lc (r :: .ref a :: st) h = (jv_pf h a [(2, 0, .object "java/lang/Throwable")] r).bind fun h => jv_ev d 251 9 lc st h := jq_put (jv_insR jm_251 dJ0_init_6) jo_251 ji_251 jG_22_7i
theorem e251_9 : jv_ev d 251 9 [some (.ref a)] st h = jv_ev d 251 10 [some (.ref a)] (.ref a :: st) h := jq_nx (jv_insR jm_251 dJ0_init_9) rfl
theorem e251_10 : jv_ev d 251 10 lc st h = jv_ev d 251 13 lc (.ref 46 :: st) h := jq_gets (jv_insR jm_251 dJ0_init_10) jo_251 jS_22_13
theorem e251_13 : jv_ev d 251 13 lc (r :: .ref a :: st) h = (jv_pf h a [(2, 1, .array (.object "java/lang/StackTraceElement"))] r).bind fun h => jv_ev d 251 16 lc st h := jq_put (jv_insR jm_251 dJ0_init_13) jo_251 ji_251 jG_22_17i
theorem e251_16 : jv_ev d 251 16 [some (.ref a)] st h = jv_ev d 251 17 [some (.ref a)] (.ref a :: st) h := jq_nx (jv_insR jm_251 dJ0_init_16) rfl
theorem e251_17 : jv_ev d 251 17 lc st h = jv_ev d 251 20 lc (.ref 47 :: st) h := jq_gets (jv_insR jm_251 dJ0_init_17) jo_251 jS_22_20
theorem e251_20 : jv_ev d 251 20 lc (r :: .ref a :: st) h = (jv_pf h a [(2, 2, .object "java/util/List")] r).bind fun h => jv_ev d 251 23 lc st h := jq_put (jv_insR jm_251 dJ0_init_20) jo_251 ji_251 jG_22_24i
theorem e251_23 : jv_ev d 251 23 [some (.ref a)] st h = jv_ev d 251 24 [some (.ref a)] (.ref a :: st) h := jq_nx (jv_insR jm_251 dJ0_init_23) rfl
theorem e251_27 : jv_ev d 251 27 lc (.ref a :: st) h = jv_ev d 251 28 lc st h := jq_nx (jv_insR jm_251 dJ0_init_27) rfl
theorem e251_28 : jv_ev d 251 28 lc [] h = some (.inl none, h) := jq_retv (jv_insR jm_251 dJ0_init_28) jr_251
/-! 252: java/lang/Throwable.<init>(Ljava/lang/String;Ljava/lang/Throwable;ZZ)V -/
theorem n252 : jv_cd (d + 1) 252 [.ref a0, .ref a1, .ref a2, .int i3, .int i4] h = jv_ev d 252 0 [some (.ref a0), some (.ref a1), some (.ref a2), some (.int i3), some (.int i4)] [] h := rfl
theorem e252_0 : jv_ev d 252 0 [some (.ref a), x1, x2, x3, x4] st h = jv_ev d 252 1 [some (.ref a), x1, x2, x3, x4] (.ref a :: st) h := jq_nx (jv_insR jm_252 dJ0_init_2_0) rfl
theorem e252_1 : jv_ev d 252 1 lc [.ref b] h = if jt_off ≤ b then jv_ev d 252 4 lc [] h else none := jq_O (jv_insR jm_252 dJ0_init_2_1) jo_252 jP_22_1 (Nat.le_of_ble_eq_true rfl)
theorem e252_4 : jv_ev d 252 4 [some (.ref a), x1, x2, x3, x4] st h = jv_ev d 252 5 [some (.ref a), x1, x2, x3, x4] (.ref a :: st) h := jq_nx (jv_insR jm_252 dJ0_init_2_4) rfl
theorem e252_5 : jv_ev d 252 5 [some (.ref a), x1, x2, x3, x4] st h = jv_ev d 252 6 [some (.ref a), x1, x2, x3, x4] (.ref a :: st) h := jq_nx (jv_insR jm_252 dJ0_init_2_5) rfl
theorem e252_6 : jv_ev d 252 6 lc (r :: .ref a :: st) h = (jv_pf h a [(2, 0, .object "java/lang/Throwable")] r).bind fun h => jv_ev d 252 9 lc st h := jq_put (jv_insR jm_252 dJ0_init_2_6) jo_252 ji_252 jG_22_7i
theorem e252_9 : jv_ev d 252 9 [some (.ref a), x1, x2, x3, x4] st h = jv_ev d 252 10 [some (.ref a), x1, x2, x3, x4] (.ref a :: st) h := jq_nx (jv_insR jm_252 dJ0_init_2_9) rfl
theorem e252_10 : jv_ev d 252 10 lc st h = jv_ev d 252 13 lc (.ref 46 :: st) h := jq_gets (jv_insR jm_252 dJ0_init_2_10) jo_252 jS_22_13
theorem e252_13 : jv_ev d 252 13 lc (r :: .ref a :: st) h = (jv_pf h a [(2, 1, .array (.object "java/lang/StackTraceElement"))] r).bind fun h => jv_ev d 252 16 lc st h := jq_put (jv_insR jm_252 dJ0_init_2_13) jo_252 ji_252 jG_22_17i
theorem e252_16 : jv_ev d 252 16 [some (.ref a), x1, x2, x3, x4] st h = jv_ev d 252 17 [some (.ref a), x1, x2, x3, x4] (.ref a :: st) h := jq_nx (jv_insR jm_252 dJ0_init_2_16) rfl
theorem e252_17 : jv_ev d 252 17 lc st h = jv_ev d 252 20 lc (.ref 47 :: st) h := jq_gets (jv_insR jm_252 dJ0_init_2_17) jo_252 jS_22_20
theorem e252_20 : jv_ev d 252 20 lc (r :: .ref a :: st) h = (jv_pf h a [(2, 2, .object "java/util/List")] r).bind fun h => jv_ev d 252 23 lc st h := jq_put (jv_insR jm_252 dJ0_init_2_20) jo_252 ji_252 jG_22_24i
theorem e252_23 : jv_ev d 252 23 [x0, x1, x2, x3, some (.int v)] st h = jv_ev d 252 25 [x0, x1, x2, x3, some (.int v)] (.int v :: st) h := jq_nx (jv_insR jm_252 dJ0_init_2_23) rfl
theorem e252_25 : jv_ev d 252 25 lc (.int v :: st) h = if v = 0 then jv_ev d 252 36 lc st h else jv_ev d 252 28 lc st h := jq_if (jv_insR jm_252 dJ0_init_2_25) rfl (by decide)
theorem e252_28 : jv_ev d 252 28 [some (.ref a), x1, x2, x3, x4] st h = jv_ev d 252 29 [some (.ref a), x1, x2, x3, x4] (.ref a :: st) h := jq_nx (jv_insR jm_252 dJ0_init_2_28) rfl
theorem e252_32 : jv_ev d 252 32 lc (.ref a :: st) h = jv_ev d 252 33 lc st h := jq_nx (jv_insR jm_252 dJ0_init_2_32) rfl
theorem e252_33 : jv_ev d 252 33 lc st h = jv_ev d 252 41 lc st h := jq_go (jv_insR jm_252 dJ0_init_2_33) (by decide)
theorem e252_36 : jv_ev d 252 36 [some (.ref a), x1, x2, x3, x4] st h = jv_ev d 252 37 [some (.ref a), x1, x2, x3, x4] (.ref a :: st) h := jq_nx (jv_insR jm_252 dJ0_init_2_36) rfl
theorem e252_37 : jv_ev d 252 37 lc st h = jv_ev d 252 38 lc (.null :: st) h := jq_nx (jv_insR jm_252 dJ0_init_2_37) rfl
theorem e252_38 : jv_ev d 252 38 lc (r :: .ref a :: st) h = (jv_pf h a [(2, 1, .array (.object "java/lang/StackTraceElement"))] r).bind fun h => jv_ev d 252 41 lc st h := jq_put (jv_insR jm_252 dJ0_init_2_38) jo_252 ji_252 jG_22_17i
theorem e252_41 : jv_ev d 252 41 [some (.ref a), x1, x2, x3, x4] st h = jv_ev d 252 42 [some (.ref a), x1, x2, x3, x4] (.ref a :: st) h := jq_nx (jv_insR jm_252 dJ0_init_2_41) rfl
theorem e252_42 : jv_ev d 252 42 [x0, some (.ref a), x2, x3, x4] st h = jv_ev d 252 43 [x0, some (.ref a), x2, x3, x4] (.ref a :: st) h := jq_nx (jv_insR jm_252 dJ0_init_2_42) rfl
theorem e252_43 : jv_ev d 252 43 lc (r :: .ref a :: st) h = (jv_pf h a [(2, 3, .object "java/lang/String")] r).bind fun h => jv_ev d 252 46 lc st h := jq_put (jv_insR jm_252 dJ0_init_2_43) jo_252 ji_252 jG_22_31i
theorem e252_46 : jv_ev d 252 46 [some (.ref a), x1, x2, x3, x4] st h = jv_ev d 252 47 [some (.ref a), x1, x2, x3, x4] (.ref a :: st) h := jq_nx (jv_insR jm_252 dJ0_init_2_46) rfl
theorem e252_47 : jv_ev d 252 47 [x0, x1, some (.ref a), x3, x4] st h = jv_ev d 252 48 [x0, x1, some (.ref a), x3, x4] (.ref a :: st) h := jq_nx (jv_insR jm_252 dJ0_init_2_47) rfl
theorem e252_48 : jv_ev d 252 48 lc (r :: .ref a :: st) h = (jv_pf h a [(2, 0, .object "java/lang/Throwable")] r).bind fun h => jv_ev d 252 51 lc st h := jq_put (jv_insR jm_252 dJ0_init_2_48) jo_252 ji_252 jG_22_7i
theorem e252_51 : jv_ev d 252 51 [x0, x1, x2, some (.int v), x4] st h = jv_ev d 252 52 [x0, x1, x2, some (.int v), x4] (.int v :: st) h := jq_nx (jv_insR jm_252 dJ0_init_2_51) rfl
theorem e252_52 : jv_ev d 252 52 lc (.int v :: st) h = if ¬ v = 0 then jv_ev d 252 60 lc st h else jv_ev d 252 55 lc st h := jq_if (jv_insR jm_252 dJ0_init_2_52) rfl (by decide)
theorem e252_55 : jv_ev d 252 55 [some (.ref a), x1, x2, x3, x4] st h = jv_ev d 252 56 [some (.ref a), x1, x2, x3, x4] (.ref a :: st) h := jq_nx (jv_insR jm_252 dJ0_init_2_55) rfl
theorem e252_56 : jv_ev d 252 56 lc st h = jv_ev d 252 57 lc (.null :: st) h := jq_nx (jv_insR jm_252 dJ0_init_2_56) rfl
theorem e252_57 : jv_ev d 252 57 lc (r :: .ref a :: st) h = (jv_pf h a [(2, 2, .object "java/util/List")] r).bind fun h => jv_ev d 252 60 lc st h := jq_put (jv_insR jm_252 dJ0_init_2_57) jo_252 ji_252 jG_22_24i
theorem e252_60 : jv_ev d 252 60 lc [] h = some (.inl none, h) := jq_retv (jv_insR jm_252 dJ0_init_2_60) jr_252
/-! 253: java/lang/Exception.<init>(Ljava/lang/String;Ljava/lang/Throwable;ZZ)V -/
theorem n253 : jv_cd (d + 1) 253 [.ref a0, .ref a1, .ref a2, .int i3, .int i4] h = jv_ev d 253 0 [some (.ref a0), some (.ref a1), some (.ref a2), some (.int i3), some (.int i4)] [] h := rfl
theorem e253_0 : jv_ev d 253 0 [some (.ref a), x1, x2, x3, x4] st h = jv_ev d 253 1 [some (.ref a), x1, x2, x3, x4] (.ref a :: st) h := jq_nx (jv_insR jm_253 dJ1_init_0) rfl
theorem e253_1 : jv_ev d 253 1 [x0, some (.ref a), x2, x3, x4] st h = jv_ev d 253 2 [x0, some (.ref a), x2, x3, x4] (.ref a :: st) h := jq_nx (jv_insR jm_253 dJ1_init_1) rfl
theorem e253_2 : jv_ev d 253 2 [x0, x1, some (.ref a), x3, x4] st h = jv_ev d 253 3 [x0, x1, some (.ref a), x3, x4] (.ref a :: st) h := jq_nx (jv_insR jm_253 dJ1_init_2) rfl
theorem e253_3 : jv_ev d 253 3 [x0, x1, x2, some (.int v), x4] st h = jv_ev d 253 4 [x0, x1, x2, some (.int v), x4] (.int v :: st) h := jq_nx (jv_insR jm_253 dJ1_init_3) rfl
theorem e253_4 : jv_ev d 253 4 [x0, x1, x2, x3, some (.int v)] st h = jv_ev d 253 6 [x0, x1, x2, x3, some (.int v)] (.int v :: st) h := jq_nx (jv_insR jm_253 dJ1_init_4) rfl
theorem e253_6 : jv_ev d 253 6 lc [z3, z2, z1, z0, .ref b] h = if jt_off ≤ b ∧ (jt_SU.contains 252 = false ∨ jv_cls h b = some 20) then ((jv_cd d 252 [.ref b, z0, z1, z2, z3] h).bind fun r => jv_on r (fun v h => jv_ev d 253 9 lc (v.toList ++ []) h) (fun q h => some (.inr q, h))) else none := jq_P (as := [z0, z1, z2, z3]) (rest := []) (jv_insR jm_253 dJ1_init_6) jo_253 jP_23_16 rfl rfl rfl rfl
theorem e253_9 : jv_ev d 253 9 lc [] h = some (.inl none, h) := jq_retv (jv_insR jm_253 dJ1_init_9) jr_253
/-! 254: java/lang/RuntimeException.<init>(Ljava/lang/String;Ljava/lang/Throwable;ZZ)V -/
theorem n254 : jv_cd (d + 1) 254 [.ref a0, .ref a1, .ref a2, .int i3, .int i4] h = jv_ev d 254 0 [some (.ref a0), some (.ref a1), some (.ref a2), some (.int i3), some (.int i4)] [] h := rfl
theorem e254_0 : jv_ev d 254 0 [some (.ref a), x1, x2, x3, x4] st h = jv_ev d 254 1 [some (.ref a), x1, x2, x3, x4] (.ref a :: st) h := jq_nx (jv_insR jm_254 dJ2_init_0) rfl
theorem e254_1 : jv_ev d 254 1 [x0, some (.ref a), x2, x3, x4] st h = jv_ev d 254 2 [x0, some (.ref a), x2, x3, x4] (.ref a :: st) h := jq_nx (jv_insR jm_254 dJ2_init_1) rfl
theorem e254_2 : jv_ev d 254 2 [x0, x1, some (.ref a), x3, x4] st h = jv_ev d 254 3 [x0, x1, some (.ref a), x3, x4] (.ref a :: st) h := jq_nx (jv_insR jm_254 dJ2_init_2) rfl
theorem e254_3 : jv_ev d 254 3 [x0, x1, x2, some (.int v), x4] st h = jv_ev d 254 4 [x0, x1, x2, some (.int v), x4] (.int v :: st) h := jq_nx (jv_insR jm_254 dJ2_init_3) rfl
theorem e254_4 : jv_ev d 254 4 [x0, x1, x2, x3, some (.int v)] st h = jv_ev d 254 6 [x0, x1, x2, x3, some (.int v)] (.int v :: st) h := jq_nx (jv_insR jm_254 dJ2_init_4) rfl
theorem e254_6 : jv_ev d 254 6 lc [z3, z2, z1, z0, .ref b] h = if jt_off ≤ b ∧ (jt_SU.contains 253 = false ∨ jv_cls h b = some 20) then ((jv_cd d 253 [.ref b, z0, z1, z2, z3] h).bind fun r => jv_on r (fun v h => jv_ev d 254 9 lc (v.toList ++ []) h) (fun q h => some (.inr q, h))) else none := jq_P (as := [z0, z1, z2, z3]) (rest := []) (jv_insR jm_254 dJ2_init_6) jo_254 jP_24_16 rfl rfl rfl rfl
theorem e254_9 : jv_ev d 254 9 lc [] h = some (.inl none, h) := jq_retv (jv_insR jm_254 dJ2_init_9) jr_254
/-! 255: java/util/AbstractCollection.<init>()V -/
theorem n255 : jv_cd (d + 1) 255 [.ref a0] h = jv_ev d 255 0 [some (.ref a0)] [] h := rfl
theorem e255_0 : jv_ev d 255 0 [some (.ref a)] st h = jv_ev d 255 1 [some (.ref a)] (.ref a :: st) h := jq_nx (jv_insR jm_255 dJ3_init_0) rfl
theorem e255_1 : jv_ev d 255 1 lc [.ref b] h = if jt_off ≤ b then jv_ev d 255 4 lc [] h else none := jq_O (jv_insR jm_255 dJ3_init_1) jo_255 jP_25_1 (Nat.le_of_ble_eq_true rfl)
theorem e255_4 : jv_ev d 255 4 lc [] h = some (.inl none, h) := jq_retv (jv_insR jm_255 dJ3_init_4) jr_255
/-! 256: java/util/AbstractList.<init>()V -/
theorem n256 : jv_cd (d + 1) 256 [.ref a0] h = jv_ev d 256 0 [some (.ref a0)] [] h := rfl
theorem e256_0 : jv_ev d 256 0 [some (.ref a)] st h = jv_ev d 256 1 [some (.ref a)] (.ref a :: st) h := jq_nx (jv_insR jm_256 dJ4_init_0) rfl
theorem e256_1 : jv_ev d 256 1 lc [.ref b] h = if jt_off ≤ b ∧ (jt_SU.contains 255 = false ∨ jv_cls h b = some 20) then ((jv_cd d 255 [.ref b] h).bind fun r => jv_on r (fun v h => jv_ev d 256 4 lc (v.toList ++ []) h) (fun q h => some (.inr q, h))) else none := jq_P (as := []) (rest := []) (jv_insR jm_256 dJ4_init_1) jo_256 jP_26_1 rfl rfl rfl rfl
theorem e256_4 : jv_ev d 256 4 [some (.ref a)] st h = jv_ev d 256 5 [some (.ref a)] (.ref a :: st) h := jq_nx (jv_insR jm_256 dJ4_init_4) rfl
theorem e256_5 : jv_ev d 256 5 lc st h = jv_ev d 256 6 lc (.int 0 :: st) h := jq_iconst (jv_insR jm_256 dJ4_init_5) (by decide)
theorem e256_6 : jv_ev d 256 6 lc (r :: .ref a :: st) h = (jv_pf h a [(18, 0, .int)] r).bind fun h => jv_ev d 256 9 lc st h := jq_put (jv_insR jm_256 dJ4_init_6) jo_256 ji_256 jG_26_7i
theorem e256_9 : jv_ev d 256 9 lc [] h = some (.inl none, h) := jq_retv (jv_insR jm_256 dJ4_init_9) jr_256
/-! 257: java/util/ArrayList.<init>()V -/
theorem n257 : jv_cd (d + 1) 257 [.ref a0] h = jv_ev d 257 0 [some (.ref a0)] [] h := rfl
theorem e257_0 : jv_ev d 257 0 [some (.ref a)] st h = jv_ev d 257 1 [some (.ref a)] (.ref a :: st) h := jq_nx (jv_insR jm_257 dJ5_init_0) rfl
theorem e257_1 : jv_ev d 257 1 lc [.ref b] h = if jt_off ≤ b ∧ (jt_SU.contains 256 = false ∨ jv_cls h b = some 20) then ((jv_cd d 256 [.ref b] h).bind fun r => jv_on r (fun v h => jv_ev d 257 4 lc (v.toList ++ []) h) (fun q h => some (.inr q, h))) else none := jq_P (as := []) (rest := []) (jv_insR jm_257 dJ5_init_1) jo_257 jP_27_1 rfl rfl rfl rfl
theorem e257_4 : jv_ev d 257 4 [some (.ref a)] st h = jv_ev d 257 5 [some (.ref a)] (.ref a :: st) h := jq_nx (jv_insR jm_257 dJ5_init_4) rfl
theorem e257_5 : jv_ev d 257 5 lc st h = jv_ev d 257 8 lc (.ref 45 :: st) h := jq_gets (jv_insR jm_257 dJ5_init_5) jo_257 jS_27_39
theorem e257_8 : jv_ev d 257 8 lc (r :: .ref a :: st) h = (jv_pf h a [(18, 1, .array (.object "java/lang/Object"))] r).bind fun h => jv_ev d 257 11 lc st h := jq_put (jv_insR jm_257 dJ5_init_8) jo_257 ji_257 jG_27_9i
theorem e257_11 : jv_ev d 257 11 lc [] h = some (.inl none, h) := jq_retv (jv_insR jm_257 dJ5_init_11) jr_257
/-! 258: java/util/ArrayList.size()I -/
theorem n258 : jv_cd (d + 1) 258 [.ref a0] h = jv_ev d 258 0 [some (.ref a0)] [] h := rfl
theorem e258_0 : jv_ev d 258 0 [some (.ref a)] st h = jv_ev d 258 1 [some (.ref a)] (.ref a :: st) h := jq_nx (jv_insR jm_258 dJ5_size_0) rfl
theorem e258_1 : jv_ev d 258 1 lc (.ref a :: st) h = (jv_gf h a [(18, 2, .int)]).bind fun r => jv_ev d 258 4 lc (r :: st) h := jq_get (jv_insR jm_258 dJ5_size_1) jo_258 jF_27_48
theorem e258_4 : jv_ev d 258 4 lc [.int v] h = some (.inl (some (.int v)), h) := jq_reti (jv_insR jm_258 dJ5_size_4) jr_258
/-! 259: java/util/ArrayList.get(I)Ljava/lang/Object; -/
theorem n259 : jv_cd (d + 1) 259 [.ref a0, .int i1] h = jv_ev d 259 0 [some (.ref a0), some (.int i1)] [] h := rfl
theorem e259_0 : jv_ev d 259 0 [x0, some (.int v)] st h = jv_ev d 259 1 [x0, some (.int v)] (.int v :: st) h := jq_nx (jv_insR jm_259 dJ5_get_0) rfl
theorem e259_1 : jv_ev d 259 1 [some (.ref a), x1] st h = jv_ev d 259 2 [some (.ref a), x1] (.ref a :: st) h := jq_nx (jv_insR jm_259 dJ5_get_1) rfl
theorem e259_2 : jv_ev d 259 2 lc (.ref a :: st) h = (jv_gf h a [(18, 2, .int)]).bind fun r => jv_ev d 259 5 lc (r :: st) h := jq_get (jv_insR jm_259 dJ5_get_2) jo_259 jF_27_48
theorem e259_5 : jv_ev d 259 5 lc [z1, z0] h = (jv_cd d 265 [z0, z1] h).bind fun r => jv_on r (fun v h => jv_ev d 259 8 lc (v.toList ++ []) h) (fun q h => some (.inr q, h)) := jq_S (as := [z0, z1]) (rest := []) (jv_insR jm_259 dJ5_get_5) jo_259 jT_27_118 rfl rfl rfl rfl
theorem e259_8 : jv_ev d 259 8 lc (.int v :: st) h = jv_ev d 259 9 lc st h := jq_nx (jv_insR jm_259 dJ5_get_8) rfl
theorem e259_9 : jv_ev d 259 9 [some (.ref a), x1] st h = jv_ev d 259 10 [some (.ref a), x1] (.ref a :: st) h := jq_nx (jv_insR jm_259 dJ5_get_9) rfl
theorem e259_10 : jv_ev d 259 10 [x0, some (.int v)] st h = jv_ev d 259 11 [x0, some (.int v)] (.int v :: st) h := jq_nx (jv_insR jm_259 dJ5_get_10) rfl
theorem e259_11 : jv_ev d 259 11 lc [z0, .ref b] h = (jv_rc h b [(18, 260)]).bind fun y => (jv_cd d y [.ref b, z0] h).bind fun r => jv_on r (fun v h => jv_ev d 259 14 lc (v.toList ++ []) h) (fun q h => some (.inr q, h)) := jq_V (as := [z0]) (rest := []) (jv_insR jm_259 dJ5_get_11) jo_259 jV_27_123 rfl rfl rfl rfl
theorem e259_14 : jv_ev d 259 14 lc [.ref a] h = some (.inl (some (.ref a)), h) := jq_reta (jv_insR jm_259 dJ5_get_14) jr_259 rfl
/-! 260: java/util/ArrayList.elementData(I)Ljava/lang/Object; -/
theorem n260 : jv_cd (d + 1) 260 [.ref a0, .int i1] h = jv_ev d 260 0 [some (.ref a0), some (.int i1)] [] h := rfl
theorem e260_0 : jv_ev d 260 0 [some (.ref a), x1] st h = jv_ev d 260 1 [some (.ref a), x1] (.ref a :: st) h := jq_nx (jv_insR jm_260 dJ5_elementData_0) rfl
theorem e260_1 : jv_ev d 260 1 lc (.ref a :: st) h = (jv_gf h a [(18, 1, .array (.object "java/lang/Object"))]).bind fun r => jv_ev d 260 4 lc (r :: st) h := jq_get (jv_insR jm_260 dJ5_elementData_1) jo_260 jF_27_9
theorem e260_4 : jv_ev d 260 4 [x0, some (.int v)] st h = jv_ev d 260 5 [x0, some (.int v)] (.int v :: st) h := jq_nx (jv_insR jm_260 dJ5_elementData_4) rfl
theorem e260_5 : jv_ev d 260 5 lc (.int v :: .ref a :: st) h = (jv_rg h a v).bind fun w => jv_ev d 260 6 lc (w :: st) h := jq_aald (jv_insR jm_260 dJ5_elementData_5)
theorem e260_6 : jv_ev d 260 6 lc [.ref a] h = some (.inl (some (.ref a)), h) := jq_reta (jv_insR jm_260 dJ5_elementData_6) jr_260 rfl
/-! 261: java/util/ArrayList.add(Ljava/lang/Object;)Z -/
theorem n261 : jv_cd (d + 1) 261 [.ref a0, .ref a1] h = jv_ev d 261 0 [some (.ref a0), some (.ref a1)] [] h := rfl
theorem e261_0 : jv_ev d 261 0 [some (.ref a), x1] st h = jv_ev d 261 1 [some (.ref a), x1] (.ref a :: st) h := jq_nx (jv_insR jm_261 dJ5_add_0) rfl
theorem e261_1 : jv_ev d 261 1 lc (.ref a :: st) h = jv_ev d 261 2 lc (.ref a :: .ref a :: st) h := jq_nx (jv_insR jm_261 dJ5_add_1) rfl
theorem e261_2 : jv_ev d 261 2 lc (.ref a :: st) h = (jv_gf h a [(18, 0, .int)]).bind fun r => jv_ev d 261 5 lc (r :: st) h := jq_get (jv_insR jm_261 dJ5_add_2) jo_261 jF_27_63
theorem e261_5 : jv_ev d 261 5 lc st h = jv_ev d 261 6 lc (.int 1 :: st) h := jq_iconst (jv_insR jm_261 dJ5_add_5) (by decide)
theorem e261_6 : jv_ev d 261 6 lc (.int w :: .int v :: st) h = jv_ev d 261 7 lc (.int (v + w) :: st) h := jq_nx (jv_insR jm_261 dJ5_add_6) rfl
theorem e261_7 : jv_ev d 261 7 lc (r :: .ref a :: st) h = (jv_pf h a [(18, 0, .int)] r).bind fun h => jv_ev d 261 10 lc st h := jq_put (jv_insR jm_261 dJ5_add_7) jo_261 ji_261 jG_27_63
theorem e261_10 : jv_ev d 261 10 [some (.ref a), x1] st h = jv_ev d 261 11 [some (.ref a), x1] (.ref a :: st) h := jq_nx (jv_insR jm_261 dJ5_add_10) rfl
theorem e261_11 : jv_ev d 261 11 [x0, some (.ref a)] st h = jv_ev d 261 12 [x0, some (.ref a)] (.ref a :: st) h := jq_nx (jv_insR jm_261 dJ5_add_11) rfl
theorem e261_12 : jv_ev d 261 12 [some (.ref a), x1] st h = jv_ev d 261 13 [some (.ref a), x1] (.ref a :: st) h := jq_nx (jv_insR jm_261 dJ5_add_12) rfl
theorem e261_13 : jv_ev d 261 13 lc (.ref a :: st) h = (jv_gf h a [(18, 1, .array (.object "java/lang/Object"))]).bind fun r => jv_ev d 261 16 lc (r :: st) h := jq_get (jv_insR jm_261 dJ5_add_13) jo_261 jF_27_9
theorem e261_16 : jv_ev d 261 16 [some (.ref a), x1] st h = jv_ev d 261 17 [some (.ref a), x1] (.ref a :: st) h := jq_nx (jv_insR jm_261 dJ5_add_16) rfl
theorem e261_17 : jv_ev d 261 17 lc (.ref a :: st) h = (jv_gf h a [(18, 2, .int)]).bind fun r => jv_ev d 261 20 lc (r :: st) h := jq_get (jv_insR jm_261 dJ5_add_17) jo_261 jF_27_48
theorem e261_20 : jv_ev d 261 20 lc [z2, z1, z0, .ref b] h = (jv_rc h b [(18, 262)]).bind fun y => (jv_cd d y [.ref b, z0, z1, z2] h).bind fun r => jv_on r (fun v h => jv_ev d 261 23 lc (v.toList ++ []) h) (fun q h => some (.inr q, h)) := jq_V (as := [z0, z1, z2]) (rest := []) (jv_insR jm_261 dJ5_add_20) jo_261 jV_27_131 rfl rfl rfl rfl
theorem e261_23 : jv_ev d 261 23 lc st h = jv_ev d 261 24 lc (.int 1 :: st) h := jq_iconst (jv_insR jm_261 dJ5_add_23) (by decide)
theorem e261_24 : jv_ev d 261 24 lc [.int v] h = if narrow .boolean (.int v) = .int v then some (.inl (some (.int v)), h) else none := jq_ret (jv_insR jm_261 dJ5_add_24) jr_261 (by decide)
/-! 262: java/util/ArrayList.add(Ljava/lang/Object;[Ljava/lang/Object;I)V -/
theorem n262 : jv_cd (d + 1) 262 [.ref a0, .ref a1, .ref a2, .int i3] h = jv_ev d 262 0 [some (.ref a0), some (.ref a1), some (.ref a2), some (.int i3)] [] h := rfl
theorem e262_0 : jv_ev d 262 0 [x0, x1, x2, some (.int v)] st h = jv_ev d 262 1 [x0, x1, x2, some (.int v)] (.int v :: st) h := jq_nx (jv_insR jm_262 dJ5_add_2_0) rfl
theorem e262_1 : jv_ev d 262 1 [x0, x1, some (.ref a), x3] st h = jv_ev d 262 2 [x0, x1, some (.ref a), x3] (.ref a :: st) h := jq_nx (jv_insR jm_262 dJ5_add_2_1) rfl
theorem e262_2 : jv_ev d 262 2 lc (.ref a :: st) h = (jv_al h a).bind fun v => jv_ev d 262 3 lc (.int v :: st) h := jq_alen (jv_insR jm_262 dJ5_add_2_2)
theorem e262_3 : jv_ev d 262 3 lc (.int w :: .int v :: st) h = if ¬ v = w then jv_ev d 262 11 lc st h else jv_ev d 262 6 lc st h := jq_if (jv_insR jm_262 dJ5_add_2_3) rfl (by decide)
theorem e262_6 : jv_ev d 262 6 [some (.ref a), x1, x2, x3] st h = jv_ev d 262 7 [some (.ref a), x1, x2, x3] (.ref a :: st) h := jq_nx (jv_insR jm_262 dJ5_add_2_6) rfl
theorem e262_7 : jv_ev d 262 7 lc [.ref b] h = (jv_rc h b [(18, 263)]).bind fun y => (jv_cd d y [.ref b] h).bind fun r => jv_on r (fun v h => jv_ev d 262 10 lc (v.toList ++ []) h) (fun q h => some (.inr q, h)) := jq_V (as := []) (rest := []) (jv_insR jm_262 dJ5_add_2_7) jo_262 jV_27_129 rfl rfl rfl rfl
theorem e262_10 : jv_ev d 262 10 [x0, x1, x2, x3] (.ref a :: st) h = jv_ev d 262 11 [x0, x1, some (.ref a), x3] st h := jq_nx (jv_insR jm_262 dJ5_add_2_10) rfl
theorem e262_11 : jv_ev d 262 11 [x0, x1, some (.ref a), x3] st h = jv_ev d 262 12 [x0, x1, some (.ref a), x3] (.ref a :: st) h := jq_nx (jv_insR jm_262 dJ5_add_2_11) rfl
theorem e262_12 : jv_ev d 262 12 [x0, x1, x2, some (.int v)] st h = jv_ev d 262 13 [x0, x1, x2, some (.int v)] (.int v :: st) h := jq_nx (jv_insR jm_262 dJ5_add_2_12) rfl
theorem e262_13 : jv_ev d 262 13 [x0, some (.ref a), x2, x3] st h = jv_ev d 262 14 [x0, some (.ref a), x2, x3] (.ref a :: st) h := jq_nx (jv_insR jm_262 dJ5_add_2_13) rfl
theorem e262_14 : jv_ev d 262 14 lc (.ref b :: .int v :: .ref a :: st) h = (jv_rp h a v b).bind fun h => jv_ev d 262 15 lc st h := jq_aast (jv_insR jm_262 dJ5_add_2_14)
theorem e262_15 : jv_ev d 262 15 [some (.ref a), x1, x2, x3] st h = jv_ev d 262 16 [some (.ref a), x1, x2, x3] (.ref a :: st) h := jq_nx (jv_insR jm_262 dJ5_add_2_15) rfl
theorem e262_16 : jv_ev d 262 16 [x0, x1, x2, some (.int v)] st h = jv_ev d 262 17 [x0, x1, x2, some (.int v)] (.int v :: st) h := jq_nx (jv_insR jm_262 dJ5_add_2_16) rfl
theorem e262_17 : jv_ev d 262 17 lc st h = jv_ev d 262 18 lc (.int 1 :: st) h := jq_iconst (jv_insR jm_262 dJ5_add_2_17) (by decide)
theorem e262_18 : jv_ev d 262 18 lc (.int w :: .int v :: st) h = jv_ev d 262 19 lc (.int (v + w) :: st) h := jq_nx (jv_insR jm_262 dJ5_add_2_18) rfl
theorem e262_19 : jv_ev d 262 19 lc (r :: .ref a :: st) h = (jv_pf h a [(18, 2, .int)] r).bind fun h => jv_ev d 262 22 lc st h := jq_put (jv_insR jm_262 dJ5_add_2_19) jo_262 ji_262 jG_27_48
theorem e262_22 : jv_ev d 262 22 lc [] h = some (.inl none, h) := jq_retv (jv_insR jm_262 dJ5_add_2_22) jr_262
/-! 263: java/util/ArrayList.grow()[Ljava/lang/Object; -/
theorem n263 : jv_cd (d + 1) 263 [.ref a0] h = jv_ev d 263 0 [some (.ref a0)] [] h := rfl
theorem e263_0 : jv_ev d 263 0 [some (.ref a)] st h = jv_ev d 263 1 [some (.ref a)] (.ref a :: st) h := jq_nx (jv_insR jm_263 dJ5_grow_0) rfl
theorem e263_1 : jv_ev d 263 1 [some (.ref a)] st h = jv_ev d 263 2 [some (.ref a)] (.ref a :: st) h := jq_nx (jv_insR jm_263 dJ5_grow_1) rfl
theorem e263_2 : jv_ev d 263 2 lc (.ref a :: st) h = (jv_gf h a [(18, 2, .int)]).bind fun r => jv_ev d 263 5 lc (r :: st) h := jq_get (jv_insR jm_263 dJ5_grow_2) jo_263 jF_27_48
theorem e263_5 : jv_ev d 263 5 lc st h = jv_ev d 263 6 lc (.int 1 :: st) h := jq_iconst (jv_insR jm_263 dJ5_grow_5) (by decide)
theorem e263_6 : jv_ev d 263 6 lc (.int w :: .int v :: st) h = jv_ev d 263 7 lc (.int (v + w) :: st) h := jq_nx (jv_insR jm_263 dJ5_grow_6) rfl
theorem e263_7 : jv_ev d 263 7 lc [z0, .ref b] h = (jv_rc h b [(18, 264)]).bind fun y => (jv_cd d y [.ref b, z0] h).bind fun r => jv_on r (fun v h => jv_ev d 263 10 lc (v.toList ++ []) h) (fun q h => some (.inr q, h)) := jq_V (as := [z0]) (rest := []) (jv_insR jm_263 dJ5_grow_7) jo_263 jV_27_69 rfl rfl rfl rfl
theorem e263_10 : jv_ev d 263 10 lc [.ref a] h = some (.inl (some (.ref a)), h) := jq_reta (jv_insR jm_263 dJ5_grow_10) jr_263 rfl
/-! 264: java/util/ArrayList.grow(I)[Ljava/lang/Object; -/
theorem n264 : jv_cd (d + 1) 264 [.ref a0, .int i1] h = jv_ev d 264 0 [some (.ref a0), some (.int i1), none, none] [] h := rfl
theorem e264_0 : jv_ev d 264 0 [some (.ref a), x1, x2, x3] st h = jv_ev d 264 1 [some (.ref a), x1, x2, x3] (.ref a :: st) h := jq_nx (jv_insR jm_264 dJ5_grow_2_0) rfl
theorem e264_1 : jv_ev d 264 1 lc (.ref a :: st) h = (jv_gf h a [(18, 1, .array (.object "java/lang/Object"))]).bind fun r => jv_ev d 264 4 lc (r :: st) h := jq_get (jv_insR jm_264 dJ5_grow_2_1) jo_264 jF_27_9
theorem e264_4 : jv_ev d 264 4 lc (.ref a :: st) h = (jv_al h a).bind fun v => jv_ev d 264 5 lc (.int v :: st) h := jq_alen (jv_insR jm_264 dJ5_grow_2_4)
theorem e264_5 : jv_ev d 264 5 [x0, x1, x2, x3] (.int v :: st) h = jv_ev d 264 6 [x0, x1, some (.int v), x3] st h := jq_nx (jv_insR jm_264 dJ5_grow_2_5) rfl
theorem e264_6 : jv_ev d 264 6 [x0, x1, some (.int v), x3] st h = jv_ev d 264 7 [x0, x1, some (.int v), x3] (.int v :: st) h := jq_nx (jv_insR jm_264 dJ5_grow_2_6) rfl
theorem e264_7 : jv_ev d 264 7 lc (.int v :: st) h = if 0 < v then jv_ev d 264 20 lc st h else jv_ev d 264 10 lc st h := jq_if (jv_insR jm_264 dJ5_grow_2_7) rfl (by decide)
theorem e264_10 : jv_ev d 264 10 [some (.ref a), x1, x2, x3] st h = jv_ev d 264 11 [some (.ref a), x1, x2, x3] (.ref a :: st) h := jq_nx (jv_insR jm_264 dJ5_grow_2_10) rfl
theorem e264_11 : jv_ev d 264 11 lc (.ref a :: st) h = (jv_gf h a [(18, 1, .array (.object "java/lang/Object"))]).bind fun r => jv_ev d 264 14 lc (r :: st) h := jq_get (jv_insR jm_264 dJ5_grow_2_11) jo_264 jF_27_9
theorem e264_14 : jv_ev d 264 14 lc st h = jv_ev d 264 17 lc (.ref 45 :: st) h := jq_gets (jv_insR jm_264 dJ5_grow_2_14) jo_264 jS_27_39
theorem e264_17 : jv_ev d 264 17 lc (.ref b :: .ref a :: st) h = if (jt_off ≤ a ∧ jt_off ≤ b) ∨ a = b then (if a = b then jv_ev d 264 45 lc st h else jv_ev d 264 20 lc st h) else none := jq_aceq (jv_insR jm_264 dJ5_grow_2_17) (by decide)
theorem e264_20 : jv_ev d 264 20 [x0, x1, some (.int v), x3] st h = jv_ev d 264 21 [x0, x1, some (.int v), x3] (.int v :: st) h := jq_nx (jv_insR jm_264 dJ5_grow_2_20) rfl
theorem e264_21 : jv_ev d 264 21 [x0, some (.int v), x2, x3] st h = jv_ev d 264 22 [x0, some (.int v), x2, x3] (.int v :: st) h := jq_nx (jv_insR jm_264 dJ5_grow_2_21) rfl
theorem e264_22 : jv_ev d 264 22 [x0, x1, some (.int v), x3] st h = jv_ev d 264 23 [x0, x1, some (.int v), x3] (.int v :: st) h := jq_nx (jv_insR jm_264 dJ5_grow_2_22) rfl
theorem e264_23 : jv_ev d 264 23 lc (.int w :: .int v :: st) h = jv_ev d 264 24 lc (.int (v - w) :: st) h := jq_nx (jv_insR jm_264 dJ5_grow_2_23) rfl
theorem e264_24 : jv_ev d 264 24 [x0, x1, some (.int v), x3] st h = jv_ev d 264 25 [x0, x1, some (.int v), x3] (.int v :: st) h := jq_nx (jv_insR jm_264 dJ5_grow_2_24) rfl
theorem e264_25 : jv_ev d 264 25 lc st h = jv_ev d 264 26 lc (.int 1 :: st) h := jq_iconst (jv_insR jm_264 dJ5_grow_2_25) (by decide)
theorem e264_26 : jv_ev d 264 26 lc (.int w :: .int v :: st) h = jv_ev d 264 27 lc (.int (v >>> (w &&& 31)) :: st) h := jq_nx (jv_insR jm_264 dJ5_grow_2_26) rfl
theorem e264_27 : jv_ev d 264 27 lc [z2, z1, z0] h = (jv_cd d 306 [z0, z1, z2] h).bind fun r => jv_on r (fun v h => jv_ev d 264 30 lc (v.toList ++ []) h) (fun q h => some (.inr q, h)) := jq_S (as := [z0, z1, z2]) (rest := []) (jv_insR jm_264 dJ5_grow_2_27) jo_264 jT_27_73 rfl rfl rfl rfl
theorem e264_30 : jv_ev d 264 30 [x0, x1, x2, x3] (.int v :: st) h = jv_ev d 264 31 [x0, x1, x2, some (.int v)] st h := jq_nx (jv_insR jm_264 dJ5_grow_2_30) rfl
theorem e264_31 : jv_ev d 264 31 [some (.ref a), x1, x2, x3] st h = jv_ev d 264 32 [some (.ref a), x1, x2, x3] (.ref a :: st) h := jq_nx (jv_insR jm_264 dJ5_grow_2_31) rfl
theorem e264_32 : jv_ev d 264 32 [some (.ref a), x1, x2, x3] st h = jv_ev d 264 33 [some (.ref a), x1, x2, x3] (.ref a :: st) h := jq_nx (jv_insR jm_264 dJ5_grow_2_32) rfl
theorem e264_33 : jv_ev d 264 33 lc (.ref a :: st) h = (jv_gf h a [(18, 1, .array (.object "java/lang/Object"))]).bind fun r => jv_ev d 264 36 lc (r :: st) h := jq_get (jv_insR jm_264 dJ5_grow_2_33) jo_264 jF_27_9
theorem e264_36 : jv_ev d 264 36 [x0, x1, x2, some (.int v)] st h = jv_ev d 264 37 [x0, x1, x2, some (.int v)] (.int v :: st) h := jq_nx (jv_insR jm_264 dJ5_grow_2_36) rfl
theorem e264_37 : jv_ev d 264 37 lc [z1, z0, y0] h = (jv_cd d 315 [z0, z1] h).bind fun r => jv_on r (fun v h => jv_ev d 264 40 lc (v.toList ++ [y0]) h) (fun q h => some (.inr q, h)) := jq_S (as := [z0, z1]) (rest := [y0]) (jv_insR jm_264 dJ5_grow_2_37) jo_264 jT_27_66 rfl rfl rfl rfl
theorem e264_40 : jv_ev d 264 40 lc (.ref a :: .ref b :: st) h = jv_ev d 264 41 lc (.ref a :: .ref b :: .ref a :: st) h := jq_nx (jv_insR jm_264 dJ5_grow_2_40) rfl
theorem e264_41 : jv_ev d 264 41 lc (r :: .ref a :: st) h = (jv_pf h a [(18, 1, .array (.object "java/lang/Object"))] r).bind fun h => jv_ev d 264 44 lc st h := jq_put (jv_insR jm_264 dJ5_grow_2_41) jo_264 ji_264 jG_27_9
theorem e264_44 : jv_ev d 264 44 lc [.ref a] h = some (.inl (some (.ref a)), h) := jq_reta (jv_insR jm_264 dJ5_grow_2_44) jr_264 rfl
theorem e264_45 : jv_ev d 264 45 [some (.ref a), x1, x2, x3] st h = jv_ev d 264 46 [some (.ref a), x1, x2, x3] (.ref a :: st) h := jq_nx (jv_insR jm_264 dJ5_grow_2_45) rfl
theorem e264_46 : jv_ev d 264 46 lc st h = jv_ev d 264 48 lc (.int 10 :: st) h := jq_bipush (jv_insR jm_264 dJ5_grow_2_46) (by decide)
theorem e264_48 : jv_ev d 264 48 [x0, some (.int v), x2, x3] st h = jv_ev d 264 49 [x0, some (.int v), x2, x3] (.int v :: st) h := jq_nx (jv_insR jm_264 dJ5_grow_2_48) rfl
theorem e264_49 : jv_ev d 264 49 lc [z1, z0, y0] h = (jv_cd d 308 [z0, z1] h).bind fun r => jv_on r (fun v h => jv_ev d 264 52 lc (v.toList ++ [y0]) h) (fun q h => some (.inr q, h)) := jq_S (as := [z0, z1]) (rest := [y0]) (jv_insR jm_264 dJ5_grow_2_49) jo_264 jT_27_79 rfl rfl rfl rfl
theorem e264_52 : jv_ev d 264 52 lc (.int v :: st) h = if v < 0 ∨ 100000 < v.toNatClampNeg then none else jv_ev d 264 55 lc (.ref h.length :: st) (h ++ [.inl (6, v.toNatClampNeg, .inr (.inr (.inr (.inr (fun _ => none)))))]) := jq_anew (jv_insR jm_264 dJ5_grow_2_52) jo_264 jA_27_7
theorem e264_55 : jv_ev d 264 55 lc (.ref a :: .ref b :: st) h = jv_ev d 264 56 lc (.ref a :: .ref b :: .ref a :: st) h := jq_nx (jv_insR jm_264 dJ5_grow_2_55) rfl
theorem e264_56 : jv_ev d 264 56 lc (r :: .ref a :: st) h = (jv_pf h a [(18, 1, .array (.object "java/lang/Object"))] r).bind fun h => jv_ev d 264 59 lc st h := jq_put (jv_insR jm_264 dJ5_grow_2_56) jo_264 ji_264 jG_27_9
theorem e264_59 : jv_ev d 264 59 lc [.ref a] h = some (.inl (some (.ref a)), h) := jq_reta (jv_insR jm_264 dJ5_grow_2_59) jr_264 rfl
/-! 265: java/util/Objects.checkIndex(II)I -/
theorem n265 : jv_cd (d + 1) 265 [.int i0, .int i1] h = jv_ev d 265 0 [some (.int i0), some (.int i1)] [] h := rfl
theorem e265_0 : jv_ev d 265 0 [some (.int v), x1] st h = jv_ev d 265 1 [some (.int v), x1] (.int v :: st) h := jq_nx (jv_insR jm_265 dJ6_checkIndex_0) rfl
theorem e265_1 : jv_ev d 265 1 [x0, some (.int v)] st h = jv_ev d 265 2 [x0, some (.int v)] (.int v :: st) h := jq_nx (jv_insR jm_265 dJ6_checkIndex_1) rfl
theorem e265_2 : jv_ev d 265 2 lc st h = jv_ev d 265 3 lc (.null :: st) h := jq_nx (jv_insR jm_265 dJ6_checkIndex_2) rfl
theorem e265_3 : jv_ev d 265 3 lc [z2, z1, z0] h = (jv_cd d 266 [z0, z1, z2] h).bind fun r => jv_on r (fun v h => jv_ev d 265 6 lc (v.toList ++ []) h) (fun q h => some (.inr q, h)) := jq_S (as := [z0, z1, z2]) (rest := []) (jv_insR jm_265 dJ6_checkIndex_3) jo_265 jT_28_105 rfl rfl rfl rfl
theorem e265_6 : jv_ev d 265 6 lc [.int v] h = some (.inl (some (.int v)), h) := jq_reti (jv_insR jm_265 dJ6_checkIndex_6) jr_265
/-! 266: jdk/internal/util/Preconditions.checkIndex(IILjava/util/function/BiFunction;)I -/
theorem n266 : jv_cd (d + 1) 266 [.int i0, .int i1, .ref a2] h = jv_ev d 266 0 [some (.int i0), some (.int i1), some (.ref a2)] [] h := rfl
theorem e266_0 : jv_ev d 266 0 [some (.int v), x1, x2] st h = jv_ev d 266 1 [some (.int v), x1, x2] (.int v :: st) h := jq_nx (jv_insR jm_266 dJ7_checkIndex_0) rfl
theorem e266_1 : jv_ev d 266 1 lc (.int v :: st) h = if v < 0 then jv_ev d 266 9 lc st h else jv_ev d 266 4 lc st h := jq_if (jv_insR jm_266 dJ7_checkIndex_1) rfl (by decide)
theorem e266_4 : jv_ev d 266 4 [some (.int v), x1, x2] st h = jv_ev d 266 5 [some (.int v), x1, x2] (.int v :: st) h := jq_nx (jv_insR jm_266 dJ7_checkIndex_4) rfl
theorem e266_5 : jv_ev d 266 5 [x0, some (.int v), x2] st h = jv_ev d 266 6 [x0, some (.int v), x2] (.int v :: st) h := jq_nx (jv_insR jm_266 dJ7_checkIndex_5) rfl
theorem e266_6 : jv_ev d 266 6 lc (.int w :: .int v :: st) h = if v < w then jv_ev d 266 16 lc st h else jv_ev d 266 9 lc st h := jq_if (jv_insR jm_266 dJ7_checkIndex_6) rfl (by decide)
theorem e266_9 : jv_ev d 266 9 [x0, x1, some (.ref a)] st h = jv_ev d 266 10 [x0, x1, some (.ref a)] (.ref a :: st) h := jq_nx (jv_insR jm_266 dJ7_checkIndex_9) rfl
theorem e266_10 : jv_ev d 266 10 [some (.int v), x1, x2] st h = jv_ev d 266 11 [some (.int v), x1, x2] (.int v :: st) h := jq_nx (jv_insR jm_266 dJ7_checkIndex_10) rfl
theorem e266_11 : jv_ev d 266 11 [x0, some (.int v), x2] st h = jv_ev d 266 12 [x0, some (.int v), x2] (.int v :: st) h := jq_nx (jv_insR jm_266 dJ7_checkIndex_11) rfl
theorem e266_16 : jv_ev d 266 16 [some (.int v), x1, x2] st h = jv_ev d 266 17 [some (.int v), x1, x2] (.int v :: st) h := jq_nx (jv_insR jm_266 dJ7_checkIndex_16) rfl
theorem e266_17 : jv_ev d 266 17 lc [.int v] h = some (.inl (some (.int v)), h) := jq_reti (jv_insR jm_266 dJ7_checkIndex_17) jr_266
/-! 267: jdk/internal/util/Preconditions.checkFromIndexSize(IIILjava/util/function/BiFunction;)I -/
theorem n267 : jv_cd (d + 1) 267 [.int i0, .int i1, .int i2, .ref a3] h = jv_ev d 267 0 [some (.int i0), some (.int i1), some (.int i2), some (.ref a3)] [] h := rfl
theorem e267_0 : jv_ev d 267 0 [x0, x1, some (.int v), x3] st h = jv_ev d 267 1 [x0, x1, some (.int v), x3] (.int v :: st) h := jq_nx (jv_insR jm_267 dJ7_checkFromIndexSize_0) rfl
theorem e267_1 : jv_ev d 267 1 [some (.int v), x1, x2, x3] st h = jv_ev d 267 2 [some (.int v), x1, x2, x3] (.int v :: st) h := jq_nx (jv_insR jm_267 dJ7_checkFromIndexSize_1) rfl
theorem e267_2 : jv_ev d 267 2 lc (.int w :: .int v :: st) h = jv_ev d 267 3 lc (.int (v ||| w) :: st) h := jq_nx (jv_insR jm_267 dJ7_checkFromIndexSize_2) rfl
theorem e267_3 : jv_ev d 267 3 [x0, some (.int v), x2, x3] st h = jv_ev d 267 4 [x0, some (.int v), x2, x3] (.int v :: st) h := jq_nx (jv_insR jm_267 dJ7_checkFromIndexSize_3) rfl
theorem e267_4 : jv_ev d 267 4 lc (.int w :: .int v :: st) h = jv_ev d 267 5 lc (.int (v ||| w) :: st) h := jq_nx (jv_insR jm_267 dJ7_checkFromIndexSize_4) rfl
theorem e267_5 : jv_ev d 267 5 lc (.int v :: st) h = if v < 0 then jv_ev d 267 15 lc st h else jv_ev d 267 8 lc st h := jq_if (jv_insR jm_267 dJ7_checkFromIndexSize_5) rfl (by decide)
theorem e267_8 : jv_ev d 267 8 [x0, some (.int v), x2, x3] st h = jv_ev d 267 9 [x0, some (.int v), x2, x3] (.int v :: st) h := jq_nx (jv_insR jm_267 dJ7_checkFromIndexSize_8) rfl
theorem e267_9 : jv_ev d 267 9 [x0, x1, some (.int v), x3] st h = jv_ev d 267 10 [x0, x1, some (.int v), x3] (.int v :: st) h := jq_nx (jv_insR jm_267 dJ7_checkFromIndexSize_9) rfl
theorem e267_10 : jv_ev d 267 10 [some (.int v), x1, x2, x3] st h = jv_ev d 267 11 [some (.int v), x1, x2, x3] (.int v :: st) h := jq_nx (jv_insR jm_267 dJ7_checkFromIndexSize_10) rfl
theorem e267_11 : jv_ev d 267 11 lc (.int w :: .int v :: st) h = jv_ev d 267 12 lc (.int (v - w) :: st) h := jq_nx (jv_insR jm_267 dJ7_checkFromIndexSize_11) rfl
theorem e267_12 : jv_ev d 267 12 lc (.int w :: .int v :: st) h = if v ≤ w then jv_ev d 267 23 lc st h else jv_ev d 267 15 lc st h := jq_if (jv_insR jm_267 dJ7_checkFromIndexSize_12) rfl (by decide)
theorem e267_15 : jv_ev d 267 15 [x0, x1, x2, some (.ref a)] st h = jv_ev d 267 16 [x0, x1, x2, some (.ref a)] (.ref a :: st) h := jq_nx (jv_insR jm_267 dJ7_checkFromIndexSize_15) rfl
theorem e267_16 : jv_ev d 267 16 [some (.int v), x1, x2, x3] st h = jv_ev d 267 17 [some (.int v), x1, x2, x3] (.int v :: st) h := jq_nx (jv_insR jm_267 dJ7_checkFromIndexSize_16) rfl
theorem e267_17 : jv_ev d 267 17 [x0, some (.int v), x2, x3] st h = jv_ev d 267 18 [x0, some (.int v), x2, x3] (.int v :: st) h := jq_nx (jv_insR jm_267 dJ7_checkFromIndexSize_17) rfl
theorem e267_18 : jv_ev d 267 18 [x0, x1, some (.int v), x3] st h = jv_ev d 267 19 [x0, x1, some (.int v), x3] (.int v :: st) h := jq_nx (jv_insR jm_267 dJ7_checkFromIndexSize_18) rfl
theorem e267_23 : jv_ev d 267 23 [some (.int v), x1, x2, x3] st h = jv_ev d 267 24 [some (.int v), x1, x2, x3] (.int v :: st) h := jq_nx (jv_insR jm_267 dJ7_checkFromIndexSize_23) rfl
theorem e267_24 : jv_ev d 267 24 lc [.int v] h = some (.inl (some (.int v)), h) := jq_reti (jv_insR jm_267 dJ7_checkFromIndexSize_24) jr_267
/-! 268: java/lang/String.length()I -/
theorem n268 : jv_cd (d + 1) 268 [.ref a0] h = jv_ev d 268 0 [some (.ref a0)] [] h := rfl
theorem e268_0 : jv_ev d 268 0 [some (.ref a)] st h = jv_ev d 268 1 [some (.ref a)] (.ref a :: st) h := jq_nx (jv_insR jm_268 dJ8_length_0) rfl
theorem e268_1 : jv_ev d 268 1 lc (.ref a :: st) h = (jv_gf h a [(19, 0, .array .byte)]).bind fun r => jv_ev d 268 4 lc (r :: st) h := jq_get (jv_insR jm_268 dJ8_length_1) jo_268 jF_30_9
theorem e268_4 : jv_ev d 268 4 lc (.ref a :: st) h = (jv_al h a).bind fun v => jv_ev d 268 5 lc (.int v :: st) h := jq_alen (jv_insR jm_268 dJ8_length_4)
theorem e268_5 : jv_ev d 268 5 [some (.ref a)] st h = jv_ev d 268 6 [some (.ref a)] (.ref a :: st) h := jq_nx (jv_insR jm_268 dJ8_length_5) rfl
theorem e268_6 : jv_ev d 268 6 lc [.ref b, y0] h = (jv_rc h b [(19, 269)]).bind fun y => (jv_cd d y [.ref b] h).bind fun r => jv_on r (fun v h => jv_ev d 268 9 lc (v.toList ++ [y0]) h) (fun q h => some (.inr q, h)) := jq_V (as := []) (rest := [y0]) (jv_insR jm_268 dJ8_length_6) jo_268 jV_30_335 rfl rfl rfl rfl
theorem e268_9 : jv_ev d 268 9 lc (.int w :: .int v :: st) h = jv_ev d 268 10 lc (.int (v >>> (w &&& 31)) :: st) h := jq_nx (jv_insR jm_268 dJ8_length_9) rfl
theorem e268_10 : jv_ev d 268 10 lc [.int v] h = some (.inl (some (.int v)), h) := jq_reti (jv_insR jm_268 dJ8_length_10) jr_268
/-! 269: java/lang/String.coder()B -/
theorem n269 : jv_cd (d + 1) 269 [.ref a0] h = jv_ev d 269 0 [some (.ref a0)] [] h := rfl
theorem e269_0 : jv_ev d 269 0 lc st h = jv_ev d 269 3 lc (.int 1 :: st) h := jq_gets (jv_insR jm_269 dJ8_coder_0) jo_269 jS_30_38
theorem e269_3 : jv_ev d 269 3 lc (.int v :: st) h = if v = 0 then jv_ev d 269 13 lc st h else jv_ev d 269 6 lc st h := jq_if (jv_insR jm_269 dJ8_coder_3) rfl (by decide)
theorem e269_6 : jv_ev d 269 6 [some (.ref a)] st h = jv_ev d 269 7 [some (.ref a)] (.ref a :: st) h := jq_nx (jv_insR jm_269 dJ8_coder_6) rfl
theorem e269_7 : jv_ev d 269 7 lc (.ref a :: st) h = (jv_gf h a [(19, 1, .byte)]).bind fun r => jv_ev d 269 10 lc (r :: st) h := jq_get (jv_insR jm_269 dJ8_coder_7) jo_269 jF_30_15
theorem e269_10 : jv_ev d 269 10 lc st h = jv_ev d 269 14 lc st h := jq_go (jv_insR jm_269 dJ8_coder_10) (by decide)
theorem e269_13 : jv_ev d 269 13 lc st h = jv_ev d 269 14 lc (.int 1 :: st) h := jq_iconst (jv_insR jm_269 dJ8_coder_13) (by decide)
theorem e269_14 : jv_ev d 269 14 lc [.int v] h = if narrow .byte (.int v) = .int v then some (.inl (some (.int v)), h) else none := jq_ret (jv_insR jm_269 dJ8_coder_14) jr_269 (by decide)
/-! 270: java/lang/String.charAt(I)C -/
theorem n270 : jv_cd (d + 1) 270 [.ref a0, .int i1] h = jv_ev d 270 0 [some (.ref a0), some (.int i1)] [] h := rfl
theorem e270_0 : jv_ev d 270 0 [some (.ref a), x1] st h = jv_ev d 270 1 [some (.ref a), x1] (.ref a :: st) h := jq_nx (jv_insR jm_270 dJ8_charAt_0) rfl
theorem e270_1 : jv_ev d 270 1 lc [.ref b] h = (jv_rc h b [(19, 271)]).bind fun y => (jv_cd d y [.ref b] h).bind fun r => jv_on r (fun v h => jv_ev d 270 4 lc (v.toList ++ []) h) (fun q h => some (.inr q, h)) := jq_V (as := []) (rest := []) (jv_insR jm_270 dJ8_charAt_1) jo_270 jV_30_492 rfl rfl rfl rfl
theorem e270_4 : jv_ev d 270 4 lc (.int v :: st) h = if v = 0 then jv_ev d 270 16 lc st h else jv_ev d 270 7 lc st h := jq_if (jv_insR jm_270 dJ8_charAt_4) rfl (by decide)
theorem e270_7 : jv_ev d 270 7 [some (.ref a), x1] st h = jv_ev d 270 8 [some (.ref a), x1] (.ref a :: st) h := jq_nx (jv_insR jm_270 dJ8_charAt_7) rfl
theorem e270_8 : jv_ev d 270 8 lc (.ref a :: st) h = (jv_gf h a [(19, 0, .array .byte)]).bind fun r => jv_ev d 270 11 lc (r :: st) h := jq_get (jv_insR jm_270 dJ8_charAt_8) jo_270 jF_30_9
theorem e270_11 : jv_ev d 270 11 [x0, some (.int v)] st h = jv_ev d 270 12 [x0, some (.int v)] (.int v :: st) h := jq_nx (jv_insR jm_270 dJ8_charAt_11) rfl
theorem e270_12 : jv_ev d 270 12 lc [z1, z0] h = (jv_cd d 277 [z0, z1] h).bind fun r => jv_on r (fun v h => jv_ev d 270 15 lc (v.toList ++ []) h) (fun q h => some (.inr q, h)) := jq_S (as := [z0, z1]) (rest := []) (jv_insR jm_270 dJ8_charAt_12) jo_270 jT_30_495 rfl rfl rfl rfl
theorem e270_15 : jv_ev d 270 15 lc [.int v] h = if narrow .char (.int v) = .int v then some (.inl (some (.int v)), h) else none := jq_ret (jv_insR jm_270 dJ8_charAt_15) jr_270 (by decide)
theorem e270_16 : jv_ev d 270 16 [some (.ref a), x1] st h = jv_ev d 270 17 [some (.ref a), x1] (.ref a :: st) h := jq_nx (jv_insR jm_270 dJ8_charAt_16) rfl
theorem e270_17 : jv_ev d 270 17 lc (.ref a :: st) h = (jv_gf h a [(19, 0, .array .byte)]).bind fun r => jv_ev d 270 20 lc (r :: st) h := jq_get (jv_insR jm_270 dJ8_charAt_17) jo_270 jF_30_9
theorem e270_20 : jv_ev d 270 20 [x0, some (.int v)] st h = jv_ev d 270 21 [x0, some (.int v)] (.int v :: st) h := jq_nx (jv_insR jm_270 dJ8_charAt_20) rfl
theorem e270_21 : jv_ev d 270 21 lc [z1, z0] h = (jv_cd d 281 [z0, z1] h).bind fun r => jv_on r (fun v h => jv_ev d 270 24 lc (v.toList ++ []) h) (fun q h => some (.inr q, h)) := jq_S (as := [z0, z1]) (rest := []) (jv_insR jm_270 dJ8_charAt_21) jo_270 jT_30_498 rfl rfl rfl rfl
theorem e270_24 : jv_ev d 270 24 lc [.int v] h = if narrow .char (.int v) = .int v then some (.inl (some (.int v)), h) else none := jq_ret (jv_insR jm_270 dJ8_charAt_24) jr_270 (by decide)
/-! 271: java/lang/String.isLatin1()Z -/
theorem n271 : jv_cd (d + 1) 271 [.ref a0] h = jv_ev d 271 0 [some (.ref a0)] [] h := rfl
theorem e271_0 : jv_ev d 271 0 lc st h = jv_ev d 271 3 lc (.int 1 :: st) h := jq_gets (jv_insR jm_271 dJ8_isLatin1_0) jo_271 jS_30_38
theorem e271_3 : jv_ev d 271 3 lc (.int v :: st) h = if v = 0 then jv_ev d 271 17 lc st h else jv_ev d 271 6 lc st h := jq_if (jv_insR jm_271 dJ8_isLatin1_3) rfl (by decide)
theorem e271_6 : jv_ev d 271 6 [some (.ref a)] st h = jv_ev d 271 7 [some (.ref a)] (.ref a :: st) h := jq_nx (jv_insR jm_271 dJ8_isLatin1_6) rfl
theorem e271_7 : jv_ev d 271 7 lc (.ref a :: st) h = (jv_gf h a [(19, 1, .byte)]).bind fun r => jv_ev d 271 10 lc (r :: st) h := jq_get (jv_insR jm_271 dJ8_isLatin1_7) jo_271 jF_30_15
theorem e271_10 : jv_ev d 271 10 lc (.int v :: st) h = if ¬ v = 0 then jv_ev d 271 17 lc st h else jv_ev d 271 13 lc st h := jq_if (jv_insR jm_271 dJ8_isLatin1_10) rfl (by decide)
theorem e271_13 : jv_ev d 271 13 lc st h = jv_ev d 271 14 lc (.int 1 :: st) h := jq_iconst (jv_insR jm_271 dJ8_isLatin1_13) (by decide)
theorem e271_14 : jv_ev d 271 14 lc st h = jv_ev d 271 18 lc st h := jq_go (jv_insR jm_271 dJ8_isLatin1_14) (by decide)
theorem e271_17 : jv_ev d 271 17 lc st h = jv_ev d 271 18 lc (.int 0 :: st) h := jq_iconst (jv_insR jm_271 dJ8_isLatin1_17) (by decide)
theorem e271_18 : jv_ev d 271 18 lc [.int v] h = if narrow .boolean (.int v) = .int v then some (.inl (some (.int v)), h) else none := jq_ret (jv_insR jm_271 dJ8_isLatin1_18) jr_271 (by decide)
/-! 272: java/lang/String.checkIndex(II)V -/
theorem n272 : jv_cd (d + 1) 272 [.int i0, .int i1] h = jv_ev d 272 0 [some (.int i0), some (.int i1)] [] h := rfl
theorem e272_0 : jv_ev d 272 0 [some (.int v), x1] st h = jv_ev d 272 1 [some (.int v), x1] (.int v :: st) h := jq_nx (jv_insR jm_272 dJ8_checkIndex_0) rfl
theorem e272_1 : jv_ev d 272 1 [x0, some (.int v)] st h = jv_ev d 272 2 [x0, some (.int v)] (.int v :: st) h := jq_nx (jv_insR jm_272 dJ8_checkIndex_1) rfl
theorem e272_2 : jv_ev d 272 2 lc st h = jv_ev d 272 5 lc (.ref 48 :: st) h := jq_gets (jv_insR jm_272 dJ8_checkIndex_2) jo_272 jS_30_1053
theorem e272_5 : jv_ev d 272 5 lc [z2, z1, z0] h = (jv_cd d 266 [z0, z1, z2] h).bind fun r => jv_on r (fun v h => jv_ev d 272 8 lc (v.toList ++ []) h) (fun q h => some (.inr q, h)) := jq_S (as := [z0, z1, z2]) (rest := []) (jv_insR jm_272 dJ8_checkIndex_5) jo_272 jT_30_1059 rfl rfl rfl rfl
theorem e272_8 : jv_ev d 272 8 lc (.int v :: st) h = jv_ev d 272 9 lc st h := jq_nx (jv_insR jm_272 dJ8_checkIndex_8) rfl
theorem e272_9 : jv_ev d 272 9 lc [] h = some (.inl none, h) := jq_retv (jv_insR jm_272 dJ8_checkIndex_9) jr_272
/-! 273: java/lang/String.checkBoundsOffCount(III)I -/
theorem n273 : jv_cd (d + 1) 273 [.int i0, .int i1, .int i2] h = jv_ev d 273 0 [some (.int i0), some (.int i1), some (.int i2)] [] h := rfl
theorem e273_0 : jv_ev d 273 0 [some (.int v), x1, x2] st h = jv_ev d 273 1 [some (.int v), x1, x2] (.int v :: st) h := jq_nx (jv_insR jm_273 dJ8_checkBoundsOffCount_0) rfl
theorem e273_1 : jv_ev d 273 1 [x0, some (.int v), x2] st h = jv_ev d 273 2 [x0, some (.int v), x2] (.int v :: st) h := jq_nx (jv_insR jm_273 dJ8_checkBoundsOffCount_1) rfl
theorem e273_2 : jv_ev d 273 2 [x0, x1, some (.int v)] st h = jv_ev d 273 3 [x0, x1, some (.int v)] (.int v :: st) h := jq_nx (jv_insR jm_273 dJ8_checkBoundsOffCount_2) rfl
theorem e273_3 : jv_ev d 273 3 lc st h = jv_ev d 273 6 lc (.ref 48 :: st) h := jq_gets (jv_insR jm_273 dJ8_checkBoundsOffCount_3) jo_273 jS_30_1053
theorem e273_6 : jv_ev d 273 6 lc [z3, z2, z1, z0] h = (jv_cd d 267 [z0, z1, z2, z3] h).bind fun r => jv_on r (fun v h => jv_ev d 273 9 lc (v.toList ++ []) h) (fun q h => some (.inr q, h)) := jq_S (as := [z0, z1, z2, z3]) (rest := []) (jv_insR jm_273 dJ8_checkBoundsOffCount_6) jo_273 jT_30_1065 rfl rfl rfl rfl
theorem e273_9 : jv_ev d 273 9 lc [.int v] h = some (.inl (some (.int v)), h) := jq_reti (jv_insR jm_273 dJ8_checkBoundsOffCount_9) jr_273
/-! 274: java/lang/String.<init>(Ljava/lang/StringBuilder;)V -/
theorem n274 : jv_cd (d + 1) 274 [.ref a0, .ref a1] h = jv_ev d 274 0 [some (.ref a0), some (.ref a1)] [] h := rfl
theorem e274_0 : jv_ev d 274 0 [some (.ref a), x1] st h = jv_ev d 274 1 [some (.ref a), x1] (.ref a :: st) h := jq_nx (jv_insR jm_274 dJ8_init_0) rfl
theorem e274_1 : jv_ev d 274 1 [x0, some (.ref a)] st h = jv_ev d 274 2 [x0, some (.ref a)] (.ref a :: st) h := jq_nx (jv_insR jm_274 dJ8_init_1) rfl
theorem e274_2 : jv_ev d 274 2 lc st h = jv_ev d 274 3 lc (.null :: st) h := jq_nx (jv_insR jm_274 dJ8_init_2) rfl
theorem e274_3 : jv_ev d 274 3 lc [z1, z0, .ref b] h = if jt_off ≤ b ∧ (jt_SU.contains 275 = false ∨ jv_cls h b = some 20) then ((jv_cd d 275 [.ref b, z0, z1] h).bind fun r => jv_on r (fun v h => jv_ev d 274 6 lc (v.toList ++ []) h) (fun q h => some (.inr q, h))) else none := jq_P (as := [z0, z1]) (rest := []) (jv_insR jm_274 dJ8_init_3) jo_274 jP_30_489 rfl rfl rfl rfl
theorem e274_6 : jv_ev d 274 6 lc [] h = some (.inl none, h) := jq_retv (jv_insR jm_274 dJ8_init_6) jr_274
/-! 275: java/lang/String.<init>(Ljava/lang/AbstractStringBuilder;Ljava/lang/Void;)V -/
theorem n275 : jv_cd (d + 1) 275 [.ref a0, .ref a1, .ref a2] h = jv_ev d 275 0 [some (.ref a0), some (.ref a1), some (.ref a2), none, none] [] h := rfl
theorem e275_0 : jv_ev d 275 0 [some (.ref a), x1, x2, x3, x4] st h = jv_ev d 275 1 [some (.ref a), x1, x2, x3, x4] (.ref a :: st) h := jq_nx (jv_insR jm_275 dJ8_init_2_0) rfl
theorem e275_1 : jv_ev d 275 1 lc [.ref b] h = if jt_off ≤ b then jv_ev d 275 4 lc [] h else none := jq_O (jv_insR jm_275 dJ8_init_2_1) jo_275 jP_30_1 (Nat.le_of_ble_eq_true rfl)
theorem e275_4 : jv_ev d 275 4 [x0, some (.ref a), x2, x3, x4] st h = jv_ev d 275 5 [x0, some (.ref a), x2, x3, x4] (.ref a :: st) h := jq_nx (jv_insR jm_275 dJ8_init_2_4) rfl
theorem e275_5 : jv_ev d 275 5 lc [.ref b] h = (jv_rc h b [(20, 300)]).bind fun y => (jv_cd d y [.ref b] h).bind fun r => jv_on r (fun v h => jv_ev d 275 8 lc (v.toList ++ []) h) (fun q h => some (.inr q, h)) := jq_V (as := []) (rest := []) (jv_insR jm_275 dJ8_init_2_5) jo_275 jV_30_552 rfl rfl rfl rfl
theorem e275_8 : jv_ev d 275 8 [x0, x1, x2, x3, x4] (.ref a :: st) h = jv_ev d 275 9 [x0, x1, x2, some (.ref a), x4] st h := jq_nx (jv_insR jm_275 dJ8_init_2_8) rfl
theorem e275_9 : jv_ev d 275 9 [x0, some (.ref a), x2, x3, x4] st h = jv_ev d 275 10 [x0, some (.ref a), x2, x3, x4] (.ref a :: st) h := jq_nx (jv_insR jm_275 dJ8_init_2_9) rfl
theorem e275_10 : jv_ev d 275 10 lc [.ref b] h = (jv_rc h b [(20, 305)]).bind fun y => (jv_cd d y [.ref b] h).bind fun r => jv_on r (fun v h => jv_ev d 275 13 lc (v.toList ++ []) h) (fun q h => some (.inr q, h)) := jq_V (as := []) (rest := []) (jv_insR jm_275 dJ8_init_2_10) jo_275 jV_30_549 rfl rfl rfl rfl
theorem e275_13 : jv_ev d 275 13 [x0, x1, x2, x3, x4] (.int v :: st) h = jv_ev d 275 15 [x0, x1, x2, x3, some (.int v)] st h := jq_nx (jv_insR jm_275 dJ8_init_2_13) rfl
theorem e275_15 : jv_ev d 275 15 [x0, some (.ref a), x2, x3, x4] st h = jv_ev d 275 16 [x0, some (.ref a), x2, x3, x4] (.ref a :: st) h := jq_nx (jv_insR jm_275 dJ8_init_2_15) rfl
theorem e275_16 : jv_ev d 275 16 lc [.ref b] h = (jv_rc h b [(20, 298)]).bind fun y => (jv_cd d y [.ref b] h).bind fun r => jv_on r (fun v h => jv_ev d 275 19 lc (v.toList ++ []) h) (fun q h => some (.inr q, h)) := jq_V (as := []) (rest := []) (jv_insR jm_275 dJ8_init_2_16) jo_275 jV_30_1047 rfl rfl rfl rfl
theorem e275_19 : jv_ev d 275 19 lc (.int v :: st) h = if v = 0 then jv_ev d 275 41 lc st h else jv_ev d 275 22 lc st h := jq_if (jv_insR jm_275 dJ8_init_2_19) rfl (by decide)
theorem e275_22 : jv_ev d 275 22 [some (.ref a), x1, x2, x3, x4] st h = jv_ev d 275 23 [some (.ref a), x1, x2, x3, x4] (.ref a :: st) h := jq_nx (jv_insR jm_275 dJ8_init_2_22) rfl
theorem e275_23 : jv_ev d 275 23 lc st h = jv_ev d 275 24 lc (.int 0 :: st) h := jq_iconst (jv_insR jm_275 dJ8_init_2_23) (by decide)
theorem e275_24 : jv_ev d 275 24 lc (r :: .ref a :: st) h = (jv_pf h a [(19, 1, .byte)] r).bind fun h => jv_ev d 275 27 lc st h := jq_put (jv_insR jm_275 dJ8_init_2_24) jo_275 ji_275 jG_30_15i
theorem e275_27 : jv_ev d 275 27 [some (.ref a), x1, x2, x3, x4] st h = jv_ev d 275 28 [some (.ref a), x1, x2, x3, x4] (.ref a :: st) h := jq_nx (jv_insR jm_275 dJ8_init_2_27) rfl
theorem e275_28 : jv_ev d 275 28 [x0, x1, x2, some (.ref a), x4] st h = jv_ev d 275 29 [x0, x1, x2, some (.ref a), x4] (.ref a :: st) h := jq_nx (jv_insR jm_275 dJ8_init_2_28) rfl
theorem e275_29 : jv_ev d 275 29 lc st h = jv_ev d 275 30 lc (.int 0 :: st) h := jq_iconst (jv_insR jm_275 dJ8_init_2_29) (by decide)
theorem e275_30 : jv_ev d 275 30 [x0, x1, x2, x3, some (.int v)] st h = jv_ev d 275 32 [x0, x1, x2, x3, some (.int v)] (.int v :: st) h := jq_nx (jv_insR jm_275 dJ8_init_2_30) rfl
theorem e275_32 : jv_ev d 275 32 lc [z2, z1, z0, y0] h = (jv_cd d 312 [z0, z1, z2] h).bind fun r => jv_on r (fun v h => jv_ev d 275 35 lc (v.toList ++ [y0]) h) (fun q h => some (.inr q, h)) := jq_S (as := [z0, z1, z2]) (rest := [y0]) (jv_insR jm_275 dJ8_init_2_32) jo_275 jT_30_54 rfl rfl rfl rfl
theorem e275_35 : jv_ev d 275 35 lc (r :: .ref a :: st) h = (jv_pf h a [(19, 0, .array .byte)] r).bind fun h => jv_ev d 275 38 lc st h := jq_put (jv_insR jm_275 dJ8_init_2_35) jo_275 ji_275 jG_30_9i
theorem e275_38 : jv_ev d 275 38 lc st h = jv_ev d 275 97 lc st h := jq_go (jv_insR jm_275 dJ8_init_2_38) (by decide)
theorem e275_41 : jv_ev d 275 41 lc st h = jv_ev d 275 44 lc (.int 1 :: st) h := jq_gets (jv_insR jm_275 dJ8_init_2_41) jo_275 jS_30_38
theorem e275_44 : jv_ev d 275 44 lc (.int v :: st) h = if v = 0 then jv_ev d 275 79 lc st h else jv_ev d 275 47 lc st h := jq_if (jv_insR jm_275 dJ8_init_2_44) rfl (by decide)
theorem e275_47 : jv_ev d 275 47 [x0, some (.ref a), x2, x3, x4] st h = jv_ev d 275 48 [x0, some (.ref a), x2, x3, x4] (.ref a :: st) h := jq_nx (jv_insR jm_275 dJ8_init_2_47) rfl
theorem e275_48 : jv_ev d 275 48 lc (.ref a :: st) h = (jv_gf h a [(20, 2, .boolean)]).bind fun r => jv_ev d 275 51 lc (r :: st) h := jq_get (jv_insR jm_275 dJ8_init_2_48) jo_275 jF_30_1048
theorem e275_51 : jv_ev d 275 51 lc (.int v :: st) h = if v = 0 then jv_ev d 275 79 lc st h else jv_ev d 275 54 lc st h := jq_if (jv_insR jm_275 dJ8_init_2_51) rfl (by decide)
theorem e275_54 : jv_ev d 275 54 [some (.ref a), x1, x2, x3, x4] st h = jv_ev d 275 55 [some (.ref a), x1, x2, x3, x4] (.ref a :: st) h := jq_nx (jv_insR jm_275 dJ8_init_2_54) rfl
theorem e275_55 : jv_ev d 275 55 [x0, x1, x2, some (.ref a), x4] st h = jv_ev d 275 56 [x0, x1, x2, some (.ref a), x4] (.ref a :: st) h := jq_nx (jv_insR jm_275 dJ8_init_2_55) rfl
theorem e275_56 : jv_ev d 275 56 lc st h = jv_ev d 275 57 lc (.int 0 :: st) h := jq_iconst (jv_insR jm_275 dJ8_init_2_56) (by decide)
theorem e275_57 : jv_ev d 275 57 [x0, x1, x2, x3, some (.int v)] st h = jv_ev d 275 59 [x0, x1, x2, x3, some (.int v)] (.int v :: st) h := jq_nx (jv_insR jm_275 dJ8_init_2_57) rfl
theorem e275_59 : jv_ev d 275 59 lc [z2, z1, z0, y0] h = (jv_cd d 291 [z0, z1, z2] h).bind fun r => jv_on r (fun v h => jv_ev d 275 62 lc (v.toList ++ [y0]) h) (fun q h => some (.inr q, h)) := jq_S (as := [z0, z1, z2]) (rest := [y0]) (jv_insR jm_275 dJ8_init_2_59) jo_275 jT_30_1051 rfl rfl rfl rfl
theorem e275_62 : jv_ev d 275 62 lc (r :: .ref a :: st) h = (jv_pf h a [(19, 0, .array .byte)] r).bind fun h => jv_ev d 275 65 lc st h := jq_put (jv_insR jm_275 dJ8_init_2_62) jo_275 ji_275 jG_30_9i
theorem e275_65 : jv_ev d 275 65 [some (.ref a), x1, x2, x3, x4] st h = jv_ev d 275 66 [some (.ref a), x1, x2, x3, x4] (.ref a :: st) h := jq_nx (jv_insR jm_275 dJ8_init_2_65) rfl
theorem e275_66 : jv_ev d 275 66 [some (.ref a), x1, x2, x3, x4] st h = jv_ev d 275 67 [some (.ref a), x1, x2, x3, x4] (.ref a :: st) h := jq_nx (jv_insR jm_275 dJ8_init_2_66) rfl
theorem e275_67 : jv_ev d 275 67 lc (.ref a :: st) h = (jv_gf h a [(19, 0, .array .byte)]).bind fun r => jv_ev d 275 70 lc (r :: st) h := jq_get (jv_insR jm_275 dJ8_init_2_67) jo_275 jF_30_9
theorem e275_70 : jv_ev d 275 70 [x0, x1, x2, x3, some (.int v)] st h = jv_ev d 275 72 [x0, x1, x2, x3, some (.int v)] (.int v :: st) h := jq_nx (jv_insR jm_275 dJ8_init_2_70) rfl
theorem e275_72 : jv_ev d 275 72 lc [z1, z0, y0] h = (jv_cd d 293 [z0, z1] h).bind fun r => jv_on r (fun v h => jv_ev d 275 75 lc (v.toList ++ [y0]) h) (fun q h => some (.inr q, h)) := jq_S (as := [z0, z1]) (rest := [y0]) (jv_insR jm_275 dJ8_init_2_72) jo_275 jT_30_47 rfl rfl rfl rfl
theorem e275_75 : jv_ev d 275 75 lc (r :: .ref a :: st) h = (jv_pf h a [(19, 1, .byte)] r).bind fun h => jv_ev d 275 78 lc st h := jq_put (jv_insR jm_275 dJ8_init_2_75) jo_275 ji_275 jG_30_15i
theorem e275_78 : jv_ev d 275 78 lc [] h = some (.inl none, h) := jq_retv (jv_insR jm_275 dJ8_init_2_78) jr_275
theorem e275_79 : jv_ev d 275 79 [some (.ref a), x1, x2, x3, x4] st h = jv_ev d 275 80 [some (.ref a), x1, x2, x3, x4] (.ref a :: st) h := jq_nx (jv_insR jm_275 dJ8_init_2_79) rfl
theorem e275_80 : jv_ev d 275 80 lc st h = jv_ev d 275 81 lc (.int 1 :: st) h := jq_iconst (jv_insR jm_275 dJ8_init_2_80) (by decide)
theorem e275_81 : jv_ev d 275 81 lc (r :: .ref a :: st) h = (jv_pf h a [(19, 1, .byte)] r).bind fun h => jv_ev d 275 84 lc st h := jq_put (jv_insR jm_275 dJ8_init_2_81) jo_275 ji_275 jG_30_15i
theorem e275_84 : jv_ev d 275 84 [some (.ref a), x1, x2, x3, x4] st h = jv_ev d 275 85 [some (.ref a), x1, x2, x3, x4] (.ref a :: st) h := jq_nx (jv_insR jm_275 dJ8_init_2_84) rfl
theorem e275_85 : jv_ev d 275 85 [x0, x1, x2, some (.ref a), x4] st h = jv_ev d 275 86 [x0, x1, x2, some (.ref a), x4] (.ref a :: st) h := jq_nx (jv_insR jm_275 dJ8_init_2_85) rfl
theorem e275_86 : jv_ev d 275 86 lc st h = jv_ev d 275 87 lc (.int 0 :: st) h := jq_iconst (jv_insR jm_275 dJ8_init_2_86) (by decide)
theorem e275_87 : jv_ev d 275 87 [x0, x1, x2, x3, some (.int v)] st h = jv_ev d 275 89 [x0, x1, x2, x3, some (.int v)] (.int v :: st) h := jq_nx (jv_insR jm_275 dJ8_init_2_87) rfl
theorem e275_89 : jv_ev d 275 89 lc st h = jv_ev d 275 90 lc (.int 1 :: st) h := jq_iconst (jv_insR jm_275 dJ8_init_2_89) (by decide)
theorem e275_90 : jv_ev d 275 90 lc (.int w :: .int v :: st) h = jv_ev d 275 91 lc (.int (v <<< (w &&& 31)) :: st) h := jq_nx (jv_insR jm_275 dJ8_init_2_90) rfl
theorem e275_91 : jv_ev d 275 91 lc [z2, z1, z0, y0] h = (jv_cd d 312 [z0, z1, z2] h).bind fun r => jv_on r (fun v h => jv_ev d 275 94 lc (v.toList ++ [y0]) h) (fun q h => some (.inr q, h)) := jq_S (as := [z0, z1, z2]) (rest := [y0]) (jv_insR jm_275 dJ8_init_2_91) jo_275 jT_30_54 rfl rfl rfl rfl
theorem e275_94 : jv_ev d 275 94 lc (r :: .ref a :: st) h = (jv_pf h a [(19, 0, .array .byte)] r).bind fun h => jv_ev d 275 97 lc st h := jq_put (jv_insR jm_275 dJ8_init_2_94) jo_275 ji_275 jG_30_9i
theorem e275_97 : jv_ev d 275 97 lc [] h = some (.inl none, h) := jq_retv (jv_insR jm_275 dJ8_init_2_97) jr_275
/-! 276: java/lang/String.equals(Ljava/lang/Object;)Z -/
theorem n276 : jv_cd (d + 1) 276 [.ref a0, .ref a1] h = jv_ev d 276 0 [some (.ref a0), some (.ref a1), none] [] h := rfl
theorem e276_0 : jv_ev d 276 0 [some (.ref a), x1, x2] st h = jv_ev d 276 1 [some (.ref a), x1, x2] (.ref a :: st) h := jq_nx (jv_insR jm_276 dJ8_equals_0) rfl
theorem e276_1 : jv_ev d 276 1 [x0, some (.ref a), x2] st h = jv_ev d 276 2 [x0, some (.ref a), x2] (.ref a :: st) h := jq_nx (jv_insR jm_276 dJ8_equals_1) rfl
theorem e276_2 : jv_ev d 276 2 lc (.ref b :: .ref a :: st) h = if (jt_off ≤ a ∧ jt_off ≤ b) ∨ a = b then (if ¬ a = b then jv_ev d 276 7 lc st h else jv_ev d 276 5 lc st h) else none := jq_acne (jv_insR jm_276 dJ8_equals_2) (by decide)
theorem e276_5 : jv_ev d 276 5 lc st h = jv_ev d 276 6 lc (.int 1 :: st) h := jq_iconst (jv_insR jm_276 dJ8_equals_5) (by decide)
theorem e276_6 : jv_ev d 276 6 lc [.int v] h = if narrow .boolean (.int v) = .int v then some (.inl (some (.int v)), h) else none := jq_ret (jv_insR jm_276 dJ8_equals_6) jr_276 (by decide)
theorem e276_7 : jv_ev d 276 7 [x0, some (.ref a), x2] st h = jv_ev d 276 8 [x0, some (.ref a), x2] (.ref a :: st) h := jq_nx (jv_insR jm_276 dJ8_equals_7) rfl
theorem e276_8 : jv_ev d 276 8 lc (.ref a :: st) h = (jv_cls h a).bind fun ci => if jt_CK.contains (30, 10, ci) = true then jv_ev d 276 11 lc (.int 1 :: st) h else none := jq_inst (jv_insR jm_276 dJ8_equals_8) jo_276
theorem e276_11 : jv_ev d 276 11 lc (.int v :: st) h = if v = 0 then jv_ev d 276 54 lc st h else jv_ev d 276 14 lc st h := jq_if (jv_insR jm_276 dJ8_equals_11) rfl (by decide)
theorem e276_14 : jv_ev d 276 14 [x0, some (.ref a), x2] st h = jv_ev d 276 15 [x0, some (.ref a), x2] (.ref a :: st) h := jq_nx (jv_insR jm_276 dJ8_equals_14) rfl
theorem e276_15 : jv_ev d 276 15 lc (.ref a :: st) h = (jv_cls h a).bind fun ci => if jt_CK.contains (30, 10, ci) = true then jv_ev d 276 18 lc (.ref a :: st) h else none := jq_cast (jv_insR jm_276 dJ8_equals_15) jo_276
theorem e276_18 : jv_ev d 276 18 [x0, x1, x2] (.ref a :: st) h = jv_ev d 276 19 [x0, x1, some (.ref a)] st h := jq_nx (jv_insR jm_276 dJ8_equals_18) rfl
theorem e276_19 : jv_ev d 276 19 lc st h = jv_ev d 276 22 lc (.int 1 :: st) h := jq_gets (jv_insR jm_276 dJ8_equals_19) jo_276 jS_30_38
theorem e276_22 : jv_ev d 276 22 lc (.int v :: st) h = if v = 0 then jv_ev d 276 36 lc st h else jv_ev d 276 25 lc st h := jq_if (jv_insR jm_276 dJ8_equals_22) rfl (by decide)
theorem e276_25 : jv_ev d 276 25 [some (.ref a), x1, x2] st h = jv_ev d 276 26 [some (.ref a), x1, x2] (.ref a :: st) h := jq_nx (jv_insR jm_276 dJ8_equals_25) rfl
theorem e276_26 : jv_ev d 276 26 lc (.ref a :: st) h = (jv_gf h a [(19, 1, .byte)]).bind fun r => jv_ev d 276 29 lc (r :: st) h := jq_get (jv_insR jm_276 dJ8_equals_26) jo_276 jF_30_15
theorem e276_29 : jv_ev d 276 29 [x0, x1, some (.ref a)] st h = jv_ev d 276 30 [x0, x1, some (.ref a)] (.ref a :: st) h := jq_nx (jv_insR jm_276 dJ8_equals_29) rfl
theorem e276_30 : jv_ev d 276 30 lc (.ref a :: st) h = (jv_gf h a [(19, 1, .byte)]).bind fun r => jv_ev d 276 33 lc (r :: st) h := jq_get (jv_insR jm_276 dJ8_equals_30) jo_276 jF_30_15
theorem e276_33 : jv_ev d 276 33 lc (.int w :: .int v :: st) h = if ¬ v = w then jv_ev d 276 54 lc st h else jv_ev d 276 36 lc st h := jq_if (jv_insR jm_276 dJ8_equals_33) rfl (by decide)
theorem e276_36 : jv_ev d 276 36 [some (.ref a), x1, x2] st h = jv_ev d 276 37 [some (.ref a), x1, x2] (.ref a :: st) h := jq_nx (jv_insR jm_276 dJ8_equals_36) rfl
theorem e276_37 : jv_ev d 276 37 lc (.ref a :: st) h = (jv_gf h a [(19, 0, .array .byte)]).bind fun r => jv_ev d 276 40 lc (r :: st) h := jq_get (jv_insR jm_276 dJ8_equals_37) jo_276 jF_30_9
theorem e276_40 : jv_ev d 276 40 [x0, x1, some (.ref a)] st h = jv_ev d 276 41 [x0, x1, some (.ref a)] (.ref a :: st) h := jq_nx (jv_insR jm_276 dJ8_equals_40) rfl
theorem e276_41 : jv_ev d 276 41 lc (.ref a :: st) h = (jv_gf h a [(19, 0, .array .byte)]).bind fun r => jv_ev d 276 44 lc (r :: st) h := jq_get (jv_insR jm_276 dJ8_equals_41) jo_276 jF_30_9
theorem e276_44 : jv_ev d 276 44 lc [z1, z0] h = (jv_cd d 280 [z0, z1] h).bind fun r => jv_on r (fun v h => jv_ev d 276 47 lc (v.toList ++ []) h) (fun q h => some (.inr q, h)) := jq_S (as := [z0, z1]) (rest := []) (jv_insR jm_276 dJ8_equals_44) jo_276 jT_30_541 rfl rfl rfl rfl
theorem e276_47 : jv_ev d 276 47 lc (.int v :: st) h = if v = 0 then jv_ev d 276 54 lc st h else jv_ev d 276 50 lc st h := jq_if (jv_insR jm_276 dJ8_equals_47) rfl (by decide)
theorem e276_50 : jv_ev d 276 50 lc st h = jv_ev d 276 51 lc (.int 1 :: st) h := jq_iconst (jv_insR jm_276 dJ8_equals_50) (by decide)
theorem e276_51 : jv_ev d 276 51 lc st h = jv_ev d 276 55 lc st h := jq_go (jv_insR jm_276 dJ8_equals_51) (by decide)
theorem e276_54 : jv_ev d 276 54 lc st h = jv_ev d 276 55 lc (.int 0 :: st) h := jq_iconst (jv_insR jm_276 dJ8_equals_54) (by decide)
theorem e276_55 : jv_ev d 276 55 lc [.int v] h = if narrow .boolean (.int v) = .int v then some (.inl (some (.int v)), h) else none := jq_ret (jv_insR jm_276 dJ8_equals_55) jr_276 (by decide)
/-! 277: java/lang/StringLatin1.charAt([BI)C -/
theorem n277 : jv_cd (d + 1) 277 [.ref a0, .int i1] h = jv_ev d 277 0 [some (.ref a0), some (.int i1)] [] h := rfl
theorem e277_0 : jv_ev d 277 0 [x0, some (.int v)] st h = jv_ev d 277 1 [x0, some (.int v)] (.int v :: st) h := jq_nx (jv_insR jm_277 dJ9_charAt_0) rfl
theorem e277_1 : jv_ev d 277 1 [some (.ref a), x1] st h = jv_ev d 277 2 [some (.ref a), x1] (.ref a :: st) h := jq_nx (jv_insR jm_277 dJ9_charAt_1) rfl
theorem e277_2 : jv_ev d 277 2 lc (.ref a :: st) h = (jv_al h a).bind fun v => jv_ev d 277 3 lc (.int v :: st) h := jq_alen (jv_insR jm_277 dJ9_charAt_2)
theorem e277_3 : jv_ev d 277 3 lc [z1, z0] h = (jv_cd d 272 [z0, z1] h).bind fun r => jv_on r (fun v h => jv_ev d 277 6 lc (v.toList ++ []) h) (fun q h => some (.inr q, h)) := jq_S (as := [z0, z1]) (rest := []) (jv_insR jm_277 dJ9_charAt_3) jo_277 jT_31_9 rfl rfl rfl rfl
theorem e277_6 : jv_ev d 277 6 [some (.ref a), x1] st h = jv_ev d 277 7 [some (.ref a), x1] (.ref a :: st) h := jq_nx (jv_insR jm_277 dJ9_charAt_6) rfl
theorem e277_7 : jv_ev d 277 7 [x0, some (.int v)] st h = jv_ev d 277 8 [x0, some (.int v)] (.int v :: st) h := jq_nx (jv_insR jm_277 dJ9_charAt_7) rfl
theorem e277_8 : jv_ev d 277 8 lc (.int v :: .ref a :: st) h = (jv_ig h a 1 2 v).bind fun w => jv_ev d 277 9 lc (.int w :: st) h := jq_bald (jv_insR jm_277 dJ9_charAt_8)
theorem e277_9 : jv_ev d 277 9 lc st h = jv_ev d 277 12 lc (.int 255 :: st) h := jq_sipush (jv_insR jm_277 dJ9_charAt_9) (by decide)
theorem e277_12 : jv_ev d 277 12 lc (.int w :: .int v :: st) h = jv_ev d 277 13 lc (.int (v &&& w) :: st) h := jq_nx (jv_insR jm_277 dJ9_charAt_12) rfl
theorem e277_13 : jv_ev d 277 13 lc (.int v :: st) h = jv_ev d 277 14 lc (.int ((v.toUInt32 % 65536).toInt32) :: st) h := jq_nx (jv_insR jm_277 dJ9_charAt_13) rfl
theorem e277_14 : jv_ev d 277 14 lc [.int v] h = if narrow .char (.int v) = .int v then some (.inl (some (.int v)), h) else none := jq_ret (jv_insR jm_277 dJ9_charAt_14) jr_277 (by decide)
/-! 278: java/lang/StringLatin1.canEncode(C)Z -/
theorem n278 : jv_cd (d + 1) 278 [.int i0] h = jv_ev d 278 0 [some (.int i0)] [] h := rfl
theorem e278_0 : jv_ev d 278 0 [some (.int v)] st h = jv_ev d 278 1 [some (.int v)] (.int v :: st) h := jq_nx (jv_insR jm_278 dJ9_canEncode_0) rfl
theorem e278_1 : jv_ev d 278 1 lc st h = jv_ev d 278 4 lc (.int 255 :: st) h := jq_sipush (jv_insR jm_278 dJ9_canEncode_1) (by decide)
theorem e278_4 : jv_ev d 278 4 lc (.int w :: .int v :: st) h = if w < v then jv_ev d 278 11 lc st h else jv_ev d 278 7 lc st h := jq_if (jv_insR jm_278 dJ9_canEncode_4) rfl (by decide)
theorem e278_7 : jv_ev d 278 7 lc st h = jv_ev d 278 8 lc (.int 1 :: st) h := jq_iconst (jv_insR jm_278 dJ9_canEncode_7) (by decide)
theorem e278_8 : jv_ev d 278 8 lc st h = jv_ev d 278 12 lc st h := jq_go (jv_insR jm_278 dJ9_canEncode_8) (by decide)
theorem e278_11 : jv_ev d 278 11 lc st h = jv_ev d 278 12 lc (.int 0 :: st) h := jq_iconst (jv_insR jm_278 dJ9_canEncode_11) (by decide)
theorem e278_12 : jv_ev d 278 12 lc [.int v] h = if narrow .boolean (.int v) = .int v then some (.inl (some (.int v)), h) else none := jq_ret (jv_insR jm_278 dJ9_canEncode_12) jr_278 (by decide)
/-! 279: java/lang/StringLatin1.inflate([BI[BII)V -/
theorem n279 : jv_cd (d + 1) 279 [.ref a0, .int i1, .ref a2, .int i3, .int i4] h = jv_ev d 279 0 [some (.ref a0), some (.int i1), some (.ref a2), some (.int i3), some (.int i4)] [] h := rfl
theorem e279_0 : jv_ev d 279 0 [some (.ref a), x1, x2, x3, x4] st h = jv_ev d 279 1 [some (.ref a), x1, x2, x3, x4] (.ref a :: st) h := jq_nx (jv_insR jm_279 dJ9_inflate_0) rfl
theorem e279_1 : jv_ev d 279 1 [x0, some (.int v), x2, x3, x4] st h = jv_ev d 279 2 [x0, some (.int v), x2, x3, x4] (.int v :: st) h := jq_nx (jv_insR jm_279 dJ9_inflate_1) rfl
theorem e279_2 : jv_ev d 279 2 [x0, x1, some (.ref a), x3, x4] st h = jv_ev d 279 3 [x0, x1, some (.ref a), x3, x4] (.ref a :: st) h := jq_nx (jv_insR jm_279 dJ9_inflate_2) rfl
theorem e279_3 : jv_ev d 279 3 [x0, x1, x2, some (.int v), x4] st h = jv_ev d 279 4 [x0, x1, x2, some (.int v), x4] (.int v :: st) h := jq_nx (jv_insR jm_279 dJ9_inflate_3) rfl
theorem e279_4 : jv_ev d 279 4 [x0, x1, x2, x3, some (.int v)] st h = jv_ev d 279 6 [x0, x1, x2, x3, some (.int v)] (.int v :: st) h := jq_nx (jv_insR jm_279 dJ9_inflate_4) rfl
theorem e279_6 : jv_ev d 279 6 lc [z4, z3, z2, z1, z0] h = (jv_cd d 287 [z0, z1, z2, z3, z4] h).bind fun r => jv_on r (fun v h => jv_ev d 279 9 lc (v.toList ++ []) h) (fun q h => some (.inr q, h)) := jq_S (as := [z0, z1, z2, z3, z4]) (rest := []) (jv_insR jm_279 dJ9_inflate_6) jo_279 jT_31_240 rfl rfl rfl rfl
theorem e279_9 : jv_ev d 279 9 lc [] h = some (.inl none, h) := jq_retv (jv_insR jm_279 dJ9_inflate_9) jr_279
/-! 280: java/lang/StringLatin1.equals([B[B)Z -/
theorem n280 : jv_cd (d + 1) 280 [.ref a0, .ref a1] h = jv_ev d 280 0 [some (.ref a0), some (.ref a1), none] [] h := rfl
theorem e280_0 : jv_ev d 280 0 [some (.ref a), x1, x2] st h = jv_ev d 280 1 [some (.ref a), x1, x2] (.ref a :: st) h := jq_nx (jv_insR jm_280 dJ9_equals_0) rfl
theorem e280_1 : jv_ev d 280 1 lc (.ref a :: st) h = (jv_al h a).bind fun v => jv_ev d 280 2 lc (.int v :: st) h := jq_alen (jv_insR jm_280 dJ9_equals_1)
theorem e280_2 : jv_ev d 280 2 [x0, some (.ref a), x2] st h = jv_ev d 280 3 [x0, some (.ref a), x2] (.ref a :: st) h := jq_nx (jv_insR jm_280 dJ9_equals_2) rfl
theorem e280_3 : jv_ev d 280 3 lc (.ref a :: st) h = (jv_al h a).bind fun v => jv_ev d 280 4 lc (.int v :: st) h := jq_alen (jv_insR jm_280 dJ9_equals_3)
theorem e280_4 : jv_ev d 280 4 lc (.int w :: .int v :: st) h = if ¬ v = w then jv_ev d 280 34 lc st h else jv_ev d 280 7 lc st h := jq_if (jv_insR jm_280 dJ9_equals_4) rfl (by decide)
theorem e280_7 : jv_ev d 280 7 lc st h = jv_ev d 280 8 lc (.int 0 :: st) h := jq_iconst (jv_insR jm_280 dJ9_equals_7) (by decide)
theorem e280_8 : jv_ev d 280 8 [x0, x1, x2] (.int v :: st) h = jv_ev d 280 9 [x0, x1, some (.int v)] st h := jq_nx (jv_insR jm_280 dJ9_equals_8) rfl
theorem e280_9 : jv_ev d 280 9 [x0, x1, some (.int v)] st h = jv_ev d 280 10 [x0, x1, some (.int v)] (.int v :: st) h := jq_nx (jv_insR jm_280 dJ9_equals_9) rfl
theorem e280_10 : jv_ev d 280 10 [some (.ref a), x1, x2] st h = jv_ev d 280 11 [some (.ref a), x1, x2] (.ref a :: st) h := jq_nx (jv_insR jm_280 dJ9_equals_10) rfl
theorem e280_11 : jv_ev d 280 11 lc (.ref a :: st) h = (jv_al h a).bind fun v => jv_ev d 280 12 lc (.int v :: st) h := jq_alen (jv_insR jm_280 dJ9_equals_11)
theorem e280_12 : jv_ev d 280 12 lc (.int w :: .int v :: st) h = if w ≤ v then jv_ev d 280 32 lc st h else jv_ev d 280 15 lc st h := jq_if (jv_insR jm_280 dJ9_equals_12) rfl (by decide)
theorem e280_15 : jv_ev d 280 15 [some (.ref a), x1, x2] st h = jv_ev d 280 16 [some (.ref a), x1, x2] (.ref a :: st) h := jq_nx (jv_insR jm_280 dJ9_equals_15) rfl
theorem e280_16 : jv_ev d 280 16 [x0, x1, some (.int v)] st h = jv_ev d 280 17 [x0, x1, some (.int v)] (.int v :: st) h := jq_nx (jv_insR jm_280 dJ9_equals_16) rfl
theorem e280_17 : jv_ev d 280 17 lc (.int v :: .ref a :: st) h = (jv_ig h a 1 2 v).bind fun w => jv_ev d 280 18 lc (.int w :: st) h := jq_bald (jv_insR jm_280 dJ9_equals_17)
theorem e280_18 : jv_ev d 280 18 [x0, some (.ref a), x2] st h = jv_ev d 280 19 [x0, some (.ref a), x2] (.ref a :: st) h := jq_nx (jv_insR jm_280 dJ9_equals_18) rfl
theorem e280_19 : jv_ev d 280 19 [x0, x1, some (.int v)] st h = jv_ev d 280 20 [x0, x1, some (.int v)] (.int v :: st) h := jq_nx (jv_insR jm_280 dJ9_equals_19) rfl
theorem e280_20 : jv_ev d 280 20 lc (.int v :: .ref a :: st) h = (jv_ig h a 1 2 v).bind fun w => jv_ev d 280 21 lc (.int w :: st) h := jq_bald (jv_insR jm_280 dJ9_equals_20)
theorem e280_21 : jv_ev d 280 21 lc (.int w :: .int v :: st) h = if v = w then jv_ev d 280 26 lc st h else jv_ev d 280 24 lc st h := jq_if (jv_insR jm_280 dJ9_equals_21) rfl (by decide)
theorem e280_24 : jv_ev d 280 24 lc st h = jv_ev d 280 25 lc (.int 0 :: st) h := jq_iconst (jv_insR jm_280 dJ9_equals_24) (by decide)
theorem e280_25 : jv_ev d 280 25 lc [.int v] h = if narrow .boolean (.int v) = .int v then some (.inl (some (.int v)), h) else none := jq_ret (jv_insR jm_280 dJ9_equals_25) jr_280 (by decide)
theorem e280_26 : jv_ev d 280 26 [x0, x1, some (.int v)] st h = jv_ev d 280 29 [x0, x1, some (.int (v + 1))] st h := jq_nx (jv_insR jm_280 dJ9_equals_26) rfl
theorem e280_29 : jv_ev d 280 29 lc st h = jv_ev d 280 9 lc st h := jq_go (jv_insR jm_280 dJ9_equals_29) (by decide)
theorem e280_32 : jv_ev d 280 32 lc st h = jv_ev d 280 33 lc (.int 1 :: st) h := jq_iconst (jv_insR jm_280 dJ9_equals_32) (by decide)
theorem e280_33 : jv_ev d 280 33 lc [.int v] h = if narrow .boolean (.int v) = .int v then some (.inl (some (.int v)), h) else none := jq_ret (jv_insR jm_280 dJ9_equals_33) jr_280 (by decide)
theorem e280_34 : jv_ev d 280 34 lc st h = jv_ev d 280 35 lc (.int 0 :: st) h := jq_iconst (jv_insR jm_280 dJ9_equals_34) (by decide)
theorem e280_35 : jv_ev d 280 35 lc [.int v] h = if narrow .boolean (.int v) = .int v then some (.inl (some (.int v)), h) else none := jq_ret (jv_insR jm_280 dJ9_equals_35) jr_280 (by decide)
/-! 281: java/lang/StringUTF16.charAt([BI)C -/
theorem n281 : jv_cd (d + 1) 281 [.ref a0, .int i1] h = jv_ev d 281 0 [some (.ref a0), some (.int i1)] [] h := rfl
theorem e281_0 : jv_ev d 281 0 [x0, some (.int v)] st h = jv_ev d 281 1 [x0, some (.int v)] (.int v :: st) h := jq_nx (jv_insR jm_281 dJ10_charAt_0) rfl
theorem e281_1 : jv_ev d 281 1 [some (.ref a), x1] st h = jv_ev d 281 2 [some (.ref a), x1] (.ref a :: st) h := jq_nx (jv_insR jm_281 dJ10_charAt_1) rfl
theorem e281_2 : jv_ev d 281 2 lc [z1, z0] h = (jv_cd d 282 [z0, z1] h).bind fun r => jv_on r (fun v h => jv_ev d 281 5 lc (v.toList ++ []) h) (fun q h => some (.inr q, h)) := jq_S (as := [z0, z1]) (rest := []) (jv_insR jm_281 dJ10_charAt_2) jo_281 jT_32_67 rfl rfl rfl rfl
theorem e281_5 : jv_ev d 281 5 [some (.ref a), x1] st h = jv_ev d 281 6 [some (.ref a), x1] (.ref a :: st) h := jq_nx (jv_insR jm_281 dJ10_charAt_5) rfl
theorem e281_6 : jv_ev d 281 6 [x0, some (.int v)] st h = jv_ev d 281 7 [x0, some (.int v)] (.int v :: st) h := jq_nx (jv_insR jm_281 dJ10_charAt_6) rfl
theorem e281_7 : jv_ev d 281 7 lc [z1, z0] h = (jv_cd d 284 [z0, z1] h).bind fun r => jv_on r (fun v h => jv_ev d 281 10 lc (v.toList ++ []) h) (fun q h => some (.inr q, h)) := jq_S (as := [z0, z1]) (rest := []) (jv_insR jm_281 dJ10_charAt_7) jo_281 jT_32_71 rfl rfl rfl rfl
theorem e281_10 : jv_ev d 281 10 lc [.int v] h = if narrow .char (.int v) = .int v then some (.inl (some (.int v)), h) else none := jq_ret (jv_insR jm_281 dJ10_charAt_10) jr_281 (by decide)
/-! 282: java/lang/StringUTF16.checkIndex(I[B)V -/
theorem n282 : jv_cd (d + 1) 282 [.int i0, .ref a1] h = jv_ev d 282 0 [some (.int i0), some (.ref a1)] [] h := rfl
theorem e282_0 : jv_ev d 282 0 [some (.int v), x1] st h = jv_ev d 282 1 [some (.int v), x1] (.int v :: st) h := jq_nx (jv_insR jm_282 dJ10_checkIndex_0) rfl
theorem e282_1 : jv_ev d 282 1 [x0, some (.ref a)] st h = jv_ev d 282 2 [x0, some (.ref a)] (.ref a :: st) h := jq_nx (jv_insR jm_282 dJ10_checkIndex_1) rfl
theorem e282_2 : jv_ev d 282 2 lc [z0, y0] h = (jv_cd d 283 [z0] h).bind fun r => jv_on r (fun v h => jv_ev d 282 5 lc (v.toList ++ [y0]) h) (fun q h => some (.inr q, h)) := jq_S (as := [z0]) (rest := [y0]) (jv_insR jm_282 dJ10_checkIndex_2) jo_282 jT_32_48 rfl rfl rfl rfl
theorem e282_5 : jv_ev d 282 5 lc [z1, z0] h = (jv_cd d 272 [z0, z1] h).bind fun r => jv_on r (fun v h => jv_ev d 282 8 lc (v.toList ++ []) h) (fun q h => some (.inr q, h)) := jq_S (as := [z0, z1]) (rest := []) (jv_insR jm_282 dJ10_checkIndex_5) jo_282 jT_32_414 rfl rfl rfl rfl
theorem e282_8 : jv_ev d 282 8 lc [] h = some (.inl none, h) := jq_retv (jv_insR jm_282 dJ10_checkIndex_8) jr_282
/-! 283: java/lang/StringUTF16.length([B)I -/
theorem n283 : jv_cd (d + 1) 283 [.ref a0] h = jv_ev d 283 0 [some (.ref a0)] [] h := rfl
theorem e283_0 : jv_ev d 283 0 [some (.ref a)] st h = jv_ev d 283 1 [some (.ref a)] (.ref a :: st) h := jq_nx (jv_insR jm_283 dJ10_length_0) rfl
theorem e283_1 : jv_ev d 283 1 lc (.ref a :: st) h = (jv_al h a).bind fun v => jv_ev d 283 2 lc (.int v :: st) h := jq_alen (jv_insR jm_283 dJ10_length_1)
theorem e283_2 : jv_ev d 283 2 lc st h = jv_ev d 283 3 lc (.int 1 :: st) h := jq_iconst (jv_insR jm_283 dJ10_length_2) (by decide)
theorem e283_3 : jv_ev d 283 3 lc (.int w :: .int v :: st) h = jv_ev d 283 4 lc (.int (v >>> (w &&& 31)) :: st) h := jq_nx (jv_insR jm_283 dJ10_length_3) rfl
theorem e283_4 : jv_ev d 283 4 lc [.int v] h = some (.inl (some (.int v)), h) := jq_reti (jv_insR jm_283 dJ10_length_4) jr_283
/-! 284: java/lang/StringUTF16.getChar([BI)C -/
theorem n284 : jv_cd (d + 1) 284 [.ref a0, .int i1] h = jv_ev d 284 0 [some (.ref a0), some (.int i1)] [] h := rfl
theorem e284_0 : jv_ev d 284 0 lc st h = jv_ev d 284 3 lc (.int 1 :: st) h := jq_gets (jv_insR jm_284 dJ10_getChar_0) jo_284 jS_32_44
theorem e284_3 : jv_ev d 284 3 lc (.int v :: st) h = if ¬ v = 0 then jv_ev d 284 28 lc st h else jv_ev d 284 6 lc st h := jq_if (jv_insR jm_284 dJ10_getChar_3) rfl (by decide)
theorem e284_6 : jv_ev d 284 6 [x0, some (.int v)] st h = jv_ev d 284 7 [x0, some (.int v)] (.int v :: st) h := jq_nx (jv_insR jm_284 dJ10_getChar_6) rfl
theorem e284_7 : jv_ev d 284 7 lc (.int v :: st) h = if v < 0 then jv_ev d 284 18 lc st h else jv_ev d 284 10 lc st h := jq_if (jv_insR jm_284 dJ10_getChar_7) rfl (by decide)
theorem e284_10 : jv_ev d 284 10 [x0, some (.int v)] st h = jv_ev d 284 11 [x0, some (.int v)] (.int v :: st) h := jq_nx (jv_insR jm_284 dJ10_getChar_10) rfl
theorem e284_11 : jv_ev d 284 11 [some (.ref a), x1] st h = jv_ev d 284 12 [some (.ref a), x1] (.ref a :: st) h := jq_nx (jv_insR jm_284 dJ10_getChar_11) rfl
theorem e284_12 : jv_ev d 284 12 lc [z0, y0] h = (jv_cd d 283 [z0] h).bind fun r => jv_on r (fun v h => jv_ev d 284 15 lc (v.toList ++ [y0]) h) (fun q h => some (.inr q, h)) := jq_S (as := [z0]) (rest := [y0]) (jv_insR jm_284 dJ10_getChar_12) jo_284 jT_32_48 rfl rfl rfl rfl
theorem e284_15 : jv_ev d 284 15 lc (.int w :: .int v :: st) h = if v < w then jv_ev d 284 28 lc st h else jv_ev d 284 18 lc st h := jq_if (jv_insR jm_284 dJ10_getChar_15) rfl (by decide)
theorem e284_21 : jv_ev d 284 21 lc (.ref a :: st) h = jv_ev d 284 22 lc (.ref a :: .ref a :: st) h := jq_nx (jv_insR jm_284 dJ10_getChar_21) rfl
theorem e284_28 : jv_ev d 284 28 [x0, some (.int v)] st h = jv_ev d 284 29 [x0, some (.int v)] (.int v :: st) h := jq_nx (jv_insR jm_284 dJ10_getChar_28) rfl
theorem e284_29 : jv_ev d 284 29 lc st h = jv_ev d 284 30 lc (.int 1 :: st) h := jq_iconst (jv_insR jm_284 dJ10_getChar_29) (by decide)
theorem e284_30 : jv_ev d 284 30 lc (.int w :: .int v :: st) h = jv_ev d 284 31 lc (.int (v <<< (w &&& 31)) :: st) h := jq_nx (jv_insR jm_284 dJ10_getChar_30) rfl
theorem e284_31 : jv_ev d 284 31 [x0, x1] (.int v :: st) h = jv_ev d 284 32 [x0, some (.int v)] st h := jq_nx (jv_insR jm_284 dJ10_getChar_31) rfl
theorem e284_32 : jv_ev d 284 32 [some (.ref a), x1] st h = jv_ev d 284 33 [some (.ref a), x1] (.ref a :: st) h := jq_nx (jv_insR jm_284 dJ10_getChar_32) rfl
theorem e284_33 : jv_ev d 284 33 [x0, some (.int v)] st h = jv_ev d 284 34 [x0, some (.int v)] (.int v :: st) h := jq_nx (jv_insR jm_284 dJ10_getChar_33) rfl
theorem e284_34 : jv_ev d 284 34 [x0, some (.int v)] st h = jv_ev d 284 37 [x0, some (.int (v + 1))] st h := jq_nx (jv_insR jm_284 dJ10_getChar_34) rfl
theorem e284_37 : jv_ev d 284 37 lc (.int v :: .ref a :: st) h = (jv_ig h a 1 2 v).bind fun w => jv_ev d 284 38 lc (.int w :: st) h := jq_bald (jv_insR jm_284 dJ10_getChar_37)
theorem e284_38 : jv_ev d 284 38 lc st h = jv_ev d 284 41 lc (.int 255 :: st) h := jq_sipush (jv_insR jm_284 dJ10_getChar_38) (by decide)
theorem e284_41 : jv_ev d 284 41 lc (.int w :: .int v :: st) h = jv_ev d 284 42 lc (.int (v &&& w) :: st) h := jq_nx (jv_insR jm_284 dJ10_getChar_41) rfl
theorem e284_42 : jv_ev d 284 42 lc st h = jv_ev d 284 45 lc (.int 0 :: st) h := jq_gets (jv_insR jm_284 dJ10_getChar_42) jo_284 jS_32_59
theorem e284_45 : jv_ev d 284 45 lc (.int w :: .int v :: st) h = jv_ev d 284 46 lc (.int (v <<< (w &&& 31)) :: st) h := jq_nx (jv_insR jm_284 dJ10_getChar_45) rfl
theorem e284_46 : jv_ev d 284 46 [some (.ref a), x1] st h = jv_ev d 284 47 [some (.ref a), x1] (.ref a :: st) h := jq_nx (jv_insR jm_284 dJ10_getChar_46) rfl
theorem e284_47 : jv_ev d 284 47 [x0, some (.int v)] st h = jv_ev d 284 48 [x0, some (.int v)] (.int v :: st) h := jq_nx (jv_insR jm_284 dJ10_getChar_47) rfl
theorem e284_48 : jv_ev d 284 48 lc (.int v :: .ref a :: st) h = (jv_ig h a 1 2 v).bind fun w => jv_ev d 284 49 lc (.int w :: st) h := jq_bald (jv_insR jm_284 dJ10_getChar_48)
theorem e284_49 : jv_ev d 284 49 lc st h = jv_ev d 284 52 lc (.int 255 :: st) h := jq_sipush (jv_insR jm_284 dJ10_getChar_49) (by decide)
theorem e284_52 : jv_ev d 284 52 lc (.int w :: .int v :: st) h = jv_ev d 284 53 lc (.int (v &&& w) :: st) h := jq_nx (jv_insR jm_284 dJ10_getChar_52) rfl
theorem e284_53 : jv_ev d 284 53 lc st h = jv_ev d 284 56 lc (.int 8 :: st) h := jq_gets (jv_insR jm_284 dJ10_getChar_53) jo_284 jS_32_63
theorem e284_56 : jv_ev d 284 56 lc (.int w :: .int v :: st) h = jv_ev d 284 57 lc (.int (v <<< (w &&& 31)) :: st) h := jq_nx (jv_insR jm_284 dJ10_getChar_56) rfl
theorem e284_57 : jv_ev d 284 57 lc (.int w :: .int v :: st) h = jv_ev d 284 58 lc (.int (v ||| w) :: st) h := jq_nx (jv_insR jm_284 dJ10_getChar_57) rfl
theorem e284_58 : jv_ev d 284 58 lc (.int v :: st) h = jv_ev d 284 59 lc (.int ((v.toUInt32 % 65536).toInt32) :: st) h := jq_nx (jv_insR jm_284 dJ10_getChar_58) rfl
theorem e284_59 : jv_ev d 284 59 lc [.int v] h = if narrow .char (.int v) = .int v then some (.inl (some (.int v)), h) else none := jq_ret (jv_insR jm_284 dJ10_getChar_59) jr_284 (by decide)
/-! 285: java/lang/StringUTF16.newBytesFor(I)[B -/
theorem n285 : jv_cd (d + 1) 285 [.int i0] h = jv_ev d 285 0 [some (.int i0)] [] h := rfl
theorem e285_0 : jv_ev d 285 0 [some (.int v)] st h = jv_ev d 285 1 [some (.int v)] (.int v :: st) h := jq_nx (jv_insR jm_285 dJ10_newBytesFor_0) rfl
theorem e285_1 : jv_ev d 285 1 lc [z0] h = (jv_cd d 286 [z0] h).bind fun r => jv_on r (fun v h => jv_ev d 285 4 lc (v.toList ++ []) h) (fun q h => some (.inr q, h)) := jq_S (as := [z0]) (rest := []) (jv_insR jm_285 dJ10_newBytesFor_1) jo_285 jT_32_11 rfl rfl rfl rfl
theorem e285_4 : jv_ev d 285 4 lc (.int v :: st) h = if v < 0 ∨ 100000 < v.toNatClampNeg then none else jv_ev d 285 6 lc (.ref h.length :: st) (h ++ [.inl (1, v.toNatClampNeg, .inl (fun _ => 0))]) := jq_newa (jv_insR jm_285 dJ10_newBytesFor_4)
theorem e285_6 : jv_ev d 285 6 lc [.ref a] h = some (.inl (some (.ref a)), h) := jq_reta (jv_insR jm_285 dJ10_newBytesFor_6) jr_285 rfl
/-! 286: java/lang/StringUTF16.newBytesLength(I)I -/
theorem n286 : jv_cd (d + 1) 286 [.int i0] h = jv_ev d 286 0 [some (.int i0)] [] h := rfl
theorem e286_0 : jv_ev d 286 0 [some (.int v)] st h = jv_ev d 286 1 [some (.int v)] (.int v :: st) h := jq_nx (jv_insR jm_286 dJ10_newBytesLength_0) rfl
theorem e286_1 : jv_ev d 286 1 lc (.int v :: st) h = if 0 ≤ v then jv_ev d 286 12 lc st h else jv_ev d 286 4 lc st h := jq_if (jv_insR jm_286 dJ10_newBytesLength_1) rfl (by decide)
theorem e286_7 : jv_ev d 286 7 lc (.ref a :: st) h = jv_ev d 286 8 lc (.ref a :: .ref a :: st) h := jq_nx (jv_insR jm_286 dJ10_newBytesLength_7) rfl
theorem e286_12 : jv_ev d 286 12 [some (.int v)] st h = jv_ev d 286 13 [some (.int v)] (.int v :: st) h := jq_nx (jv_insR jm_286 dJ10_newBytesLength_12) rfl
theorem e286_13 : jv_ev d 286 13 lc st h = jv_ev d 286 15 lc (.int (1073741823) :: st) h := jq_ldc (jv_insR jm_286 dJ10_newBytesLength_13) jo_286 jK_32_20 rfl
theorem e286_15 : jv_ev d 286 15 lc (.int w :: .int v :: st) h = if v < w then jv_ev d 286 55 lc st h else jv_ev d 286 18 lc st h := jq_if (jv_insR jm_286 dJ10_newBytesLength_15) rfl (by decide)
theorem e286_21 : jv_ev d 286 21 lc (.ref a :: st) h = jv_ev d 286 22 lc (.ref a :: .ref a :: st) h := jq_nx (jv_insR jm_286 dJ10_newBytesLength_21) rfl
theorem e286_25 : jv_ev d 286 25 lc (.ref a :: st) h = jv_ev d 286 26 lc (.ref a :: .ref a :: st) h := jq_nx (jv_insR jm_286 dJ10_newBytesLength_25) rfl
theorem e286_55 : jv_ev d 286 55 [some (.int v)] st h = jv_ev d 286 56 [some (.int v)] (.int v :: st) h := jq_nx (jv_insR jm_286 dJ10_newBytesLength_55) rfl
theorem e286_56 : jv_ev d 286 56 lc st h = jv_ev d 286 57 lc (.int 1 :: st) h := jq_iconst (jv_insR jm_286 dJ10_newBytesLength_56) (by decide)
theorem e286_57 : jv_ev d 286 57 lc (.int w :: .int v :: st) h = jv_ev d 286 58 lc (.int (v <<< (w &&& 31)) :: st) h := jq_nx (jv_insR jm_286 dJ10_newBytesLength_57) rfl
theorem e286_58 : jv_ev d 286 58 lc [.int v] h = some (.inl (some (.int v)), h) := jq_reti (jv_insR jm_286 dJ10_newBytesLength_58) jr_286
/-! 287: java/lang/StringUTF16.inflate([BI[BII)V -/
theorem n287 : jv_cd (d + 1) 287 [.ref a0, .int i1, .ref a2, .int i3, .int i4] h = jv_ev d 287 0 [some (.ref a0), some (.int i1), some (.ref a2), some (.int i3), some (.int i4), none] [] h := rfl
theorem e287_0 : jv_ev d 287 0 [x0, x1, x2, some (.int v), x4, x5] st h = jv_ev d 287 1 [x0, x1, x2, some (.int v), x4, x5] (.int v :: st) h := jq_nx (jv_insR jm_287 dJ10_inflate_0) rfl
theorem e287_1 : jv_ev d 287 1 [x0, x1, x2, x3, some (.int v), x5] st h = jv_ev d 287 3 [x0, x1, x2, x3, some (.int v), x5] (.int v :: st) h := jq_nx (jv_insR jm_287 dJ10_inflate_1) rfl
theorem e287_3 : jv_ev d 287 3 [x0, x1, some (.ref a), x3, x4, x5] st h = jv_ev d 287 4 [x0, x1, some (.ref a), x3, x4, x5] (.ref a :: st) h := jq_nx (jv_insR jm_287 dJ10_inflate_3) rfl
theorem e287_4 : jv_ev d 287 4 lc [z2, z1, z0] h = (jv_cd d 288 [z0, z1, z2] h).bind fun r => jv_on r (fun v h => jv_ev d 287 7 lc (v.toList ++ []) h) (fun q h => some (.inr q, h)) := jq_S (as := [z0, z1, z2]) (rest := []) (jv_insR jm_287 dJ10_inflate_4) jo_287 jT_32_173 rfl rfl rfl rfl
theorem e287_7 : jv_ev d 287 7 lc st h = jv_ev d 287 8 lc (.int 0 :: st) h := jq_iconst (jv_insR jm_287 dJ10_inflate_7) (by decide)
theorem e287_8 : jv_ev d 287 8 [x0, x1, x2, x3, x4, x5] (.int v :: st) h = jv_ev d 287 10 [x0, x1, x2, x3, x4, some (.int v)] st h := jq_nx (jv_insR jm_287 dJ10_inflate_8) rfl
theorem e287_10 : jv_ev d 287 10 [x0, x1, x2, x3, x4, some (.int v)] st h = jv_ev d 287 12 [x0, x1, x2, x3, x4, some (.int v)] (.int v :: st) h := jq_nx (jv_insR jm_287 dJ10_inflate_10) rfl
theorem e287_12 : jv_ev d 287 12 [x0, x1, x2, x3, some (.int v), x5] st h = jv_ev d 287 14 [x0, x1, x2, x3, some (.int v), x5] (.int v :: st) h := jq_nx (jv_insR jm_287 dJ10_inflate_12) rfl
theorem e287_14 : jv_ev d 287 14 lc (.int w :: .int v :: st) h = if w ≤ v then jv_ev d 287 41 lc st h else jv_ev d 287 17 lc st h := jq_if (jv_insR jm_287 dJ10_inflate_14) rfl (by decide)
theorem e287_17 : jv_ev d 287 17 [x0, x1, some (.ref a), x3, x4, x5] st h = jv_ev d 287 18 [x0, x1, some (.ref a), x3, x4, x5] (.ref a :: st) h := jq_nx (jv_insR jm_287 dJ10_inflate_17) rfl
theorem e287_18 : jv_ev d 287 18 [x0, x1, x2, some (.int v), x4, x5] st h = jv_ev d 287 19 [x0, x1, x2, some (.int v), x4, x5] (.int v :: st) h := jq_nx (jv_insR jm_287 dJ10_inflate_18) rfl
theorem e287_19 : jv_ev d 287 19 [x0, x1, x2, some (.int v), x4, x5] st h = jv_ev d 287 22 [x0, x1, x2, some (.int (v + 1)), x4, x5] st h := jq_nx (jv_insR jm_287 dJ10_inflate_19) rfl
theorem e287_22 : jv_ev d 287 22 [some (.ref a), x1, x2, x3, x4, x5] st h = jv_ev d 287 23 [some (.ref a), x1, x2, x3, x4, x5] (.ref a :: st) h := jq_nx (jv_insR jm_287 dJ10_inflate_22) rfl
theorem e287_23 : jv_ev d 287 23 [x0, some (.int v), x2, x3, x4, x5] st h = jv_ev d 287 24 [x0, some (.int v), x2, x3, x4, x5] (.int v :: st) h := jq_nx (jv_insR jm_287 dJ10_inflate_23) rfl
theorem e287_24 : jv_ev d 287 24 [x0, some (.int v), x2, x3, x4, x5] st h = jv_ev d 287 27 [x0, some (.int (v + 1)), x2, x3, x4, x5] st h := jq_nx (jv_insR jm_287 dJ10_inflate_24) rfl
theorem e287_27 : jv_ev d 287 27 lc (.int v :: .ref a :: st) h = (jv_ig h a 1 2 v).bind fun w => jv_ev d 287 28 lc (.int w :: st) h := jq_bald (jv_insR jm_287 dJ10_inflate_27)
theorem e287_28 : jv_ev d 287 28 lc st h = jv_ev d 287 31 lc (.int 255 :: st) h := jq_sipush (jv_insR jm_287 dJ10_inflate_28) (by decide)
theorem e287_31 : jv_ev d 287 31 lc (.int w :: .int v :: st) h = jv_ev d 287 32 lc (.int (v &&& w) :: st) h := jq_nx (jv_insR jm_287 dJ10_inflate_31) rfl
theorem e287_32 : jv_ev d 287 32 lc [z2, z1, z0] h = (jv_cd d 289 [z0, z1, z2] h).bind fun r => jv_on r (fun v h => jv_ev d 287 35 lc (v.toList ++ []) h) (fun q h => some (.inr q, h)) := jq_S (as := [z0, z1, z2]) (rest := []) (jv_insR jm_287 dJ10_inflate_32) jo_287 jT_32_111 rfl rfl rfl rfl
theorem e287_35 : jv_ev d 287 35 [x0, x1, x2, x3, x4, some (.int v)] st h = jv_ev d 287 38 [x0, x1, x2, x3, x4, some (.int (v + 1))] st h := jq_nx (jv_insR jm_287 dJ10_inflate_35) rfl
theorem e287_38 : jv_ev d 287 38 lc st h = jv_ev d 287 10 lc st h := jq_go (jv_insR jm_287 dJ10_inflate_38) (by decide)
theorem e287_41 : jv_ev d 287 41 lc [] h = some (.inl none, h) := jq_retv (jv_insR jm_287 dJ10_inflate_41) jr_287
/-! 288: java/lang/StringUTF16.checkBoundsOffCount(II[B)V -/
theorem n288 : jv_cd (d + 1) 288 [.int i0, .int i1, .ref a2] h = jv_ev d 288 0 [some (.int i0), some (.int i1), some (.ref a2)] [] h := rfl
theorem e288_0 : jv_ev d 288 0 [some (.int v), x1, x2] st h = jv_ev d 288 1 [some (.int v), x1, x2] (.int v :: st) h := jq_nx (jv_insR jm_288 dJ10_checkBoundsOffCount_0) rfl
theorem e288_1 : jv_ev d 288 1 [x0, some (.int v), x2] st h = jv_ev d 288 2 [x0, some (.int v), x2] (.int v :: st) h := jq_nx (jv_insR jm_288 dJ10_checkBoundsOffCount_1) rfl
theorem e288_2 : jv_ev d 288 2 [x0, x1, some (.ref a)] st h = jv_ev d 288 3 [x0, x1, some (.ref a)] (.ref a :: st) h := jq_nx (jv_insR jm_288 dJ10_checkBoundsOffCount_2) rfl
theorem e288_3 : jv_ev d 288 3 lc [z0, y0, y1] h = (jv_cd d 283 [z0] h).bind fun r => jv_on r (fun v h => jv_ev d 288 6 lc (v.toList ++ [y0, y1]) h) (fun q h => some (.inr q, h)) := jq_S (as := [z0]) (rest := [y0, y1]) (jv_insR jm_288 dJ10_checkBoundsOffCount_3) jo_288 jT_32_48 rfl rfl rfl rfl
theorem e288_6 : jv_ev d 288 6 lc [z2, z1, z0] h = (jv_cd d 273 [z0, z1, z2] h).bind fun r => jv_on r (fun v h => jv_ev d 288 9 lc (v.toList ++ []) h) (fun q h => some (.inr q, h)) := jq_S (as := [z0, z1, z2]) (rest := []) (jv_insR jm_288 dJ10_checkBoundsOffCount_6) jo_288 jT_32_419 rfl rfl rfl rfl
theorem e288_9 : jv_ev d 288 9 lc (.int v :: st) h = jv_ev d 288 10 lc st h := jq_nx (jv_insR jm_288 dJ10_checkBoundsOffCount_9) rfl
theorem e288_10 : jv_ev d 288 10 lc [] h = some (.inl none, h) := jq_retv (jv_insR jm_288 dJ10_checkBoundsOffCount_10) jr_288
/-! 289: java/lang/StringUTF16.putChar([BII)V -/
theorem n289 : jv_cd (d + 1) 289 [.ref a0, .int i1, .int i2] h = jv_ev d 289 0 [some (.ref a0), some (.int i1), some (.int i2)] [] h := rfl
theorem e289_0 : jv_ev d 289 0 lc st h = jv_ev d 289 3 lc (.int 1 :: st) h := jq_gets (jv_insR jm_289 dJ10_putChar_0) jo_289 jS_32_44
theorem e289_3 : jv_ev d 289 3 lc (.int v :: st) h = if ¬ v = 0 then jv_ev d 289 28 lc st h else jv_ev d 289 6 lc st h := jq_if (jv_insR jm_289 dJ10_putChar_3) rfl (by decide)
theorem e289_6 : jv_ev d 289 6 [x0, some (.int v), x2] st h = jv_ev d 289 7 [x0, some (.int v), x2] (.int v :: st) h := jq_nx (jv_insR jm_289 dJ10_putChar_6) rfl
theorem e289_7 : jv_ev d 289 7 lc (.int v :: st) h = if v < 0 then jv_ev d 289 18 lc st h else jv_ev d 289 10 lc st h := jq_if (jv_insR jm_289 dJ10_putChar_7) rfl (by decide)
theorem e289_10 : jv_ev d 289 10 [x0, some (.int v), x2] st h = jv_ev d 289 11 [x0, some (.int v), x2] (.int v :: st) h := jq_nx (jv_insR jm_289 dJ10_putChar_10) rfl
theorem e289_11 : jv_ev d 289 11 [some (.ref a), x1, x2] st h = jv_ev d 289 12 [some (.ref a), x1, x2] (.ref a :: st) h := jq_nx (jv_insR jm_289 dJ10_putChar_11) rfl
theorem e289_12 : jv_ev d 289 12 lc [z0, y0] h = (jv_cd d 283 [z0] h).bind fun r => jv_on r (fun v h => jv_ev d 289 15 lc (v.toList ++ [y0]) h) (fun q h => some (.inr q, h)) := jq_S (as := [z0]) (rest := [y0]) (jv_insR jm_289 dJ10_putChar_12) jo_289 jT_32_48 rfl rfl rfl rfl
theorem e289_15 : jv_ev d 289 15 lc (.int w :: .int v :: st) h = if v < w then jv_ev d 289 28 lc st h else jv_ev d 289 18 lc st h := jq_if (jv_insR jm_289 dJ10_putChar_15) rfl (by decide)
theorem e289_21 : jv_ev d 289 21 lc (.ref a :: st) h = jv_ev d 289 22 lc (.ref a :: .ref a :: st) h := jq_nx (jv_insR jm_289 dJ10_putChar_21) rfl
theorem e289_28 : jv_ev d 289 28 [x0, some (.int v), x2] st h = jv_ev d 289 29 [x0, some (.int v), x2] (.int v :: st) h := jq_nx (jv_insR jm_289 dJ10_putChar_28) rfl
theorem e289_29 : jv_ev d 289 29 lc st h = jv_ev d 289 30 lc (.int 1 :: st) h := jq_iconst (jv_insR jm_289 dJ10_putChar_29) (by decide)
theorem e289_30 : jv_ev d 289 30 lc (.int w :: .int v :: st) h = jv_ev d 289 31 lc (.int (v <<< (w &&& 31)) :: st) h := jq_nx (jv_insR jm_289 dJ10_putChar_30) rfl
theorem e289_31 : jv_ev d 289 31 [x0, x1, x2] (.int v :: st) h = jv_ev d 289 32 [x0, some (.int v), x2] st h := jq_nx (jv_insR jm_289 dJ10_putChar_31) rfl
theorem e289_32 : jv_ev d 289 32 [some (.ref a), x1, x2] st h = jv_ev d 289 33 [some (.ref a), x1, x2] (.ref a :: st) h := jq_nx (jv_insR jm_289 dJ10_putChar_32) rfl
theorem e289_33 : jv_ev d 289 33 [x0, some (.int v), x2] st h = jv_ev d 289 34 [x0, some (.int v), x2] (.int v :: st) h := jq_nx (jv_insR jm_289 dJ10_putChar_33) rfl
theorem e289_34 : jv_ev d 289 34 [x0, some (.int v), x2] st h = jv_ev d 289 37 [x0, some (.int (v + 1)), x2] st h := jq_nx (jv_insR jm_289 dJ10_putChar_34) rfl
theorem e289_37 : jv_ev d 289 37 [x0, x1, some (.int v)] st h = jv_ev d 289 38 [x0, x1, some (.int v)] (.int v :: st) h := jq_nx (jv_insR jm_289 dJ10_putChar_37) rfl
theorem e289_38 : jv_ev d 289 38 lc st h = jv_ev d 289 41 lc (.int 0 :: st) h := jq_gets (jv_insR jm_289 dJ10_putChar_38) jo_289 jS_32_59
theorem e289_41 : jv_ev d 289 41 lc (.int w :: .int v :: st) h = jv_ev d 289 42 lc (.int (v >>> (w &&& 31)) :: st) h := jq_nx (jv_insR jm_289 dJ10_putChar_41) rfl
theorem e289_42 : jv_ev d 289 42 lc (.int v :: st) h = jv_ev d 289 43 lc (.int (v.toInt8.toInt32) :: st) h := jq_nx (jv_insR jm_289 dJ10_putChar_42) rfl
theorem e289_43 : jv_ev d 289 43 lc (.int w :: .int v :: .ref a :: st) h = (jv_ip h a 1 2 v w).bind fun h => jv_ev d 289 44 lc st h := jq_bast (jv_insR jm_289 dJ10_putChar_43)
theorem e289_44 : jv_ev d 289 44 [some (.ref a), x1, x2] st h = jv_ev d 289 45 [some (.ref a), x1, x2] (.ref a :: st) h := jq_nx (jv_insR jm_289 dJ10_putChar_44) rfl
theorem e289_45 : jv_ev d 289 45 [x0, some (.int v), x2] st h = jv_ev d 289 46 [x0, some (.int v), x2] (.int v :: st) h := jq_nx (jv_insR jm_289 dJ10_putChar_45) rfl
theorem e289_46 : jv_ev d 289 46 [x0, x1, some (.int v)] st h = jv_ev d 289 47 [x0, x1, some (.int v)] (.int v :: st) h := jq_nx (jv_insR jm_289 dJ10_putChar_46) rfl
theorem e289_47 : jv_ev d 289 47 lc st h = jv_ev d 289 50 lc (.int 8 :: st) h := jq_gets (jv_insR jm_289 dJ10_putChar_47) jo_289 jS_32_63
theorem e289_50 : jv_ev d 289 50 lc (.int w :: .int v :: st) h = jv_ev d 289 51 lc (.int (v >>> (w &&& 31)) :: st) h := jq_nx (jv_insR jm_289 dJ10_putChar_50) rfl
theorem e289_51 : jv_ev d 289 51 lc (.int v :: st) h = jv_ev d 289 52 lc (.int (v.toInt8.toInt32) :: st) h := jq_nx (jv_insR jm_289 dJ10_putChar_51) rfl
theorem e289_52 : jv_ev d 289 52 lc (.int w :: .int v :: .ref a :: st) h = (jv_ip h a 1 2 v w).bind fun h => jv_ev d 289 53 lc st h := jq_bast (jv_insR jm_289 dJ10_putChar_52)
theorem e289_53 : jv_ev d 289 53 lc [] h = some (.inl none, h) := jq_retv (jv_insR jm_289 dJ10_putChar_53) jr_289
/-! 290: java/lang/StringUTF16.putCharSB([BII)V -/
theorem n290 : jv_cd (d + 1) 290 [.ref a0, .int i1, .int i2] h = jv_ev d 290 0 [some (.ref a0), some (.int i1), some (.int i2)] [] h := rfl
theorem e290_0 : jv_ev d 290 0 [x0, some (.int v), x2] st h = jv_ev d 290 1 [x0, some (.int v), x2] (.int v :: st) h := jq_nx (jv_insR jm_290 dJ10_putCharSB_0) rfl
theorem e290_1 : jv_ev d 290 1 [some (.ref a), x1, x2] st h = jv_ev d 290 2 [some (.ref a), x1, x2] (.ref a :: st) h := jq_nx (jv_insR jm_290 dJ10_putCharSB_1) rfl
theorem e290_2 : jv_ev d 290 2 lc [z1, z0] h = (jv_cd d 282 [z0, z1] h).bind fun r => jv_on r (fun v h => jv_ev d 290 5 lc (v.toList ++ []) h) (fun q h => some (.inr q, h)) := jq_S (as := [z0, z1]) (rest := []) (jv_insR jm_290 dJ10_putCharSB_2) jo_290 jT_32_67 rfl rfl rfl rfl
theorem e290_5 : jv_ev d 290 5 [some (.ref a), x1, x2] st h = jv_ev d 290 6 [some (.ref a), x1, x2] (.ref a :: st) h := jq_nx (jv_insR jm_290 dJ10_putCharSB_5) rfl
theorem e290_6 : jv_ev d 290 6 [x0, some (.int v), x2] st h = jv_ev d 290 7 [x0, some (.int v), x2] (.int v :: st) h := jq_nx (jv_insR jm_290 dJ10_putCharSB_6) rfl
theorem e290_7 : jv_ev d 290 7 [x0, x1, some (.int v)] st h = jv_ev d 290 8 [x0, x1, some (.int v)] (.int v :: st) h := jq_nx (jv_insR jm_290 dJ10_putCharSB_7) rfl
theorem e290_8 : jv_ev d 290 8 lc [z2, z1, z0] h = (jv_cd d 289 [z0, z1, z2] h).bind fun r => jv_on r (fun v h => jv_ev d 290 11 lc (v.toList ++ []) h) (fun q h => some (.inr q, h)) := jq_S (as := [z0, z1, z2]) (rest := []) (jv_insR jm_290 dJ10_putCharSB_8) jo_290 jT_32_111 rfl rfl rfl rfl
theorem e290_11 : jv_ev d 290 11 lc [] h = some (.inl none, h) := jq_retv (jv_insR jm_290 dJ10_putCharSB_11) jr_290
/-! 291: java/lang/StringUTF16.compress([BII)[B -/
theorem n291 : jv_cd (d + 1) 291 [.ref a0, .int i1, .int i2] h = jv_ev d 291 0 [some (.ref a0), some (.int i1), some (.int i2), none, none, none] [] h := rfl
theorem e291_0 : jv_ev d 291 0 [x0, x1, some (.int v), x3, x4, x5] st h = jv_ev d 291 1 [x0, x1, some (.int v), x3, x4, x5] (.int v :: st) h := jq_nx (jv_insR jm_291 dJ10_compress_0) rfl
theorem e291_1 : jv_ev d 291 1 lc (.int v :: st) h = if v < 0 ∨ 100000 < v.toNatClampNeg then none else jv_ev d 291 3 lc (.ref h.length :: st) (h ++ [.inl (1, v.toNatClampNeg, .inl (fun _ => 0))]) := jq_newa (jv_insR jm_291 dJ10_compress_1)
theorem e291_3 : jv_ev d 291 3 [x0, x1, x2, x3, x4, x5] (.ref a :: st) h = jv_ev d 291 4 [x0, x1, x2, some (.ref a), x4, x5] st h := jq_nx (jv_insR jm_291 dJ10_compress_3) rfl
theorem e291_4 : jv_ev d 291 4 [some (.ref a), x1, x2, x3, x4, x5] st h = jv_ev d 291 5 [some (.ref a), x1, x2, x3, x4, x5] (.ref a :: st) h := jq_nx (jv_insR jm_291 dJ10_compress_4) rfl
theorem e291_5 : jv_ev d 291 5 [x0, some (.int v), x2, x3, x4, x5] st h = jv_ev d 291 6 [x0, some (.int v), x2, x3, x4, x5] (.int v :: st) h := jq_nx (jv_insR jm_291 dJ10_compress_5) rfl
theorem e291_6 : jv_ev d 291 6 [x0, x1, x2, some (.ref a), x4, x5] st h = jv_ev d 291 7 [x0, x1, x2, some (.ref a), x4, x5] (.ref a :: st) h := jq_nx (jv_insR jm_291 dJ10_compress_6) rfl
theorem e291_7 : jv_ev d 291 7 lc st h = jv_ev d 291 8 lc (.int 0 :: st) h := jq_iconst (jv_insR jm_291 dJ10_compress_7) (by decide)
theorem e291_8 : jv_ev d 291 8 [x0, x1, some (.int v), x3, x4, x5] st h = jv_ev d 291 9 [x0, x1, some (.int v), x3, x4, x5] (.int v :: st) h := jq_nx (jv_insR jm_291 dJ10_compress_8) rfl
theorem e291_9 : jv_ev d 291 9 lc [z4, z3, z2, z1, z0] h = (jv_cd d 292 [z0, z1, z2, z3, z4] h).bind fun r => jv_on r (fun v h => jv_ev d 291 12 lc (v.toList ++ []) h) (fun q h => some (.inr q, h)) := jq_S (as := [z0, z1, z2, z3, z4]) (rest := []) (jv_insR jm_291 dJ10_compress_9) jo_291 jT_32_123 rfl rfl rfl rfl
theorem e291_12 : jv_ev d 291 12 [x0, x1, x2, x3, x4, x5] (.int v :: st) h = jv_ev d 291 14 [x0, x1, x2, x3, some (.int v), x5] st h := jq_nx (jv_insR jm_291 dJ10_compress_12) rfl
theorem e291_14 : jv_ev d 291 14 [x0, x1, x2, x3, some (.int v), x5] st h = jv_ev d 291 16 [x0, x1, x2, x3, some (.int v), x5] (.int v :: st) h := jq_nx (jv_insR jm_291 dJ10_compress_14) rfl
theorem e291_16 : jv_ev d 291 16 [x0, x1, some (.int v), x3, x4, x5] st h = jv_ev d 291 17 [x0, x1, some (.int v), x3, x4, x5] (.int v :: st) h := jq_nx (jv_insR jm_291 dJ10_compress_16) rfl
theorem e291_17 : jv_ev d 291 17 lc (.int w :: .int v :: st) h = if v = w then jv_ev d 291 64 lc st h else jv_ev d 291 20 lc st h := jq_if (jv_insR jm_291 dJ10_compress_17) rfl (by decide)
theorem e291_20 : jv_ev d 291 20 [some (.ref a), x1, x2, x3, x4, x5] st h = jv_ev d 291 21 [some (.ref a), x1, x2, x3, x4, x5] (.ref a :: st) h := jq_nx (jv_insR jm_291 dJ10_compress_20) rfl
theorem e291_21 : jv_ev d 291 21 [x0, some (.int v), x2, x3, x4, x5] st h = jv_ev d 291 22 [x0, some (.int v), x2, x3, x4, x5] (.int v :: st) h := jq_nx (jv_insR jm_291 dJ10_compress_21) rfl
theorem e291_22 : jv_ev d 291 22 lc st h = jv_ev d 291 23 lc (.int 1 :: st) h := jq_iconst (jv_insR jm_291 dJ10_compress_22) (by decide)
theorem e291_23 : jv_ev d 291 23 lc (.int w :: .int v :: st) h = jv_ev d 291 24 lc (.int (v <<< (w &&& 31)) :: st) h := jq_nx (jv_insR jm_291 dJ10_compress_23) rfl
theorem e291_24 : jv_ev d 291 24 [x0, some (.int v), x2, x3, x4, x5] st h = jv_ev d 291 25 [x0, some (.int v), x2, x3, x4, x5] (.int v :: st) h := jq_nx (jv_insR jm_291 dJ10_compress_24) rfl
theorem e291_25 : jv_ev d 291 25 [x0, x1, some (.int v), x3, x4, x5] st h = jv_ev d 291 26 [x0, x1, some (.int v), x3, x4, x5] (.int v :: st) h := jq_nx (jv_insR jm_291 dJ10_compress_25) rfl
theorem e291_26 : jv_ev d 291 26 lc (.int w :: .int v :: st) h = jv_ev d 291 27 lc (.int (v + w) :: st) h := jq_nx (jv_insR jm_291 dJ10_compress_26) rfl
theorem e291_27 : jv_ev d 291 27 lc [z0, y0, y1] h = (jv_cd d 286 [z0] h).bind fun r => jv_on r (fun v h => jv_ev d 291 30 lc (v.toList ++ [y0, y1]) h) (fun q h => some (.inr q, h)) := jq_S (as := [z0]) (rest := [y0, y1]) (jv_insR jm_291 dJ10_compress_27) jo_291 jT_32_11 rfl rfl rfl rfl
theorem e291_30 : jv_ev d 291 30 lc [z2, z1, z0] h = (jv_cd d 312 [z0, z1, z2] h).bind fun r => jv_on r (fun v h => jv_ev d 291 33 lc (v.toList ++ []) h) (fun q h => some (.inr q, h)) := jq_S (as := [z0, z1, z2]) (rest := []) (jv_insR jm_291 dJ10_compress_30) jo_291 jT_32_126 rfl rfl rfl rfl
theorem e291_33 : jv_ev d 291 33 [x0, x1, x2, x3, x4, x5] (.ref a :: st) h = jv_ev d 291 35 [x0, x1, x2, x3, x4, some (.ref a)] st h := jq_nx (jv_insR jm_291 dJ10_compress_33) rfl
theorem e291_35 : jv_ev d 291 35 [x0, x1, x2, x3, x4, some (.ref a)] st h = jv_ev d 291 37 [x0, x1, x2, x3, x4, some (.ref a)] (.ref a :: st) h := jq_nx (jv_insR jm_291 dJ10_compress_35) rfl
theorem e291_37 : jv_ev d 291 37 [x0, x1, x2, x3, some (.int v), x5] st h = jv_ev d 291 39 [x0, x1, x2, x3, some (.int v), x5] (.int v :: st) h := jq_nx (jv_insR jm_291 dJ10_compress_37) rfl
theorem e291_39 : jv_ev d 291 39 lc [z1, z0] h = (jv_cd d 284 [z0, z1] h).bind fun r => jv_on r (fun v h => jv_ev d 291 42 lc (v.toList ++ []) h) (fun q h => some (.inr q, h)) := jq_S (as := [z0, z1]) (rest := []) (jv_insR jm_291 dJ10_compress_39) jo_291 jT_32_71 rfl rfl rfl rfl
theorem e291_42 : jv_ev d 291 42 lc st h = jv_ev d 291 45 lc (.int 255 :: st) h := jq_sipush (jv_insR jm_291 dJ10_compress_42) (by decide)
theorem e291_45 : jv_ev d 291 45 lc (.int w :: .int v :: st) h = if w < v then jv_ev d 291 61 lc st h else jv_ev d 291 48 lc st h := jq_if (jv_insR jm_291 dJ10_compress_45) rfl (by decide)
theorem e291_48 : jv_ev d 291 48 [x0, x1, x2, x3, x4, some (.ref a)] st h = jv_ev d 291 50 [x0, x1, x2, x3, x4, some (.ref a)] (.ref a :: st) h := jq_nx (jv_insR jm_291 dJ10_compress_48) rfl
theorem e291_50 : jv_ev d 291 50 lc st h = jv_ev d 291 51 lc (.int 0 :: st) h := jq_iconst (jv_insR jm_291 dJ10_compress_50) (by decide)
theorem e291_51 : jv_ev d 291 51 [x0, x1, x2, some (.ref a), x4, x5] st h = jv_ev d 291 52 [x0, x1, x2, some (.ref a), x4, x5] (.ref a :: st) h := jq_nx (jv_insR jm_291 dJ10_compress_51) rfl
theorem e291_52 : jv_ev d 291 52 lc st h = jv_ev d 291 53 lc (.int 0 :: st) h := jq_iconst (jv_insR jm_291 dJ10_compress_52) (by decide)
theorem e291_53 : jv_ev d 291 53 [x0, x1, some (.int v), x3, x4, x5] st h = jv_ev d 291 54 [x0, x1, some (.int v), x3, x4, x5] (.int v :: st) h := jq_nx (jv_insR jm_291 dJ10_compress_53) rfl
theorem e291_54 : jv_ev d 291 54 lc [z4, z3, z2, z1, z0] h = (jv_cd d 292 [z0, z1, z2, z3, z4] h).bind fun r => jv_on r (fun v h => jv_ev d 291 57 lc (v.toList ++ []) h) (fun q h => some (.inr q, h)) := jq_S (as := [z0, z1, z2, z3, z4]) (rest := []) (jv_insR jm_291 dJ10_compress_54) jo_291 jT_32_123 rfl rfl rfl rfl
theorem e291_57 : jv_ev d 291 57 [x0, x1, some (.int v), x3, x4, x5] st h = jv_ev d 291 58 [x0, x1, some (.int v), x3, x4, x5] (.int v :: st) h := jq_nx (jv_insR jm_291 dJ10_compress_57) rfl
theorem e291_58 : jv_ev d 291 58 lc (.int w :: .int v :: st) h = if v = w then jv_ev d 291 64 lc st h else jv_ev d 291 61 lc st h := jq_if (jv_insR jm_291 dJ10_compress_58) rfl (by decide)
theorem e291_61 : jv_ev d 291 61 [x0, x1, x2, x3, x4, some (.ref a)] st h = jv_ev d 291 63 [x0, x1, x2, x3, x4, some (.ref a)] (.ref a :: st) h := jq_nx (jv_insR jm_291 dJ10_compress_61) rfl
theorem e291_63 : jv_ev d 291 63 lc [.ref a] h = some (.inl (some (.ref a)), h) := jq_reta (jv_insR jm_291 dJ10_compress_63) jr_291 rfl
theorem e291_64 : jv_ev d 291 64 [x0, x1, x2, some (.ref a), x4, x5] st h = jv_ev d 291 65 [x0, x1, x2, some (.ref a), x4, x5] (.ref a :: st) h := jq_nx (jv_insR jm_291 dJ10_compress_64) rfl
theorem e291_65 : jv_ev d 291 65 lc [.ref a] h = some (.inl (some (.ref a)), h) := jq_reta (jv_insR jm_291 dJ10_compress_65) jr_291 rfl
/-! 292: java/lang/StringUTF16.compress([BI[BII)I -/
theorem n292 : jv_cd (d + 1) 292 [.ref a0, .int i1, .ref a2, .int i3, .int i4] h = jv_ev d 292 0 [some (.ref a0), some (.int i1), some (.ref a2), some (.int i3), some (.int i4), none, none] [] h := rfl
theorem e292_0 : jv_ev d 292 0 [x0, some (.int v), x2, x3, x4, x5, x6] st h = jv_ev d 292 1 [x0, some (.int v), x2, x3, x4, x5, x6] (.int v :: st) h := jq_nx (jv_insR jm_292 dJ10_compress_2_0) rfl
theorem e292_1 : jv_ev d 292 1 [x0, x1, x2, x3, some (.int v), x5, x6] st h = jv_ev d 292 3 [x0, x1, x2, x3, some (.int v), x5, x6] (.int v :: st) h := jq_nx (jv_insR jm_292 dJ10_compress_2_1) rfl
theorem e292_3 : jv_ev d 292 3 [some (.ref a), x1, x2, x3, x4, x5, x6] st h = jv_ev d 292 4 [some (.ref a), x1, x2, x3, x4, x5, x6] (.ref a :: st) h := jq_nx (jv_insR jm_292 dJ10_compress_2_3) rfl
theorem e292_4 : jv_ev d 292 4 lc [z2, z1, z0] h = (jv_cd d 288 [z0, z1, z2] h).bind fun r => jv_on r (fun v h => jv_ev d 292 7 lc (v.toList ++ []) h) (fun q h => some (.inr q, h)) := jq_S (as := [z0, z1, z2]) (rest := []) (jv_insR jm_292 dJ10_compress_2_4) jo_292 jT_32_173 rfl rfl rfl rfl
theorem e292_7 : jv_ev d 292 7 lc st h = jv_ev d 292 8 lc (.int 0 :: st) h := jq_iconst (jv_insR jm_292 dJ10_compress_2_7) (by decide)
theorem e292_8 : jv_ev d 292 8 [x0, x1, x2, x3, x4, x5, x6] (.int v :: st) h = jv_ev d 292 10 [x0, x1, x2, x3, x4, some (.int v), x6] st h := jq_nx (jv_insR jm_292 dJ10_compress_2_8) rfl
theorem e292_10 : jv_ev d 292 10 [x0, x1, x2, x3, x4, some (.int v), x6] st h = jv_ev d 292 12 [x0, x1, x2, x3, x4, some (.int v), x6] (.int v :: st) h := jq_nx (jv_insR jm_292 dJ10_compress_2_10) rfl
theorem e292_12 : jv_ev d 292 12 [x0, x1, x2, x3, some (.int v), x5, x6] st h = jv_ev d 292 14 [x0, x1, x2, x3, some (.int v), x5, x6] (.int v :: st) h := jq_nx (jv_insR jm_292 dJ10_compress_2_12) rfl
theorem e292_14 : jv_ev d 292 14 lc (.int w :: .int v :: st) h = if w ≤ v then jv_ev d 292 53 lc st h else jv_ev d 292 17 lc st h := jq_if (jv_insR jm_292 dJ10_compress_2_14) rfl (by decide)
theorem e292_17 : jv_ev d 292 17 [some (.ref a), x1, x2, x3, x4, x5, x6] st h = jv_ev d 292 18 [some (.ref a), x1, x2, x3, x4, x5, x6] (.ref a :: st) h := jq_nx (jv_insR jm_292 dJ10_compress_2_17) rfl
theorem e292_18 : jv_ev d 292 18 [x0, some (.int v), x2, x3, x4, x5, x6] st h = jv_ev d 292 19 [x0, some (.int v), x2, x3, x4, x5, x6] (.int v :: st) h := jq_nx (jv_insR jm_292 dJ10_compress_2_18) rfl
theorem e292_19 : jv_ev d 292 19 lc [z1, z0] h = (jv_cd d 284 [z0, z1] h).bind fun r => jv_on r (fun v h => jv_ev d 292 22 lc (v.toList ++ []) h) (fun q h => some (.inr q, h)) := jq_S (as := [z0, z1]) (rest := []) (jv_insR jm_292 dJ10_compress_2_19) jo_292 jT_32_71 rfl rfl rfl rfl
theorem e292_22 : jv_ev d 292 22 [x0, x1, x2, x3, x4, x5, x6] (.int v :: st) h = jv_ev d 292 24 [x0, x1, x2, x3, x4, x5, some (.int v)] st h := jq_nx (jv_insR jm_292 dJ10_compress_2_22) rfl
theorem e292_24 : jv_ev d 292 24 [x0, x1, x2, x3, x4, x5, some (.int v)] st h = jv_ev d 292 26 [x0, x1, x2, x3, x4, x5, some (.int v)] (.int v :: st) h := jq_nx (jv_insR jm_292 dJ10_compress_2_24) rfl
theorem e292_26 : jv_ev d 292 26 lc st h = jv_ev d 292 29 lc (.int 255 :: st) h := jq_sipush (jv_insR jm_292 dJ10_compress_2_26) (by decide)
theorem e292_29 : jv_ev d 292 29 lc (.int w :: .int v :: st) h = if v ≤ w then jv_ev d 292 35 lc st h else jv_ev d 292 32 lc st h := jq_if (jv_insR jm_292 dJ10_compress_2_29) rfl (by decide)
theorem e292_32 : jv_ev d 292 32 [x0, x1, x2, x3, x4, some (.int v), x6] st h = jv_ev d 292 34 [x0, x1, x2, x3, x4, some (.int v), x6] (.int v :: st) h := jq_nx (jv_insR jm_292 dJ10_compress_2_32) rfl
theorem e292_34 : jv_ev d 292 34 lc [.int v] h = some (.inl (some (.int v)), h) := jq_reti (jv_insR jm_292 dJ10_compress_2_34) jr_292
theorem e292_35 : jv_ev d 292 35 [x0, x1, some (.ref a), x3, x4, x5, x6] st h = jv_ev d 292 36 [x0, x1, some (.ref a), x3, x4, x5, x6] (.ref a :: st) h := jq_nx (jv_insR jm_292 dJ10_compress_2_35) rfl
theorem e292_36 : jv_ev d 292 36 [x0, x1, x2, some (.int v), x4, x5, x6] st h = jv_ev d 292 37 [x0, x1, x2, some (.int v), x4, x5, x6] (.int v :: st) h := jq_nx (jv_insR jm_292 dJ10_compress_2_36) rfl
theorem e292_37 : jv_ev d 292 37 [x0, x1, x2, x3, x4, x5, some (.int v)] st h = jv_ev d 292 39 [x0, x1, x2, x3, x4, x5, some (.int v)] (.int v :: st) h := jq_nx (jv_insR jm_292 dJ10_compress_2_37) rfl
theorem e292_39 : jv_ev d 292 39 lc (.int v :: st) h = jv_ev d 292 40 lc (.int (v.toInt8.toInt32) :: st) h := jq_nx (jv_insR jm_292 dJ10_compress_2_39) rfl
theorem e292_40 : jv_ev d 292 40 lc (.int w :: .int v :: .ref a :: st) h = (jv_ip h a 1 2 v w).bind fun h => jv_ev d 292 41 lc st h := jq_bast (jv_insR jm_292 dJ10_compress_2_40)
theorem e292_41 : jv_ev d 292 41 [x0, some (.int v), x2, x3, x4, x5, x6] st h = jv_ev d 292 44 [x0, some (.int (v + 1)), x2, x3, x4, x5, x6] st h := jq_nx (jv_insR jm_292 dJ10_compress_2_41) rfl
theorem e292_44 : jv_ev d 292 44 [x0, x1, x2, some (.int v), x4, x5, x6] st h = jv_ev d 292 47 [x0, x1, x2, some (.int (v + 1)), x4, x5, x6] st h := jq_nx (jv_insR jm_292 dJ10_compress_2_44) rfl
theorem e292_47 : jv_ev d 292 47 [x0, x1, x2, x3, x4, some (.int v), x6] st h = jv_ev d 292 50 [x0, x1, x2, x3, x4, some (.int (v + 1)), x6] st h := jq_nx (jv_insR jm_292 dJ10_compress_2_47) rfl
theorem e292_50 : jv_ev d 292 50 lc st h = jv_ev d 292 10 lc st h := jq_go (jv_insR jm_292 dJ10_compress_2_50) (by decide)
theorem e292_53 : jv_ev d 292 53 [x0, x1, x2, x3, some (.int v), x5, x6] st h = jv_ev d 292 55 [x0, x1, x2, x3, some (.int v), x5, x6] (.int v :: st) h := jq_nx (jv_insR jm_292 dJ10_compress_2_53) rfl
theorem e292_55 : jv_ev d 292 55 lc [.int v] h = some (.inl (some (.int v)), h) := jq_reti (jv_insR jm_292 dJ10_compress_2_55) jr_292
/-! 293: java/lang/StringUTF16.coderFromArrayLen([BI)B -/
theorem n293 : jv_cd (d + 1) 293 [.ref a0, .int i1] h = jv_ev d 293 0 [some (.ref a0), some (.int i1)] [] h := rfl
theorem e293_0 : jv_ev d 293 0 [x0, some (.int v)] st h = jv_ev d 293 1 [x0, some (.int v)] (.int v :: st) h := jq_nx (jv_insR jm_293 dJ10_coderFromArrayLen_0) rfl
theorem e293_1 : jv_ev d 293 1 [some (.ref a), x1] st h = jv_ev d 293 2 [some (.ref a), x1] (.ref a :: st) h := jq_nx (jv_insR jm_293 dJ10_coderFromArrayLen_1) rfl
theorem e293_2 : jv_ev d 293 2 lc (.ref a :: st) h = (jv_al h a).bind fun v => jv_ev d 293 3 lc (.int v :: st) h := jq_alen (jv_insR jm_293 dJ10_coderFromArrayLen_2)
theorem e293_3 : jv_ev d 293 3 lc (.int w :: .int v :: st) h = jv_ev d 293 4 lc (.int (v - w) :: st) h := jq_nx (jv_insR jm_293 dJ10_coderFromArrayLen_3) rfl
theorem e293_4 : jv_ev d 293 4 lc st h = jv_ev d 293 6 lc (.int 31 :: st) h := jq_bipush (jv_insR jm_293 dJ10_coderFromArrayLen_4) (by decide)
theorem e293_6 : jv_ev d 293 6 lc (.int w :: .int v :: st) h = jv_ev d 293 7 lc (.int ((v.toUInt32 >>> (w.toUInt32 &&& Int32.toUInt32 31)).toInt32) :: st) h := jq_nx (jv_insR jm_293 dJ10_coderFromArrayLen_6) rfl
theorem e293_7 : jv_ev d 293 7 lc (.int v :: st) h = jv_ev d 293 8 lc (.int (v.toInt8.toInt32) :: st) h := jq_nx (jv_insR jm_293 dJ10_coderFromArrayLen_7) rfl
theorem e293_8 : jv_ev d 293 8 lc [.int v] h = if narrow .byte (.int v) = .int v then some (.inl (some (.int v)), h) else none := jq_ret (jv_insR jm_293 dJ10_coderFromArrayLen_8) jr_293 (by decide)
/-! 294: java/lang/AbstractStringBuilder.<init>(I)V -/
theorem n294 : jv_cd (d + 1) 294 [.ref a0, .int i1] h = jv_ev d 294 0 [some (.ref a0), some (.int i1)] [] h := rfl
theorem e294_0 : jv_ev d 294 0 [some (.ref a), x1] st h = jv_ev d 294 1 [some (.ref a), x1] (.ref a :: st) h := jq_nx (jv_insR jm_294 dJ11_init_0) rfl
theorem e294_1 : jv_ev d 294 1 lc [.ref b] h = if jt_off ≤ b then jv_ev d 294 4 lc [] h else none := jq_O (jv_insR jm_294 dJ11_init_1) jo_294 jP_33_3 (Nat.le_of_ble_eq_true rfl)
theorem e294_4 : jv_ev d 294 4 lc st h = jv_ev d 294 7 lc (.int 1 :: st) h := jq_gets (jv_insR jm_294 dJ11_init_4) jo_294 jS_33_18
theorem e294_7 : jv_ev d 294 7 lc (.int v :: st) h = if v = 0 then jv_ev d 294 25 lc st h else jv_ev d 294 10 lc st h := jq_if (jv_insR jm_294 dJ11_init_7) rfl (by decide)
theorem e294_10 : jv_ev d 294 10 [some (.ref a), x1] st h = jv_ev d 294 11 [some (.ref a), x1] (.ref a :: st) h := jq_nx (jv_insR jm_294 dJ11_init_10) rfl
theorem e294_11 : jv_ev d 294 11 [x0, some (.int v)] st h = jv_ev d 294 12 [x0, some (.int v)] (.int v :: st) h := jq_nx (jv_insR jm_294 dJ11_init_11) rfl
theorem e294_12 : jv_ev d 294 12 lc (.int v :: st) h = if v < 0 ∨ 100000 < v.toNatClampNeg then none else jv_ev d 294 14 lc (.ref h.length :: st) (h ++ [.inl (1, v.toNatClampNeg, .inl (fun _ => 0))]) := jq_newa (jv_insR jm_294 dJ11_init_12)
theorem e294_14 : jv_ev d 294 14 lc (r :: .ref a :: st) h = (jv_pf h a [(20, 0, .array .byte)] r).bind fun h => jv_ev d 294 17 lc st h := jq_put (jv_insR jm_294 dJ11_init_14) jo_294 ji_294 jG_33_15i
theorem e294_17 : jv_ev d 294 17 [some (.ref a), x1] st h = jv_ev d 294 18 [some (.ref a), x1] (.ref a :: st) h := jq_nx (jv_insR jm_294 dJ11_init_17) rfl
theorem e294_18 : jv_ev d 294 18 lc st h = jv_ev d 294 19 lc (.int 0 :: st) h := jq_iconst (jv_insR jm_294 dJ11_init_18) (by decide)
theorem e294_19 : jv_ev d 294 19 lc (r :: .ref a :: st) h = (jv_pf h a [(20, 1, .byte)] r).bind fun h => jv_ev d 294 22 lc st h := jq_put (jv_insR jm_294 dJ11_init_19) jo_294 ji_294 jG_33_22i
theorem e294_22 : jv_ev d 294 22 lc st h = jv_ev d 294 38 lc st h := jq_go (jv_insR jm_294 dJ11_init_22) (by decide)
theorem e294_25 : jv_ev d 294 25 [some (.ref a), x1] st h = jv_ev d 294 26 [some (.ref a), x1] (.ref a :: st) h := jq_nx (jv_insR jm_294 dJ11_init_25) rfl
theorem e294_26 : jv_ev d 294 26 [x0, some (.int v)] st h = jv_ev d 294 27 [x0, some (.int v)] (.int v :: st) h := jq_nx (jv_insR jm_294 dJ11_init_26) rfl
theorem e294_27 : jv_ev d 294 27 lc [z0, y0] h = (jv_cd d 285 [z0] h).bind fun r => jv_on r (fun v h => jv_ev d 294 30 lc (v.toList ++ [y0]) h) (fun q h => some (.inr q, h)) := jq_S (as := [z0]) (rest := [y0]) (jv_insR jm_294 dJ11_init_27) jo_294 jT_33_26 rfl rfl rfl rfl
theorem e294_30 : jv_ev d 294 30 lc (r :: .ref a :: st) h = (jv_pf h a [(20, 0, .array .byte)] r).bind fun h => jv_ev d 294 33 lc st h := jq_put (jv_insR jm_294 dJ11_init_30) jo_294 ji_294 jG_33_15i
theorem e294_33 : jv_ev d 294 33 [some (.ref a), x1] st h = jv_ev d 294 34 [some (.ref a), x1] (.ref a :: st) h := jq_nx (jv_insR jm_294 dJ11_init_33) rfl
theorem e294_34 : jv_ev d 294 34 lc st h = jv_ev d 294 35 lc (.int 1 :: st) h := jq_iconst (jv_insR jm_294 dJ11_init_34) (by decide)
theorem e294_35 : jv_ev d 294 35 lc (r :: .ref a :: st) h = (jv_pf h a [(20, 1, .byte)] r).bind fun h => jv_ev d 294 38 lc st h := jq_put (jv_insR jm_294 dJ11_init_35) jo_294 ji_294 jG_33_22i
theorem e294_38 : jv_ev d 294 38 lc [] h = some (.inl none, h) := jq_retv (jv_insR jm_294 dJ11_init_38) jr_294
/-! 295: java/lang/AbstractStringBuilder.append(C)Ljava/lang/AbstractStringBuilder; -/
theorem n295 : jv_cd (d + 1) 295 [.ref a0, .int i1] h = jv_ev d 295 0 [some (.ref a0), some (.int i1)] [] h := rfl
theorem e295_0 : jv_ev d 295 0 [some (.ref a), x1] st h = jv_ev d 295 1 [some (.ref a), x1] (.ref a :: st) h := jq_nx (jv_insR jm_295 dJ11_append_0) rfl
theorem e295_1 : jv_ev d 295 1 [some (.ref a), x1] st h = jv_ev d 295 2 [some (.ref a), x1] (.ref a :: st) h := jq_nx (jv_insR jm_295 dJ11_append_1) rfl
theorem e295_2 : jv_ev d 295 2 lc (.ref a :: st) h = (jv_gf h a [(20, 3, .int)]).bind fun r => jv_ev d 295 5 lc (r :: st) h := jq_get (jv_insR jm_295 dJ11_append_2) jo_295 jF_33_79
theorem e295_5 : jv_ev d 295 5 lc st h = jv_ev d 295 6 lc (.int 1 :: st) h := jq_iconst (jv_insR jm_295 dJ11_append_5) (by decide)
theorem e295_6 : jv_ev d 295 6 lc (.int w :: .int v :: st) h = jv_ev d 295 7 lc (.int (v + w) :: st) h := jq_nx (jv_insR jm_295 dJ11_append_6) rfl
theorem e295_7 : jv_ev d 295 7 lc [z0, .ref b] h = (jv_rc h b [(20, 296)]).bind fun y => (jv_cd d y [.ref b, z0] h).bind fun r => jv_on r (fun v h => jv_ev d 295 10 lc (v.toList ++ []) h) (fun q h => some (.inr q, h)) := jq_V (as := [z0]) (rest := []) (jv_insR jm_295 dJ11_append_7) jo_295 jV_33_100 rfl rfl rfl rfl
theorem e295_10 : jv_ev d 295 10 [some (.ref a), x1] st h = jv_ev d 295 11 [some (.ref a), x1] (.ref a :: st) h := jq_nx (jv_insR jm_295 dJ11_append_10) rfl
theorem e295_11 : jv_ev d 295 11 lc [.ref b] h = (jv_rc h b [(20, 298)]).bind fun y => (jv_cd d y [.ref b] h).bind fun r => jv_on r (fun v h => jv_ev d 295 14 lc (v.toList ++ []) h) (fun q h => some (.inr q, h)) := jq_V (as := []) (rest := []) (jv_insR jm_295 dJ11_append_11) jo_295 jV_33_83 rfl rfl rfl rfl
theorem e295_14 : jv_ev d 295 14 lc (.int v :: st) h = if v = 0 then jv_ev d 295 45 lc st h else jv_ev d 295 17 lc st h := jq_if (jv_insR jm_295 dJ11_append_14) rfl (by decide)
theorem e295_17 : jv_ev d 295 17 [x0, some (.int v)] st h = jv_ev d 295 18 [x0, some (.int v)] (.int v :: st) h := jq_nx (jv_insR jm_295 dJ11_append_17) rfl
theorem e295_18 : jv_ev d 295 18 lc [z0] h = (jv_cd d 278 [z0] h).bind fun r => jv_on r (fun v h => jv_ev d 295 21 lc (v.toList ++ []) h) (fun q h => some (.inr q, h)) := jq_S (as := [z0]) (rest := []) (jv_insR jm_295 dJ11_append_18) jo_295 jT_33_191 rfl rfl rfl rfl
theorem e295_21 : jv_ev d 295 21 lc (.int v :: st) h = if v = 0 then jv_ev d 295 45 lc st h else jv_ev d 295 24 lc st h := jq_if (jv_insR jm_295 dJ11_append_21) rfl (by decide)
theorem e295_24 : jv_ev d 295 24 [some (.ref a), x1] st h = jv_ev d 295 25 [some (.ref a), x1] (.ref a :: st) h := jq_nx (jv_insR jm_295 dJ11_append_24) rfl
theorem e295_25 : jv_ev d 295 25 lc (.ref a :: st) h = (jv_gf h a [(20, 0, .array .byte)]).bind fun r => jv_ev d 295 28 lc (r :: st) h := jq_get (jv_insR jm_295 dJ11_append_25) jo_295 jF_33_15
theorem e295_28 : jv_ev d 295 28 [some (.ref a), x1] st h = jv_ev d 295 29 [some (.ref a), x1] (.ref a :: st) h := jq_nx (jv_insR jm_295 dJ11_append_28) rfl
theorem e295_29 : jv_ev d 295 29 lc (.ref a :: st) h = jv_ev d 295 30 lc (.ref a :: .ref a :: st) h := jq_nx (jv_insR jm_295 dJ11_append_29) rfl
theorem e295_30 : jv_ev d 295 30 lc (.ref a :: st) h = (jv_gf h a [(20, 3, .int)]).bind fun r => jv_ev d 295 33 lc (r :: st) h := jq_get (jv_insR jm_295 dJ11_append_30) jo_295 jF_33_79
theorem e295_33 : jv_ev d 295 33 lc (.int v :: .ref b :: st) h = jv_ev d 295 34 lc (.int v :: .ref b :: .int v :: st) h := jq_nx (jv_insR jm_295 dJ11_append_33) rfl
theorem e295_34 : jv_ev d 295 34 lc st h = jv_ev d 295 35 lc (.int 1 :: st) h := jq_iconst (jv_insR jm_295 dJ11_append_34) (by decide)
theorem e295_35 : jv_ev d 295 35 lc (.int w :: .int v :: st) h = jv_ev d 295 36 lc (.int (v + w) :: st) h := jq_nx (jv_insR jm_295 dJ11_append_35) rfl
theorem e295_36 : jv_ev d 295 36 lc (r :: .ref a :: st) h = (jv_pf h a [(20, 3, .int)] r).bind fun h => jv_ev d 295 39 lc st h := jq_put (jv_insR jm_295 dJ11_append_36) jo_295 ji_295 jG_33_79
theorem e295_39 : jv_ev d 295 39 [x0, some (.int v)] st h = jv_ev d 295 40 [x0, some (.int v)] (.int v :: st) h := jq_nx (jv_insR jm_295 dJ11_append_39) rfl
theorem e295_40 : jv_ev d 295 40 lc (.int v :: st) h = jv_ev d 295 41 lc (.int (v.toInt8.toInt32) :: st) h := jq_nx (jv_insR jm_295 dJ11_append_40) rfl
theorem e295_41 : jv_ev d 295 41 lc (.int w :: .int v :: .ref a :: st) h = (jv_ip h a 1 2 v w).bind fun h => jv_ev d 295 42 lc st h := jq_bast (jv_insR jm_295 dJ11_append_41)
theorem e295_42 : jv_ev d 295 42 lc st h = jv_ev d 295 75 lc st h := jq_go (jv_insR jm_295 dJ11_append_42) (by decide)
theorem e295_45 : jv_ev d 295 45 [some (.ref a), x1] st h = jv_ev d 295 46 [some (.ref a), x1] (.ref a :: st) h := jq_nx (jv_insR jm_295 dJ11_append_45) rfl
theorem e295_46 : jv_ev d 295 46 lc [.ref b] h = (jv_rc h b [(20, 298)]).bind fun y => (jv_cd d y [.ref b] h).bind fun r => jv_on r (fun v h => jv_ev d 295 49 lc (v.toList ++ []) h) (fun q h => some (.inr q, h)) := jq_V (as := []) (rest := []) (jv_insR jm_295 dJ11_append_46) jo_295 jV_33_83 rfl rfl rfl rfl
theorem e295_49 : jv_ev d 295 49 lc (.int v :: st) h = if v = 0 then jv_ev d 295 56 lc st h else jv_ev d 295 52 lc st h := jq_if (jv_insR jm_295 dJ11_append_49) rfl (by decide)
theorem e295_52 : jv_ev d 295 52 [some (.ref a), x1] st h = jv_ev d 295 53 [some (.ref a), x1] (.ref a :: st) h := jq_nx (jv_insR jm_295 dJ11_append_52) rfl
theorem e295_53 : jv_ev d 295 53 lc [.ref b] h = (jv_rc h b [(20, 299)]).bind fun y => (jv_cd d y [.ref b] h).bind fun r => jv_on r (fun v h => jv_ev d 295 56 lc (v.toList ++ []) h) (fun q h => some (.inr q, h)) := jq_V (as := []) (rest := []) (jv_insR jm_295 dJ11_append_53) jo_295 jV_33_195 rfl rfl rfl rfl
theorem e295_56 : jv_ev d 295 56 [some (.ref a), x1] st h = jv_ev d 295 57 [some (.ref a), x1] (.ref a :: st) h := jq_nx (jv_insR jm_295 dJ11_append_56) rfl
theorem e295_57 : jv_ev d 295 57 lc (.ref a :: st) h = (jv_gf h a [(20, 0, .array .byte)]).bind fun r => jv_ev d 295 60 lc (r :: st) h := jq_get (jv_insR jm_295 dJ11_append_57) jo_295 jF_33_15
theorem e295_60 : jv_ev d 295 60 [some (.ref a), x1] st h = jv_ev d 295 61 [some (.ref a), x1] (.ref a :: st) h := jq_nx (jv_insR jm_295 dJ11_append_60) rfl
theorem e295_61 : jv_ev d 295 61 lc (.ref a :: st) h = jv_ev d 295 62 lc (.ref a :: .ref a :: st) h := jq_nx (jv_insR jm_295 dJ11_append_61) rfl
theorem e295_62 : jv_ev d 295 62 lc (.ref a :: st) h = (jv_gf h a [(20, 3, .int)]).bind fun r => jv_ev d 295 65 lc (r :: st) h := jq_get (jv_insR jm_295 dJ11_append_62) jo_295 jF_33_79
theorem e295_65 : jv_ev d 295 65 lc (.int v :: .ref b :: st) h = jv_ev d 295 66 lc (.int v :: .ref b :: .int v :: st) h := jq_nx (jv_insR jm_295 dJ11_append_65) rfl
theorem e295_66 : jv_ev d 295 66 lc st h = jv_ev d 295 67 lc (.int 1 :: st) h := jq_iconst (jv_insR jm_295 dJ11_append_66) (by decide)
theorem e295_67 : jv_ev d 295 67 lc (.int w :: .int v :: st) h = jv_ev d 295 68 lc (.int (v + w) :: st) h := jq_nx (jv_insR jm_295 dJ11_append_67) rfl
theorem e295_68 : jv_ev d 295 68 lc (r :: .ref a :: st) h = (jv_pf h a [(20, 3, .int)] r).bind fun h => jv_ev d 295 71 lc st h := jq_put (jv_insR jm_295 dJ11_append_68) jo_295 ji_295 jG_33_79
theorem e295_71 : jv_ev d 295 71 [x0, some (.int v)] st h = jv_ev d 295 72 [x0, some (.int v)] (.int v :: st) h := jq_nx (jv_insR jm_295 dJ11_append_71) rfl
theorem e295_72 : jv_ev d 295 72 lc [z2, z1, z0] h = (jv_cd d 290 [z0, z1, z2] h).bind fun r => jv_on r (fun v h => jv_ev d 295 75 lc (v.toList ++ []) h) (fun q h => some (.inr q, h)) := jq_S (as := [z0, z1, z2]) (rest := []) (jv_insR jm_295 dJ11_append_72) jo_295 jT_33_197 rfl rfl rfl rfl
theorem e295_75 : jv_ev d 295 75 [some (.ref a), x1] st h = jv_ev d 295 76 [some (.ref a), x1] (.ref a :: st) h := jq_nx (jv_insR jm_295 dJ11_append_75) rfl
theorem e295_76 : jv_ev d 295 76 lc [.ref a] h = some (.inl (some (.ref a)), h) := jq_reta (jv_insR jm_295 dJ11_append_76) jr_295 rfl
/-! 296: java/lang/AbstractStringBuilder.ensureCapacityInternal(I)V -/
theorem n296 : jv_cd (d + 1) 296 [.ref a0, .int i1] h = jv_ev d 296 0 [some (.ref a0), some (.int i1), none] [] h := rfl
theorem e296_0 : jv_ev d 296 0 [some (.ref a), x1, x2] st h = jv_ev d 296 1 [some (.ref a), x1, x2] (.ref a :: st) h := jq_nx (jv_insR jm_296 dJ11_ensureCapacityInternal_0) rfl
theorem e296_1 : jv_ev d 296 1 lc (.ref a :: st) h = (jv_gf h a [(20, 0, .array .byte)]).bind fun r => jv_ev d 296 4 lc (r :: st) h := jq_get (jv_insR jm_296 dJ11_ensureCapacityInternal_1) jo_296 jF_33_15
theorem e296_4 : jv_ev d 296 4 lc (.ref a :: st) h = (jv_al h a).bind fun v => jv_ev d 296 5 lc (.int v :: st) h := jq_alen (jv_insR jm_296 dJ11_ensureCapacityInternal_4)
theorem e296_5 : jv_ev d 296 5 [some (.ref a), x1, x2] st h = jv_ev d 296 6 [some (.ref a), x1, x2] (.ref a :: st) h := jq_nx (jv_insR jm_296 dJ11_ensureCapacityInternal_5) rfl
theorem e296_6 : jv_ev d 296 6 lc (.ref a :: st) h = (jv_gf h a [(20, 1, .byte)]).bind fun r => jv_ev d 296 9 lc (r :: st) h := jq_get (jv_insR jm_296 dJ11_ensureCapacityInternal_6) jo_296 jF_33_22
theorem e296_9 : jv_ev d 296 9 lc (.int w :: .int v :: st) h = jv_ev d 296 10 lc (.int (v >>> (w &&& 31)) :: st) h := jq_nx (jv_insR jm_296 dJ11_ensureCapacityInternal_9) rfl
theorem e296_10 : jv_ev d 296 10 [x0, x1, x2] (.int v :: st) h = jv_ev d 296 11 [x0, x1, some (.int v)] st h := jq_nx (jv_insR jm_296 dJ11_ensureCapacityInternal_10) rfl
theorem e296_11 : jv_ev d 296 11 [x0, some (.int v), x2] st h = jv_ev d 296 12 [x0, some (.int v), x2] (.int v :: st) h := jq_nx (jv_insR jm_296 dJ11_ensureCapacityInternal_11) rfl
theorem e296_12 : jv_ev d 296 12 [x0, x1, some (.int v)] st h = jv_ev d 296 13 [x0, x1, some (.int v)] (.int v :: st) h := jq_nx (jv_insR jm_296 dJ11_ensureCapacityInternal_12) rfl
theorem e296_13 : jv_ev d 296 13 lc (.int w :: .int v :: st) h = jv_ev d 296 14 lc (.int (v - w) :: st) h := jq_nx (jv_insR jm_296 dJ11_ensureCapacityInternal_13) rfl
theorem e296_14 : jv_ev d 296 14 lc (.int v :: st) h = if v ≤ 0 then jv_ev d 296 38 lc st h else jv_ev d 296 17 lc st h := jq_if (jv_insR jm_296 dJ11_ensureCapacityInternal_14) rfl (by decide)
theorem e296_17 : jv_ev d 296 17 [some (.ref a), x1, x2] st h = jv_ev d 296 18 [some (.ref a), x1, x2] (.ref a :: st) h := jq_nx (jv_insR jm_296 dJ11_ensureCapacityInternal_17) rfl
theorem e296_18 : jv_ev d 296 18 [some (.ref a), x1, x2] st h = jv_ev d 296 19 [some (.ref a), x1, x2] (.ref a :: st) h := jq_nx (jv_insR jm_296 dJ11_ensureCapacityInternal_18) rfl
theorem e296_19 : jv_ev d 296 19 lc (.ref a :: st) h = (jv_gf h a [(20, 0, .array .byte)]).bind fun r => jv_ev d 296 22 lc (r :: st) h := jq_get (jv_insR jm_296 dJ11_ensureCapacityInternal_19) jo_296 jF_33_15
theorem e296_22 : jv_ev d 296 22 [some (.ref a), x1, x2] st h = jv_ev d 296 23 [some (.ref a), x1, x2] (.ref a :: st) h := jq_nx (jv_insR jm_296 dJ11_ensureCapacityInternal_22) rfl
theorem e296_23 : jv_ev d 296 23 [x0, some (.int v), x2] st h = jv_ev d 296 24 [x0, some (.int v), x2] (.int v :: st) h := jq_nx (jv_insR jm_296 dJ11_ensureCapacityInternal_23) rfl
theorem e296_24 : jv_ev d 296 24 lc [z0, .ref b, y0, y1] h = (jv_rc h b [(20, 297)]).bind fun y => (jv_cd d y [.ref b, z0] h).bind fun r => jv_on r (fun v h => jv_ev d 296 27 lc (v.toList ++ [y0, y1]) h) (fun q h => some (.inr q, h)) := jq_V (as := [z0]) (rest := [y0, y1]) (jv_insR jm_296 dJ11_ensureCapacityInternal_24) jo_296 jV_33_104 rfl rfl rfl rfl
theorem e296_27 : jv_ev d 296 27 [some (.ref a), x1, x2] st h = jv_ev d 296 28 [some (.ref a), x1, x2] (.ref a :: st) h := jq_nx (jv_insR jm_296 dJ11_ensureCapacityInternal_27) rfl
theorem e296_28 : jv_ev d 296 28 lc (.ref a :: st) h = (jv_gf h a [(20, 1, .byte)]).bind fun r => jv_ev d 296 31 lc (r :: st) h := jq_get (jv_insR jm_296 dJ11_ensureCapacityInternal_28) jo_296 jF_33_22
theorem e296_31 : jv_ev d 296 31 lc (.int w :: .int v :: st) h = jv_ev d 296 32 lc (.int (v <<< (w &&& 31)) :: st) h := jq_nx (jv_insR jm_296 dJ11_ensureCapacityInternal_31) rfl
theorem e296_32 : jv_ev d 296 32 lc [z1, z0, y0] h = (jv_cd d 311 [z0, z1] h).bind fun r => jv_on r (fun v h => jv_ev d 296 35 lc (v.toList ++ [y0]) h) (fun q h => some (.inr q, h)) := jq_S (as := [z0, z1]) (rest := [y0]) (jv_insR jm_296 dJ11_ensureCapacityInternal_32) jo_296 jT_33_108 rfl rfl rfl rfl
theorem e296_35 : jv_ev d 296 35 lc (r :: .ref a :: st) h = (jv_pf h a [(20, 0, .array .byte)] r).bind fun h => jv_ev d 296 38 lc st h := jq_put (jv_insR jm_296 dJ11_ensureCapacityInternal_35) jo_296 ji_296 jG_33_15
theorem e296_38 : jv_ev d 296 38 lc [] h = some (.inl none, h) := jq_retv (jv_insR jm_296 dJ11_ensureCapacityInternal_38) jr_296
/-! 297: java/lang/AbstractStringBuilder.newCapacity(I)I -/
theorem n297 : jv_cd (d + 1) 297 [.ref a0, .int i1] h = jv_ev d 297 0 [some (.ref a0), some (.int i1), none, none, none, none] [] h := rfl
theorem e297_0 : jv_ev d 297 0 [some (.ref a), x1, x2, x3, x4, x5] st h = jv_ev d 297 1 [some (.ref a), x1, x2, x3, x4, x5] (.ref a :: st) h := jq_nx (jv_insR jm_297 dJ11_newCapacity_0) rfl
theorem e297_1 : jv_ev d 297 1 lc (.ref a :: st) h = (jv_gf h a [(20, 0, .array .byte)]).bind fun r => jv_ev d 297 4 lc (r :: st) h := jq_get (jv_insR jm_297 dJ11_newCapacity_1) jo_297 jF_33_15
theorem e297_4 : jv_ev d 297 4 lc (.ref a :: st) h = (jv_al h a).bind fun v => jv_ev d 297 5 lc (.int v :: st) h := jq_alen (jv_insR jm_297 dJ11_newCapacity_4)
theorem e297_5 : jv_ev d 297 5 [x0, x1, x2, x3, x4, x5] (.int v :: st) h = jv_ev d 297 6 [x0, x1, some (.int v), x3, x4, x5] st h := jq_nx (jv_insR jm_297 dJ11_newCapacity_5) rfl
theorem e297_6 : jv_ev d 297 6 [x0, some (.int v), x2, x3, x4, x5] st h = jv_ev d 297 7 [x0, some (.int v), x2, x3, x4, x5] (.int v :: st) h := jq_nx (jv_insR jm_297 dJ11_newCapacity_6) rfl
theorem e297_7 : jv_ev d 297 7 [some (.ref a), x1, x2, x3, x4, x5] st h = jv_ev d 297 8 [some (.ref a), x1, x2, x3, x4, x5] (.ref a :: st) h := jq_nx (jv_insR jm_297 dJ11_newCapacity_7) rfl
theorem e297_8 : jv_ev d 297 8 lc (.ref a :: st) h = (jv_gf h a [(20, 1, .byte)]).bind fun r => jv_ev d 297 11 lc (r :: st) h := jq_get (jv_insR jm_297 dJ11_newCapacity_8) jo_297 jF_33_22
theorem e297_11 : jv_ev d 297 11 lc (.int w :: .int v :: st) h = jv_ev d 297 12 lc (.int (v <<< (w &&& 31)) :: st) h := jq_nx (jv_insR jm_297 dJ11_newCapacity_11) rfl
theorem e297_12 : jv_ev d 297 12 [x0, x1, x2, x3, x4, x5] (.int v :: st) h = jv_ev d 297 13 [x0, x1, x2, some (.int v), x4, x5] st h := jq_nx (jv_insR jm_297 dJ11_newCapacity_12) rfl
theorem e297_13 : jv_ev d 297 13 [x0, x1, x2, some (.int v), x4, x5] st h = jv_ev d 297 14 [x0, x1, x2, some (.int v), x4, x5] (.int v :: st) h := jq_nx (jv_insR jm_297 dJ11_newCapacity_13) rfl
theorem e297_14 : jv_ev d 297 14 [x0, x1, some (.int v), x3, x4, x5] st h = jv_ev d 297 15 [x0, x1, some (.int v), x3, x4, x5] (.int v :: st) h := jq_nx (jv_insR jm_297 dJ11_newCapacity_14) rfl
theorem e297_15 : jv_ev d 297 15 lc (.int w :: .int v :: st) h = jv_ev d 297 16 lc (.int (v - w) :: st) h := jq_nx (jv_insR jm_297 dJ11_newCapacity_15) rfl
theorem e297_16 : jv_ev d 297 16 [x0, x1, x2, x3, x4, x5] (.int v :: st) h = jv_ev d 297 18 [x0, x1, x2, x3, some (.int v), x5] st h := jq_nx (jv_insR jm_297 dJ11_newCapacity_16) rfl
theorem e297_18 : jv_ev d 297 18 [x0, x1, some (.int v), x3, x4, x5] st h = jv_ev d 297 19 [x0, x1, some (.int v), x3, x4, x5] (.int v :: st) h := jq_nx (jv_insR jm_297 dJ11_newCapacity_18) rfl
theorem e297_19 : jv_ev d 297 19 [x0, x1, x2, x3, some (.int v), x5] st h = jv_ev d 297 21 [x0, x1, x2, x3, some (.int v), x5] (.int v :: st) h := jq_nx (jv_insR jm_297 dJ11_newCapacity_19) rfl
theorem e297_21 : jv_ev d 297 21 [x0, x1, some (.int v), x3, x4, x5] st h = jv_ev d 297 22 [x0, x1, some (.int v), x3, x4, x5] (.int v :: st) h := jq_nx (jv_insR jm_297 dJ11_newCapacity_21) rfl
theorem e297_22 : jv_ev d 297 22 lc st h = jv_ev d 297 23 lc (.int 2 :: st) h := jq_iconst (jv_insR jm_297 dJ11_newCapacity_22) (by decide)
theorem e297_23 : jv_ev d 297 23 [some (.ref a), x1, x2, x3, x4, x5] st h = jv_ev d 297 24 [some (.ref a), x1, x2, x3, x4, x5] (.ref a :: st) h := jq_nx (jv_insR jm_297 dJ11_newCapacity_23) rfl
theorem e297_24 : jv_ev d 297 24 lc (.ref a :: st) h = (jv_gf h a [(20, 1, .byte)]).bind fun r => jv_ev d 297 27 lc (r :: st) h := jq_get (jv_insR jm_297 dJ11_newCapacity_24) jo_297 jF_33_22
theorem e297_27 : jv_ev d 297 27 lc (.int w :: .int v :: st) h = jv_ev d 297 28 lc (.int (v <<< (w &&& 31)) :: st) h := jq_nx (jv_insR jm_297 dJ11_newCapacity_27) rfl
theorem e297_28 : jv_ev d 297 28 lc (.int w :: .int v :: st) h = jv_ev d 297 29 lc (.int (v + w) :: st) h := jq_nx (jv_insR jm_297 dJ11_newCapacity_28) rfl
theorem e297_29 : jv_ev d 297 29 lc [z2, z1, z0] h = (jv_cd d 306 [z0, z1, z2] h).bind fun r => jv_on r (fun v h => jv_ev d 297 32 lc (v.toList ++ []) h) (fun q h => some (.inr q, h)) := jq_S (as := [z0, z1, z2]) (rest := []) (jv_insR jm_297 dJ11_newCapacity_29) jo_297 jT_33_114 rfl rfl rfl rfl
theorem e297_32 : jv_ev d 297 32 [x0, x1, x2, x3, x4, x5] (.int v :: st) h = jv_ev d 297 34 [x0, x1, x2, x3, x4, some (.int v)] st h := jq_nx (jv_insR jm_297 dJ11_newCapacity_32) rfl
theorem e297_34 : jv_ev d 297 34 [x0, x1, x2, x3, x4, some (.int v)] st h = jv_ev d 297 36 [x0, x1, x2, x3, x4, some (.int v)] (.int v :: st) h := jq_nx (jv_insR jm_297 dJ11_newCapacity_34) rfl
theorem e297_36 : jv_ev d 297 36 lc st h = jv_ev d 297 38 lc (.int (2147483647) :: st) h := jq_ldc (jv_insR jm_297 dJ11_newCapacity_36) jo_297 jK_33_39 rfl
theorem e297_38 : jv_ev d 297 38 lc (.int w :: .int v :: st) h = if ¬ v = w then jv_ev d 297 51 lc st h else jv_ev d 297 41 lc st h := jq_if (jv_insR jm_297 dJ11_newCapacity_38) rfl (by decide)
theorem e297_44 : jv_ev d 297 44 lc (.ref a :: st) h = jv_ev d 297 45 lc (.ref a :: .ref a :: st) h := jq_nx (jv_insR jm_297 dJ11_newCapacity_44) rfl
theorem e297_51 : jv_ev d 297 51 [x0, x1, x2, x3, x4, some (.int v)] st h = jv_ev d 297 53 [x0, x1, x2, x3, x4, some (.int v)] (.int v :: st) h := jq_nx (jv_insR jm_297 dJ11_newCapacity_51) rfl
theorem e297_53 : jv_ev d 297 53 [some (.ref a), x1, x2, x3, x4, x5] st h = jv_ev d 297 54 [some (.ref a), x1, x2, x3, x4, x5] (.ref a :: st) h := jq_nx (jv_insR jm_297 dJ11_newCapacity_53) rfl
theorem e297_54 : jv_ev d 297 54 lc (.ref a :: st) h = (jv_gf h a [(20, 1, .byte)]).bind fun r => jv_ev d 297 57 lc (r :: st) h := jq_get (jv_insR jm_297 dJ11_newCapacity_54) jo_297 jF_33_22
theorem e297_57 : jv_ev d 297 57 lc (.int w :: .int v :: st) h = jv_ev d 297 58 lc (.int (v >>> (w &&& 31)) :: st) h := jq_nx (jv_insR jm_297 dJ11_newCapacity_57) rfl
theorem e297_58 : jv_ev d 297 58 lc [.int v] h = some (.inl (some (.int v)), h) := jq_reti (jv_insR jm_297 dJ11_newCapacity_58) jr_297
/-! 298: java/lang/AbstractStringBuilder.isLatin1()Z -/
theorem n298 : jv_cd (d + 1) 298 [.ref a0] h = jv_ev d 298 0 [some (.ref a0)] [] h := rfl
theorem e298_0 : jv_ev d 298 0 lc st h = jv_ev d 298 3 lc (.int 1 :: st) h := jq_gets (jv_insR jm_298 dJ11_isLatin1_0) jo_298 jS_33_18
theorem e298_3 : jv_ev d 298 3 lc (.int v :: st) h = if v = 0 then jv_ev d 298 17 lc st h else jv_ev d 298 6 lc st h := jq_if (jv_insR jm_298 dJ11_isLatin1_3) rfl (by decide)
theorem e298_6 : jv_ev d 298 6 [some (.ref a)] st h = jv_ev d 298 7 [some (.ref a)] (.ref a :: st) h := jq_nx (jv_insR jm_298 dJ11_isLatin1_6) rfl
theorem e298_7 : jv_ev d 298 7 lc (.ref a :: st) h = (jv_gf h a [(20, 1, .byte)]).bind fun r => jv_ev d 298 10 lc (r :: st) h := jq_get (jv_insR jm_298 dJ11_isLatin1_7) jo_298 jF_33_22
theorem e298_10 : jv_ev d 298 10 lc (.int v :: st) h = if ¬ v = 0 then jv_ev d 298 17 lc st h else jv_ev d 298 13 lc st h := jq_if (jv_insR jm_298 dJ11_isLatin1_10) rfl (by decide)
theorem e298_13 : jv_ev d 298 13 lc st h = jv_ev d 298 14 lc (.int 1 :: st) h := jq_iconst (jv_insR jm_298 dJ11_isLatin1_13) (by decide)
theorem e298_14 : jv_ev d 298 14 lc st h = jv_ev d 298 18 lc st h := jq_go (jv_insR jm_298 dJ11_isLatin1_14) (by decide)
theorem e298_17 : jv_ev d 298 17 lc st h = jv_ev d 298 18 lc (.int 0 :: st) h := jq_iconst (jv_insR jm_298 dJ11_isLatin1_17) (by decide)
theorem e298_18 : jv_ev d 298 18 lc [.int v] h = if narrow .boolean (.int v) = .int v then some (.inl (some (.int v)), h) else none := jq_ret (jv_insR jm_298 dJ11_isLatin1_18) jr_298 (by decide)
/-! 299: java/lang/AbstractStringBuilder.inflate()V -/
theorem n299 : jv_cd (d + 1) 299 [.ref a0] h = jv_ev d 299 0 [some (.ref a0), none] [] h := rfl
theorem e299_0 : jv_ev d 299 0 [some (.ref a), x1] st h = jv_ev d 299 1 [some (.ref a), x1] (.ref a :: st) h := jq_nx (jv_insR jm_299 dJ11_inflate_0) rfl
theorem e299_1 : jv_ev d 299 1 lc [.ref b] h = (jv_rc h b [(20, 298)]).bind fun y => (jv_cd d y [.ref b] h).bind fun r => jv_on r (fun v h => jv_ev d 299 4 lc (v.toList ++ []) h) (fun q h => some (.inr q, h)) := jq_V (as := []) (rest := []) (jv_insR jm_299 dJ11_inflate_1) jo_299 jV_33_83 rfl rfl rfl rfl
theorem e299_4 : jv_ev d 299 4 lc (.int v :: st) h = if ¬ v = 0 then jv_ev d 299 8 lc st h else jv_ev d 299 7 lc st h := jq_if (jv_insR jm_299 dJ11_inflate_4) rfl (by decide)
theorem e299_7 : jv_ev d 299 7 lc [] h = some (.inl none, h) := jq_retv (jv_insR jm_299 dJ11_inflate_7) jr_299
theorem e299_8 : jv_ev d 299 8 [some (.ref a), x1] st h = jv_ev d 299 9 [some (.ref a), x1] (.ref a :: st) h := jq_nx (jv_insR jm_299 dJ11_inflate_8) rfl
theorem e299_9 : jv_ev d 299 9 lc (.ref a :: st) h = (jv_gf h a [(20, 0, .array .byte)]).bind fun r => jv_ev d 299 12 lc (r :: st) h := jq_get (jv_insR jm_299 dJ11_inflate_9) jo_299 jF_33_15
theorem e299_12 : jv_ev d 299 12 lc (.ref a :: st) h = (jv_al h a).bind fun v => jv_ev d 299 13 lc (.int v :: st) h := jq_alen (jv_insR jm_299 dJ11_inflate_12)
theorem e299_13 : jv_ev d 299 13 lc [z0] h = (jv_cd d 285 [z0] h).bind fun r => jv_on r (fun v h => jv_ev d 299 16 lc (v.toList ++ []) h) (fun q h => some (.inr q, h)) := jq_S (as := [z0]) (rest := []) (jv_insR jm_299 dJ11_inflate_13) jo_299 jT_33_26 rfl rfl rfl rfl
theorem e299_16 : jv_ev d 299 16 [x0, x1] (.ref a :: st) h = jv_ev d 299 17 [x0, some (.ref a)] st h := jq_nx (jv_insR jm_299 dJ11_inflate_16) rfl
theorem e299_17 : jv_ev d 299 17 [some (.ref a), x1] st h = jv_ev d 299 18 [some (.ref a), x1] (.ref a :: st) h := jq_nx (jv_insR jm_299 dJ11_inflate_17) rfl
theorem e299_18 : jv_ev d 299 18 lc (.ref a :: st) h = (jv_gf h a [(20, 0, .array .byte)]).bind fun r => jv_ev d 299 21 lc (r :: st) h := jq_get (jv_insR jm_299 dJ11_inflate_18) jo_299 jF_33_15
theorem e299_21 : jv_ev d 299 21 lc st h = jv_ev d 299 22 lc (.int 0 :: st) h := jq_iconst (jv_insR jm_299 dJ11_inflate_21) (by decide)
theorem e299_22 : jv_ev d 299 22 [x0, some (.ref a)] st h = jv_ev d 299 23 [x0, some (.ref a)] (.ref a :: st) h := jq_nx (jv_insR jm_299 dJ11_inflate_22) rfl
theorem e299_23 : jv_ev d 299 23 lc st h = jv_ev d 299 24 lc (.int 0 :: st) h := jq_iconst (jv_insR jm_299 dJ11_inflate_23) (by decide)
theorem e299_24 : jv_ev d 299 24 [some (.ref a), x1] st h = jv_ev d 299 25 [some (.ref a), x1] (.ref a :: st) h := jq_nx (jv_insR jm_299 dJ11_inflate_24) rfl
theorem e299_25 : jv_ev d 299 25 lc (.ref a :: st) h = (jv_gf h a [(20, 3, .int)]).bind fun r => jv_ev d 299 28 lc (r :: st) h := jq_get (jv_insR jm_299 dJ11_inflate_25) jo_299 jF_33_79
theorem e299_28 : jv_ev d 299 28 lc [z4, z3, z2, z1, z0] h = (jv_cd d 279 [z0, z1, z2, z3, z4] h).bind fun r => jv_on r (fun v h => jv_ev d 299 31 lc (v.toList ++ []) h) (fun q h => some (.inr q, h)) := jq_S (as := [z0, z1, z2, z3, z4]) (rest := []) (jv_insR jm_299 dJ11_inflate_28) jo_299 jT_33_125 rfl rfl rfl rfl
theorem e299_31 : jv_ev d 299 31 [some (.ref a), x1] st h = jv_ev d 299 32 [some (.ref a), x1] (.ref a :: st) h := jq_nx (jv_insR jm_299 dJ11_inflate_31) rfl
theorem e299_32 : jv_ev d 299 32 [x0, some (.ref a)] st h = jv_ev d 299 33 [x0, some (.ref a)] (.ref a :: st) h := jq_nx (jv_insR jm_299 dJ11_inflate_32) rfl
theorem e299_33 : jv_ev d 299 33 lc (r :: .ref a :: st) h = (jv_pf h a [(20, 0, .array .byte)] r).bind fun h => jv_ev d 299 36 lc st h := jq_put (jv_insR jm_299 dJ11_inflate_33) jo_299 ji_299 jG_33_15
theorem e299_36 : jv_ev d 299 36 [some (.ref a), x1] st h = jv_ev d 299 37 [some (.ref a), x1] (.ref a :: st) h := jq_nx (jv_insR jm_299 dJ11_inflate_36) rfl
theorem e299_37 : jv_ev d 299 37 lc st h = jv_ev d 299 38 lc (.int 1 :: st) h := jq_iconst (jv_insR jm_299 dJ11_inflate_37) (by decide)
theorem e299_38 : jv_ev d 299 38 lc (r :: .ref a :: st) h = (jv_pf h a [(20, 1, .byte)] r).bind fun h => jv_ev d 299 41 lc st h := jq_put (jv_insR jm_299 dJ11_inflate_38) jo_299 ji_299 jG_33_22
theorem e299_41 : jv_ev d 299 41 lc [] h = some (.inl none, h) := jq_retv (jv_insR jm_299 dJ11_inflate_41) jr_299
/-! 300: java/lang/AbstractStringBuilder.getValue()[B -/
theorem n300 : jv_cd (d + 1) 300 [.ref a0] h = jv_ev d 300 0 [some (.ref a0)] [] h := rfl
theorem e300_0 : jv_ev d 300 0 [some (.ref a)] st h = jv_ev d 300 1 [some (.ref a)] (.ref a :: st) h := jq_nx (jv_insR jm_300 dJ11_getValue_0) rfl
theorem e300_1 : jv_ev d 300 1 lc (.ref a :: st) h = (jv_gf h a [(20, 0, .array .byte)]).bind fun r => jv_ev d 300 4 lc (r :: st) h := jq_get (jv_insR jm_300 dJ11_getValue_1) jo_300 jF_33_15
theorem e300_4 : jv_ev d 300 4 lc [.ref a] h = some (.inl (some (.ref a)), h) := jq_reta (jv_insR jm_300 dJ11_getValue_4) jr_300 rfl
/-! 301: java/lang/AbstractStringBuilder.length()I -/
theorem n301 : jv_cd (d + 1) 301 [.ref a0] h = jv_ev d 301 0 [some (.ref a0)] [] h := rfl
theorem e301_0 : jv_ev d 301 0 [some (.ref a)] st h = jv_ev d 301 1 [some (.ref a)] (.ref a :: st) h := jq_nx (jv_insR jm_301 dJ11_length_0) rfl
theorem e301_1 : jv_ev d 301 1 lc (.ref a :: st) h = (jv_gf h a [(20, 3, .int)]).bind fun r => jv_ev d 301 4 lc (r :: st) h := jq_get (jv_insR jm_301 dJ11_length_1) jo_301 jF_33_79
theorem e301_4 : jv_ev d 301 4 lc [.int v] h = some (.inl (some (.int v)), h) := jq_reti (jv_insR jm_301 dJ11_length_4) jr_301
/-! 302: java/lang/StringBuilder.<init>()V -/
theorem n302 : jv_cd (d + 1) 302 [.ref a0] h = jv_ev d 302 0 [some (.ref a0)] [] h := rfl
theorem e302_0 : jv_ev d 302 0 [some (.ref a)] st h = jv_ev d 302 1 [some (.ref a)] (.ref a :: st) h := jq_nx (jv_insR jm_302 dJ12_init_0) rfl
theorem e302_1 : jv_ev d 302 1 lc st h = jv_ev d 302 3 lc (.int 16 :: st) h := jq_bipush (jv_insR jm_302 dJ12_init_1) (by decide)
theorem e302_3 : jv_ev d 302 3 lc [z0, .ref b] h = if jt_off ≤ b ∧ (jt_SU.contains 294 = false ∨ jv_cls h b = some 20) then ((jv_cd d 294 [.ref b, z0] h).bind fun r => jv_on r (fun v h => jv_ev d 302 6 lc (v.toList ++ []) h) (fun q h => some (.inr q, h))) else none := jq_P (as := [z0]) (rest := []) (jv_insR jm_302 dJ12_init_3) jo_302 jP_34_1 rfl rfl rfl rfl
theorem e302_6 : jv_ev d 302 6 lc [] h = some (.inl none, h) := jq_retv (jv_insR jm_302 dJ12_init_6) jr_302
/-! 303: java/lang/StringBuilder.append(C)Ljava/lang/StringBuilder; -/
theorem n303 : jv_cd (d + 1) 303 [.ref a0, .int i1] h = jv_ev d 303 0 [some (.ref a0), some (.int i1)] [] h := rfl
theorem e303_0 : jv_ev d 303 0 [some (.ref a), x1] st h = jv_ev d 303 1 [some (.ref a), x1] (.ref a :: st) h := jq_nx (jv_insR jm_303 dJ12_append_0) rfl
theorem e303_1 : jv_ev d 303 1 [x0, some (.int v)] st h = jv_ev d 303 2 [x0, some (.int v)] (.int v :: st) h := jq_nx (jv_insR jm_303 dJ12_append_1) rfl
theorem e303_2 : jv_ev d 303 2 lc [z0, .ref b] h = if jt_off ≤ b ∧ (jt_SU.contains 295 = false ∨ jv_cls h b = some 20) then ((jv_cd d 295 [.ref b, z0] h).bind fun r => jv_on r (fun v h => jv_ev d 303 5 lc (v.toList ++ []) h) (fun q h => some (.inr q, h))) else none := jq_P (as := [z0]) (rest := []) (jv_insR jm_303 dJ12_append_2) jo_303 jP_34_50 rfl rfl rfl rfl
theorem e303_5 : jv_ev d 303 5 lc (.ref a :: st) h = jv_ev d 303 6 lc st h := jq_nx (jv_insR jm_303 dJ12_append_5) rfl
theorem e303_6 : jv_ev d 303 6 [some (.ref a), x1] st h = jv_ev d 303 7 [some (.ref a), x1] (.ref a :: st) h := jq_nx (jv_insR jm_303 dJ12_append_6) rfl
theorem e303_7 : jv_ev d 303 7 lc [.ref a] h = some (.inl (some (.ref a)), h) := jq_reta (jv_insR jm_303 dJ12_append_7) jr_303 rfl
/-! 304: java/lang/StringBuilder.toString()Ljava/lang/String; -/
theorem n304 : jv_cd (d + 1) 304 [.ref a0] h = jv_ev d 304 0 [some (.ref a0)] [] h := rfl
theorem e304_0 : jv_ev d 304 0 lc st h = jv_ev d 304 3 lc (.ref h.length :: st) (h ++ [.inr (19, [.null, .int 0, .int 0, .int 0])]) := jq_new (jv_insR jm_304 dJ12_toString_0) jo_304 jN_34_18 rfl
theorem e304_3 : jv_ev d 304 3 lc (.ref a :: st) h = jv_ev d 304 4 lc (.ref a :: .ref a :: st) h := jq_nx (jv_insR jm_304 dJ12_toString_3) rfl
theorem e304_4 : jv_ev d 304 4 [some (.ref a)] st h = jv_ev d 304 5 [some (.ref a)] (.ref a :: st) h := jq_nx (jv_insR jm_304 dJ12_toString_4) rfl
theorem e304_5 : jv_ev d 304 5 lc [z0, .ref b, y0] h = if jt_off ≤ b ∧ (jt_SU.contains 274 = false ∨ jv_cls h b = some 20) then ((jv_cd d 274 [.ref b, z0] h).bind fun r => jv_on r (fun v h => jv_ev d 304 8 lc (v.toList ++ [y0]) h) (fun q h => some (.inr q, h))) else none := jq_P (as := [z0]) (rest := [y0]) (jv_insR jm_304 dJ12_toString_5) jo_304 jP_34_137 rfl rfl rfl rfl
theorem e304_8 : jv_ev d 304 8 lc [.ref a] h = some (.inl (some (.ref a)), h) := jq_reta (jv_insR jm_304 dJ12_toString_8) jr_304 rfl
/-! 305: java/lang/StringBuilder.length()I -/
theorem n305 : jv_cd (d + 1) 305 [.ref a0] h = jv_ev d 305 0 [some (.ref a0)] [] h := rfl
theorem e305_0 : jv_ev d 305 0 [some (.ref a)] st h = jv_ev d 305 1 [some (.ref a)] (.ref a :: st) h := jq_nx (jv_insR jm_305 dJ12_length_0) rfl
theorem e305_1 : jv_ev d 305 1 lc [.ref b] h = if jt_off ≤ b ∧ (jt_SU.contains 301 = false ∨ jv_cls h b = some 20) then ((jv_cd d 301 [.ref b] h).bind fun r => jv_on r (fun v h => jv_ev d 305 4 lc (v.toList ++ []) h) (fun q h => some (.inr q, h))) else none := jq_P (as := []) (rest := []) (jv_insR jm_305 dJ12_length_1) jo_305 jP_34_343 rfl rfl rfl rfl
theorem e305_4 : jv_ev d 305 4 lc [.int v] h = some (.inl (some (.int v)), h) := jq_reti (jv_insR jm_305 dJ12_length_4) jr_305
/-! 306: jdk/internal/util/ArraysSupport.newLength(III)I -/
theorem n306 : jv_cd (d + 1) 306 [.int i0, .int i1, .int i2] h = jv_ev d 306 0 [some (.int i0), some (.int i1), some (.int i2), none] [] h := rfl
theorem e306_0 : jv_ev d 306 0 [some (.int v), x1, x2, x3] st h = jv_ev d 306 1 [some (.int v), x1, x2, x3] (.int v :: st) h := jq_nx (jv_insR jm_306 dJ13_newLength_0) rfl
theorem e306_1 : jv_ev d 306 1 [x0, some (.int v), x2, x3] st h = jv_ev d 306 2 [x0, some (.int v), x2, x3] (.int v :: st) h := jq_nx (jv_insR jm_306 dJ13_newLength_1) rfl
theorem e306_2 : jv_ev d 306 2 [x0, x1, some (.int v), x3] st h = jv_ev d 306 3 [x0, x1, some (.int v), x3] (.int v :: st) h := jq_nx (jv_insR jm_306 dJ13_newLength_2) rfl
theorem e306_3 : jv_ev d 306 3 lc [z1, z0, y0] h = (jv_cd d 308 [z0, z1] h).bind fun r => jv_on r (fun v h => jv_ev d 306 6 lc (v.toList ++ [y0]) h) (fun q h => some (.inr q, h)) := jq_S (as := [z0, z1]) (rest := [y0]) (jv_insR jm_306 dJ13_newLength_3) jo_306 jT_35_194 rfl rfl rfl rfl
theorem e306_6 : jv_ev d 306 6 lc (.int w :: .int v :: st) h = jv_ev d 306 7 lc (.int (v + w) :: st) h := jq_nx (jv_insR jm_306 dJ13_newLength_6) rfl
theorem e306_7 : jv_ev d 306 7 [x0, x1, x2, x3] (.int v :: st) h = jv_ev d 306 8 [x0, x1, x2, some (.int v)] st h := jq_nx (jv_insR jm_306 dJ13_newLength_7) rfl
theorem e306_8 : jv_ev d 306 8 lc st h = jv_ev d 306 9 lc (.int 0 :: st) h := jq_iconst (jv_insR jm_306 dJ13_newLength_8) (by decide)
theorem e306_9 : jv_ev d 306 9 [x0, x1, x2, some (.int v)] st h = jv_ev d 306 10 [x0, x1, x2, some (.int v)] (.int v :: st) h := jq_nx (jv_insR jm_306 dJ13_newLength_9) rfl
theorem e306_10 : jv_ev d 306 10 lc (.int w :: .int v :: st) h = if w ≤ v then jv_ev d 306 21 lc st h else jv_ev d 306 13 lc st h := jq_if (jv_insR jm_306 dJ13_newLength_10) rfl (by decide)
theorem e306_13 : jv_ev d 306 13 [x0, x1, x2, some (.int v)] st h = jv_ev d 306 14 [x0, x1, x2, some (.int v)] (.int v :: st) h := jq_nx (jv_insR jm_306 dJ13_newLength_13) rfl
theorem e306_14 : jv_ev d 306 14 lc st h = jv_ev d 306 16 lc (.int (2147483639) :: st) h := jq_ldc (jv_insR jm_306 dJ13_newLength_14) jo_306 jK_35_200 rfl
theorem e306_16 : jv_ev d 306 16 lc (.int w :: .int v :: st) h = if w < v then jv_ev d 306 21 lc st h else jv_ev d 306 19 lc st h := jq_if (jv_insR jm_306 dJ13_newLength_16) rfl (by decide)
theorem e306_19 : jv_ev d 306 19 [x0, x1, x2, some (.int v)] st h = jv_ev d 306 20 [x0, x1, x2, some (.int v)] (.int v :: st) h := jq_nx (jv_insR jm_306 dJ13_newLength_19) rfl
theorem e306_20 : jv_ev d 306 20 lc [.int v] h = some (.inl (some (.int v)), h) := jq_reti (jv_insR jm_306 dJ13_newLength_20) jr_306
theorem e306_21 : jv_ev d 306 21 [some (.int v), x1, x2, x3] st h = jv_ev d 306 22 [some (.int v), x1, x2, x3] (.int v :: st) h := jq_nx (jv_insR jm_306 dJ13_newLength_21) rfl
theorem e306_22 : jv_ev d 306 22 [x0, some (.int v), x2, x3] st h = jv_ev d 306 23 [x0, some (.int v), x2, x3] (.int v :: st) h := jq_nx (jv_insR jm_306 dJ13_newLength_22) rfl
theorem e306_23 : jv_ev d 306 23 lc [z1, z0] h = (jv_cd d 307 [z0, z1] h).bind fun r => jv_on r (fun v h => jv_ev d 306 26 lc (v.toList ++ []) h) (fun q h => some (.inr q, h)) := jq_S (as := [z0, z1]) (rest := []) (jv_insR jm_306 dJ13_newLength_23) jo_306 jT_35_201 rfl rfl rfl rfl
theorem e306_26 : jv_ev d 306 26 lc [.int v] h = some (.inl (some (.int v)), h) := jq_reti (jv_insR jm_306 dJ13_newLength_26) jr_306
/-! 307: jdk/internal/util/ArraysSupport.hugeLength(II)I -/
theorem n307 : jv_cd (d + 1) 307 [.int i0, .int i1] h = jv_ev d 307 0 [some (.int i0), some (.int i1), none] [] h := rfl
theorem e307_0 : jv_ev d 307 0 [some (.int v), x1, x2] st h = jv_ev d 307 1 [some (.int v), x1, x2] (.int v :: st) h := jq_nx (jv_insR jm_307 dJ13_hugeLength_0) rfl
theorem e307_1 : jv_ev d 307 1 [x0, some (.int v), x2] st h = jv_ev d 307 2 [x0, some (.int v), x2] (.int v :: st) h := jq_nx (jv_insR jm_307 dJ13_hugeLength_1) rfl
theorem e307_2 : jv_ev d 307 2 lc (.int w :: .int v :: st) h = jv_ev d 307 3 lc (.int (v + w) :: st) h := jq_nx (jv_insR jm_307 dJ13_hugeLength_2) rfl
theorem e307_3 : jv_ev d 307 3 [x0, x1, x2] (.int v :: st) h = jv_ev d 307 4 [x0, x1, some (.int v)] st h := jq_nx (jv_insR jm_307 dJ13_hugeLength_3) rfl
theorem e307_4 : jv_ev d 307 4 [x0, x1, some (.int v)] st h = jv_ev d 307 5 [x0, x1, some (.int v)] (.int v :: st) h := jq_nx (jv_insR jm_307 dJ13_hugeLength_4) rfl
theorem e307_5 : jv_ev d 307 5 lc (.int v :: st) h = if 0 ≤ v then jv_ev d 307 49 lc st h else jv_ev d 307 8 lc st h := jq_if (jv_insR jm_307 dJ13_hugeLength_5) rfl (by decide)
theorem e307_11 : jv_ev d 307 11 lc (.ref a :: st) h = jv_ev d 307 12 lc (.ref a :: .ref a :: st) h := jq_nx (jv_insR jm_307 dJ13_hugeLength_11) rfl
theorem e307_15 : jv_ev d 307 15 lc (.ref a :: st) h = jv_ev d 307 16 lc (.ref a :: .ref a :: st) h := jq_nx (jv_insR jm_307 dJ13_hugeLength_15) rfl
theorem e307_49 : jv_ev d 307 49 [x0, x1, some (.int v)] st h = jv_ev d 307 50 [x0, x1, some (.int v)] (.int v :: st) h := jq_nx (jv_insR jm_307 dJ13_hugeLength_49) rfl
theorem e307_50 : jv_ev d 307 50 lc st h = jv_ev d 307 52 lc (.int (2147483639) :: st) h := jq_ldc (jv_insR jm_307 dJ13_hugeLength_50) jo_307 jK_35_200 rfl
theorem e307_52 : jv_ev d 307 52 lc (.int w :: .int v :: st) h = if w < v then jv_ev d 307 58 lc st h else jv_ev d 307 55 lc st h := jq_if (jv_insR jm_307 dJ13_hugeLength_52) rfl (by decide)
theorem e307_55 : jv_ev d 307 55 lc st h = jv_ev d 307 57 lc (.int (2147483639) :: st) h := jq_ldc (jv_insR jm_307 dJ13_hugeLength_55) jo_307 jK_35_200 rfl
theorem e307_57 : jv_ev d 307 57 lc [.int v] h = some (.inl (some (.int v)), h) := jq_reti (jv_insR jm_307 dJ13_hugeLength_57) jr_307
theorem e307_58 : jv_ev d 307 58 [x0, x1, some (.int v)] st h = jv_ev d 307 59 [x0, x1, some (.int v)] (.int v :: st) h := jq_nx (jv_insR jm_307 dJ13_hugeLength_58) rfl
theorem e307_59 : jv_ev d 307 59 lc [.int v] h = some (.inl (some (.int v)), h) := jq_reti (jv_insR jm_307 dJ13_hugeLength_59) jr_307
/-! 308: java/lang/Math.max(II)I -/
theorem n308 : jv_cd (d + 1) 308 [.int i0, .int i1] h = jv_ev d 308 0 [some (.int i0), some (.int i1)] [] h := rfl
theorem e308_0 : jv_ev d 308 0 [some (.int v), x1] st h = jv_ev d 308 1 [some (.int v), x1] (.int v :: st) h := jq_nx (jv_insR jm_308 dJ14_max_0) rfl
theorem e308_1 : jv_ev d 308 1 [x0, some (.int v)] st h = jv_ev d 308 2 [x0, some (.int v)] (.int v :: st) h := jq_nx (jv_insR jm_308 dJ14_max_1) rfl
theorem e308_2 : jv_ev d 308 2 lc (.int w :: .int v :: st) h = if v < w then jv_ev d 308 9 lc st h else jv_ev d 308 5 lc st h := jq_if (jv_insR jm_308 dJ14_max_2) rfl (by decide)
theorem e308_5 : jv_ev d 308 5 [some (.int v), x1] st h = jv_ev d 308 6 [some (.int v), x1] (.int v :: st) h := jq_nx (jv_insR jm_308 dJ14_max_5) rfl
theorem e308_6 : jv_ev d 308 6 lc st h = jv_ev d 308 10 lc st h := jq_go (jv_insR jm_308 dJ14_max_6) (by decide)
theorem e308_9 : jv_ev d 308 9 [x0, some (.int v)] st h = jv_ev d 308 10 [x0, some (.int v)] (.int v :: st) h := jq_nx (jv_insR jm_308 dJ14_max_9) rfl
theorem e308_10 : jv_ev d 308 10 lc [.int v] h = some (.inl (some (.int v)), h) := jq_reti (jv_insR jm_308 dJ14_max_10) jr_308
/-! 309: java/lang/Math.min(II)I -/
theorem n309 : jv_cd (d + 1) 309 [.int i0, .int i1] h = jv_ev d 309 0 [some (.int i0), some (.int i1)] [] h := rfl
theorem e309_0 : jv_ev d 309 0 [some (.int v), x1] st h = jv_ev d 309 1 [some (.int v), x1] (.int v :: st) h := jq_nx (jv_insR jm_309 dJ14_min_0) rfl
theorem e309_1 : jv_ev d 309 1 [x0, some (.int v)] st h = jv_ev d 309 2 [x0, some (.int v)] (.int v :: st) h := jq_nx (jv_insR jm_309 dJ14_min_1) rfl
theorem e309_2 : jv_ev d 309 2 lc (.int w :: .int v :: st) h = if w < v then jv_ev d 309 9 lc st h else jv_ev d 309 5 lc st h := jq_if (jv_insR jm_309 dJ14_min_2) rfl (by decide)
theorem e309_5 : jv_ev d 309 5 [some (.int v), x1] st h = jv_ev d 309 6 [some (.int v), x1] (.int v :: st) h := jq_nx (jv_insR jm_309 dJ14_min_5) rfl
theorem e309_6 : jv_ev d 309 6 lc st h = jv_ev d 309 10 lc st h := jq_go (jv_insR jm_309 dJ14_min_6) (by decide)
theorem e309_9 : jv_ev d 309 9 [x0, some (.int v)] st h = jv_ev d 309 10 [x0, some (.int v)] (.int v :: st) h := jq_nx (jv_insR jm_309 dJ14_min_9) rfl
theorem e309_10 : jv_ev d 309 10 lc [.int v] h = some (.inl (some (.int v)), h) := jq_reti (jv_insR jm_309 dJ14_min_10) jr_309
/-! 310: java/lang/Math.abs(I)I -/
theorem n310 : jv_cd (d + 1) 310 [.int i0] h = jv_ev d 310 0 [some (.int i0)] [] h := rfl
theorem e310_0 : jv_ev d 310 0 [some (.int v)] st h = jv_ev d 310 1 [some (.int v)] (.int v :: st) h := jq_nx (jv_insR jm_310 dJ14_abs_0) rfl
theorem e310_1 : jv_ev d 310 1 lc (.int v :: st) h = if 0 ≤ v then jv_ev d 310 9 lc st h else jv_ev d 310 4 lc st h := jq_if (jv_insR jm_310 dJ14_abs_1) rfl (by decide)
theorem e310_4 : jv_ev d 310 4 [some (.int v)] st h = jv_ev d 310 5 [some (.int v)] (.int v :: st) h := jq_nx (jv_insR jm_310 dJ14_abs_4) rfl
theorem e310_5 : jv_ev d 310 5 lc (.int v :: st) h = jv_ev d 310 6 lc (.int (-v) :: st) h := jq_nx (jv_insR jm_310 dJ14_abs_5) rfl
theorem e310_6 : jv_ev d 310 6 lc st h = jv_ev d 310 10 lc st h := jq_go (jv_insR jm_310 dJ14_abs_6) (by decide)
theorem e310_9 : jv_ev d 310 9 [some (.int v)] st h = jv_ev d 310 10 [some (.int v)] (.int v :: st) h := jq_nx (jv_insR jm_310 dJ14_abs_9) rfl
theorem e310_10 : jv_ev d 310 10 lc [.int v] h = some (.inl (some (.int v)), h) := jq_reti (jv_insR jm_310 dJ14_abs_10) jr_310
/-! 311: java/util/Arrays.copyOf([BI)[B -/
theorem n311 : jv_cd (d + 1) 311 [.ref a0, .int i1] h = jv_ev d 311 0 [some (.ref a0), some (.int i1), none] [] h := rfl
theorem e311_0 : jv_ev d 311 0 [x0, some (.int v), x2] st h = jv_ev d 311 1 [x0, some (.int v), x2] (.int v :: st) h := jq_nx (jv_insR jm_311 dJ15_copyOf_0) rfl
theorem e311_1 : jv_ev d 311 1 [some (.ref a), x1, x2] st h = jv_ev d 311 2 [some (.ref a), x1, x2] (.ref a :: st) h := jq_nx (jv_insR jm_311 dJ15_copyOf_1) rfl
theorem e311_2 : jv_ev d 311 2 lc (.ref a :: st) h = (jv_al h a).bind fun v => jv_ev d 311 3 lc (.int v :: st) h := jq_alen (jv_insR jm_311 dJ15_copyOf_2)
theorem e311_3 : jv_ev d 311 3 lc (.int w :: .int v :: st) h = if ¬ v = w then jv_ev d 311 14 lc st h else jv_ev d 311 6 lc st h := jq_if (jv_insR jm_311 dJ15_copyOf_3) rfl (by decide)
theorem e311_6 : jv_ev d 311 6 [some (.ref a), x1, x2] st h = jv_ev d 311 7 [some (.ref a), x1, x2] (.ref a :: st) h := jq_nx (jv_insR jm_311 dJ15_copyOf_6) rfl
theorem e311_10 : jv_ev d 311 10 lc (.ref a :: st) h = (jv_cls h a).bind fun ci => if jt_CK.contains (37, 311, ci) = true then jv_ev d 311 13 lc (.ref a :: st) h else none := jq_cast (jv_insR jm_311 dJ15_copyOf_10) jo_311
theorem e311_13 : jv_ev d 311 13 lc [.ref a] h = some (.inl (some (.ref a)), h) := jq_reta (jv_insR jm_311 dJ15_copyOf_13) jr_311 rfl
theorem e311_14 : jv_ev d 311 14 [x0, some (.int v), x2] st h = jv_ev d 311 15 [x0, some (.int v), x2] (.int v :: st) h := jq_nx (jv_insR jm_311 dJ15_copyOf_14) rfl
theorem e311_15 : jv_ev d 311 15 lc (.int v :: st) h = if v < 0 ∨ 100000 < v.toNatClampNeg then none else jv_ev d 311 17 lc (.ref h.length :: st) (h ++ [.inl (1, v.toNatClampNeg, .inl (fun _ => 0))]) := jq_newa (jv_insR jm_311 dJ15_copyOf_15)
theorem e311_17 : jv_ev d 311 17 [x0, x1, x2] (.ref a :: st) h = jv_ev d 311 18 [x0, x1, some (.ref a)] st h := jq_nx (jv_insR jm_311 dJ15_copyOf_17) rfl
theorem e311_18 : jv_ev d 311 18 [some (.ref a), x1, x2] st h = jv_ev d 311 19 [some (.ref a), x1, x2] (.ref a :: st) h := jq_nx (jv_insR jm_311 dJ15_copyOf_18) rfl
theorem e311_19 : jv_ev d 311 19 lc st h = jv_ev d 311 20 lc (.int 0 :: st) h := jq_iconst (jv_insR jm_311 dJ15_copyOf_19) (by decide)
theorem e311_20 : jv_ev d 311 20 [x0, x1, some (.ref a)] st h = jv_ev d 311 21 [x0, x1, some (.ref a)] (.ref a :: st) h := jq_nx (jv_insR jm_311 dJ15_copyOf_20) rfl
theorem e311_21 : jv_ev d 311 21 lc st h = jv_ev d 311 22 lc (.int 0 :: st) h := jq_iconst (jv_insR jm_311 dJ15_copyOf_21) (by decide)
theorem e311_22 : jv_ev d 311 22 [some (.ref a), x1, x2] st h = jv_ev d 311 23 [some (.ref a), x1, x2] (.ref a :: st) h := jq_nx (jv_insR jm_311 dJ15_copyOf_22) rfl
theorem e311_23 : jv_ev d 311 23 lc (.ref a :: st) h = (jv_al h a).bind fun v => jv_ev d 311 24 lc (.int v :: st) h := jq_alen (jv_insR jm_311 dJ15_copyOf_23)
theorem e311_24 : jv_ev d 311 24 [x0, some (.int v), x2] st h = jv_ev d 311 25 [x0, some (.int v), x2] (.int v :: st) h := jq_nx (jv_insR jm_311 dJ15_copyOf_24) rfl
theorem e311_25 : jv_ev d 311 25 lc [z1, z0, y0, y1, y2, y3] h = (jv_cd d 309 [z0, z1] h).bind fun r => jv_on r (fun v h => jv_ev d 311 28 lc (v.toList ++ [y0, y1, y2, y3]) h) (fun q h => some (.inr q, h)) := jq_S (as := [z0, z1]) (rest := [y0, y1, y2, y3]) (jv_insR jm_311 dJ15_copyOf_25) jo_311 jT_37_304 rfl rfl rfl rfl
theorem e311_28 : jv_ev d 311 28 lc [.int w, .int v, .ref b, .int u, .ref a] h = (jv_cp h a u b v w).bind fun h => jv_ev d 311 31 lc [] h := jq_cp (jv_insR jm_311 dJ15_copyOf_28) jo_311 jT_37_150 (Nat.le_of_ble_eq_true rfl)
theorem e311_31 : jv_ev d 311 31 [x0, x1, some (.ref a)] st h = jv_ev d 311 32 [x0, x1, some (.ref a)] (.ref a :: st) h := jq_nx (jv_insR jm_311 dJ15_copyOf_31) rfl
theorem e311_32 : jv_ev d 311 32 lc [.ref a] h = some (.inl (some (.ref a)), h) := jq_reta (jv_insR jm_311 dJ15_copyOf_32) jr_311 rfl
/-! 312: java/util/Arrays.copyOfRange([BII)[B -/
theorem n312 : jv_cd (d + 1) 312 [.ref a0, .int i1, .int i2] h = jv_ev d 312 0 [some (.ref a0), some (.int i1), some (.int i2)] [] h := rfl
theorem e312_0 : jv_ev d 312 0 [x0, some (.int v), x2] st h = jv_ev d 312 1 [x0, some (.int v), x2] (.int v :: st) h := jq_nx (jv_insR jm_312 dJ15_copyOfRange_0) rfl
theorem e312_1 : jv_ev d 312 1 lc (.int v :: st) h = if ¬ v = 0 then jv_ev d 312 10 lc st h else jv_ev d 312 4 lc st h := jq_if (jv_insR jm_312 dJ15_copyOfRange_1) rfl (by decide)
theorem e312_4 : jv_ev d 312 4 [x0, x1, some (.int v)] st h = jv_ev d 312 5 [x0, x1, some (.int v)] (.int v :: st) h := jq_nx (jv_insR jm_312 dJ15_copyOfRange_4) rfl
theorem e312_5 : jv_ev d 312 5 [some (.ref a), x1, x2] st h = jv_ev d 312 6 [some (.ref a), x1, x2] (.ref a :: st) h := jq_nx (jv_insR jm_312 dJ15_copyOfRange_5) rfl
theorem e312_6 : jv_ev d 312 6 lc (.ref a :: st) h = (jv_al h a).bind fun v => jv_ev d 312 7 lc (.int v :: st) h := jq_alen (jv_insR jm_312 dJ15_copyOfRange_6)
theorem e312_7 : jv_ev d 312 7 lc (.int w :: .int v :: st) h = if v = w then jv_ev d 312 17 lc st h else jv_ev d 312 10 lc st h := jq_if (jv_insR jm_312 dJ15_copyOfRange_7) rfl (by decide)
theorem e312_10 : jv_ev d 312 10 [some (.ref a), x1, x2] st h = jv_ev d 312 11 [some (.ref a), x1, x2] (.ref a :: st) h := jq_nx (jv_insR jm_312 dJ15_copyOfRange_10) rfl
theorem e312_11 : jv_ev d 312 11 [x0, some (.int v), x2] st h = jv_ev d 312 12 [x0, some (.int v), x2] (.int v :: st) h := jq_nx (jv_insR jm_312 dJ15_copyOfRange_11) rfl
theorem e312_12 : jv_ev d 312 12 [x0, x1, some (.int v)] st h = jv_ev d 312 13 [x0, x1, some (.int v)] (.int v :: st) h := jq_nx (jv_insR jm_312 dJ15_copyOfRange_12) rfl
theorem e312_13 : jv_ev d 312 13 lc [z2, z1, z0] h = (jv_cd d 313 [z0, z1, z2] h).bind fun r => jv_on r (fun v h => jv_ev d 312 16 lc (v.toList ++ []) h) (fun q h => some (.inr q, h)) := jq_S (as := [z0, z1, z2]) (rest := []) (jv_insR jm_312 dJ15_copyOfRange_13) jo_312 jT_37_339 rfl rfl rfl rfl
theorem e312_16 : jv_ev d 312 16 lc [.ref a] h = some (.inl (some (.ref a)), h) := jq_reta (jv_insR jm_312 dJ15_copyOfRange_16) jr_312 rfl
theorem e312_17 : jv_ev d 312 17 [some (.ref a), x1, x2] st h = jv_ev d 312 18 [some (.ref a), x1, x2] (.ref a :: st) h := jq_nx (jv_insR jm_312 dJ15_copyOfRange_17) rfl
theorem e312_21 : jv_ev d 312 21 lc (.ref a :: st) h = (jv_cls h a).bind fun ci => if jt_CK.contains (37, 311, ci) = true then jv_ev d 312 24 lc (.ref a :: st) h else none := jq_cast (jv_insR jm_312 dJ15_copyOfRange_21) jo_312
theorem e312_24 : jv_ev d 312 24 lc [.ref a] h = some (.inl (some (.ref a)), h) := jq_reta (jv_insR jm_312 dJ15_copyOfRange_24) jr_312 rfl
/-! 313: java/util/Arrays.copyOfRangeByte([BII)[B -/
theorem n313 : jv_cd (d + 1) 313 [.ref a0, .int i1, .int i2] h = jv_ev d 313 0 [some (.ref a0), some (.int i1), some (.int i2), none, none] [] h := rfl
theorem e313_0 : jv_ev d 313 0 [x0, some (.int v), x2, x3, x4] st h = jv_ev d 313 1 [x0, some (.int v), x2, x3, x4] (.int v :: st) h := jq_nx (jv_insR jm_313 dJ15_copyOfRangeByte_0) rfl
theorem e313_1 : jv_ev d 313 1 [x0, x1, some (.int v), x3, x4] st h = jv_ev d 313 2 [x0, x1, some (.int v), x3, x4] (.int v :: st) h := jq_nx (jv_insR jm_313 dJ15_copyOfRangeByte_1) rfl
theorem e313_2 : jv_ev d 313 2 lc [z1, z0] h = (jv_cd d 314 [z0, z1] h).bind fun r => jv_on r (fun v h => jv_ev d 313 5 lc (v.toList ++ []) h) (fun q h => some (.inr q, h)) := jq_S (as := [z0, z1]) (rest := []) (jv_insR jm_313 dJ15_copyOfRangeByte_2) jo_313 jT_37_343 rfl rfl rfl rfl
theorem e313_5 : jv_ev d 313 5 [x0, x1, some (.int v), x3, x4] st h = jv_ev d 313 6 [x0, x1, some (.int v), x3, x4] (.int v :: st) h := jq_nx (jv_insR jm_313 dJ15_copyOfRangeByte_5) rfl
theorem e313_6 : jv_ev d 313 6 [x0, some (.int v), x2, x3, x4] st h = jv_ev d 313 7 [x0, some (.int v), x2, x3, x4] (.int v :: st) h := jq_nx (jv_insR jm_313 dJ15_copyOfRangeByte_6) rfl
theorem e313_7 : jv_ev d 313 7 lc (.int w :: .int v :: st) h = jv_ev d 313 8 lc (.int (v - w) :: st) h := jq_nx (jv_insR jm_313 dJ15_copyOfRangeByte_7) rfl
theorem e313_8 : jv_ev d 313 8 [x0, x1, x2, x3, x4] (.int v :: st) h = jv_ev d 313 9 [x0, x1, x2, some (.int v), x4] st h := jq_nx (jv_insR jm_313 dJ15_copyOfRangeByte_8) rfl
theorem e313_9 : jv_ev d 313 9 [x0, x1, x2, some (.int v), x4] st h = jv_ev d 313 10 [x0, x1, x2, some (.int v), x4] (.int v :: st) h := jq_nx (jv_insR jm_313 dJ15_copyOfRangeByte_9) rfl
theorem e313_10 : jv_ev d 313 10 lc (.int v :: st) h = if v < 0 ∨ 100000 < v.toNatClampNeg then none else jv_ev d 313 12 lc (.ref h.length :: st) (h ++ [.inl (1, v.toNatClampNeg, .inl (fun _ => 0))]) := jq_newa (jv_insR jm_313 dJ15_copyOfRangeByte_10)
theorem e313_12 : jv_ev d 313 12 [x0, x1, x2, x3, x4] (.ref a :: st) h = jv_ev d 313 14 [x0, x1, x2, x3, some (.ref a)] st h := jq_nx (jv_insR jm_313 dJ15_copyOfRangeByte_12) rfl
theorem e313_14 : jv_ev d 313 14 [some (.ref a), x1, x2, x3, x4] st h = jv_ev d 313 15 [some (.ref a), x1, x2, x3, x4] (.ref a :: st) h := jq_nx (jv_insR jm_313 dJ15_copyOfRangeByte_14) rfl
theorem e313_15 : jv_ev d 313 15 [x0, some (.int v), x2, x3, x4] st h = jv_ev d 313 16 [x0, some (.int v), x2, x3, x4] (.int v :: st) h := jq_nx (jv_insR jm_313 dJ15_copyOfRangeByte_15) rfl
theorem e313_16 : jv_ev d 313 16 [x0, x1, x2, x3, some (.ref a)] st h = jv_ev d 313 18 [x0, x1, x2, x3, some (.ref a)] (.ref a :: st) h := jq_nx (jv_insR jm_313 dJ15_copyOfRangeByte_16) rfl
theorem e313_18 : jv_ev d 313 18 lc st h = jv_ev d 313 19 lc (.int 0 :: st) h := jq_iconst (jv_insR jm_313 dJ15_copyOfRangeByte_18) (by decide)
theorem e313_19 : jv_ev d 313 19 [some (.ref a), x1, x2, x3, x4] st h = jv_ev d 313 20 [some (.ref a), x1, x2, x3, x4] (.ref a :: st) h := jq_nx (jv_insR jm_313 dJ15_copyOfRangeByte_19) rfl
theorem e313_20 : jv_ev d 313 20 lc (.ref a :: st) h = (jv_al h a).bind fun v => jv_ev d 313 21 lc (.int v :: st) h := jq_alen (jv_insR jm_313 dJ15_copyOfRangeByte_20)
theorem e313_21 : jv_ev d 313 21 [x0, some (.int v), x2, x3, x4] st h = jv_ev d 313 22 [x0, some (.int v), x2, x3, x4] (.int v :: st) h := jq_nx (jv_insR jm_313 dJ15_copyOfRangeByte_21) rfl
theorem e313_22 : jv_ev d 313 22 lc (.int w :: .int v :: st) h = jv_ev d 313 23 lc (.int (v - w) :: st) h := jq_nx (jv_insR jm_313 dJ15_copyOfRangeByte_22) rfl
theorem e313_23 : jv_ev d 313 23 [x0, x1, x2, some (.int v), x4] st h = jv_ev d 313 24 [x0, x1, x2, some (.int v), x4] (.int v :: st) h := jq_nx (jv_insR jm_313 dJ15_copyOfRangeByte_23) rfl
theorem e313_24 : jv_ev d 313 24 lc [z1, z0, y0, y1, y2, y3] h = (jv_cd d 309 [z0, z1] h).bind fun r => jv_on r (fun v h => jv_ev d 313 27 lc (v.toList ++ [y0, y1, y2, y3]) h) (fun q h => some (.inr q, h)) := jq_S (as := [z0, z1]) (rest := [y0, y1, y2, y3]) (jv_insR jm_313 dJ15_copyOfRangeByte_24) jo_313 jT_37_304 rfl rfl rfl rfl
theorem e313_27 : jv_ev d 313 27 lc [.int w, .int v, .ref b, .int u, .ref a] h = (jv_cp h a u b v w).bind fun h => jv_ev d 313 30 lc [] h := jq_cp (jv_insR jm_313 dJ15_copyOfRangeByte_27) jo_313 jT_37_150 (Nat.le_of_ble_eq_true rfl)
theorem e313_30 : jv_ev d 313 30 [x0, x1, x2, x3, some (.ref a)] st h = jv_ev d 313 32 [x0, x1, x2, x3, some (.ref a)] (.ref a :: st) h := jq_nx (jv_insR jm_313 dJ15_copyOfRangeByte_30) rfl
theorem e313_32 : jv_ev d 313 32 lc [.ref a] h = some (.inl (some (.ref a)), h) := jq_reta (jv_insR jm_313 dJ15_copyOfRangeByte_32) jr_313 rfl
/-! 314: java/util/Arrays.checkLength(II)V -/
theorem n314 : jv_cd (d + 1) 314 [.int i0, .int i1] h = jv_ev d 314 0 [some (.int i0), some (.int i1)] [] h := rfl
theorem e314_0 : jv_ev d 314 0 [x0, some (.int v)] st h = jv_ev d 314 1 [x0, some (.int v)] (.int v :: st) h := jq_nx (jv_insR jm_314 dJ15_checkLength_0) rfl
theorem e314_1 : jv_ev d 314 1 [some (.int v), x1] st h = jv_ev d 314 2 [some (.int v), x1] (.int v :: st) h := jq_nx (jv_insR jm_314 dJ15_checkLength_1) rfl
theorem e314_2 : jv_ev d 314 2 lc (.int w :: .int v :: st) h = if w ≤ v then jv_ev d 314 37 lc st h else jv_ev d 314 5 lc st h := jq_if (jv_insR jm_314 dJ15_checkLength_2) rfl (by decide)
theorem e314_8 : jv_ev d 314 8 lc (.ref a :: st) h = jv_ev d 314 9 lc (.ref a :: .ref a :: st) h := jq_nx (jv_insR jm_314 dJ15_checkLength_8) rfl
theorem e314_12 : jv_ev d 314 12 lc (.ref a :: st) h = jv_ev d 314 13 lc (.ref a :: .ref a :: st) h := jq_nx (jv_insR jm_314 dJ15_checkLength_12) rfl
theorem e314_37 : jv_ev d 314 37 lc [] h = some (.inl none, h) := jq_retv (jv_insR jm_314 dJ15_checkLength_37) jr_314
/-! 315: java/util/Arrays.copyOf([Ljava/lang/Object;I)[Ljava/lang/Object; -/
theorem n315 : jv_cd (d + 1) 315 [.ref a0, .int i1] h = jv_ev d 315 0 [some (.ref a0), some (.int i1)] [] h := rfl
theorem e315_0 : jv_ev d 315 0 [some (.ref a), x1] st h = jv_ev d 315 1 [some (.ref a), x1] (.ref a :: st) h := jq_nx (jv_insR jm_315 dJ15_copyOf_2_0) rfl
theorem e315_1 : jv_ev d 315 1 [x0, some (.int v)] st h = jv_ev d 315 2 [x0, some (.int v)] (.int v :: st) h := jq_nx (jv_insR jm_315 dJ15_copyOf_2_1) rfl
theorem e315_2 : jv_ev d 315 2 [some (.ref a), x1] st h = jv_ev d 315 3 [some (.ref a), x1] (.ref a :: st) h := jq_nx (jv_insR jm_315 dJ15_copyOf_2_2) rfl
theorem e315_6 : jv_ev d 315 6 lc [z2, z1, z0] h = (jv_cd d 316 [z0, z1, z2] h).bind fun r => jv_on r (fun v h => jv_ev d 315 9 lc (v.toList ++ []) h) (fun q h => some (.inr q, h)) := jq_S (as := [z0, z1, z2]) (rest := []) (jv_insR jm_315 dJ15_copyOf_2_6) jo_315 jT_37_300 rfl rfl rfl rfl
theorem e315_9 : jv_ev d 315 9 lc [.ref a] h = some (.inl (some (.ref a)), h) := jq_reta (jv_insR jm_315 dJ15_copyOf_2_9) jr_315 rfl
/-! 316: java/util/Arrays.copyOf([Ljava/lang/Object;ILjava/lang/Class;)[Ljava/lang/Object; -/
theorem n316 : jv_cd (d + 1) 316 [.ref a0, .int i1, .ref a2] h = jv_ev d 316 0 [some (.ref a0), some (.int i1), some (.ref a2), none] [] h := rfl
theorem e316_0 : jv_ev d 316 0 [x0, x1, some (.ref a), x3] st h = jv_ev d 316 1 [x0, x1, some (.ref a), x3] (.ref a :: st) h := jq_nx (jv_insR jm_316 dJ15_copyOf_3_0) rfl
end
