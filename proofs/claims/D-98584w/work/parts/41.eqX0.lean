/-! equations, an instruction a row: printed by gen_eq.py -/
set_option maxRecDepth 100000
section
variable {d : Nat} {h : jv_H} {lc : jv_L} {st : List Value} {u v w : Int32} {lv lw : Int64} {a b : Nat} {r : Value} {x0 x1 x2 x3 x4 x5 x6 x7 x8 x9 x10 x11 x12 x13 x14 x15 x16 x17 x18 x19 x20 x21 x22 x23 x24 x25 x26 x27 x28 x29 : Option Value} {y0 y1 y2 y3 y4 y5 y6 y7 z0 z1 z2 z3 z4 z5 z6 z7 z8 : Value} {a0 a1 a2 a3 a4 a5 a6 a7 a8 : Nat} {i0 i1 i2 i3 i4 i5 i6 i7 i8 : Int32} {l0 l1 l2 l3 l4 l5 l6 l7 l8 : Int64}
theorem jm_115 : jt_M[115]? = some (2, yX0_init, cX0_init, 2, (Option.none : Option Jvm.ClassFile.FieldType), []) := rfl
theorem jo_115 : jv_own 115 = 2 := rfl
theorem ji_115 : jv_init 115 = true := rfl
theorem jr_115 : jv_ret 115 = (Option.none : Option Jvm.ClassFile.FieldType) := rfl
theorem jm_116 : jt_M[116]? = some (2, yX0_feed, cX0_feed, 6, (Option.some Jvm.ClassFile.FieldType.int), []) := rfl
theorem jo_116 : jv_own 116 = 2 := rfl
theorem ji_116 : jv_init 116 = false := rfl
theorem jr_116 : jv_ret 116 = (Option.some Jvm.ClassFile.FieldType.int) := rfl
theorem jm_117 : jt_M[117]? = some (2, yX0_typed, cX0_typed, 3, (Option.none : Option Jvm.ClassFile.FieldType), []) := rfl
theorem jo_117 : jv_own 117 = 2 := rfl
theorem ji_117 : jv_init 117 = false := rfl
theorem jr_117 : jv_ret 117 = (Option.none : Option Jvm.ClassFile.FieldType) := rfl
theorem jm_118 : jt_M[118]? = some (2, yX0_back, cX0_back, 2, (Option.some Jvm.ClassFile.FieldType.int), []) := rfl
theorem jo_118 : jv_own 118 = 2 := rfl
theorem ji_118 : jv_init 118 = false := rfl
theorem jr_118 : jv_ret 118 = (Option.some Jvm.ClassFile.FieldType.int) := rfl
theorem jm_119 : jt_M[119]? = some (2, yX0_read, cX0_read, 3, (Option.some Jvm.ClassFile.FieldType.int), [((7 : Nat), (59 : Nat), (62 : Nat), (14 : Nat))]) := rfl
theorem jo_119 : jv_own 119 = 2 := rfl
theorem ji_119 : jv_init 119 = false := rfl
theorem jr_119 : jv_ret 119 = (Option.some Jvm.ClassFile.FieldType.int) := rfl
theorem jm_120 : jt_M[120]? = some (2, yX0_place, cX0_place, 1, (Option.some Jvm.ClassFile.FieldType.int), []) := rfl
theorem jo_120 : jv_own 120 = 2 := rfl
theorem ji_120 : jv_init 120 = false := rfl
theorem jr_120 : jv_ret 120 = (Option.some Jvm.ClassFile.FieldType.int) := rfl
theorem jm_121 : jt_M[121]? = some (2, yX0_cell, cX0_cell, 5, (Option.some Jvm.ClassFile.FieldType.int), []) := rfl
theorem jo_121 : jv_own 121 = 2 := rfl
theorem ji_121 : jv_init 121 = false := rfl
theorem jr_121 : jv_ret 121 = (Option.some Jvm.ClassFile.FieldType.int) := rfl
theorem jm_122 : jt_M[122]? = some (2, yX0_field, cX0_field, 6, (Option.some Jvm.ClassFile.FieldType.int), []) := rfl
theorem jo_122 : jv_own 122 = 2 := rfl
theorem ji_122 : jv_init 122 = false := rfl
theorem jr_122 : jv_ret 122 = (Option.some Jvm.ClassFile.FieldType.int) := rfl
theorem jm_123 : jt_M[123]? = some (2, yX0_fields, cX0_fields, 1, (Option.some Jvm.ClassFile.FieldType.int), []) := rfl
theorem jo_123 : jv_own 123 = 2 := rfl
theorem ji_123 : jv_init 123 = false := rfl
theorem jr_123 : jv_ret 123 = (Option.some Jvm.ClassFile.FieldType.int) := rfl
theorem jm_124 : jt_M[124]? = some (2, yX0_isIn, cX0_isIn, 3, (Option.some Jvm.ClassFile.FieldType.boolean), []) := rfl
theorem jo_124 : jv_own 124 = 2 := rfl
theorem ji_124 : jv_init 124 = false := rfl
theorem jr_124 : jv_ret 124 = (Option.some Jvm.ClassFile.FieldType.boolean) := rfl
theorem jm_125 : jt_M[125]? = some (2, yX0_loom, cX0_loom, 3, (Option.some Jvm.ClassFile.FieldType.int), []) := rfl
theorem jo_125 : jv_own 125 = 2 := rfl
theorem ji_125 : jv_init 125 = false := rfl
theorem jr_125 : jv_ret 125 = (Option.some Jvm.ClassFile.FieldType.int) := rfl
theorem jm_126 : jt_M[126]? = some (2, yX0_isLoom, cX0_isLoom, 2, (Option.some Jvm.ClassFile.FieldType.boolean), []) := rfl
theorem jo_126 : jv_own 126 = 2 := rfl
theorem ji_126 : jv_init 126 = false := rfl
theorem jr_126 : jv_ret 126 = (Option.some Jvm.ClassFile.FieldType.boolean) := rfl
theorem jm_127 : jt_M[127]? = some (2, yX0_looms, cX0_looms, 1, (Option.some Jvm.ClassFile.FieldType.int), []) := rfl
theorem jo_127 : jv_own 127 = 2 := rfl
theorem ji_127 : jv_init 127 = false := rfl
theorem jr_127 : jv_ret 127 = (Option.some Jvm.ClassFile.FieldType.int) := rfl
theorem jm_128 : jt_M[128]? = some (2, yX0_wideOf, cX0_wideOf, 2, (Option.some Jvm.ClassFile.FieldType.int), []) := rfl
theorem jo_128 : jv_own 128 = 2 := rfl
theorem ji_128 : jv_init 128 = false := rfl
theorem jr_128 : jv_ret 128 = (Option.some Jvm.ClassFile.FieldType.int) := rfl
theorem jm_129 : jt_M[129]? = some (2, yX0_thread, cX0_thread, 4, (Option.some Jvm.ClassFile.FieldType.int), []) := rfl
theorem jo_129 : jv_own 129 = 2 := rfl
theorem ji_129 : jv_init 129 = false := rfl
theorem jr_129 : jv_ret 129 = (Option.some Jvm.ClassFile.FieldType.int) := rfl
theorem jm_130 : jt_M[130]? = some (2, yX0_order, cX0_order, 6, (Option.some Jvm.ClassFile.FieldType.boolean), []) := rfl
theorem jo_130 : jv_own 130 = 2 := rfl
theorem ji_130 : jv_init 130 = false := rfl
theorem jr_130 : jv_ret 130 = (Option.some Jvm.ClassFile.FieldType.boolean) := rfl
theorem jm_131 : jt_M[131]? = some (2, yX0_isPiece, cX0_isPiece, 4, (Option.some Jvm.ClassFile.FieldType.boolean), []) := rfl
theorem jo_131 : jv_own 131 = 2 := rfl
theorem ji_131 : jv_init 131 = false := rfl
theorem jr_131 : jv_ret 131 = (Option.some Jvm.ClassFile.FieldType.boolean) := rfl
theorem jm_132 : jt_M[132]? = some (2, yX0_keeps, cX0_keeps, 1, (Option.none : Option Jvm.ClassFile.FieldType), []) := rfl
theorem jo_132 : jv_own 132 = 2 := rfl
theorem ji_132 : jv_init 132 = false := rfl
theorem jr_132 : jv_ret 132 = (Option.none : Option Jvm.ClassFile.FieldType) := rfl
theorem jm_133 : jt_M[133]? = some (2, yX0_stop, cX0_stop, 2, (Option.some Jvm.ClassFile.FieldType.boolean), []) := rfl
theorem jo_133 : jv_own 133 = 2 := rfl
theorem ji_133 : jv_init 133 = false := rfl
theorem jr_133 : jv_ret 133 = (Option.some Jvm.ClassFile.FieldType.boolean) := rfl
theorem jm_134 : jt_M[134]? = some (2, yX0_fall, cX0_fall, 6, (Option.some Jvm.ClassFile.FieldType.int), []) := rfl
theorem jo_134 : jv_own 134 = 2 := rfl
theorem ji_134 : jv_init 134 = false := rfl
theorem jr_134 : jv_ret 134 = (Option.some Jvm.ClassFile.FieldType.int) := rfl
theorem jm_135 : jt_M[135]? = some (2, yX0_turn, cX0_turn, 3, (Option.some Jvm.ClassFile.FieldType.int), []) := rfl
theorem jo_135 : jv_own 135 = 2 := rfl
theorem ji_135 : jv_init 135 = false := rfl
theorem jr_135 : jv_ret 135 = (Option.some Jvm.ClassFile.FieldType.int) := rfl
theorem jm_136 : jt_M[136]? = some (2, yX0_days, cX0_days, 2, (Option.some Jvm.ClassFile.FieldType.int), []) := rfl
theorem jo_136 : jv_own 136 = 2 := rfl
theorem ji_136 : jv_init 136 = false := rfl
theorem jr_136 : jv_ret 136 = (Option.some Jvm.ClassFile.FieldType.int) := rfl
theorem jm_137 : jt_M[137]? = some (2, yX0_runs, cX0_runs, 4, (Option.none : Option Jvm.ClassFile.FieldType), []) := rfl
theorem jo_137 : jv_own 137 = 2 := rfl
theorem ji_137 : jv_init 137 = false := rfl
theorem jr_137 : jv_ret 137 = (Option.none : Option Jvm.ClassFile.FieldType) := rfl
theorem jm_138 : jt_M[138]? = some (2, yX0_day, cX0_day, 3, (Option.none : Option Jvm.ClassFile.FieldType), []) := rfl
theorem jo_138 : jv_own 138 = 2 := rfl
theorem ji_138 : jv_init 138 = false := rfl
theorem jr_138 : jv_ret 138 = (Option.none : Option Jvm.ClassFile.FieldType) := rfl
theorem jm_139 : jt_M[139]? = some (2, yX0_lot, cX0_lot, 3, (Option.some Jvm.ClassFile.FieldType.int), []) := rfl
theorem jo_139 : jv_own 139 = 2 := rfl
theorem ji_139 : jv_init 139 = false := rfl
theorem jr_139 : jv_ret 139 = (Option.some Jvm.ClassFile.FieldType.int) := rfl
theorem jm_140 : jt_M[140]? = some (2, yX0_mixed, cX0_mixed, 3, (Option.some Jvm.ClassFile.FieldType.int), []) := rfl
theorem jo_140 : jv_own 140 = 2 := rfl
theorem ji_140 : jv_init 140 = false := rfl
theorem jr_140 : jv_ret 140 = (Option.some Jvm.ClassFile.FieldType.int) := rfl
theorem jm_141 : jt_M[141]? = some (2, yX0_undo, cX0_undo, 1, (Option.some Jvm.ClassFile.FieldType.boolean), []) := rfl
theorem jo_141 : jv_own 141 = 2 := rfl
theorem ji_141 : jv_init 141 = false := rfl
theorem jr_141 : jv_ret 141 = (Option.some Jvm.ClassFile.FieldType.boolean) := rfl
theorem jm_142 : jt_M[142]? = some (2, yX0_holds, cX0_holds, 5, (Option.some Jvm.ClassFile.FieldType.int), []) := rfl
theorem jo_142 : jv_own 142 = 2 := rfl
theorem ji_142 : jv_init 142 = false := rfl
theorem jr_142 : jv_ret 142 = (Option.some Jvm.ClassFile.FieldType.int) := rfl
theorem jm_143 : jt_M[143]? = some (2, yX0_holdsOf, cX0_holdsOf, 8, (Option.some Jvm.ClassFile.FieldType.int), []) := rfl
theorem jo_143 : jv_own 143 = 2 := rfl
theorem ji_143 : jv_init 143 = false := rfl
theorem jr_143 : jv_ret 143 = (Option.some Jvm.ClassFile.FieldType.int) := rfl
theorem jm_144 : jt_M[144]? = some (2, yX0_comes, cX0_comes, 7, (Option.some Jvm.ClassFile.FieldType.int), []) := rfl
theorem jo_144 : jv_own 144 = 2 := rfl
theorem ji_144 : jv_init 144 = false := rfl
theorem jr_144 : jv_ret 144 = (Option.some Jvm.ClassFile.FieldType.int) := rfl
theorem jm_145 : jt_M[145]? = some (2, yX0_agree, cX0_agree, 4, (Option.some Jvm.ClassFile.FieldType.int), []) := rfl
theorem jo_145 : jv_own 145 = 2 := rfl
theorem ji_145 : jv_init 145 = false := rfl
theorem jr_145 : jv_ret 145 = (Option.some Jvm.ClassFile.FieldType.int) := rfl
theorem jm_146 : jt_M[146]? = some (2, yX0_areSame, cX0_areSame, 5, (Option.some Jvm.ClassFile.FieldType.boolean), []) := rfl
theorem jo_146 : jv_own 146 = 2 := rfl
theorem ji_146 : jv_init 146 = false := rfl
theorem jr_146 : jv_ret 146 = (Option.some Jvm.ClassFile.FieldType.boolean) := rfl
theorem jm_147 : jt_M[147]? = some (2, yX0_round, cX0_round, 3, (Option.some Jvm.ClassFile.FieldType.int), []) := rfl
theorem jo_147 : jv_own 147 = 2 := rfl
theorem ji_147 : jv_init 147 = false := rfl
theorem jr_147 : jv_ret 147 = (Option.some Jvm.ClassFile.FieldType.int) := rfl
theorem jm_148 : jt_M[148]? = some (2, yX0_isRound, cX0_isRound, 5, (Option.some Jvm.ClassFile.FieldType.boolean), []) := rfl
theorem jo_148 : jv_own 148 = 2 := rfl
theorem ji_148 : jv_init 148 = false := rfl
theorem jr_148 : jv_ret 148 = (Option.some Jvm.ClassFile.FieldType.boolean) := rfl
theorem jm_149 : jt_M[149]? = some (2, yX0_where, cX0_where, 12, (Option.some Jvm.ClassFile.FieldType.int), []) := rfl
theorem jo_149 : jv_own 149 = 2 := rfl
theorem ji_149 : jv_init 149 = false := rfl
theorem jr_149 : jv_ret 149 = (Option.some Jvm.ClassFile.FieldType.int) := rfl
theorem jm_150 : jt_M[150]? = some (2, yX0_gains, cX0_gains, 3, (Option.some Jvm.ClassFile.FieldType.int), []) := rfl
theorem jo_150 : jv_own 150 = 2 := rfl
theorem ji_150 : jv_init 150 = false := rfl
theorem jr_150 : jv_ret 150 = (Option.some Jvm.ClassFile.FieldType.int) := rfl
theorem jm_151 : jt_M[151]? = some (2, yX0_cut, cX0_cut, 6, (Option.some Jvm.ClassFile.FieldType.int), []) := rfl
theorem jo_151 : jv_own 151 = 2 := rfl
theorem ji_151 : jv_init 151 = false := rfl
theorem jr_151 : jv_ret 151 = (Option.some Jvm.ClassFile.FieldType.int) := rfl
theorem jm_152 : jt_M[152]? = some (2, yX0_takesCut, cX0_takesCut, 2, (Option.some Jvm.ClassFile.FieldType.boolean), []) := rfl
theorem jo_152 : jv_own 152 = 2 := rfl
theorem ji_152 : jv_init 152 = false := rfl
theorem jr_152 : jv_ret 152 = (Option.some Jvm.ClassFile.FieldType.boolean) := rfl
theorem jm_153 : jt_M[153]? = some (2, yX0_isCut, cX0_isCut, 2, (Option.some Jvm.ClassFile.FieldType.boolean), []) := rfl
theorem jo_153 : jv_own 153 = 2 := rfl
theorem ji_153 : jv_init 153 = false := rfl
theorem jr_153 : jv_ret 153 = (Option.some Jvm.ClassFile.FieldType.boolean) := rfl
theorem jm_154 : jt_M[154]? = some (2, yX0_laysCut, cX0_laysCut, 8, (Option.none : Option Jvm.ClassFile.FieldType), []) := rfl
theorem jo_154 : jv_own 154 = 2 := rfl
theorem ji_154 : jv_init 154 = false := rfl
theorem jr_154 : jv_ret 154 = (Option.none : Option Jvm.ClassFile.FieldType) := rfl
theorem jm_155 : jt_M[155]? = some (2, yX0_then, cX0_then, 4, (Option.some Jvm.ClassFile.FieldType.int), []) := rfl
theorem jo_155 : jv_own 155 = 2 := rfl
theorem ji_155 : jv_init 155 = false := rfl
theorem jr_155 : jv_ret 155 = (Option.some Jvm.ClassFile.FieldType.int) := rfl
theorem jm_156 : jt_M[156]? = some (2, yX0_all, cX0_all, 3, (Option.some Jvm.ClassFile.FieldType.int), []) := rfl
theorem jo_156 : jv_own 156 = 2 := rfl
theorem ji_156 : jv_init 156 = false := rfl
theorem jr_156 : jv_ret 156 = (Option.some Jvm.ClassFile.FieldType.int) := rfl
theorem jm_157 : jt_M[157]? = some (2, yX0_wettest, cX0_wettest, 5, (Option.some Jvm.ClassFile.FieldType.int), []) := rfl
theorem jo_157 : jv_own 157 = 2 := rfl
theorem ji_157 : jv_init 157 = false := rfl
theorem jr_157 : jv_ret 157 = (Option.some Jvm.ClassFile.FieldType.int) := rfl
theorem jm_158 : jt_M[158]? = some (2, yX0_dry, cX0_dry, 4, (Option.some Jvm.ClassFile.FieldType.int), []) := rfl
theorem jo_158 : jv_own 158 = 2 := rfl
theorem ji_158 : jv_init 158 = false := rfl
theorem jr_158 : jv_ret 158 = (Option.some Jvm.ClassFile.FieldType.int) := rfl
theorem jm_159 : jt_M[159]? = some (2, yX0_emptyBy, cX0_emptyBy, 2, (Option.some Jvm.ClassFile.FieldType.int), []) := rfl
theorem jo_159 : jv_own 159 = 2 := rfl
theorem ji_159 : jv_init 159 = false := rfl
theorem jr_159 : jv_ret 159 = (Option.some Jvm.ClassFile.FieldType.int) := rfl
theorem jm_160 : jt_M[160]? = some (2, yX0_year, cX0_year, 5, (Option.some Jvm.ClassFile.FieldType.int), []) := rfl
theorem jo_160 : jv_own 160 = 2 := rfl
theorem ji_160 : jv_init 160 = false := rfl
theorem jr_160 : jv_ret 160 = (Option.some Jvm.ClassFile.FieldType.int) := rfl
theorem jm_161 : jt_M[161]? = some (2, yX0_serve, cX0_serve, 5, (Option.some Jvm.ClassFile.FieldType.int), []) := rfl
theorem jo_161 : jv_own 161 = 2 := rfl
theorem ji_161 : jv_init 161 = false := rfl
theorem jr_161 : jv_ret 161 = (Option.some Jvm.ClassFile.FieldType.int) := rfl
theorem jm_162 : jt_M[162]? = some (2, yX0_laysServe, cX0_laysServe, 7, (Option.none : Option Jvm.ClassFile.FieldType), []) := rfl
theorem jo_162 : jv_own 162 = 2 := rfl
theorem ji_162 : jv_init 162 = false := rfl
theorem jr_162 : jv_ret 162 = (Option.none : Option Jvm.ClassFile.FieldType) := rfl
theorem jm_163 : jt_M[163]? = some (2, yX0_suits, cX0_suits, 8, (Option.some Jvm.ClassFile.FieldType.int), []) := rfl
theorem jo_163 : jv_own 163 = 2 := rfl
theorem ji_163 : jv_init 163 = false := rfl
theorem jr_163 : jv_ret 163 = (Option.some Jvm.ClassFile.FieldType.int) := rfl
theorem jm_164 : jt_M[164]? = some (2, yX0_now, cX0_now, 5, (Option.some Jvm.ClassFile.FieldType.int), []) := rfl
theorem jo_164 : jv_own 164 = 2 := rfl
theorem ji_164 : jv_init 164 = false := rfl
theorem jr_164 : jv_ret 164 = (Option.some Jvm.ClassFile.FieldType.int) := rfl
theorem jm_165 : jt_M[165]? = some (2, yX0_tell, cX0_tell, 4, (Option.some Jvm.ClassFile.FieldType.int), []) := rfl
theorem jo_165 : jv_own 165 = 2 := rfl
theorem ji_165 : jv_init 165 = false := rfl
theorem jr_165 : jv_ret 165 = (Option.some Jvm.ClassFile.FieldType.int) := rfl
theorem jm_166 : jt_M[166]? = some (2, yX0_forget, cX0_forget, 2, (Option.some Jvm.ClassFile.FieldType.int), []) := rfl
theorem jo_166 : jv_own 166 = 2 := rfl
theorem ji_166 : jv_init 166 = false := rfl
theorem jr_166 : jv_ret 166 = (Option.some Jvm.ClassFile.FieldType.int) := rfl
theorem jm_167 : jt_M[167]? = some (2, yX0_fell, cX0_fell, 10, (Option.some Jvm.ClassFile.FieldType.int), []) := rfl
theorem jo_167 : jv_own 167 = 2 := rfl
theorem ji_167 : jv_init 167 = false := rfl
theorem jr_167 : jv_ret 167 = (Option.some Jvm.ClassFile.FieldType.int) := rfl
theorem jm_168 : jt_M[168]? = some (2, yX0_isSo, cX0_isSo, 11, (Option.some Jvm.ClassFile.FieldType.boolean), []) := rfl
theorem jo_168 : jv_own 168 = 2 := rfl
theorem ji_168 : jv_init 168 = false := rfl
theorem jr_168 : jv_ret 168 = (Option.some Jvm.ClassFile.FieldType.boolean) := rfl
theorem jm_169 : jt_M[169]? = some (2, yX0_look, cX0_look, 9, (Option.some Jvm.ClassFile.FieldType.int), []) := rfl
theorem jo_169 : jv_own 169 = 2 := rfl
theorem ji_169 : jv_init 169 = false := rfl
theorem jr_169 : jv_ret 169 = (Option.some Jvm.ClassFile.FieldType.int) := rfl
theorem jm_170 : jt_M[170]? = some (2, yX0_counts, cX0_counts, 10, (Option.none : Option Jvm.ClassFile.FieldType), []) := rfl
theorem jo_170 : jv_own 170 = 2 := rfl
theorem ji_170 : jv_init 170 = false := rfl
theorem jr_170 : jv_ret 170 = (Option.none : Option Jvm.ClassFile.FieldType) := rfl
theorem jm_171 : jt_M[171]? = some (2, yX0_hold, cX0_hold, 2, (Option.some Jvm.ClassFile.FieldType.boolean), []) := rfl
theorem jo_171 : jv_own 171 = 2 := rfl
theorem ji_171 : jv_init 171 = false := rfl
theorem jr_171 : jv_ret 171 = (Option.some Jvm.ClassFile.FieldType.boolean) := rfl
theorem jm_172 : jt_M[172]? = some (2, yX0_restore, cX0_restore, 2, (Option.some Jvm.ClassFile.FieldType.boolean), []) := rfl
theorem jo_172 : jv_own 172 = 2 := rfl
theorem ji_172 : jv_init 172 = false := rfl
theorem jr_172 : jv_ret 172 = (Option.some Jvm.ClassFile.FieldType.boolean) := rfl
theorem jm_173 : jt_M[173]? = some (2, yX0_count, cX0_count, 2, (Option.some Jvm.ClassFile.FieldType.int), []) := rfl
theorem jo_173 : jv_own 173 = 2 := rfl
theorem ji_173 : jv_init 173 = false := rfl
theorem jr_173 : jv_ret 173 = (Option.some Jvm.ClassFile.FieldType.int) := rfl
theorem jA_2_48 : jv_find jt_AN 2 48 = some (9) := rfl
theorem jA_2_65 : jv_find jt_AN 2 65 = some (10) := rfl
theorem jF_2_102 : jv_F 2 102 = [(1, 19, .array .int)] := rfl
theorem jF_2_105 : jv_F 2 105 = [(1, 22, .array .int)] := rfl
theorem jF_2_108 : jv_F 2 108 = [(1, 23, .array .int)] := rfl
theorem jF_2_111 : jv_F 2 111 = [(1, 24, .array (.array .int))] := rfl
theorem jF_2_118 : jv_F 2 118 = [(3, 2, .int)] := rfl
theorem jF_2_125 : jv_F 2 125 = [(3, 1, .array .byte)] := rfl
theorem jF_2_133 : jv_F 2 133 = [(1, 5, .int)] := rfl
theorem jF_2_136 : jv_F 2 136 = [(1, 21, .int)] := rfl
theorem jF_2_139 : jv_F 2 139 = [(2, 6, .int)] := rfl
theorem jF_2_142 : jv_F 2 142 = [(2, 7, .int)] := rfl
theorem jF_2_143 : jv_F 2 143 = [(5, 1, .object "java/util/ArrayList")] := rfl
theorem jF_2_153 : jv_F 2 153 = [(5, 2, .object "java/util/ArrayList")] := rfl
theorem jF_2_168 : jv_F 2 168 = [(17, 1, .int)] := rfl
theorem jF_2_17 : jv_F 2 17 = [(1, 0, .object "RainLoom$Fault")] := rfl
theorem jF_2_183 : jv_F 2 183 = [(5, 0, .array .int)] := rfl
theorem jF_2_186 : jv_F 2 186 = [(6, 0, .array .int)] := rfl
theorem jF_2_201 : jv_F 2 201 = [(6, 1, .array .int)] := rfl
theorem jF_2_204 : jv_F 2 204 = [(6, 2, .array .int)] := rfl
theorem jF_2_210 : jv_F 2 210 = [(6, 3, .array .int)] := rfl
theorem jF_2_213 : jv_F 2 213 = [(6, 6, .array .int)] := rfl
theorem jF_2_215 : jv_F 2 215 = [(6, 7, .array .int)] := rfl
theorem jF_2_218 : jv_F 2 218 = [(6, 8, .array .int)] := rfl
theorem jF_2_221 : jv_F 2 221 = [(6, 9, .array .int)] := rfl
theorem jF_2_224 : jv_F 2 224 = [(6, 4, .array .int)] := rfl
theorem jF_2_227 : jv_F 2 227 = [(6, 5, .array .int)] := rfl
theorem jF_2_234 : jv_F 2 234 = [(1, 6, .int)] := rfl
theorem jF_2_24 : jv_F 2 24 = [(1, 1, .object "RainLoom$Tokens")] := rfl
theorem jF_2_270 : jv_F 2 270 = [(6, 11, .int)] := rfl
theorem jF_2_282 : jv_F 2 282 = [(5, 4, .int)] := rfl
theorem jF_2_285 : jv_F 2 285 = [(5, 5, .int)] := rfl
theorem jF_2_289 : jv_F 2 289 = [(1, 17, .int)] := rfl
theorem jF_2_292 : jv_F 2 292 = [(1, 16, .int)] := rfl
theorem jF_2_309 : jv_F 2 309 = [(6, 10, .int)] := rfl
theorem jF_2_316 : jv_F 2 316 = [(5, 8, .int)] := rfl
theorem jF_2_320 : jv_F 2 320 = [(1, 20, .int)] := rfl
theorem jF_2_33 : jv_F 2 33 = [(1, 2, .object "RainLoom$Parser")] := rfl
theorem jF_2_40 : jv_F 2 40 = [(1, 3, .object "RainLoom$Text")] := rfl
theorem jF_2_44 : jv_F 2 44 = [(1, 4, .int)] := rfl
theorem jF_2_51 : jv_F 2 51 = [(1, 7, .object "RainLoom$Land")] := rfl
theorem jF_2_55 : jv_F 2 55 = [(1, 8, .object "RainLoom$Land")] := rfl
theorem jF_2_58 : jv_F 2 58 = [(1, 9, .array (.object "RainLoom$Land"))] := rfl
theorem jF_2_62 : jv_F 2 62 = [(1, 10, .array (.object "RainLoom$Land"))] := rfl
theorem jF_2_79 : jv_F 2 79 = [(1, 11, .array (.object "RainLoom$Part"))] := rfl
theorem jF_2_83 : jv_F 2 83 = [(1, 12, .array .boolean)] := rfl
theorem jF_2_87 : jv_F 2 87 = [(1, 13, .array .int)] := rfl
theorem jF_2_91 : jv_F 2 91 = [(1, 14, .array .int)] := rfl
theorem jF_2_96 : jv_F 2 96 = [(1, 15, .array (.array .int))] := rfl
theorem jF_2_99 : jv_F 2 99 = [(1, 18, .array .int)] := rfl
theorem jG_2_102i : jv_FP 2 true 102 = [(1, 19, .array .int)] := rfl
theorem jG_2_105i : jv_FP 2 true 105 = [(1, 22, .array .int)] := rfl
theorem jG_2_108i : jv_FP 2 true 108 = [(1, 23, .array .int)] := rfl
theorem jG_2_111i : jv_FP 2 true 111 = [(1, 24, .array (.array .int))] := rfl
theorem jG_2_118 : jv_FP 2 false 118 = [(3, 2, .int)] := rfl
theorem jG_2_133 : jv_FP 2 false 133 = [(1, 5, .int)] := rfl
theorem jG_2_136 : jv_FP 2 false 136 = [(1, 21, .int)] := rfl
theorem jG_2_17i : jv_FP 2 true 17 = [(1, 0, .object "RainLoom$Fault")] := rfl
theorem jG_2_234 : jv_FP 2 false 234 = [(1, 6, .int)] := rfl
theorem jG_2_24i : jv_FP 2 true 24 = [(1, 1, .object "RainLoom$Tokens")] := rfl
theorem jG_2_289 : jv_FP 2 false 289 = [(1, 17, .int)] := rfl
theorem jG_2_292 : jv_FP 2 false 292 = [(1, 16, .int)] := rfl
theorem jG_2_319 : jv_FP 2 false 319 = [(6, 12, .int)] := rfl
theorem jG_2_320 : jv_FP 2 false 320 = [(1, 20, .int)] := rfl
theorem jG_2_33i : jv_FP 2 true 33 = [(1, 2, .object "RainLoom$Parser")] := rfl
theorem jG_2_40 : jv_FP 2 false 40 = [(1, 3, .object "RainLoom$Text")] := rfl
theorem jG_2_40i : jv_FP 2 true 40 = [(1, 3, .object "RainLoom$Text")] := rfl
theorem jG_2_44 : jv_FP 2 false 44 = [(1, 4, .int)] := rfl
theorem jG_2_44i : jv_FP 2 true 44 = [(1, 4, .int)] := rfl
theorem jG_2_51i : jv_FP 2 true 51 = [(1, 7, .object "RainLoom$Land")] := rfl
theorem jG_2_55i : jv_FP 2 true 55 = [(1, 8, .object "RainLoom$Land")] := rfl
theorem jG_2_58i : jv_FP 2 true 58 = [(1, 9, .array (.object "RainLoom$Land"))] := rfl
theorem jG_2_62i : jv_FP 2 true 62 = [(1, 10, .array (.object "RainLoom$Land"))] := rfl
theorem jG_2_79i : jv_FP 2 true 79 = [(1, 11, .array (.object "RainLoom$Part"))] := rfl
theorem jG_2_83i : jv_FP 2 true 83 = [(1, 12, .array .boolean)] := rfl
theorem jG_2_87i : jv_FP 2 true 87 = [(1, 13, .array .int)] := rfl
theorem jG_2_91i : jv_FP 2 true 91 = [(1, 14, .array .int)] := rfl
theorem jG_2_96i : jv_FP 2 true 96 = [(1, 15, .array (.array .int))] := rfl
theorem jG_2_99i : jv_FP 2 true 99 = [(1, 18, .array .int)] := rfl
theorem jK_2_1 : jv_find jt_K 2 1 = some (.int (1103515245)) := rfl
theorem jK_2_308 : jv_find jt_K 2 308 = some (.int (1000000)) := rfl
theorem jN_2_14 : jv_find jt_N 2 14 = some (2) := rfl
theorem jN_2_21 : jv_find jt_N 2 21 = some (3) := rfl
theorem jN_2_28 : jv_find jt_N 2 28 = some (4) := rfl
theorem jN_2_37 : jv_find jt_N 2 37 = some (5) := rfl
theorem jN_2_48 : jv_find jt_N 2 48 = some (6) := rfl
theorem jN_2_67 : jv_find jt_N 2 67 = some (8) := rfl
theorem jN_2_70 : jv_find jt_N 2 70 = some (9) := rfl
theorem jN_2_73 : jv_find jt_N 2 73 = some (10) := rfl
theorem jN_2_76 : jv_find jt_N 2 76 = some (11) := rfl
theorem jP_2_16 : jv_find jt_P 2 16 = some ((0, some 174)) := rfl
theorem jP_2_23 : jv_find jt_P 2 23 = some ((0, some 176)) := rfl
theorem jP_2_30 : jv_find jt_P 2 30 = some ((2, some 186)) := rfl
theorem jP_2_39 : jv_find jt_P 2 39 = some ((0, some 207)) := rfl
theorem jP_2_50 : jv_find jt_P 2 50 = some ((0, some 216)) := rfl
theorem jP_2_69 : jv_find jt_P 2 69 = some ((0, some 231)) := rfl
theorem jP_2_72 : jv_find jt_P 2 72 = some ((0, some 233)) := rfl
theorem jP_2_75 : jv_find jt_P 2 75 = some ((0, some 235)) := rfl
theorem jP_2_78 : jv_find jt_P 2 78 = some ((0, some 237)) := rfl
theorem jP_2_8 : jv_find jt_P 2 8 = some ((0, none)) := rfl
theorem jT_2_158 : jv_find jt_S 2 158 = some ((3, some 124)) := rfl
theorem jT_2_2 : jv_find jt_S 2 2 = some ((2, some 140)) := rfl
theorem jT_2_241 : jv_find jt_S 2 241 = some ((2, some 309)) := rfl
theorem jT_2_295 : jv_find jt_S 2 295 = some ((2, some 308)) := rfl
theorem jT_2_312 : jv_find jt_S 2 312 = some ((1, some 228)) := rfl
theorem jT_2_323 : jv_find jt_S 2 323 = some ((5, none)) := rfl
theorem jT_2_329 : jv_find jt_S 2 329 = some ((1, some 310)) := rfl
theorem jV_2_114 : jv_find jt_V 2 114 = some ((1, [(6, 217)])) := rfl
theorem jV_2_121 : jv_find jt_V 2 121 = some ((1, [(1, 117)])) := rfl
theorem jV_2_147 : jv_find jt_V 2 147 = some ((0, [(18, 258)])) := rfl
theorem jV_2_156 : jv_find jt_V 2 156 = some ((0, [(1, 127)])) := rfl
theorem jV_2_162 : jv_find jt_V 2 162 = some ((1, [(18, 259)])) := rfl
theorem jV_2_171 : jv_find jt_V 2 171 = some ((1, [(1, 126)])) := rfl
theorem jV_2_175 : jv_find jt_V 2 175 = some ((1, [(1, 128)])) := rfl
theorem jV_2_179 : jv_find jt_V 2 179 = some ((2, [(5, 212)])) := rfl
theorem jV_2_189 : jv_find jt_V 2 189 = some ((2, [(6, 219)])) := rfl
theorem jV_2_193 : jv_find jt_V 2 193 = some ((2, [(6, 220)])) := rfl
theorem jV_2_196 : jv_find jt_V 2 196 = some ((0, [(1, 123)])) := rfl
theorem jV_2_198 : jv_find jt_V 2 198 = some ((1, [(5, 211)])) := rfl
theorem jV_2_207 : jv_find jt_V 2 207 = some ((1, [(5, 215)])) := rfl
theorem jV_2_230 : jv_find jt_V 2 230 = some ((4, [(6, 221)])) := rfl
theorem jV_2_237 : jv_find jt_V 2 237 = some ((1, [(6, 223)])) := rfl
theorem jV_2_246 : jv_find jt_V 2 246 = some ((2, [(9, 234), (10, 236), (8, 232), (11, 238)])) := rfl
theorem jV_2_250 : jv_find jt_V 2 250 = some ((1, [(1, 138)])) := rfl
theorem jV_2_253 : jv_find jt_V 2 253 = some ((3, [(1, 131)])) := rfl
theorem jV_2_256 : jv_find jt_V 2 256 = some ((0, [(1, 132)])) := rfl
theorem jV_2_259 : jv_find jt_V 2 259 = some ((1, [(6, 218)])) := rfl
theorem jV_2_262 : jv_find jt_V 2 262 = some ((6, [(6, 225)])) := rfl
theorem jV_2_266 : jv_find jt_V 2 266 = some ((2, [(1, 137)])) := rfl
theorem jV_2_272 : jv_find jt_V 2 272 = some ((4, [(1, 143)])) := rfl
theorem jV_2_276 : jv_find jt_V 2 276 = some ((3, [(1, 146)])) := rfl
theorem jV_2_279 : jv_find jt_V 2 279 = some ((2, [(1, 148)])) := rfl
theorem jV_2_286 : jv_find jt_V 2 286 = some ((0, [(1, 150)])) := rfl
theorem jV_2_298 : jv_find jt_V 2 298 = some ((3, [(1, 154)])) := rfl
theorem jV_2_302 : jv_find jt_V 2 302 = some ((1, [(1, 153)])) := rfl
theorem jV_2_305 : jv_find jt_V 2 305 = some ((1, [(1, 152)])) := rfl
theorem jV_2_332 : jv_find jt_V 2 332 = some ((5, [(1, 162)])) := rfl
theorem jV_2_336 : jv_find jt_V 2 336 = some ((6, [(1, 168)])) := rfl
theorem jV_2_340 : jv_find jt_V 2 340 = some ((4, [(1, 167)])) := rfl
theorem jV_2_344 : jv_find jt_V 2 344 = some ((5, [(1, 170)])) := rfl
/-! 115: RainLoom.<init>()V -/
theorem n115 : jv_cd (d + 1) 115 [.ref a0] h = jv_ev d 115 0 [some (.ref a0), none] [] h := rfl
theorem e115_0 : jv_ev d 115 0 [some (.ref a), x1] st h = jv_ev d 115 1 [some (.ref a), x1] (.ref a :: st) h := jq_nx (jv_insR jm_115 dX0_init_0) rfl
theorem e115_1 : jv_ev d 115 1 lc [.ref b] h = if jt_off ≤ b then jv_ev d 115 4 lc [] h else none := jq_O (jv_insR jm_115 dX0_init_1) jo_115 jP_2_8 (Nat.le_of_ble_eq_true rfl)
theorem e115_4 : jv_ev d 115 4 [some (.ref a), x1] st h = jv_ev d 115 5 [some (.ref a), x1] (.ref a :: st) h := jq_nx (jv_insR jm_115 dX0_init_4) rfl
theorem e115_5 : jv_ev d 115 5 lc st h = jv_ev d 115 8 lc (.ref h.length :: st) (h ++ [.inr (2, [.null, .null, .null, .null, .null, .int 0, .int 0, .int 0])]) := jq_new (jv_insR jm_115 dX0_init_5) jo_115 jN_2_14 rfl
theorem e115_8 : jv_ev d 115 8 lc (.ref a :: st) h = jv_ev d 115 9 lc (.ref a :: .ref a :: st) h := jq_nx (jv_insR jm_115 dX0_init_8) rfl
theorem e115_9 : jv_ev d 115 9 lc [.ref b, y0, y1] h = if jt_off ≤ b ∧ (jt_SU.contains 174 = false ∨ jv_cls h b = some 20) then ((jv_cd d 174 [.ref b] h).bind fun r => jv_on r (fun v h => jv_ev d 115 12 lc (v.toList ++ [y0, y1]) h) (fun q h => some (.inr q, h))) else none := jq_P (as := []) (rest := [y0, y1]) (jv_insR jm_115 dX0_init_9) jo_115 jP_2_16 rfl rfl rfl rfl
theorem e115_12 : jv_ev d 115 12 lc (r :: .ref a :: st) h = (jv_pf h a [(1, 0, .object "RainLoom$Fault")] r).bind fun h => jv_ev d 115 15 lc st h := jq_put (jv_insR jm_115 dX0_init_12) jo_115 ji_115 jG_2_17i
theorem e115_15 : jv_ev d 115 15 [some (.ref a), x1] st h = jv_ev d 115 16 [some (.ref a), x1] (.ref a :: st) h := jq_nx (jv_insR jm_115 dX0_init_15) rfl
theorem e115_16 : jv_ev d 115 16 lc st h = jv_ev d 115 19 lc (.ref h.length :: st) (h ++ [.inr (3, [.null, .null, .int 0, .null, .null, .null, .null, .int 0])]) := jq_new (jv_insR jm_115 dX0_init_16) jo_115 jN_2_21 rfl
theorem e115_19 : jv_ev d 115 19 lc (.ref a :: st) h = jv_ev d 115 20 lc (.ref a :: .ref a :: st) h := jq_nx (jv_insR jm_115 dX0_init_19) rfl
theorem e115_20 : jv_ev d 115 20 lc [.ref b, y0, y1] h = if jt_off ≤ b ∧ (jt_SU.contains 176 = false ∨ jv_cls h b = some 20) then ((jv_cd d 176 [.ref b] h).bind fun r => jv_on r (fun v h => jv_ev d 115 23 lc (v.toList ++ [y0, y1]) h) (fun q h => some (.inr q, h))) else none := jq_P (as := []) (rest := [y0, y1]) (jv_insR jm_115 dX0_init_20) jo_115 jP_2_23 rfl rfl rfl rfl
theorem e115_23 : jv_ev d 115 23 lc (r :: .ref a :: st) h = (jv_pf h a [(1, 1, .object "RainLoom$Tokens")] r).bind fun h => jv_ev d 115 26 lc st h := jq_put (jv_insR jm_115 dX0_init_23) jo_115 ji_115 jG_2_24i
theorem e115_26 : jv_ev d 115 26 [some (.ref a), x1] st h = jv_ev d 115 27 [some (.ref a), x1] (.ref a :: st) h := jq_nx (jv_insR jm_115 dX0_init_26) rfl
theorem e115_27 : jv_ev d 115 27 lc st h = jv_ev d 115 30 lc (.ref h.length :: st) (h ++ [.inr (4, [.null, .null, .null, .int 0, .int 0, .int 0, .int 0])]) := jq_new (jv_insR jm_115 dX0_init_27) jo_115 jN_2_28 rfl
theorem e115_30 : jv_ev d 115 30 lc (.ref a :: st) h = jv_ev d 115 31 lc (.ref a :: .ref a :: st) h := jq_nx (jv_insR jm_115 dX0_init_30) rfl
theorem e115_31 : jv_ev d 115 31 [some (.ref a), x1] st h = jv_ev d 115 32 [some (.ref a), x1] (.ref a :: st) h := jq_nx (jv_insR jm_115 dX0_init_31) rfl
theorem e115_32 : jv_ev d 115 32 lc (.ref a :: st) h = (jv_gf h a [(1, 1, .object "RainLoom$Tokens")]).bind fun r => jv_ev d 115 35 lc (r :: st) h := jq_get (jv_insR jm_115 dX0_init_32) jo_115 jF_2_24
theorem e115_35 : jv_ev d 115 35 [some (.ref a), x1] st h = jv_ev d 115 36 [some (.ref a), x1] (.ref a :: st) h := jq_nx (jv_insR jm_115 dX0_init_35) rfl
theorem e115_36 : jv_ev d 115 36 lc (.ref a :: st) h = (jv_gf h a [(1, 0, .object "RainLoom$Fault")]).bind fun r => jv_ev d 115 39 lc (r :: st) h := jq_get (jv_insR jm_115 dX0_init_36) jo_115 jF_2_17
theorem e115_39 : jv_ev d 115 39 lc [z1, z0, .ref b, y0, y1] h = if jt_off ≤ b ∧ (jt_SU.contains 186 = false ∨ jv_cls h b = some 20) then ((jv_cd d 186 [.ref b, z0, z1] h).bind fun r => jv_on r (fun v h => jv_ev d 115 42 lc (v.toList ++ [y0, y1]) h) (fun q h => some (.inr q, h))) else none := jq_P (as := [z0, z1]) (rest := [y0, y1]) (jv_insR jm_115 dX0_init_39) jo_115 jP_2_30 rfl rfl rfl rfl
theorem e115_42 : jv_ev d 115 42 lc (r :: .ref a :: st) h = (jv_pf h a [(1, 2, .object "RainLoom$Parser")] r).bind fun h => jv_ev d 115 45 lc st h := jq_put (jv_insR jm_115 dX0_init_42) jo_115 ji_115 jG_2_33i
theorem e115_45 : jv_ev d 115 45 [some (.ref a), x1] st h = jv_ev d 115 46 [some (.ref a), x1] (.ref a :: st) h := jq_nx (jv_insR jm_115 dX0_init_45) rfl
theorem e115_46 : jv_ev d 115 46 lc st h = jv_ev d 115 49 lc (.ref h.length :: st) (h ++ [.inr (5, [.null, .null, .null, .null, .int 0, .int 0, .int 0, .int 0, .int 0])]) := jq_new (jv_insR jm_115 dX0_init_46) jo_115 jN_2_37 rfl
theorem e115_49 : jv_ev d 115 49 lc (.ref a :: st) h = jv_ev d 115 50 lc (.ref a :: .ref a :: st) h := jq_nx (jv_insR jm_115 dX0_init_49) rfl
theorem e115_50 : jv_ev d 115 50 lc [.ref b, y0, y1] h = if jt_off ≤ b ∧ (jt_SU.contains 207 = false ∨ jv_cls h b = some 20) then ((jv_cd d 207 [.ref b] h).bind fun r => jv_on r (fun v h => jv_ev d 115 53 lc (v.toList ++ [y0, y1]) h) (fun q h => some (.inr q, h))) else none := jq_P (as := []) (rest := [y0, y1]) (jv_insR jm_115 dX0_init_50) jo_115 jP_2_39 rfl rfl rfl rfl
theorem e115_53 : jv_ev d 115 53 lc (r :: .ref a :: st) h = (jv_pf h a [(1, 3, .object "RainLoom$Text")] r).bind fun h => jv_ev d 115 56 lc st h := jq_put (jv_insR jm_115 dX0_init_53) jo_115 ji_115 jG_2_40i
theorem e115_56 : jv_ev d 115 56 [some (.ref a), x1] st h = jv_ev d 115 57 [some (.ref a), x1] (.ref a :: st) h := jq_nx (jv_insR jm_115 dX0_init_56) rfl
theorem e115_57 : jv_ev d 115 57 lc st h = jv_ev d 115 58 lc (.int (-1) :: st) h := jq_iconst (jv_insR jm_115 dX0_init_57) (by decide)
theorem e115_58 : jv_ev d 115 58 lc (r :: .ref a :: st) h = (jv_pf h a [(1, 4, .int)] r).bind fun h => jv_ev d 115 61 lc st h := jq_put (jv_insR jm_115 dX0_init_58) jo_115 ji_115 jG_2_44i
theorem e115_61 : jv_ev d 115 61 [some (.ref a), x1] st h = jv_ev d 115 62 [some (.ref a), x1] (.ref a :: st) h := jq_nx (jv_insR jm_115 dX0_init_61) rfl
theorem e115_62 : jv_ev d 115 62 lc st h = jv_ev d 115 65 lc (.ref h.length :: st) (h ++ [.inr (6, [.null, .null, .null, .null, .null, .null, .null, .null, .null, .null, .int 0, .int 0, .int 0, .null])]) := jq_new (jv_insR jm_115 dX0_init_62) jo_115 jN_2_48 rfl
theorem e115_65 : jv_ev d 115 65 lc (.ref a :: st) h = jv_ev d 115 66 lc (.ref a :: .ref a :: st) h := jq_nx (jv_insR jm_115 dX0_init_65) rfl
theorem e115_66 : jv_ev d 115 66 lc [.ref b, y0, y1] h = if jt_off ≤ b ∧ (jt_SU.contains 216 = false ∨ jv_cls h b = some 20) then ((jv_cd d 216 [.ref b] h).bind fun r => jv_on r (fun v h => jv_ev d 115 69 lc (v.toList ++ [y0, y1]) h) (fun q h => some (.inr q, h))) else none := jq_P (as := []) (rest := [y0, y1]) (jv_insR jm_115 dX0_init_66) jo_115 jP_2_50 rfl rfl rfl rfl
theorem e115_69 : jv_ev d 115 69 lc (r :: .ref a :: st) h = (jv_pf h a [(1, 7, .object "RainLoom$Land")] r).bind fun h => jv_ev d 115 72 lc st h := jq_put (jv_insR jm_115 dX0_init_69) jo_115 ji_115 jG_2_51i
theorem e115_72 : jv_ev d 115 72 [some (.ref a), x1] st h = jv_ev d 115 73 [some (.ref a), x1] (.ref a :: st) h := jq_nx (jv_insR jm_115 dX0_init_72) rfl
theorem e115_73 : jv_ev d 115 73 lc st h = jv_ev d 115 76 lc (.ref h.length :: st) (h ++ [.inr (6, [.null, .null, .null, .null, .null, .null, .null, .null, .null, .null, .int 0, .int 0, .int 0, .null])]) := jq_new (jv_insR jm_115 dX0_init_73) jo_115 jN_2_48 rfl
theorem e115_76 : jv_ev d 115 76 lc (.ref a :: st) h = jv_ev d 115 77 lc (.ref a :: .ref a :: st) h := jq_nx (jv_insR jm_115 dX0_init_76) rfl
theorem e115_77 : jv_ev d 115 77 lc [.ref b, y0, y1] h = if jt_off ≤ b ∧ (jt_SU.contains 216 = false ∨ jv_cls h b = some 20) then ((jv_cd d 216 [.ref b] h).bind fun r => jv_on r (fun v h => jv_ev d 115 80 lc (v.toList ++ [y0, y1]) h) (fun q h => some (.inr q, h))) else none := jq_P (as := []) (rest := [y0, y1]) (jv_insR jm_115 dX0_init_77) jo_115 jP_2_50 rfl rfl rfl rfl
theorem e115_80 : jv_ev d 115 80 lc (r :: .ref a :: st) h = (jv_pf h a [(1, 8, .object "RainLoom$Land")] r).bind fun h => jv_ev d 115 83 lc st h := jq_put (jv_insR jm_115 dX0_init_80) jo_115 ji_115 jG_2_55i
theorem e115_83 : jv_ev d 115 83 [some (.ref a), x1] st h = jv_ev d 115 84 [some (.ref a), x1] (.ref a :: st) h := jq_nx (jv_insR jm_115 dX0_init_83) rfl
theorem e115_84 : jv_ev d 115 84 lc st h = jv_ev d 115 86 lc (.int 30 :: st) h := jq_bipush (jv_insR jm_115 dX0_init_84) (by decide)
theorem e115_86 : jv_ev d 115 86 lc (.int v :: st) h = if v < 0 ∨ 100000 < v.toNatClampNeg then none else jv_ev d 115 89 lc (.ref h.length :: st) (h ++ [.inl (9, v.toNatClampNeg, .inr (.inr (.inr (.inr (fun _ => none)))))]) := jq_anew (jv_insR jm_115 dX0_init_86) jo_115 jA_2_48
theorem e115_89 : jv_ev d 115 89 lc (r :: .ref a :: st) h = (jv_pf h a [(1, 9, .array (.object "RainLoom$Land"))] r).bind fun h => jv_ev d 115 92 lc st h := jq_put (jv_insR jm_115 dX0_init_89) jo_115 ji_115 jG_2_58i
theorem e115_92 : jv_ev d 115 92 [some (.ref a), x1] st h = jv_ev d 115 93 [some (.ref a), x1] (.ref a :: st) h := jq_nx (jv_insR jm_115 dX0_init_92) rfl
theorem e115_93 : jv_ev d 115 93 lc st h = jv_ev d 115 94 lc (.int 3 :: st) h := jq_iconst (jv_insR jm_115 dX0_init_93) (by decide)
theorem e115_94 : jv_ev d 115 94 lc (.int v :: st) h = if v < 0 ∨ 100000 < v.toNatClampNeg then none else jv_ev d 115 97 lc (.ref h.length :: st) (h ++ [.inl (9, v.toNatClampNeg, .inr (.inr (.inr (.inr (fun _ => none)))))]) := jq_anew (jv_insR jm_115 dX0_init_94) jo_115 jA_2_48
theorem e115_97 : jv_ev d 115 97 lc (.ref a :: st) h = jv_ev d 115 98 lc (.ref a :: .ref a :: st) h := jq_nx (jv_insR jm_115 dX0_init_97) rfl
theorem e115_98 : jv_ev d 115 98 lc st h = jv_ev d 115 99 lc (.int 0 :: st) h := jq_iconst (jv_insR jm_115 dX0_init_98) (by decide)
theorem e115_99 : jv_ev d 115 99 lc st h = jv_ev d 115 102 lc (.ref h.length :: st) (h ++ [.inr (6, [.null, .null, .null, .null, .null, .null, .null, .null, .null, .null, .int 0, .int 0, .int 0, .null])]) := jq_new (jv_insR jm_115 dX0_init_99) jo_115 jN_2_48 rfl
theorem e115_102 : jv_ev d 115 102 lc (.ref a :: st) h = jv_ev d 115 103 lc (.ref a :: .ref a :: st) h := jq_nx (jv_insR jm_115 dX0_init_102) rfl
theorem e115_103 (hs : jv_sm [y0, y1, y2, y3, y4] = true) : jv_ev d 115 103 lc [.ref b, y0, y1, y2, y3, y4] h = if jt_off ≤ b ∧ (jt_SU.contains 216 = false ∨ jv_cls h b = some 20) then ((jv_cd d 216 [.ref b] h).bind fun r => jv_on r (fun v h => jv_ev d 115 106 lc (v.toList ++ [y0, y1, y2, y3, y4]) h) (fun q h => some (.inr q, h))) else none := jq_P (as := []) (rest := [y0, y1, y2, y3, y4]) (jv_insR jm_115 dX0_init_103) jo_115 jP_2_50 rfl rfl hs rfl
theorem e115_106 : jv_ev d 115 106 lc (.ref b :: .int v :: .ref a :: st) h = (jv_rp h a v b).bind fun h => jv_ev d 115 107 lc st h := jq_aast (jv_insR jm_115 dX0_init_106)
theorem e115_107 : jv_ev d 115 107 lc (.ref a :: st) h = jv_ev d 115 108 lc (.ref a :: .ref a :: st) h := jq_nx (jv_insR jm_115 dX0_init_107) rfl
theorem e115_108 : jv_ev d 115 108 lc st h = jv_ev d 115 109 lc (.int 1 :: st) h := jq_iconst (jv_insR jm_115 dX0_init_108) (by decide)
theorem e115_109 : jv_ev d 115 109 lc st h = jv_ev d 115 112 lc (.ref h.length :: st) (h ++ [.inr (6, [.null, .null, .null, .null, .null, .null, .null, .null, .null, .null, .int 0, .int 0, .int 0, .null])]) := jq_new (jv_insR jm_115 dX0_init_109) jo_115 jN_2_48 rfl
theorem e115_112 : jv_ev d 115 112 lc (.ref a :: st) h = jv_ev d 115 113 lc (.ref a :: .ref a :: st) h := jq_nx (jv_insR jm_115 dX0_init_112) rfl
theorem e115_113 (hs : jv_sm [y0, y1, y2, y3, y4] = true) : jv_ev d 115 113 lc [.ref b, y0, y1, y2, y3, y4] h = if jt_off ≤ b ∧ (jt_SU.contains 216 = false ∨ jv_cls h b = some 20) then ((jv_cd d 216 [.ref b] h).bind fun r => jv_on r (fun v h => jv_ev d 115 116 lc (v.toList ++ [y0, y1, y2, y3, y4]) h) (fun q h => some (.inr q, h))) else none := jq_P (as := []) (rest := [y0, y1, y2, y3, y4]) (jv_insR jm_115 dX0_init_113) jo_115 jP_2_50 rfl rfl hs rfl
theorem e115_116 : jv_ev d 115 116 lc (.ref b :: .int v :: .ref a :: st) h = (jv_rp h a v b).bind fun h => jv_ev d 115 117 lc st h := jq_aast (jv_insR jm_115 dX0_init_116)
theorem e115_117 : jv_ev d 115 117 lc (.ref a :: st) h = jv_ev d 115 118 lc (.ref a :: .ref a :: st) h := jq_nx (jv_insR jm_115 dX0_init_117) rfl
theorem e115_118 : jv_ev d 115 118 lc st h = jv_ev d 115 119 lc (.int 2 :: st) h := jq_iconst (jv_insR jm_115 dX0_init_118) (by decide)
theorem e115_119 : jv_ev d 115 119 lc st h = jv_ev d 115 122 lc (.ref h.length :: st) (h ++ [.inr (6, [.null, .null, .null, .null, .null, .null, .null, .null, .null, .null, .int 0, .int 0, .int 0, .null])]) := jq_new (jv_insR jm_115 dX0_init_119) jo_115 jN_2_48 rfl
theorem e115_122 : jv_ev d 115 122 lc (.ref a :: st) h = jv_ev d 115 123 lc (.ref a :: .ref a :: st) h := jq_nx (jv_insR jm_115 dX0_init_122) rfl
theorem e115_123 (hs : jv_sm [y0, y1, y2, y3, y4] = true) : jv_ev d 115 123 lc [.ref b, y0, y1, y2, y3, y4] h = if jt_off ≤ b ∧ (jt_SU.contains 216 = false ∨ jv_cls h b = some 20) then ((jv_cd d 216 [.ref b] h).bind fun r => jv_on r (fun v h => jv_ev d 115 126 lc (v.toList ++ [y0, y1, y2, y3, y4]) h) (fun q h => some (.inr q, h))) else none := jq_P (as := []) (rest := [y0, y1, y2, y3, y4]) (jv_insR jm_115 dX0_init_123) jo_115 jP_2_50 rfl rfl hs rfl
theorem e115_126 : jv_ev d 115 126 lc (.ref b :: .int v :: .ref a :: st) h = (jv_rp h a v b).bind fun h => jv_ev d 115 127 lc st h := jq_aast (jv_insR jm_115 dX0_init_126)
theorem e115_127 : jv_ev d 115 127 lc (r :: .ref a :: st) h = (jv_pf h a [(1, 10, .array (.object "RainLoom$Land"))] r).bind fun h => jv_ev d 115 130 lc st h := jq_put (jv_insR jm_115 dX0_init_127) jo_115 ji_115 jG_2_62i
theorem e115_130 : jv_ev d 115 130 [some (.ref a), x1] st h = jv_ev d 115 131 [some (.ref a), x1] (.ref a :: st) h := jq_nx (jv_insR jm_115 dX0_init_130) rfl
theorem e115_131 : jv_ev d 115 131 lc st h = jv_ev d 115 132 lc (.int 4 :: st) h := jq_iconst (jv_insR jm_115 dX0_init_131) (by decide)
theorem e115_132 : jv_ev d 115 132 lc (.int v :: st) h = if v < 0 ∨ 100000 < v.toNatClampNeg then none else jv_ev d 115 135 lc (.ref h.length :: st) (h ++ [.inl (10, v.toNatClampNeg, .inr (.inr (.inr (.inr (fun _ => none)))))]) := jq_anew (jv_insR jm_115 dX0_init_132) jo_115 jA_2_65
theorem e115_135 : jv_ev d 115 135 lc (.ref a :: st) h = jv_ev d 115 136 lc (.ref a :: .ref a :: st) h := jq_nx (jv_insR jm_115 dX0_init_135) rfl
theorem e115_136 : jv_ev d 115 136 lc st h = jv_ev d 115 137 lc (.int 0 :: st) h := jq_iconst (jv_insR jm_115 dX0_init_136) (by decide)
theorem e115_137 : jv_ev d 115 137 lc st h = jv_ev d 115 140 lc (.ref h.length :: st) (h ++ [.inr (8, [])]) := jq_new (jv_insR jm_115 dX0_init_137) jo_115 jN_2_67 rfl
theorem e115_140 : jv_ev d 115 140 lc (.ref a :: st) h = jv_ev d 115 141 lc (.ref a :: .ref a :: st) h := jq_nx (jv_insR jm_115 dX0_init_140) rfl
theorem e115_141 (hs : jv_sm [y0, y1, y2, y3, y4] = true) : jv_ev d 115 141 lc [.ref b, y0, y1, y2, y3, y4] h = if jt_off ≤ b ∧ (jt_SU.contains 231 = false ∨ jv_cls h b = some 20) then ((jv_cd d 231 [.ref b] h).bind fun r => jv_on r (fun v h => jv_ev d 115 144 lc (v.toList ++ [y0, y1, y2, y3, y4]) h) (fun q h => some (.inr q, h))) else none := jq_P (as := []) (rest := [y0, y1, y2, y3, y4]) (jv_insR jm_115 dX0_init_141) jo_115 jP_2_69 rfl rfl hs rfl
theorem e115_144 : jv_ev d 115 144 lc (.ref b :: .int v :: .ref a :: st) h = (jv_rp h a v b).bind fun h => jv_ev d 115 145 lc st h := jq_aast (jv_insR jm_115 dX0_init_144)
theorem e115_145 : jv_ev d 115 145 lc (.ref a :: st) h = jv_ev d 115 146 lc (.ref a :: .ref a :: st) h := jq_nx (jv_insR jm_115 dX0_init_145) rfl
theorem e115_146 : jv_ev d 115 146 lc st h = jv_ev d 115 147 lc (.int 1 :: st) h := jq_iconst (jv_insR jm_115 dX0_init_146) (by decide)
theorem e115_147 : jv_ev d 115 147 lc st h = jv_ev d 115 150 lc (.ref h.length :: st) (h ++ [.inr (9, [])]) := jq_new (jv_insR jm_115 dX0_init_147) jo_115 jN_2_70 rfl
theorem e115_150 : jv_ev d 115 150 lc (.ref a :: st) h = jv_ev d 115 151 lc (.ref a :: .ref a :: st) h := jq_nx (jv_insR jm_115 dX0_init_150) rfl
theorem e115_151 (hs : jv_sm [y0, y1, y2, y3, y4] = true) : jv_ev d 115 151 lc [.ref b, y0, y1, y2, y3, y4] h = if jt_off ≤ b ∧ (jt_SU.contains 233 = false ∨ jv_cls h b = some 20) then ((jv_cd d 233 [.ref b] h).bind fun r => jv_on r (fun v h => jv_ev d 115 154 lc (v.toList ++ [y0, y1, y2, y3, y4]) h) (fun q h => some (.inr q, h))) else none := jq_P (as := []) (rest := [y0, y1, y2, y3, y4]) (jv_insR jm_115 dX0_init_151) jo_115 jP_2_72 rfl rfl hs rfl
theorem e115_154 : jv_ev d 115 154 lc (.ref b :: .int v :: .ref a :: st) h = (jv_rp h a v b).bind fun h => jv_ev d 115 155 lc st h := jq_aast (jv_insR jm_115 dX0_init_154)
theorem e115_155 : jv_ev d 115 155 lc (.ref a :: st) h = jv_ev d 115 156 lc (.ref a :: .ref a :: st) h := jq_nx (jv_insR jm_115 dX0_init_155) rfl
theorem e115_156 : jv_ev d 115 156 lc st h = jv_ev d 115 157 lc (.int 2 :: st) h := jq_iconst (jv_insR jm_115 dX0_init_156) (by decide)
theorem e115_157 : jv_ev d 115 157 lc st h = jv_ev d 115 160 lc (.ref h.length :: st) (h ++ [.inr (10, [])]) := jq_new (jv_insR jm_115 dX0_init_157) jo_115 jN_2_73 rfl
theorem e115_160 : jv_ev d 115 160 lc (.ref a :: st) h = jv_ev d 115 161 lc (.ref a :: .ref a :: st) h := jq_nx (jv_insR jm_115 dX0_init_160) rfl
theorem e115_161 (hs : jv_sm [y0, y1, y2, y3, y4] = true) : jv_ev d 115 161 lc [.ref b, y0, y1, y2, y3, y4] h = if jt_off ≤ b ∧ (jt_SU.contains 235 = false ∨ jv_cls h b = some 20) then ((jv_cd d 235 [.ref b] h).bind fun r => jv_on r (fun v h => jv_ev d 115 164 lc (v.toList ++ [y0, y1, y2, y3, y4]) h) (fun q h => some (.inr q, h))) else none := jq_P (as := []) (rest := [y0, y1, y2, y3, y4]) (jv_insR jm_115 dX0_init_161) jo_115 jP_2_75 rfl rfl hs rfl
theorem e115_164 : jv_ev d 115 164 lc (.ref b :: .int v :: .ref a :: st) h = (jv_rp h a v b).bind fun h => jv_ev d 115 165 lc st h := jq_aast (jv_insR jm_115 dX0_init_164)
theorem e115_165 : jv_ev d 115 165 lc (.ref a :: st) h = jv_ev d 115 166 lc (.ref a :: .ref a :: st) h := jq_nx (jv_insR jm_115 dX0_init_165) rfl
theorem e115_166 : jv_ev d 115 166 lc st h = jv_ev d 115 167 lc (.int 3 :: st) h := jq_iconst (jv_insR jm_115 dX0_init_166) (by decide)
theorem e115_167 : jv_ev d 115 167 lc st h = jv_ev d 115 170 lc (.ref h.length :: st) (h ++ [.inr (11, [])]) := jq_new (jv_insR jm_115 dX0_init_167) jo_115 jN_2_76 rfl
theorem e115_170 : jv_ev d 115 170 lc (.ref a :: st) h = jv_ev d 115 171 lc (.ref a :: .ref a :: st) h := jq_nx (jv_insR jm_115 dX0_init_170) rfl
theorem e115_171 (hs : jv_sm [y0, y1, y2, y3, y4] = true) : jv_ev d 115 171 lc [.ref b, y0, y1, y2, y3, y4] h = if jt_off ≤ b ∧ (jt_SU.contains 237 = false ∨ jv_cls h b = some 20) then ((jv_cd d 237 [.ref b] h).bind fun r => jv_on r (fun v h => jv_ev d 115 174 lc (v.toList ++ [y0, y1, y2, y3, y4]) h) (fun q h => some (.inr q, h))) else none := jq_P (as := []) (rest := [y0, y1, y2, y3, y4]) (jv_insR jm_115 dX0_init_171) jo_115 jP_2_78 rfl rfl hs rfl
theorem e115_174 : jv_ev d 115 174 lc (.ref b :: .int v :: .ref a :: st) h = (jv_rp h a v b).bind fun h => jv_ev d 115 175 lc st h := jq_aast (jv_insR jm_115 dX0_init_174)
theorem e115_175 : jv_ev d 115 175 lc (r :: .ref a :: st) h = (jv_pf h a [(1, 11, .array (.object "RainLoom$Part"))] r).bind fun h => jv_ev d 115 178 lc st h := jq_put (jv_insR jm_115 dX0_init_175) jo_115 ji_115 jG_2_79i
theorem e115_178 : jv_ev d 115 178 [some (.ref a), x1] st h = jv_ev d 115 179 [some (.ref a), x1] (.ref a :: st) h := jq_nx (jv_insR jm_115 dX0_init_178) rfl
theorem e115_179 : jv_ev d 115 179 lc st h = jv_ev d 115 180 lc (.int 3 :: st) h := jq_iconst (jv_insR jm_115 dX0_init_179) (by decide)
theorem e115_180 : jv_ev d 115 180 lc (.int v :: st) h = if v < 0 ∨ 100000 < v.toNatClampNeg then none else jv_ev d 115 182 lc (.ref h.length :: st) (h ++ [.inl (2, v.toNatClampNeg, .inl (fun _ => 0))]) := jq_newa (jv_insR jm_115 dX0_init_180)
theorem e115_182 : jv_ev d 115 182 lc (r :: .ref a :: st) h = (jv_pf h a [(1, 12, .array .boolean)] r).bind fun h => jv_ev d 115 185 lc st h := jq_put (jv_insR jm_115 dX0_init_182) jo_115 ji_115 jG_2_83i
theorem e115_185 : jv_ev d 115 185 [some (.ref a), x1] st h = jv_ev d 115 186 [some (.ref a), x1] (.ref a :: st) h := jq_nx (jv_insR jm_115 dX0_init_185) rfl
theorem e115_186 : jv_ev d 115 186 lc st h = jv_ev d 115 187 lc (.int 4 :: st) h := jq_iconst (jv_insR jm_115 dX0_init_186) (by decide)
theorem e115_187 : jv_ev d 115 187 lc (.int v :: st) h = if v < 0 ∨ 100000 < v.toNatClampNeg then none else jv_ev d 115 189 lc (.ref h.length :: st) (h ++ [.inl (0, v.toNatClampNeg, .inl (fun _ => 0))]) := jq_newa (jv_insR jm_115 dX0_init_187)
theorem e115_189 : jv_ev d 115 189 lc (r :: .ref a :: st) h = (jv_pf h a [(1, 13, .array .int)] r).bind fun h => jv_ev d 115 192 lc st h := jq_put (jv_insR jm_115 dX0_init_189) jo_115 ji_115 jG_2_87i
theorem e115_192 : jv_ev d 115 192 [some (.ref a), x1] st h = jv_ev d 115 193 [some (.ref a), x1] (.ref a :: st) h := jq_nx (jv_insR jm_115 dX0_init_192) rfl
theorem e115_193 : jv_ev d 115 193 lc st h = jv_ev d 115 194 lc (.int 4 :: st) h := jq_iconst (jv_insR jm_115 dX0_init_193) (by decide)
theorem e115_194 : jv_ev d 115 194 lc (.int v :: st) h = if v < 0 ∨ 100000 < v.toNatClampNeg then none else jv_ev d 115 196 lc (.ref h.length :: st) (h ++ [.inl (0, v.toNatClampNeg, .inl (fun _ => 0))]) := jq_newa (jv_insR jm_115 dX0_init_194)
theorem e115_196 : jv_ev d 115 196 lc (r :: .ref a :: st) h = (jv_pf h a [(1, 14, .array .int)] r).bind fun h => jv_ev d 115 199 lc st h := jq_put (jv_insR jm_115 dX0_init_196) jo_115 ji_115 jG_2_91i
theorem e115_199 : jv_ev d 115 199 [some (.ref a), x1] st h = jv_ev d 115 200 [some (.ref a), x1] (.ref a :: st) h := jq_nx (jv_insR jm_115 dX0_init_199) rfl
theorem e115_200 : jv_ev d 115 200 lc st h = jv_ev d 115 201 lc (.int 5 :: st) h := jq_iconst (jv_insR jm_115 dX0_init_200) (by decide)
theorem e115_201 : jv_ev d 115 201 lc st h = jv_ev d 115 203 lc (.int 8 :: st) h := jq_bipush (jv_insR jm_115 dX0_init_201) (by decide)
theorem e115_203 : jv_ev d 115 203 lc (.int w :: .int v :: st) h = if ¬ (v < 0 ∨ w < 0 ∨ 1000 < v.toNatClampNeg ∨ 1000 < w.toNatClampNeg) then jv_ev d 115 207 lc (.ref h.length :: st) (h ++ (.inl (11, v.toNatClampNeg, .inr (.inr (.inr (.inr (fun j => if j < v.toNatClampNeg then some (h.length + 1 + j) else none))))) :: List.replicate v.toNatClampNeg (.inl (0, w.toNatClampNeg, .inl (fun _ => 0))))) else none := jq_ma (jv_insR jm_115 dX0_init_203) rfl
theorem e115_207 : jv_ev d 115 207 lc (r :: .ref a :: st) h = (jv_pf h a [(1, 15, .array (.array .int))] r).bind fun h => jv_ev d 115 210 lc st h := jq_put (jv_insR jm_115 dX0_init_207) jo_115 ji_115 jG_2_96i
theorem e115_210 : jv_ev d 115 210 [some (.ref a), x1] st h = jv_ev d 115 211 [some (.ref a), x1] (.ref a :: st) h := jq_nx (jv_insR jm_115 dX0_init_210) rfl
theorem e115_211 : jv_ev d 115 211 lc st h = jv_ev d 115 212 lc (.int 4 :: st) h := jq_iconst (jv_insR jm_115 dX0_init_211) (by decide)
theorem e115_212 : jv_ev d 115 212 lc (.int v :: st) h = if v < 0 ∨ 100000 < v.toNatClampNeg then none else jv_ev d 115 214 lc (.ref h.length :: st) (h ++ [.inl (0, v.toNatClampNeg, .inl (fun _ => 0))]) := jq_newa (jv_insR jm_115 dX0_init_212)
theorem e115_214 : jv_ev d 115 214 lc (r :: .ref a :: st) h = (jv_pf h a [(1, 18, .array .int)] r).bind fun h => jv_ev d 115 217 lc st h := jq_put (jv_insR jm_115 dX0_init_214) jo_115 ji_115 jG_2_99i
theorem e115_217 : jv_ev d 115 217 [some (.ref a), x1] st h = jv_ev d 115 218 [some (.ref a), x1] (.ref a :: st) h := jq_nx (jv_insR jm_115 dX0_init_217) rfl
theorem e115_218 : jv_ev d 115 218 lc st h = jv_ev d 115 219 lc (.int 4 :: st) h := jq_iconst (jv_insR jm_115 dX0_init_218) (by decide)
theorem e115_219 : jv_ev d 115 219 lc (.int v :: st) h = if v < 0 ∨ 100000 < v.toNatClampNeg then none else jv_ev d 115 221 lc (.ref h.length :: st) (h ++ [.inl (0, v.toNatClampNeg, .inl (fun _ => 0))]) := jq_newa (jv_insR jm_115 dX0_init_219)
theorem e115_221 : jv_ev d 115 221 lc (r :: .ref a :: st) h = (jv_pf h a [(1, 19, .array .int)] r).bind fun h => jv_ev d 115 224 lc st h := jq_put (jv_insR jm_115 dX0_init_221) jo_115 ji_115 jG_2_102i
theorem e115_224 : jv_ev d 115 224 [some (.ref a), x1] st h = jv_ev d 115 225 [some (.ref a), x1] (.ref a :: st) h := jq_nx (jv_insR jm_115 dX0_init_224) rfl
theorem e115_225 : jv_ev d 115 225 lc st h = jv_ev d 115 227 lc (.int 20 :: st) h := jq_bipush (jv_insR jm_115 dX0_init_225) (by decide)
theorem e115_227 : jv_ev d 115 227 lc (.int v :: st) h = if v < 0 ∨ 100000 < v.toNatClampNeg then none else jv_ev d 115 229 lc (.ref h.length :: st) (h ++ [.inl (0, v.toNatClampNeg, .inl (fun _ => 0))]) := jq_newa (jv_insR jm_115 dX0_init_227)
theorem e115_229 : jv_ev d 115 229 lc (r :: .ref a :: st) h = (jv_pf h a [(1, 22, .array .int)] r).bind fun h => jv_ev d 115 232 lc st h := jq_put (jv_insR jm_115 dX0_init_229) jo_115 ji_115 jG_2_105i
theorem e115_232 : jv_ev d 115 232 [some (.ref a), x1] st h = jv_ev d 115 233 [some (.ref a), x1] (.ref a :: st) h := jq_nx (jv_insR jm_115 dX0_init_232) rfl
theorem e115_233 : jv_ev d 115 233 lc st h = jv_ev d 115 235 lc (.int 20 :: st) h := jq_bipush (jv_insR jm_115 dX0_init_233) (by decide)
theorem e115_235 : jv_ev d 115 235 lc (.int v :: st) h = if v < 0 ∨ 100000 < v.toNatClampNeg then none else jv_ev d 115 237 lc (.ref h.length :: st) (h ++ [.inl (0, v.toNatClampNeg, .inl (fun _ => 0))]) := jq_newa (jv_insR jm_115 dX0_init_235)
theorem e115_237 : jv_ev d 115 237 lc (r :: .ref a :: st) h = (jv_pf h a [(1, 23, .array .int)] r).bind fun h => jv_ev d 115 240 lc st h := jq_put (jv_insR jm_115 dX0_init_237) jo_115 ji_115 jG_2_108i
theorem e115_240 : jv_ev d 115 240 [some (.ref a), x1] st h = jv_ev d 115 241 [some (.ref a), x1] (.ref a :: st) h := jq_nx (jv_insR jm_115 dX0_init_240) rfl
theorem e115_241 : jv_ev d 115 241 lc st h = jv_ev d 115 243 lc (.int 48 :: st) h := jq_bipush (jv_insR jm_115 dX0_init_241) (by decide)
theorem e115_243 : jv_ev d 115 243 lc st h = jv_ev d 115 245 lc (.int 10 :: st) h := jq_bipush (jv_insR jm_115 dX0_init_243) (by decide)
theorem e115_245 : jv_ev d 115 245 lc (.int w :: .int v :: st) h = if ¬ (v < 0 ∨ w < 0 ∨ 1000 < v.toNatClampNeg ∨ 1000 < w.toNatClampNeg) then jv_ev d 115 249 lc (.ref h.length :: st) (h ++ (.inl (11, v.toNatClampNeg, .inr (.inr (.inr (.inr (fun j => if j < v.toNatClampNeg then some (h.length + 1 + j) else none))))) :: List.replicate v.toNatClampNeg (.inl (0, w.toNatClampNeg, .inl (fun _ => 0))))) else none := jq_ma (jv_insR jm_115 dX0_init_245) rfl
theorem e115_249 : jv_ev d 115 249 lc (r :: .ref a :: st) h = (jv_pf h a [(1, 24, .array (.array .int))] r).bind fun h => jv_ev d 115 252 lc st h := jq_put (jv_insR jm_115 dX0_init_249) jo_115 ji_115 jG_2_111i
theorem e115_252 : jv_ev d 115 252 lc st h = jv_ev d 115 253 lc (.int 0 :: st) h := jq_iconst (jv_insR jm_115 dX0_init_252) (by decide)
theorem e115_253 : jv_ev d 115 253 [x0, x1] (.int v :: st) h = jv_ev d 115 254 [x0, some (.int v)] st h := jq_nx (jv_insR jm_115 dX0_init_253) rfl
theorem e115_254 : jv_ev d 115 254 [x0, some (.int v)] st h = jv_ev d 115 255 [x0, some (.int v)] (.int v :: st) h := jq_nx (jv_insR jm_115 dX0_init_254) rfl
theorem e115_255 : jv_ev d 115 255 lc st h = jv_ev d 115 257 lc (.int 30 :: st) h := jq_bipush (jv_insR jm_115 dX0_init_255) (by decide)
theorem e115_257 : jv_ev d 115 257 lc (.int w :: .int v :: st) h = if w ≤ v then jv_ev d 115 279 lc st h else jv_ev d 115 260 lc st h := jq_if (jv_insR jm_115 dX0_init_257) rfl (by decide)
theorem e115_260 : jv_ev d 115 260 [some (.ref a), x1] st h = jv_ev d 115 261 [some (.ref a), x1] (.ref a :: st) h := jq_nx (jv_insR jm_115 dX0_init_260) rfl
theorem e115_261 : jv_ev d 115 261 lc (.ref a :: st) h = (jv_gf h a [(1, 9, .array (.object "RainLoom$Land"))]).bind fun r => jv_ev d 115 264 lc (r :: st) h := jq_get (jv_insR jm_115 dX0_init_261) jo_115 jF_2_58
theorem e115_264 : jv_ev d 115 264 [x0, some (.int v)] st h = jv_ev d 115 265 [x0, some (.int v)] (.int v :: st) h := jq_nx (jv_insR jm_115 dX0_init_264) rfl
theorem e115_265 : jv_ev d 115 265 lc st h = jv_ev d 115 268 lc (.ref h.length :: st) (h ++ [.inr (6, [.null, .null, .null, .null, .null, .null, .null, .null, .null, .null, .int 0, .int 0, .int 0, .null])]) := jq_new (jv_insR jm_115 dX0_init_265) jo_115 jN_2_48 rfl
theorem e115_268 : jv_ev d 115 268 lc (.ref a :: st) h = jv_ev d 115 269 lc (.ref a :: .ref a :: st) h := jq_nx (jv_insR jm_115 dX0_init_268) rfl
theorem e115_269 : jv_ev d 115 269 lc [.ref b, y0, y1, y2] h = if jt_off ≤ b ∧ (jt_SU.contains 216 = false ∨ jv_cls h b = some 20) then ((jv_cd d 216 [.ref b] h).bind fun r => jv_on r (fun v h => jv_ev d 115 272 lc (v.toList ++ [y0, y1, y2]) h) (fun q h => some (.inr q, h))) else none := jq_P (as := []) (rest := [y0, y1, y2]) (jv_insR jm_115 dX0_init_269) jo_115 jP_2_50 rfl rfl rfl rfl
theorem e115_272 : jv_ev d 115 272 lc (.ref b :: .int v :: .ref a :: st) h = (jv_rp h a v b).bind fun h => jv_ev d 115 273 lc st h := jq_aast (jv_insR jm_115 dX0_init_272)
theorem e115_273 : jv_ev d 115 273 [x0, some (.int v)] st h = jv_ev d 115 276 [x0, some (.int (v + 1))] st h := jq_nx (jv_insR jm_115 dX0_init_273) rfl
theorem e115_276 : jv_ev d 115 276 lc st h = jv_ev d 115 254 lc st h := jq_go (jv_insR jm_115 dX0_init_276) (by decide)
theorem e115_279 : jv_ev d 115 279 [some (.ref a), x1] st h = jv_ev d 115 280 [some (.ref a), x1] (.ref a :: st) h := jq_nx (jv_insR jm_115 dX0_init_279) rfl
theorem e115_280 : jv_ev d 115 280 lc (.ref a :: st) h = (jv_gf h a [(1, 7, .object "RainLoom$Land")]).bind fun r => jv_ev d 115 283 lc (r :: st) h := jq_get (jv_insR jm_115 dX0_init_280) jo_115 jF_2_51
theorem e115_283 : jv_ev d 115 283 [some (.ref a), x1] st h = jv_ev d 115 284 [some (.ref a), x1] (.ref a :: st) h := jq_nx (jv_insR jm_115 dX0_init_283) rfl
theorem e115_284 : jv_ev d 115 284 lc (.ref a :: st) h = (jv_gf h a [(1, 3, .object "RainLoom$Text")]).bind fun r => jv_ev d 115 287 lc (r :: st) h := jq_get (jv_insR jm_115 dX0_init_284) jo_115 jF_2_40
theorem e115_287 : jv_ev d 115 287 lc [z0, .ref b] h = (jv_rc h b [(6, 217)]).bind fun y => (jv_cd d y [.ref b, z0] h).bind fun r => jv_on r (fun v h => jv_ev d 115 290 lc (v.toList ++ []) h) (fun q h => some (.inr q, h)) := jq_V (as := [z0]) (rest := []) (jv_insR jm_115 dX0_init_287) jo_115 jV_2_114 rfl rfl rfl rfl
theorem e115_290 : jv_ev d 115 290 lc [] h = some (.inl none, h) := jq_retv (jv_insR jm_115 dX0_init_290) jr_115
/-! 116: RainLoom.feed(IIIII)I -/
theorem n116 : jv_cd (d + 1) 116 [.ref a0, .int i1, .int i2, .int i3, .int i4, .int i5] h = jv_ev d 116 0 [some (.ref a0), some (.int i1), some (.int i2), some (.int i3), some (.int i4), some (.int i5)] [] h := rfl
theorem e116_0 : jv_ev d 116 0 [some (.ref a), x1, x2, x3, x4, x5] st h = jv_ev d 116 1 [some (.ref a), x1, x2, x3, x4, x5] (.ref a :: st) h := jq_nx (jv_insR jm_116 dX0_feed_0) rfl
theorem e116_1 : jv_ev d 116 1 lc (.ref a :: st) h = (jv_gf h a [(1, 1, .object "RainLoom$Tokens")]).bind fun r => jv_ev d 116 4 lc (r :: st) h := jq_get (jv_insR jm_116 dX0_feed_1) jo_116 jF_2_24
theorem e116_4 : jv_ev d 116 4 lc (.ref a :: st) h = (jv_gf h a [(3, 2, .int)]).bind fun r => jv_ev d 116 7 lc (r :: st) h := jq_get (jv_insR jm_116 dX0_feed_4) jo_116 jF_2_118
theorem e116_7 : jv_ev d 116 7 lc st h = jv_ev d 116 9 lc (.int 20 :: st) h := jq_bipush (jv_insR jm_116 dX0_feed_7) (by decide)
theorem e116_9 : jv_ev d 116 9 lc (.int w :: .int v :: st) h = jv_ev d 116 10 lc (.int (v + w) :: st) h := jq_nx (jv_insR jm_116 dX0_feed_9) rfl
theorem e116_10 : jv_ev d 116 10 lc st h = jv_ev d 116 13 lc (.int 2000 :: st) h := jq_sipush (jv_insR jm_116 dX0_feed_10) (by decide)
theorem e116_13 : jv_ev d 116 13 lc (.int w :: .int v :: st) h = if v ≤ w then jv_ev d 116 18 lc st h else jv_ev d 116 16 lc st h := jq_if (jv_insR jm_116 dX0_feed_13) rfl (by decide)
theorem e116_16 : jv_ev d 116 16 lc st h = jv_ev d 116 17 lc (.int (-1) :: st) h := jq_iconst (jv_insR jm_116 dX0_feed_16) (by decide)
theorem e116_17 : jv_ev d 116 17 lc [.int v] h = some (.inl (some (.int v)), h) := jq_reti (jv_insR jm_116 dX0_feed_17) jr_116
theorem e116_18 : jv_ev d 116 18 [some (.ref a), x1, x2, x3, x4, x5] st h = jv_ev d 116 19 [some (.ref a), x1, x2, x3, x4, x5] (.ref a :: st) h := jq_nx (jv_insR jm_116 dX0_feed_18) rfl
theorem e116_19 : jv_ev d 116 19 [x0, some (.int v), x2, x3, x4, x5] st h = jv_ev d 116 20 [x0, some (.int v), x2, x3, x4, x5] (.int v :: st) h := jq_nx (jv_insR jm_116 dX0_feed_19) rfl
theorem e116_20 : jv_ev d 116 20 lc [z0, .ref b] h = (jv_rc h b [(1, 117)]).bind fun y => (jv_cd d y [.ref b, z0] h).bind fun r => jv_on r (fun v h => jv_ev d 116 23 lc (v.toList ++ []) h) (fun q h => some (.inr q, h)) := jq_V (as := [z0]) (rest := []) (jv_insR jm_116 dX0_feed_20) jo_116 jV_2_121 rfl rfl rfl rfl
theorem e116_23 : jv_ev d 116 23 [some (.ref a), x1, x2, x3, x4, x5] st h = jv_ev d 116 24 [some (.ref a), x1, x2, x3, x4, x5] (.ref a :: st) h := jq_nx (jv_insR jm_116 dX0_feed_23) rfl
theorem e116_24 : jv_ev d 116 24 [x0, x1, some (.int v), x3, x4, x5] st h = jv_ev d 116 25 [x0, x1, some (.int v), x3, x4, x5] (.int v :: st) h := jq_nx (jv_insR jm_116 dX0_feed_24) rfl
theorem e116_25 : jv_ev d 116 25 lc [z0, .ref b] h = (jv_rc h b [(1, 117)]).bind fun y => (jv_cd d y [.ref b, z0] h).bind fun r => jv_on r (fun v h => jv_ev d 116 28 lc (v.toList ++ []) h) (fun q h => some (.inr q, h)) := jq_V (as := [z0]) (rest := []) (jv_insR jm_116 dX0_feed_25) jo_116 jV_2_121 rfl rfl rfl rfl
theorem e116_28 : jv_ev d 116 28 [some (.ref a), x1, x2, x3, x4, x5] st h = jv_ev d 116 29 [some (.ref a), x1, x2, x3, x4, x5] (.ref a :: st) h := jq_nx (jv_insR jm_116 dX0_feed_28) rfl
theorem e116_29 : jv_ev d 116 29 [x0, x1, x2, some (.int v), x4, x5] st h = jv_ev d 116 30 [x0, x1, x2, some (.int v), x4, x5] (.int v :: st) h := jq_nx (jv_insR jm_116 dX0_feed_29) rfl
theorem e116_30 : jv_ev d 116 30 lc [z0, .ref b] h = (jv_rc h b [(1, 117)]).bind fun y => (jv_cd d y [.ref b, z0] h).bind fun r => jv_on r (fun v h => jv_ev d 116 33 lc (v.toList ++ []) h) (fun q h => some (.inr q, h)) := jq_V (as := [z0]) (rest := []) (jv_insR jm_116 dX0_feed_30) jo_116 jV_2_121 rfl rfl rfl rfl
theorem e116_33 : jv_ev d 116 33 [some (.ref a), x1, x2, x3, x4, x5] st h = jv_ev d 116 34 [some (.ref a), x1, x2, x3, x4, x5] (.ref a :: st) h := jq_nx (jv_insR jm_116 dX0_feed_33) rfl
theorem e116_34 : jv_ev d 116 34 [x0, x1, x2, x3, some (.int v), x5] st h = jv_ev d 116 36 [x0, x1, x2, x3, some (.int v), x5] (.int v :: st) h := jq_nx (jv_insR jm_116 dX0_feed_34) rfl
theorem e116_36 : jv_ev d 116 36 lc [z0, .ref b] h = (jv_rc h b [(1, 117)]).bind fun y => (jv_cd d y [.ref b, z0] h).bind fun r => jv_on r (fun v h => jv_ev d 116 39 lc (v.toList ++ []) h) (fun q h => some (.inr q, h)) := jq_V (as := [z0]) (rest := []) (jv_insR jm_116 dX0_feed_36) jo_116 jV_2_121 rfl rfl rfl rfl
theorem e116_39 : jv_ev d 116 39 [some (.ref a), x1, x2, x3, x4, x5] st h = jv_ev d 116 40 [some (.ref a), x1, x2, x3, x4, x5] (.ref a :: st) h := jq_nx (jv_insR jm_116 dX0_feed_39) rfl
theorem e116_40 : jv_ev d 116 40 [x0, x1, x2, x3, x4, some (.int v)] st h = jv_ev d 116 42 [x0, x1, x2, x3, x4, some (.int v)] (.int v :: st) h := jq_nx (jv_insR jm_116 dX0_feed_40) rfl
theorem e116_42 : jv_ev d 116 42 lc [z0, .ref b] h = (jv_rc h b [(1, 117)]).bind fun y => (jv_cd d y [.ref b, z0] h).bind fun r => jv_on r (fun v h => jv_ev d 116 45 lc (v.toList ++ []) h) (fun q h => some (.inr q, h)) := jq_V (as := [z0]) (rest := []) (jv_insR jm_116 dX0_feed_42) jo_116 jV_2_121 rfl rfl rfl rfl
theorem e116_45 : jv_ev d 116 45 [some (.ref a), x1, x2, x3, x4, x5] st h = jv_ev d 116 46 [some (.ref a), x1, x2, x3, x4, x5] (.ref a :: st) h := jq_nx (jv_insR jm_116 dX0_feed_45) rfl
theorem e116_46 : jv_ev d 116 46 lc (.ref a :: st) h = (jv_gf h a [(1, 1, .object "RainLoom$Tokens")]).bind fun r => jv_ev d 116 49 lc (r :: st) h := jq_get (jv_insR jm_116 dX0_feed_46) jo_116 jF_2_24
theorem e116_49 : jv_ev d 116 49 lc (.ref a :: st) h = (jv_gf h a [(3, 2, .int)]).bind fun r => jv_ev d 116 52 lc (r :: st) h := jq_get (jv_insR jm_116 dX0_feed_49) jo_116 jF_2_118
theorem e116_52 : jv_ev d 116 52 lc [.int v] h = some (.inl (some (.int v)), h) := jq_reti (jv_insR jm_116 dX0_feed_52) jr_116
/-! 117: RainLoom.typed(I)V -/
theorem n117 : jv_cd (d + 1) 117 [.ref a0, .int i1] h = jv_ev d 117 0 [some (.ref a0), some (.int i1), none] [] h := rfl
theorem e117_0 : jv_ev d 117 0 lc st h = jv_ev d 117 2 lc (.int 24 :: st) h := jq_bipush (jv_insR jm_117 dX0_typed_0) (by decide)
theorem e117_2 : jv_ev d 117 2 [x0, x1, x2] (.int v :: st) h = jv_ev d 117 3 [x0, x1, some (.int v)] st h := jq_nx (jv_insR jm_117 dX0_typed_2) rfl
theorem e117_3 : jv_ev d 117 3 [x0, x1, some (.int v)] st h = jv_ev d 117 4 [x0, x1, some (.int v)] (.int v :: st) h := jq_nx (jv_insR jm_117 dX0_typed_3) rfl
theorem e117_4 : jv_ev d 117 4 lc (.int v :: st) h = if v < 0 then jv_ev d 117 45 lc st h else jv_ev d 117 7 lc st h := jq_if (jv_insR jm_117 dX0_typed_4) rfl (by decide)
theorem e117_7 : jv_ev d 117 7 [some (.ref a), x1, x2] st h = jv_ev d 117 8 [some (.ref a), x1, x2] (.ref a :: st) h := jq_nx (jv_insR jm_117 dX0_typed_7) rfl
theorem e117_8 : jv_ev d 117 8 lc (.ref a :: st) h = (jv_gf h a [(1, 1, .object "RainLoom$Tokens")]).bind fun r => jv_ev d 117 11 lc (r :: st) h := jq_get (jv_insR jm_117 dX0_typed_8) jo_117 jF_2_24
theorem e117_11 : jv_ev d 117 11 lc (.ref a :: st) h = (jv_gf h a [(3, 1, .array .byte)]).bind fun r => jv_ev d 117 14 lc (r :: st) h := jq_get (jv_insR jm_117 dX0_typed_11) jo_117 jF_2_125
theorem e117_14 : jv_ev d 117 14 [some (.ref a), x1, x2] st h = jv_ev d 117 15 [some (.ref a), x1, x2] (.ref a :: st) h := jq_nx (jv_insR jm_117 dX0_typed_14) rfl
theorem e117_15 : jv_ev d 117 15 lc (.ref a :: st) h = (jv_gf h a [(1, 1, .object "RainLoom$Tokens")]).bind fun r => jv_ev d 117 18 lc (r :: st) h := jq_get (jv_insR jm_117 dX0_typed_15) jo_117 jF_2_24
theorem e117_18 : jv_ev d 117 18 lc (.ref a :: st) h = (jv_gf h a [(3, 2, .int)]).bind fun r => jv_ev d 117 21 lc (r :: st) h := jq_get (jv_insR jm_117 dX0_typed_18) jo_117 jF_2_118
theorem e117_21 : jv_ev d 117 21 [x0, some (.int v), x2] st h = jv_ev d 117 22 [x0, some (.int v), x2] (.int v :: st) h := jq_nx (jv_insR jm_117 dX0_typed_21) rfl
theorem e117_22 : jv_ev d 117 22 [x0, x1, some (.int v)] st h = jv_ev d 117 23 [x0, x1, some (.int v)] (.int v :: st) h := jq_nx (jv_insR jm_117 dX0_typed_22) rfl
theorem e117_23 : jv_ev d 117 23 lc (.int w :: .int v :: st) h = jv_ev d 117 24 lc (.int (v >>> (w &&& 31)) :: st) h := jq_nx (jv_insR jm_117 dX0_typed_23) rfl
theorem e117_24 : jv_ev d 117 24 lc (.int v :: st) h = jv_ev d 117 25 lc (.int (v.toInt8.toInt32) :: st) h := jq_nx (jv_insR jm_117 dX0_typed_24) rfl
theorem e117_25 : jv_ev d 117 25 lc (.int w :: .int v :: .ref a :: st) h = (jv_ip h a 1 2 v w).bind fun h => jv_ev d 117 26 lc st h := jq_bast (jv_insR jm_117 dX0_typed_25)
theorem e117_26 : jv_ev d 117 26 [some (.ref a), x1, x2] st h = jv_ev d 117 27 [some (.ref a), x1, x2] (.ref a :: st) h := jq_nx (jv_insR jm_117 dX0_typed_26) rfl
theorem e117_27 : jv_ev d 117 27 lc (.ref a :: st) h = (jv_gf h a [(1, 1, .object "RainLoom$Tokens")]).bind fun r => jv_ev d 117 30 lc (r :: st) h := jq_get (jv_insR jm_117 dX0_typed_27) jo_117 jF_2_24
theorem e117_30 : jv_ev d 117 30 lc (.ref a :: st) h = jv_ev d 117 31 lc (.ref a :: .ref a :: st) h := jq_nx (jv_insR jm_117 dX0_typed_30) rfl
theorem e117_31 : jv_ev d 117 31 lc (.ref a :: st) h = (jv_gf h a [(3, 2, .int)]).bind fun r => jv_ev d 117 34 lc (r :: st) h := jq_get (jv_insR jm_117 dX0_typed_31) jo_117 jF_2_118
theorem e117_34 : jv_ev d 117 34 lc st h = jv_ev d 117 35 lc (.int 1 :: st) h := jq_iconst (jv_insR jm_117 dX0_typed_34) (by decide)
theorem e117_35 : jv_ev d 117 35 lc (.int w :: .int v :: st) h = jv_ev d 117 36 lc (.int (v + w) :: st) h := jq_nx (jv_insR jm_117 dX0_typed_35) rfl
theorem e117_36 : jv_ev d 117 36 lc (r :: .ref a :: st) h = (jv_pf h a [(3, 2, .int)] r).bind fun h => jv_ev d 117 39 lc st h := jq_put (jv_insR jm_117 dX0_typed_36) jo_117 ji_117 jG_2_118
theorem e117_39 : jv_ev d 117 39 [x0, x1, some (.int v)] st h = jv_ev d 117 42 [x0, x1, some (.int (v + (-8)))] st h := jq_nx (jv_insR jm_117 dX0_typed_39) rfl
theorem e117_42 : jv_ev d 117 42 lc st h = jv_ev d 117 3 lc st h := jq_go (jv_insR jm_117 dX0_typed_42) (by decide)
theorem e117_45 : jv_ev d 117 45 lc [] h = some (.inl none, h) := jq_retv (jv_insR jm_117 dX0_typed_45) jr_117
/-! 118: RainLoom.back(I)I -/
theorem n118 : jv_cd (d + 1) 118 [.ref a0, .int i1] h = jv_ev d 118 0 [some (.ref a0), some (.int i1)] [] h := rfl
theorem e118_0 : jv_ev d 118 0 [x0, some (.int v)] st h = jv_ev d 118 1 [x0, some (.int v)] (.int v :: st) h := jq_nx (jv_insR jm_118 dX0_back_0) rfl
theorem e118_1 : jv_ev d 118 1 lc (.int v :: st) h = if v < 0 then jv_ev d 118 15 lc st h else jv_ev d 118 4 lc st h := jq_if (jv_insR jm_118 dX0_back_1) rfl (by decide)
theorem e118_4 : jv_ev d 118 4 [x0, some (.int v)] st h = jv_ev d 118 5 [x0, some (.int v)] (.int v :: st) h := jq_nx (jv_insR jm_118 dX0_back_4) rfl
theorem e118_5 : jv_ev d 118 5 [some (.ref a), x1] st h = jv_ev d 118 6 [some (.ref a), x1] (.ref a :: st) h := jq_nx (jv_insR jm_118 dX0_back_5) rfl
theorem e118_6 : jv_ev d 118 6 lc (.ref a :: st) h = (jv_gf h a [(1, 1, .object "RainLoom$Tokens")]).bind fun r => jv_ev d 118 9 lc (r :: st) h := jq_get (jv_insR jm_118 dX0_back_6) jo_118 jF_2_24
theorem e118_9 : jv_ev d 118 9 lc (.ref a :: st) h = (jv_gf h a [(3, 2, .int)]).bind fun r => jv_ev d 118 12 lc (r :: st) h := jq_get (jv_insR jm_118 dX0_back_9) jo_118 jF_2_118
theorem e118_12 : jv_ev d 118 12 lc (.int w :: .int v :: st) h = if v ≤ w then jv_ev d 118 17 lc st h else jv_ev d 118 15 lc st h := jq_if (jv_insR jm_118 dX0_back_12) rfl (by decide)
theorem e118_15 : jv_ev d 118 15 lc st h = jv_ev d 118 16 lc (.int (-1) :: st) h := jq_iconst (jv_insR jm_118 dX0_back_15) (by decide)
theorem e118_16 : jv_ev d 118 16 lc [.int v] h = some (.inl (some (.int v)), h) := jq_reti (jv_insR jm_118 dX0_back_16) jr_118
theorem e118_17 : jv_ev d 118 17 [some (.ref a), x1] st h = jv_ev d 118 18 [some (.ref a), x1] (.ref a :: st) h := jq_nx (jv_insR jm_118 dX0_back_17) rfl
theorem e118_18 : jv_ev d 118 18 lc (.ref a :: st) h = (jv_gf h a [(1, 1, .object "RainLoom$Tokens")]).bind fun r => jv_ev d 118 21 lc (r :: st) h := jq_get (jv_insR jm_118 dX0_back_18) jo_118 jF_2_24
theorem e118_21 : jv_ev d 118 21 lc (.ref a :: st) h = jv_ev d 118 22 lc (.ref a :: .ref a :: st) h := jq_nx (jv_insR jm_118 dX0_back_21) rfl
theorem e118_22 : jv_ev d 118 22 lc (.ref a :: st) h = (jv_gf h a [(3, 2, .int)]).bind fun r => jv_ev d 118 25 lc (r :: st) h := jq_get (jv_insR jm_118 dX0_back_22) jo_118 jF_2_118
theorem e118_25 : jv_ev d 118 25 [x0, some (.int v)] st h = jv_ev d 118 26 [x0, some (.int v)] (.int v :: st) h := jq_nx (jv_insR jm_118 dX0_back_25) rfl
theorem e118_26 : jv_ev d 118 26 lc (.int w :: .int v :: st) h = jv_ev d 118 27 lc (.int (v - w) :: st) h := jq_nx (jv_insR jm_118 dX0_back_26) rfl
theorem e118_27 : jv_ev d 118 27 lc (r :: .ref a :: st) h = (jv_pf h a [(3, 2, .int)] r).bind fun h => jv_ev d 118 30 lc st h := jq_put (jv_insR jm_118 dX0_back_27) jo_118 ji_118 jG_2_118
theorem e118_30 : jv_ev d 118 30 [some (.ref a), x1] st h = jv_ev d 118 31 [some (.ref a), x1] (.ref a :: st) h := jq_nx (jv_insR jm_118 dX0_back_30) rfl
theorem e118_31 : jv_ev d 118 31 lc (.ref a :: st) h = (jv_gf h a [(1, 1, .object "RainLoom$Tokens")]).bind fun r => jv_ev d 118 34 lc (r :: st) h := jq_get (jv_insR jm_118 dX0_back_31) jo_118 jF_2_24
theorem e118_34 : jv_ev d 118 34 lc (.ref a :: st) h = (jv_gf h a [(3, 2, .int)]).bind fun r => jv_ev d 118 37 lc (r :: st) h := jq_get (jv_insR jm_118 dX0_back_34) jo_118 jF_2_118
theorem e118_37 : jv_ev d 118 37 lc [.int v] h = some (.inl (some (.int v)), h) := jq_reti (jv_insR jm_118 dX0_back_37) jr_118
/-! 119: RainLoom.read()I -/
theorem n119 : jv_cd (d + 1) 119 [.ref a0] h = jv_ev d 119 0 [some (.ref a0), none, none] [] h := rfl
theorem e119_0 : jv_ev d 119 0 lc st h = jv_ev d 119 1 lc (.int 0 :: st) h := jq_iconst (jv_insR jm_119 dX0_read_0) (by decide)
theorem e119_1 : jv_ev d 119 1 [x0, x1, x2] (.int v :: st) h = jv_ev d 119 2 [x0, some (.int v), x2] st h := jq_nx (jv_insR jm_119 dX0_read_1) rfl
theorem e119_2 : jv_ev d 119 2 [some (.ref a), x1, x2] st h = jv_ev d 119 3 [some (.ref a), x1, x2] (.ref a :: st) h := jq_nx (jv_insR jm_119 dX0_read_2) rfl
theorem e119_3 : jv_ev d 119 3 lc st h = jv_ev d 119 4 lc (.int (-1) :: st) h := jq_iconst (jv_insR jm_119 dX0_read_3) (by decide)
theorem e119_4 : jv_ev d 119 4 lc (r :: .ref a :: st) h = (jv_pf h a [(1, 4, .int)] r).bind fun h => jv_ev d 119 7 lc st h := jq_put (jv_insR jm_119 dX0_read_4) jo_119 ji_119 jG_2_44
theorem e119_7 : jv_ev d 119 7 [some (.ref a), x1, x2] st h = jv_ev d 119 8 [some (.ref a), x1, x2] (.ref a :: st) h := jq_nx (jv_insR jm_119 dX0_read_7) rfl
theorem e119_8 : jv_ev d 119 8 [some (.ref a), x1, x2] st h = jv_ev d 119 9 [some (.ref a), x1, x2] (.ref a :: st) h := jq_nx (jv_insR jm_119 dX0_read_8) rfl
theorem e119_9 : jv_ev d 119 9 lc (.ref a :: st) h = (jv_gf h a [(1, 2, .object "RainLoom$Parser")]).bind fun r => jv_ev d 119 12 lc (r :: st) h := jq_get (jv_insR jm_119 dX0_read_9) jo_119 jF_2_33
theorem e119_15 : jv_ev d 119 15 lc (r :: .ref a :: st) h = (jv_pf h a [(1, 3, .object "RainLoom$Text")] r).bind fun h => jv_ev d 119 18 lc st h := jq_put (jv_insR jm_119 dX0_read_15) jo_119 ji_119 jG_2_40
theorem e119_18 : jv_ev d 119 18 [some (.ref a), x1, x2] st h = jv_ev d 119 19 [some (.ref a), x1, x2] (.ref a :: st) h := jq_nx (jv_insR jm_119 dX0_read_18) rfl
theorem e119_19 : jv_ev d 119 19 lc (.ref a :: st) h = (jv_gf h a [(1, 7, .object "RainLoom$Land")]).bind fun r => jv_ev d 119 22 lc (r :: st) h := jq_get (jv_insR jm_119 dX0_read_19) jo_119 jF_2_51
theorem e119_22 : jv_ev d 119 22 [some (.ref a), x1, x2] st h = jv_ev d 119 23 [some (.ref a), x1, x2] (.ref a :: st) h := jq_nx (jv_insR jm_119 dX0_read_22) rfl
theorem e119_23 : jv_ev d 119 23 lc (.ref a :: st) h = (jv_gf h a [(1, 3, .object "RainLoom$Text")]).bind fun r => jv_ev d 119 26 lc (r :: st) h := jq_get (jv_insR jm_119 dX0_read_23) jo_119 jF_2_40
theorem e119_29 : jv_ev d 119 29 [some (.ref a), x1, x2] st h = jv_ev d 119 30 [some (.ref a), x1, x2] (.ref a :: st) h := jq_nx (jv_insR jm_119 dX0_read_29) rfl
theorem e119_30 : jv_ev d 119 30 lc st h = jv_ev d 119 31 lc (.int 0 :: st) h := jq_iconst (jv_insR jm_119 dX0_read_30) (by decide)
theorem e119_31 : jv_ev d 119 31 lc (r :: .ref a :: st) h = (jv_pf h a [(1, 5, .int)] r).bind fun h => jv_ev d 119 34 lc st h := jq_put (jv_insR jm_119 dX0_read_31) jo_119 ji_119 jG_2_133
theorem e119_34 : jv_ev d 119 34 [some (.ref a), x1, x2] st h = jv_ev d 119 35 [some (.ref a), x1, x2] (.ref a :: st) h := jq_nx (jv_insR jm_119 dX0_read_34) rfl
theorem e119_35 : jv_ev d 119 35 lc st h = jv_ev d 119 36 lc (.int 0 :: st) h := jq_iconst (jv_insR jm_119 dX0_read_35) (by decide)
theorem e119_36 : jv_ev d 119 36 lc (r :: .ref a :: st) h = (jv_pf h a [(1, 21, .int)] r).bind fun h => jv_ev d 119 39 lc st h := jq_put (jv_insR jm_119 dX0_read_36) jo_119 ji_119 jG_2_136
theorem e119_39 : jv_ev d 119 39 lc st h = jv_ev d 119 40 lc (.int 0 :: st) h := jq_iconst (jv_insR jm_119 dX0_read_39) (by decide)
theorem e119_40 : jv_ev d 119 40 [x0, x1, x2] (.int v :: st) h = jv_ev d 119 41 [x0, x1, some (.int v)] st h := jq_nx (jv_insR jm_119 dX0_read_40) rfl
theorem e119_41 : jv_ev d 119 41 [x0, x1, some (.int v)] st h = jv_ev d 119 42 [x0, x1, some (.int v)] (.int v :: st) h := jq_nx (jv_insR jm_119 dX0_read_41) rfl
theorem e119_42 : jv_ev d 119 42 lc st h = jv_ev d 119 43 lc (.int 3 :: st) h := jq_iconst (jv_insR jm_119 dX0_read_42) (by decide)
theorem e119_43 : jv_ev d 119 43 lc (.int w :: .int v :: st) h = if w ≤ v then jv_ev d 119 59 lc st h else jv_ev d 119 46 lc st h := jq_if (jv_insR jm_119 dX0_read_43) rfl (by decide)
theorem e119_46 : jv_ev d 119 46 [some (.ref a), x1, x2] st h = jv_ev d 119 47 [some (.ref a), x1, x2] (.ref a :: st) h := jq_nx (jv_insR jm_119 dX0_read_46) rfl
theorem e119_47 : jv_ev d 119 47 lc (.ref a :: st) h = (jv_gf h a [(1, 12, .array .boolean)]).bind fun r => jv_ev d 119 50 lc (r :: st) h := jq_get (jv_insR jm_119 dX0_read_47) jo_119 jF_2_83
theorem e119_50 : jv_ev d 119 50 [x0, x1, some (.int v)] st h = jv_ev d 119 51 [x0, x1, some (.int v)] (.int v :: st) h := jq_nx (jv_insR jm_119 dX0_read_50) rfl
theorem e119_51 : jv_ev d 119 51 lc st h = jv_ev d 119 52 lc (.int 0 :: st) h := jq_iconst (jv_insR jm_119 dX0_read_51) (by decide)
theorem e119_52 : jv_ev d 119 52 lc (.int w :: .int v :: .ref a :: st) h = (jv_ip h a 1 2 v w).bind fun h => jv_ev d 119 53 lc st h := jq_bast (jv_insR jm_119 dX0_read_52)
theorem e119_53 : jv_ev d 119 53 [x0, x1, some (.int v)] st h = jv_ev d 119 56 [x0, x1, some (.int (v + 1))] st h := jq_nx (jv_insR jm_119 dX0_read_53) rfl
theorem e119_56 : jv_ev d 119 56 lc st h = jv_ev d 119 41 lc st h := jq_go (jv_insR jm_119 dX0_read_56) (by decide)
theorem e119_59 : jv_ev d 119 59 lc st h = jv_ev d 119 76 lc st h := jq_go (jv_insR jm_119 dX0_read_59) (by decide)
theorem e119_62 : jv_ev d 119 62 [x0, x1, x2] (.ref a :: st) h = jv_ev d 119 63 [x0, x1, some (.ref a)] st h := jq_nx (jv_insR jm_119 dX0_read_62) rfl
theorem e119_63 : jv_ev d 119 63 [x0, x1, some (.ref a)] st h = jv_ev d 119 64 [x0, x1, some (.ref a)] (.ref a :: st) h := jq_nx (jv_insR jm_119 dX0_read_63) rfl
theorem e119_64 : jv_ev d 119 64 lc (.ref a :: st) h = (jv_gf h a [(2, 6, .int)]).bind fun r => jv_ev d 119 67 lc (r :: st) h := jq_get (jv_insR jm_119 dX0_read_64) jo_119 jF_2_139
theorem e119_67 : jv_ev d 119 67 [x0, x1, x2] (.int v :: st) h = jv_ev d 119 68 [x0, some (.int v), x2] st h := jq_nx (jv_insR jm_119 dX0_read_67) rfl
theorem e119_68 : jv_ev d 119 68 [some (.ref a), x1, x2] st h = jv_ev d 119 69 [some (.ref a), x1, x2] (.ref a :: st) h := jq_nx (jv_insR jm_119 dX0_read_68) rfl
theorem e119_69 : jv_ev d 119 69 [x0, x1, some (.ref a)] st h = jv_ev d 119 70 [x0, x1, some (.ref a)] (.ref a :: st) h := jq_nx (jv_insR jm_119 dX0_read_69) rfl
theorem e119_70 : jv_ev d 119 70 lc (.ref a :: st) h = (jv_gf h a [(2, 7, .int)]).bind fun r => jv_ev d 119 73 lc (r :: st) h := jq_get (jv_insR jm_119 dX0_read_70) jo_119 jF_2_142
theorem e119_73 : jv_ev d 119 73 lc (r :: .ref a :: st) h = (jv_pf h a [(1, 4, .int)] r).bind fun h => jv_ev d 119 76 lc st h := jq_put (jv_insR jm_119 dX0_read_73) jo_119 ji_119 jG_2_44
theorem e119_76 : jv_ev d 119 76 [some (.ref a), x1, x2] st h = jv_ev d 119 77 [some (.ref a), x1, x2] (.ref a :: st) h := jq_nx (jv_insR jm_119 dX0_read_76) rfl
theorem e119_77 : jv_ev d 119 77 lc (.ref a :: st) h = (jv_gf h a [(1, 1, .object "RainLoom$Tokens")]).bind fun r => jv_ev d 119 80 lc (r :: st) h := jq_get (jv_insR jm_119 dX0_read_77) jo_119 jF_2_24
theorem e119_80 : jv_ev d 119 80 lc st h = jv_ev d 119 81 lc (.int 0 :: st) h := jq_iconst (jv_insR jm_119 dX0_read_80) (by decide)
theorem e119_81 : jv_ev d 119 81 lc (r :: .ref a :: st) h = (jv_pf h a [(3, 2, .int)] r).bind fun h => jv_ev d 119 84 lc st h := jq_put (jv_insR jm_119 dX0_read_81) jo_119 ji_119 jG_2_118
theorem e119_84 : jv_ev d 119 84 [x0, some (.int v), x2] st h = jv_ev d 119 85 [x0, some (.int v), x2] (.int v :: st) h := jq_nx (jv_insR jm_119 dX0_read_84) rfl
theorem e119_85 : jv_ev d 119 85 lc [.int v] h = some (.inl (some (.int v)), h) := jq_reti (jv_insR jm_119 dX0_read_85) jr_119
/-! 120: RainLoom.place()I -/
theorem n120 : jv_cd (d + 1) 120 [.ref a0] h = jv_ev d 120 0 [some (.ref a0)] [] h := rfl
theorem e120_0 : jv_ev d 120 0 [some (.ref a)] st h = jv_ev d 120 1 [some (.ref a)] (.ref a :: st) h := jq_nx (jv_insR jm_120 dX0_place_0) rfl
theorem e120_1 : jv_ev d 120 1 lc (.ref a :: st) h = (jv_gf h a [(1, 4, .int)]).bind fun r => jv_ev d 120 4 lc (r :: st) h := jq_get (jv_insR jm_120 dX0_place_1) jo_120 jF_2_44
theorem e120_4 : jv_ev d 120 4 lc [.int v] h = some (.inl (some (.int v)), h) := jq_reti (jv_insR jm_120 dX0_place_4) jr_120
/-! 121: RainLoom.cell(III)I -/
theorem n121 : jv_cd (d + 1) 121 [.ref a0, .int i1, .int i2, .int i3] h = jv_ev d 121 0 [some (.ref a0), some (.int i1), some (.int i2), some (.int i3), none] [] h := rfl
theorem e121_0 : jv_ev d 121 0 [some (.ref a), x1, x2, x3, x4] st h = jv_ev d 121 1 [some (.ref a), x1, x2, x3, x4] (.ref a :: st) h := jq_nx (jv_insR jm_121 dX0_cell_0) rfl
theorem e121_1 : jv_ev d 121 1 lc (.ref a :: st) h = (jv_gf h a [(1, 3, .object "RainLoom$Text")]).bind fun r => jv_ev d 121 4 lc (r :: st) h := jq_get (jv_insR jm_121 dX0_cell_1) jo_121 jF_2_40
theorem e121_4 : jv_ev d 121 4 [x0, some (.int v), x2, x3, x4] st h = jv_ev d 121 5 [x0, some (.int v), x2, x3, x4] (.int v :: st) h := jq_nx (jv_insR jm_121 dX0_cell_4) rfl
theorem e121_5 : jv_ev d 121 5 [x0, x1, some (.int v), x3, x4] st h = jv_ev d 121 6 [x0, x1, some (.int v), x3, x4] (.int v :: st) h := jq_nx (jv_insR jm_121 dX0_cell_5) rfl
theorem e121_6 : jv_ev d 121 6 lc [z1, z0, .ref b] h = (jv_rc h b [(5, 212)]).bind fun y => (jv_cd d y [.ref b, z0, z1] h).bind fun r => jv_on r (fun v h => jv_ev d 121 9 lc (v.toList ++ []) h) (fun q h => some (.inr q, h)) := jq_V (as := [z0, z1]) (rest := []) (jv_insR jm_121 dX0_cell_6) jo_121 jV_2_179 rfl rfl rfl rfl
theorem e121_9 : jv_ev d 121 9 lc (.int v :: st) h = if ¬ v = 0 then jv_ev d 121 14 lc st h else jv_ev d 121 12 lc st h := jq_if (jv_insR jm_121 dX0_cell_9) rfl (by decide)
theorem e121_12 : jv_ev d 121 12 lc st h = jv_ev d 121 13 lc (.int (-1) :: st) h := jq_iconst (jv_insR jm_121 dX0_cell_12) (by decide)
theorem e121_13 : jv_ev d 121 13 lc [.int v] h = some (.inl (some (.int v)), h) := jq_reti (jv_insR jm_121 dX0_cell_13) jr_121
theorem e121_14 : jv_ev d 121 14 [x0, x1, some (.int v), x3, x4] st h = jv_ev d 121 15 [x0, x1, some (.int v), x3, x4] (.int v :: st) h := jq_nx (jv_insR jm_121 dX0_cell_14) rfl
theorem e121_15 : jv_ev d 121 15 lc st h = jv_ev d 121 17 lc (.int 8 :: st) h := jq_bipush (jv_insR jm_121 dX0_cell_15) (by decide)
theorem e121_17 : jv_ev d 121 17 lc (.int w :: .int v :: st) h = jv_ev d 121 18 lc (.int (v * w) :: st) h := jq_nx (jv_insR jm_121 dX0_cell_17) rfl
theorem e121_18 : jv_ev d 121 18 [x0, some (.int v), x2, x3, x4] st h = jv_ev d 121 19 [x0, some (.int v), x2, x3, x4] (.int v :: st) h := jq_nx (jv_insR jm_121 dX0_cell_18) rfl
theorem e121_19 : jv_ev d 121 19 lc (.int w :: .int v :: st) h = jv_ev d 121 20 lc (.int (v + w) :: st) h := jq_nx (jv_insR jm_121 dX0_cell_19) rfl
theorem e121_20 : jv_ev d 121 20 [x0, x1, x2, x3, x4] (.int v :: st) h = jv_ev d 121 22 [x0, x1, x2, x3, some (.int v)] st h := jq_nx (jv_insR jm_121 dX0_cell_20) rfl
theorem e121_22 : jv_ev d 121 22 [x0, x1, x2, some (.int v), x4] st h = jv_ev d 121 23 [x0, x1, x2, some (.int v), x4] (.int v :: st) h := jq_nx (jv_insR jm_121 dX0_cell_22) rfl
theorem e121_23 : jv_ev d 121 23 lc (.int v :: st) h = jv_tsl (fun t => jv_ev d 121 t lc st h) v [(0, 52), (1, 63), (2, 74), (3, 96)] 118 := jq_ts (jv_insR jm_121 dX0_cell_23) [(0, 52), (1, 63), (2, 74), (3, 96)] 118 (by decide) (by decide) (by decide) (by decide)
theorem e121_52 : jv_ev d 121 52 [some (.ref a), x1, x2, x3, x4] st h = jv_ev d 121 53 [some (.ref a), x1, x2, x3, x4] (.ref a :: st) h := jq_nx (jv_insR jm_121 dX0_cell_52) rfl
theorem e121_53 : jv_ev d 121 53 lc (.ref a :: st) h = (jv_gf h a [(1, 3, .object "RainLoom$Text")]).bind fun r => jv_ev d 121 56 lc (r :: st) h := jq_get (jv_insR jm_121 dX0_cell_53) jo_121 jF_2_40
theorem e121_56 : jv_ev d 121 56 lc (.ref a :: st) h = (jv_gf h a [(5, 0, .array .int)]).bind fun r => jv_ev d 121 59 lc (r :: st) h := jq_get (jv_insR jm_121 dX0_cell_56) jo_121 jF_2_183
theorem e121_59 : jv_ev d 121 59 [x0, x1, x2, x3, some (.int v)] st h = jv_ev d 121 61 [x0, x1, x2, x3, some (.int v)] (.int v :: st) h := jq_nx (jv_insR jm_121 dX0_cell_59) rfl
theorem e121_61 : jv_ev d 121 61 lc (.int v :: .ref a :: st) h = (jv_ig h a 0 0 v).bind fun w => jv_ev d 121 62 lc (.int w :: st) h := jq_iald (jv_insR jm_121 dX0_cell_61)
theorem e121_62 : jv_ev d 121 62 lc [.int v] h = some (.inl (some (.int v)), h) := jq_reti (jv_insR jm_121 dX0_cell_62) jr_121
theorem e121_63 : jv_ev d 121 63 [some (.ref a), x1, x2, x3, x4] st h = jv_ev d 121 64 [some (.ref a), x1, x2, x3, x4] (.ref a :: st) h := jq_nx (jv_insR jm_121 dX0_cell_63) rfl
theorem e121_64 : jv_ev d 121 64 lc (.ref a :: st) h = (jv_gf h a [(1, 7, .object "RainLoom$Land")]).bind fun r => jv_ev d 121 67 lc (r :: st) h := jq_get (jv_insR jm_121 dX0_cell_64) jo_121 jF_2_51
theorem e121_67 : jv_ev d 121 67 lc (.ref a :: st) h = (jv_gf h a [(6, 0, .array .int)]).bind fun r => jv_ev d 121 70 lc (r :: st) h := jq_get (jv_insR jm_121 dX0_cell_67) jo_121 jF_2_186
theorem e121_70 : jv_ev d 121 70 [x0, x1, x2, x3, some (.int v)] st h = jv_ev d 121 72 [x0, x1, x2, x3, some (.int v)] (.int v :: st) h := jq_nx (jv_insR jm_121 dX0_cell_70) rfl
theorem e121_72 : jv_ev d 121 72 lc (.int v :: .ref a :: st) h = (jv_ig h a 0 0 v).bind fun w => jv_ev d 121 73 lc (.int w :: st) h := jq_iald (jv_insR jm_121 dX0_cell_72)
theorem e121_73 : jv_ev d 121 73 lc [.int v] h = some (.inl (some (.int v)), h) := jq_reti (jv_insR jm_121 dX0_cell_73) jr_121
theorem e121_74 : jv_ev d 121 74 [some (.ref a), x1, x2, x3, x4] st h = jv_ev d 121 75 [some (.ref a), x1, x2, x3, x4] (.ref a :: st) h := jq_nx (jv_insR jm_121 dX0_cell_74) rfl
theorem e121_75 : jv_ev d 121 75 lc (.ref a :: st) h = (jv_gf h a [(1, 7, .object "RainLoom$Land")]).bind fun r => jv_ev d 121 78 lc (r :: st) h := jq_get (jv_insR jm_121 dX0_cell_75) jo_121 jF_2_51
theorem e121_78 : jv_ev d 121 78 [some (.ref a), x1, x2, x3, x4] st h = jv_ev d 121 79 [some (.ref a), x1, x2, x3, x4] (.ref a :: st) h := jq_nx (jv_insR jm_121 dX0_cell_78) rfl
theorem e121_79 : jv_ev d 121 79 lc (.ref a :: st) h = (jv_gf h a [(1, 3, .object "RainLoom$Text")]).bind fun r => jv_ev d 121 82 lc (r :: st) h := jq_get (jv_insR jm_121 dX0_cell_79) jo_121 jF_2_40
theorem e121_82 : jv_ev d 121 82 [x0, x1, x2, x3, some (.int v)] st h = jv_ev d 121 84 [x0, x1, x2, x3, some (.int v)] (.int v :: st) h := jq_nx (jv_insR jm_121 dX0_cell_82) rfl
theorem e121_84 : jv_ev d 121 84 lc [z1, z0, .ref b] h = (jv_rc h b [(6, 219)]).bind fun y => (jv_cd d y [.ref b, z0, z1] h).bind fun r => jv_on r (fun v h => jv_ev d 121 87 lc (v.toList ++ []) h) (fun q h => some (.inr q, h)) := jq_V (as := [z0, z1]) (rest := []) (jv_insR jm_121 dX0_cell_84) jo_121 jV_2_189 rfl rfl rfl rfl
theorem e121_87 : jv_ev d 121 87 lc (.int v :: st) h = if v = 0 then jv_ev d 121 94 lc st h else jv_ev d 121 90 lc st h := jq_if (jv_insR jm_121 dX0_cell_87) rfl (by decide)
theorem e121_90 : jv_ev d 121 90 lc st h = jv_ev d 121 91 lc (.int 1 :: st) h := jq_iconst (jv_insR jm_121 dX0_cell_90) (by decide)
theorem e121_91 : jv_ev d 121 91 lc st h = jv_ev d 121 95 lc st h := jq_go (jv_insR jm_121 dX0_cell_91) (by decide)
theorem e121_94 : jv_ev d 121 94 lc st h = jv_ev d 121 95 lc (.int 0 :: st) h := jq_iconst (jv_insR jm_121 dX0_cell_94) (by decide)
theorem e121_95 : jv_ev d 121 95 lc [.int v] h = some (.inl (some (.int v)), h) := jq_reti (jv_insR jm_121 dX0_cell_95) jr_121
theorem e121_96 : jv_ev d 121 96 [some (.ref a), x1, x2, x3, x4] st h = jv_ev d 121 97 [some (.ref a), x1, x2, x3, x4] (.ref a :: st) h := jq_nx (jv_insR jm_121 dX0_cell_96) rfl
theorem e121_97 : jv_ev d 121 97 lc (.ref a :: st) h = (jv_gf h a [(1, 7, .object "RainLoom$Land")]).bind fun r => jv_ev d 121 100 lc (r :: st) h := jq_get (jv_insR jm_121 dX0_cell_97) jo_121 jF_2_51
theorem e121_100 : jv_ev d 121 100 [some (.ref a), x1, x2, x3, x4] st h = jv_ev d 121 101 [some (.ref a), x1, x2, x3, x4] (.ref a :: st) h := jq_nx (jv_insR jm_121 dX0_cell_100) rfl
theorem e121_101 : jv_ev d 121 101 lc (.ref a :: st) h = (jv_gf h a [(1, 3, .object "RainLoom$Text")]).bind fun r => jv_ev d 121 104 lc (r :: st) h := jq_get (jv_insR jm_121 dX0_cell_101) jo_121 jF_2_40
theorem e121_104 : jv_ev d 121 104 [x0, x1, x2, x3, some (.int v)] st h = jv_ev d 121 106 [x0, x1, x2, x3, some (.int v)] (.int v :: st) h := jq_nx (jv_insR jm_121 dX0_cell_104) rfl
theorem e121_106 : jv_ev d 121 106 lc [z1, z0, .ref b] h = (jv_rc h b [(6, 220)]).bind fun y => (jv_cd d y [.ref b, z0, z1] h).bind fun r => jv_on r (fun v h => jv_ev d 121 109 lc (v.toList ++ []) h) (fun q h => some (.inr q, h)) := jq_V (as := [z0, z1]) (rest := []) (jv_insR jm_121 dX0_cell_106) jo_121 jV_2_193 rfl rfl rfl rfl
theorem e121_109 : jv_ev d 121 109 lc (.int v :: st) h = if v = 0 then jv_ev d 121 116 lc st h else jv_ev d 121 112 lc st h := jq_if (jv_insR jm_121 dX0_cell_109) rfl (by decide)
theorem e121_112 : jv_ev d 121 112 lc st h = jv_ev d 121 113 lc (.int 1 :: st) h := jq_iconst (jv_insR jm_121 dX0_cell_112) (by decide)
theorem e121_113 : jv_ev d 121 113 lc st h = jv_ev d 121 117 lc st h := jq_go (jv_insR jm_121 dX0_cell_113) (by decide)
theorem e121_116 : jv_ev d 121 116 lc st h = jv_ev d 121 117 lc (.int 0 :: st) h := jq_iconst (jv_insR jm_121 dX0_cell_116) (by decide)
theorem e121_117 : jv_ev d 121 117 lc [.int v] h = some (.inl (some (.int v)), h) := jq_reti (jv_insR jm_121 dX0_cell_117) jr_121
theorem e121_118 : jv_ev d 121 118 lc st h = jv_ev d 121 119 lc (.int (-1) :: st) h := jq_iconst (jv_insR jm_121 dX0_cell_118) (by decide)
theorem e121_119 : jv_ev d 121 119 lc [.int v] h = some (.inl (some (.int v)), h) := jq_reti (jv_insR jm_121 dX0_cell_119) jr_121
/-! 122: RainLoom.field(II)I -/
theorem n122 : jv_cd (d + 1) 122 [.ref a0, .int i1, .int i2] h = jv_ev d 122 0 [some (.ref a0), some (.int i1), some (.int i2), none, none, none] [] h := rfl
theorem e122_0 : jv_ev d 122 0 [x0, some (.int v), x2, x3, x4, x5] st h = jv_ev d 122 1 [x0, some (.int v), x2, x3, x4, x5] (.int v :: st) h := jq_nx (jv_insR jm_122 dX0_field_0) rfl
theorem e122_1 : jv_ev d 122 1 lc st h = jv_ev d 122 2 lc (.int 0 :: st) h := jq_iconst (jv_insR jm_122 dX0_field_1) (by decide)
theorem e122_2 : jv_ev d 122 2 [some (.ref a), x1, x2, x3, x4, x5] st h = jv_ev d 122 3 [some (.ref a), x1, x2, x3, x4, x5] (.ref a :: st) h := jq_nx (jv_insR jm_122 dX0_field_2) rfl
theorem e122_3 : jv_ev d 122 3 lc [.ref b, y0, y1] h = (jv_rc h b [(1, 123)]).bind fun y => (jv_cd d y [.ref b] h).bind fun r => jv_on r (fun v h => jv_ev d 122 6 lc (v.toList ++ [y0, y1]) h) (fun q h => some (.inr q, h)) := jq_V (as := []) (rest := [y0, y1]) (jv_insR jm_122 dX0_field_3) jo_122 jV_2_196 rfl rfl rfl rfl
theorem e122_6 : jv_ev d 122 6 lc st h = jv_ev d 122 7 lc (.int 1 :: st) h := jq_iconst (jv_insR jm_122 dX0_field_6) (by decide)
theorem e122_7 : jv_ev d 122 7 lc (.int w :: .int v :: st) h = jv_ev d 122 8 lc (.int (v - w) :: st) h := jq_nx (jv_insR jm_122 dX0_field_7) rfl
theorem e122_8 : jv_ev d 122 8 lc [z2, z1, z0] h = (jv_cd d 124 [z0, z1, z2] h).bind fun r => jv_on r (fun v h => jv_ev d 122 11 lc (v.toList ++ []) h) (fun q h => some (.inr q, h)) := jq_S (as := [z0, z1, z2]) (rest := []) (jv_insR jm_122 dX0_field_8) jo_122 jT_2_158 rfl rfl rfl rfl
theorem e122_11 : jv_ev d 122 11 lc (.int v :: st) h = if ¬ v = 0 then jv_ev d 122 16 lc st h else jv_ev d 122 14 lc st h := jq_if (jv_insR jm_122 dX0_field_11) rfl (by decide)
theorem e122_14 : jv_ev d 122 14 lc st h = jv_ev d 122 15 lc (.int (-1) :: st) h := jq_iconst (jv_insR jm_122 dX0_field_14) (by decide)
theorem e122_15 : jv_ev d 122 15 lc [.int v] h = some (.inl (some (.int v)), h) := jq_reti (jv_insR jm_122 dX0_field_15) jr_122
theorem e122_16 : jv_ev d 122 16 lc st h = jv_ev d 122 17 lc (.int 0 :: st) h := jq_iconst (jv_insR jm_122 dX0_field_16) (by decide)
theorem e122_17 : jv_ev d 122 17 [x0, x1, x2, x3, x4, x5] (.int v :: st) h = jv_ev d 122 18 [x0, x1, x2, some (.int v), x4, x5] st h := jq_nx (jv_insR jm_122 dX0_field_17) rfl
theorem e122_18 : jv_ev d 122 18 lc st h = jv_ev d 122 19 lc (.int 0 :: st) h := jq_iconst (jv_insR jm_122 dX0_field_18) (by decide)
theorem e122_19 : jv_ev d 122 19 [x0, x1, x2, x3, x4, x5] (.int v :: st) h = jv_ev d 122 21 [x0, x1, x2, x3, some (.int v), x5] st h := jq_nx (jv_insR jm_122 dX0_field_19) rfl
theorem e122_21 : jv_ev d 122 21 lc st h = jv_ev d 122 22 lc (.int 0 :: st) h := jq_iconst (jv_insR jm_122 dX0_field_21) (by decide)
theorem e122_22 : jv_ev d 122 22 [x0, x1, x2, x3, x4, x5] (.int v :: st) h = jv_ev d 122 24 [x0, x1, x2, x3, x4, some (.int v)] st h := jq_nx (jv_insR jm_122 dX0_field_22) rfl
theorem e122_24 : jv_ev d 122 24 [x0, x1, x2, x3, x4, some (.int v)] st h = jv_ev d 122 26 [x0, x1, x2, x3, x4, some (.int v)] (.int v :: st) h := jq_nx (jv_insR jm_122 dX0_field_24) rfl
theorem e122_26 : jv_ev d 122 26 lc st h = jv_ev d 122 28 lc (.int 48 :: st) h := jq_bipush (jv_insR jm_122 dX0_field_26) (by decide)
theorem e122_28 : jv_ev d 122 28 lc (.int w :: .int v :: st) h = if w ≤ v then jv_ev d 122 84 lc st h else jv_ev d 122 31 lc st h := jq_if (jv_insR jm_122 dX0_field_28) rfl (by decide)
theorem e122_31 : jv_ev d 122 31 [some (.ref a), x1, x2, x3, x4, x5] st h = jv_ev d 122 32 [some (.ref a), x1, x2, x3, x4, x5] (.ref a :: st) h := jq_nx (jv_insR jm_122 dX0_field_31) rfl
theorem e122_32 : jv_ev d 122 32 lc (.ref a :: st) h = (jv_gf h a [(1, 3, .object "RainLoom$Text")]).bind fun r => jv_ev d 122 35 lc (r :: st) h := jq_get (jv_insR jm_122 dX0_field_32) jo_122 jF_2_40
theorem e122_35 : jv_ev d 122 35 [x0, x1, x2, x3, x4, some (.int v)] st h = jv_ev d 122 37 [x0, x1, x2, x3, x4, some (.int v)] (.int v :: st) h := jq_nx (jv_insR jm_122 dX0_field_35) rfl
theorem e122_37 : jv_ev d 122 37 lc [z0, .ref b] h = (jv_rc h b [(5, 211)]).bind fun y => (jv_cd d y [.ref b, z0] h).bind fun r => jv_on r (fun v h => jv_ev d 122 40 lc (v.toList ++ []) h) (fun q h => some (.inr q, h)) := jq_V (as := [z0]) (rest := []) (jv_insR jm_122 dX0_field_37) jo_122 jV_2_198 rfl rfl rfl rfl
theorem e122_40 : jv_ev d 122 40 lc (.int v :: st) h = if v = 0 then jv_ev d 122 78 lc st h else jv_ev d 122 43 lc st h := jq_if (jv_insR jm_122 dX0_field_40) rfl (by decide)
theorem e122_43 : jv_ev d 122 43 [some (.ref a), x1, x2, x3, x4, x5] st h = jv_ev d 122 44 [some (.ref a), x1, x2, x3, x4, x5] (.ref a :: st) h := jq_nx (jv_insR jm_122 dX0_field_43) rfl
theorem e122_44 : jv_ev d 122 44 lc (.ref a :: st) h = (jv_gf h a [(1, 3, .object "RainLoom$Text")]).bind fun r => jv_ev d 122 47 lc (r :: st) h := jq_get (jv_insR jm_122 dX0_field_44) jo_122 jF_2_40
theorem e122_47 : jv_ev d 122 47 lc (.ref a :: st) h = (jv_gf h a [(5, 0, .array .int)]).bind fun r => jv_ev d 122 50 lc (r :: st) h := jq_get (jv_insR jm_122 dX0_field_47) jo_122 jF_2_183
theorem e122_50 : jv_ev d 122 50 [x0, x1, x2, x3, x4, some (.int v)] st h = jv_ev d 122 52 [x0, x1, x2, x3, x4, some (.int v)] (.int v :: st) h := jq_nx (jv_insR jm_122 dX0_field_50) rfl
theorem e122_52 : jv_ev d 122 52 lc (.int v :: .ref a :: st) h = (jv_ig h a 0 0 v).bind fun w => jv_ev d 122 53 lc (.int w :: st) h := jq_iald (jv_insR jm_122 dX0_field_52)
theorem e122_53 : jv_ev d 122 53 [x0, some (.int v), x2, x3, x4, x5] st h = jv_ev d 122 54 [x0, some (.int v), x2, x3, x4, x5] (.int v :: st) h := jq_nx (jv_insR jm_122 dX0_field_53) rfl
theorem e122_54 : jv_ev d 122 54 lc (.int w :: .int v :: st) h = if v = w then jv_ev d 122 60 lc st h else jv_ev d 122 57 lc st h := jq_if (jv_insR jm_122 dX0_field_54) rfl (by decide)
theorem e122_57 : jv_ev d 122 57 lc st h = jv_ev d 122 78 lc st h := jq_go (jv_insR jm_122 dX0_field_57) (by decide)
theorem e122_60 : jv_ev d 122 60 [x0, x1, x2, some (.int v), x4, x5] st h = jv_ev d 122 63 [x0, x1, x2, some (.int (v + 1)), x4, x5] st h := jq_nx (jv_insR jm_122 dX0_field_60) rfl
theorem e122_63 : jv_ev d 122 63 [x0, x1, x2, x3, some (.int v), x5] st h = jv_ev d 122 65 [x0, x1, x2, x3, some (.int v), x5] (.int v :: st) h := jq_nx (jv_insR jm_122 dX0_field_63) rfl
theorem e122_65 : jv_ev d 122 65 [some (.ref a), x1, x2, x3, x4, x5] st h = jv_ev d 122 66 [some (.ref a), x1, x2, x3, x4, x5] (.ref a :: st) h := jq_nx (jv_insR jm_122 dX0_field_65) rfl
theorem e122_66 : jv_ev d 122 66 lc (.ref a :: st) h = (jv_gf h a [(1, 7, .object "RainLoom$Land")]).bind fun r => jv_ev d 122 69 lc (r :: st) h := jq_get (jv_insR jm_122 dX0_field_66) jo_122 jF_2_51
theorem e122_69 : jv_ev d 122 69 lc (.ref a :: st) h = (jv_gf h a [(6, 0, .array .int)]).bind fun r => jv_ev d 122 72 lc (r :: st) h := jq_get (jv_insR jm_122 dX0_field_69) jo_122 jF_2_186
theorem e122_72 : jv_ev d 122 72 [x0, x1, x2, x3, x4, some (.int v)] st h = jv_ev d 122 74 [x0, x1, x2, x3, x4, some (.int v)] (.int v :: st) h := jq_nx (jv_insR jm_122 dX0_field_72) rfl
theorem e122_74 : jv_ev d 122 74 lc (.int v :: .ref a :: st) h = (jv_ig h a 0 0 v).bind fun w => jv_ev d 122 75 lc (.int w :: st) h := jq_iald (jv_insR jm_122 dX0_field_74)
theorem e122_75 : jv_ev d 122 75 lc (.int w :: .int v :: st) h = jv_ev d 122 76 lc (.int (v + w) :: st) h := jq_nx (jv_insR jm_122 dX0_field_75) rfl
theorem e122_76 : jv_ev d 122 76 [x0, x1, x2, x3, x4, x5] (.int v :: st) h = jv_ev d 122 78 [x0, x1, x2, x3, some (.int v), x5] st h := jq_nx (jv_insR jm_122 dX0_field_76) rfl
theorem e122_78 : jv_ev d 122 78 [x0, x1, x2, x3, x4, some (.int v)] st h = jv_ev d 122 81 [x0, x1, x2, x3, x4, some (.int (v + 1))] st h := jq_nx (jv_insR jm_122 dX0_field_78) rfl
theorem e122_81 : jv_ev d 122 81 lc st h = jv_ev d 122 24 lc st h := jq_go (jv_insR jm_122 dX0_field_81) (by decide)
theorem e122_84 : jv_ev d 122 84 [x0, x1, some (.int v), x3, x4, x5] st h = jv_ev d 122 85 [x0, x1, some (.int v), x3, x4, x5] (.int v :: st) h := jq_nx (jv_insR jm_122 dX0_field_84) rfl
theorem e122_85 : jv_ev d 122 85 lc (.int v :: st) h = jv_tsl (fun t => jv_ev d 122 t lc st h) v [(0, 120), (1, 122), (2, 125), (3, 135), (4, 145)] 154 := jq_ts (jv_insR jm_122 dX0_field_85) [(0, 120), (1, 122), (2, 125), (3, 135), (4, 145)] 154 (by decide) (by decide) (by decide) (by decide)
theorem e122_120 : jv_ev d 122 120 [x0, x1, x2, some (.int v), x4, x5] st h = jv_ev d 122 121 [x0, x1, x2, some (.int v), x4, x5] (.int v :: st) h := jq_nx (jv_insR jm_122 dX0_field_120) rfl
theorem e122_121 : jv_ev d 122 121 lc [.int v] h = some (.inl (some (.int v)), h) := jq_reti (jv_insR jm_122 dX0_field_121) jr_122
theorem e122_122 : jv_ev d 122 122 [x0, x1, x2, x3, some (.int v), x5] st h = jv_ev d 122 124 [x0, x1, x2, x3, some (.int v), x5] (.int v :: st) h := jq_nx (jv_insR jm_122 dX0_field_122) rfl
theorem e122_124 : jv_ev d 122 124 lc [.int v] h = some (.inl (some (.int v)), h) := jq_reti (jv_insR jm_122 dX0_field_124) jr_122
theorem e122_125 : jv_ev d 122 125 [some (.ref a), x1, x2, x3, x4, x5] st h = jv_ev d 122 126 [some (.ref a), x1, x2, x3, x4, x5] (.ref a :: st) h := jq_nx (jv_insR jm_122 dX0_field_125) rfl
theorem e122_126 : jv_ev d 122 126 lc (.ref a :: st) h = (jv_gf h a [(1, 7, .object "RainLoom$Land")]).bind fun r => jv_ev d 122 129 lc (r :: st) h := jq_get (jv_insR jm_122 dX0_field_126) jo_122 jF_2_51
theorem e122_129 : jv_ev d 122 129 lc (.ref a :: st) h = (jv_gf h a [(6, 1, .array .int)]).bind fun r => jv_ev d 122 132 lc (r :: st) h := jq_get (jv_insR jm_122 dX0_field_129) jo_122 jF_2_201
theorem e122_132 : jv_ev d 122 132 [x0, some (.int v), x2, x3, x4, x5] st h = jv_ev d 122 133 [x0, some (.int v), x2, x3, x4, x5] (.int v :: st) h := jq_nx (jv_insR jm_122 dX0_field_132) rfl
theorem e122_133 : jv_ev d 122 133 lc (.int v :: .ref a :: st) h = (jv_ig h a 0 0 v).bind fun w => jv_ev d 122 134 lc (.int w :: st) h := jq_iald (jv_insR jm_122 dX0_field_133)
theorem e122_134 : jv_ev d 122 134 lc [.int v] h = some (.inl (some (.int v)), h) := jq_reti (jv_insR jm_122 dX0_field_134) jr_122
theorem e122_135 : jv_ev d 122 135 [some (.ref a), x1, x2, x3, x4, x5] st h = jv_ev d 122 136 [some (.ref a), x1, x2, x3, x4, x5] (.ref a :: st) h := jq_nx (jv_insR jm_122 dX0_field_135) rfl
theorem e122_136 : jv_ev d 122 136 lc (.ref a :: st) h = (jv_gf h a [(1, 7, .object "RainLoom$Land")]).bind fun r => jv_ev d 122 139 lc (r :: st) h := jq_get (jv_insR jm_122 dX0_field_136) jo_122 jF_2_51
theorem e122_139 : jv_ev d 122 139 lc (.ref a :: st) h = (jv_gf h a [(6, 2, .array .int)]).bind fun r => jv_ev d 122 142 lc (r :: st) h := jq_get (jv_insR jm_122 dX0_field_139) jo_122 jF_2_204
theorem e122_142 : jv_ev d 122 142 [x0, some (.int v), x2, x3, x4, x5] st h = jv_ev d 122 143 [x0, some (.int v), x2, x3, x4, x5] (.int v :: st) h := jq_nx (jv_insR jm_122 dX0_field_142) rfl
theorem e122_143 : jv_ev d 122 143 lc (.int v :: .ref a :: st) h = (jv_ig h a 0 0 v).bind fun w => jv_ev d 122 144 lc (.int w :: st) h := jq_iald (jv_insR jm_122 dX0_field_143)
theorem e122_144 : jv_ev d 122 144 lc [.int v] h = some (.inl (some (.int v)), h) := jq_reti (jv_insR jm_122 dX0_field_144) jr_122
theorem e122_145 : jv_ev d 122 145 [some (.ref a), x1, x2, x3, x4, x5] st h = jv_ev d 122 146 [some (.ref a), x1, x2, x3, x4, x5] (.ref a :: st) h := jq_nx (jv_insR jm_122 dX0_field_145) rfl
theorem e122_146 : jv_ev d 122 146 lc (.ref a :: st) h = (jv_gf h a [(1, 3, .object "RainLoom$Text")]).bind fun r => jv_ev d 122 149 lc (r :: st) h := jq_get (jv_insR jm_122 dX0_field_146) jo_122 jF_2_40
theorem e122_149 : jv_ev d 122 149 [x0, some (.int v), x2, x3, x4, x5] st h = jv_ev d 122 150 [x0, some (.int v), x2, x3, x4, x5] (.int v :: st) h := jq_nx (jv_insR jm_122 dX0_field_149) rfl
theorem e122_150 : jv_ev d 122 150 lc [z0, .ref b] h = (jv_rc h b [(5, 215)]).bind fun y => (jv_cd d y [.ref b, z0] h).bind fun r => jv_on r (fun v h => jv_ev d 122 153 lc (v.toList ++ []) h) (fun q h => some (.inr q, h)) := jq_V (as := [z0]) (rest := []) (jv_insR jm_122 dX0_field_150) jo_122 jV_2_207 rfl rfl rfl rfl
theorem e122_153 : jv_ev d 122 153 lc [.int v] h = some (.inl (some (.int v)), h) := jq_reti (jv_insR jm_122 dX0_field_153) jr_122
theorem e122_154 : jv_ev d 122 154 lc st h = jv_ev d 122 155 lc (.int (-1) :: st) h := jq_iconst (jv_insR jm_122 dX0_field_154) (by decide)
theorem e122_155 : jv_ev d 122 155 lc [.int v] h = some (.inl (some (.int v)), h) := jq_reti (jv_insR jm_122 dX0_field_155) jr_122
/-! 123: RainLoom.fields()I -/
theorem n123 : jv_cd (d + 1) 123 [.ref a0] h = jv_ev d 123 0 [some (.ref a0)] [] h := rfl
theorem e123_0 : jv_ev d 123 0 [some (.ref a)] st h = jv_ev d 123 1 [some (.ref a)] (.ref a :: st) h := jq_nx (jv_insR jm_123 dX0_fields_0) rfl
theorem e123_1 : jv_ev d 123 1 lc (.ref a :: st) h = (jv_gf h a [(1, 3, .object "RainLoom$Text")]).bind fun r => jv_ev d 123 4 lc (r :: st) h := jq_get (jv_insR jm_123 dX0_fields_1) jo_123 jF_2_40
theorem e123_4 : jv_ev d 123 4 lc (.ref a :: st) h = (jv_gf h a [(5, 1, .object "java/util/ArrayList")]).bind fun r => jv_ev d 123 7 lc (r :: st) h := jq_get (jv_insR jm_123 dX0_fields_4) jo_123 jF_2_143
theorem e123_7 : jv_ev d 123 7 lc [.ref b] h = (jv_rc h b [(18, 258)]).bind fun y => (jv_cd d y [.ref b] h).bind fun r => jv_on r (fun v h => jv_ev d 123 10 lc (v.toList ++ []) h) (fun q h => some (.inr q, h)) := jq_V (as := []) (rest := []) (jv_insR jm_123 dX0_fields_7) jo_123 jV_2_147 rfl rfl rfl rfl
theorem e123_10 : jv_ev d 123 10 lc [.int v] h = some (.inl (some (.int v)), h) := jq_reti (jv_insR jm_123 dX0_fields_10) jr_123
/-! 124: RainLoom.isIn(III)Z -/
theorem n124 : jv_cd (d + 1) 124 [.int i0, .int i1, .int i2] h = jv_ev d 124 0 [some (.int i0), some (.int i1), some (.int i2)] [] h := rfl
theorem e124_0 : jv_ev d 124 0 [some (.int v), x1, x2] st h = jv_ev d 124 1 [some (.int v), x1, x2] (.int v :: st) h := jq_nx (jv_insR jm_124 dX0_isIn_0) rfl
theorem e124_1 : jv_ev d 124 1 [x0, some (.int v), x2] st h = jv_ev d 124 2 [x0, some (.int v), x2] (.int v :: st) h := jq_nx (jv_insR jm_124 dX0_isIn_1) rfl
theorem e124_2 : jv_ev d 124 2 lc (.int w :: .int v :: st) h = if v < w then jv_ev d 124 14 lc st h else jv_ev d 124 5 lc st h := jq_if (jv_insR jm_124 dX0_isIn_2) rfl (by decide)
theorem e124_5 : jv_ev d 124 5 [some (.int v), x1, x2] st h = jv_ev d 124 6 [some (.int v), x1, x2] (.int v :: st) h := jq_nx (jv_insR jm_124 dX0_isIn_5) rfl
theorem e124_6 : jv_ev d 124 6 [x0, x1, some (.int v)] st h = jv_ev d 124 7 [x0, x1, some (.int v)] (.int v :: st) h := jq_nx (jv_insR jm_124 dX0_isIn_6) rfl
theorem e124_7 : jv_ev d 124 7 lc (.int w :: .int v :: st) h = if w < v then jv_ev d 124 14 lc st h else jv_ev d 124 10 lc st h := jq_if (jv_insR jm_124 dX0_isIn_7) rfl (by decide)
theorem e124_10 : jv_ev d 124 10 lc st h = jv_ev d 124 11 lc (.int 1 :: st) h := jq_iconst (jv_insR jm_124 dX0_isIn_10) (by decide)
theorem e124_11 : jv_ev d 124 11 lc st h = jv_ev d 124 15 lc st h := jq_go (jv_insR jm_124 dX0_isIn_11) (by decide)
theorem e124_14 : jv_ev d 124 14 lc st h = jv_ev d 124 15 lc (.int 0 :: st) h := jq_iconst (jv_insR jm_124 dX0_isIn_14) (by decide)
theorem e124_15 : jv_ev d 124 15 lc [.int v] h = if narrow .boolean (.int v) = .int v then some (.inl (some (.int v)), h) else none := jq_ret (jv_insR jm_124 dX0_isIn_15) jr_124 (by decide)
/-! 125: RainLoom.loom(II)I -/
theorem n125 : jv_cd (d + 1) 125 [.ref a0, .int i1, .int i2] h = jv_ev d 125 0 [some (.ref a0), some (.int i1), some (.int i2)] [] h := rfl
theorem e125_0 : jv_ev d 125 0 [some (.ref a), x1, x2] st h = jv_ev d 125 1 [some (.ref a), x1, x2] (.ref a :: st) h := jq_nx (jv_insR jm_125 dX0_loom_0) rfl
theorem e125_1 : jv_ev d 125 1 [x0, some (.int v), x2] st h = jv_ev d 125 2 [x0, some (.int v), x2] (.int v :: st) h := jq_nx (jv_insR jm_125 dX0_loom_1) rfl
theorem e125_2 : jv_ev d 125 2 lc [z0, .ref b] h = (jv_rc h b [(1, 126)]).bind fun y => (jv_cd d y [.ref b, z0] h).bind fun r => jv_on r (fun v h => jv_ev d 125 5 lc (v.toList ++ []) h) (fun q h => some (.inr q, h)) := jq_V (as := [z0]) (rest := []) (jv_insR jm_125 dX0_loom_2) jo_125 jV_2_171 rfl rfl rfl rfl
theorem e125_5 : jv_ev d 125 5 lc (.int v :: st) h = if ¬ v = 0 then jv_ev d 125 10 lc st h else jv_ev d 125 8 lc st h := jq_if (jv_insR jm_125 dX0_loom_5) rfl (by decide)
theorem e125_8 : jv_ev d 125 8 lc st h = jv_ev d 125 9 lc (.int (-1) :: st) h := jq_iconst (jv_insR jm_125 dX0_loom_8) (by decide)
theorem e125_9 : jv_ev d 125 9 lc [.int v] h = some (.inl (some (.int v)), h) := jq_reti (jv_insR jm_125 dX0_loom_9) jr_125
theorem e125_10 : jv_ev d 125 10 [x0, x1, some (.int v)] st h = jv_ev d 125 11 [x0, x1, some (.int v)] (.int v :: st) h := jq_nx (jv_insR jm_125 dX0_loom_10) rfl
theorem e125_11 : jv_ev d 125 11 lc (.int v :: st) h = jv_tsl (fun t => jv_ev d 125 t lc st h) v [(0, 56), (1, 62), (2, 72), (3, 82), (4, 92), (5, 102), (6, 112), (7, 122)] 132 := jq_ts (jv_insR jm_125 dX0_loom_11) [(0, 56), (1, 62), (2, 72), (3, 82), (4, 92), (5, 102), (6, 112), (7, 122)] 132 (by decide) (by decide) (by decide) (by decide)
theorem e125_56 : jv_ev d 125 56 [some (.ref a), x1, x2] st h = jv_ev d 125 57 [some (.ref a), x1, x2] (.ref a :: st) h := jq_nx (jv_insR jm_125 dX0_loom_56) rfl
theorem e125_57 : jv_ev d 125 57 [x0, some (.int v), x2] st h = jv_ev d 125 58 [x0, some (.int v), x2] (.int v :: st) h := jq_nx (jv_insR jm_125 dX0_loom_57) rfl
theorem e125_58 : jv_ev d 125 58 lc [z0, .ref b] h = (jv_rc h b [(1, 128)]).bind fun y => (jv_cd d y [.ref b, z0] h).bind fun r => jv_on r (fun v h => jv_ev d 125 61 lc (v.toList ++ []) h) (fun q h => some (.inr q, h)) := jq_V (as := [z0]) (rest := []) (jv_insR jm_125 dX0_loom_58) jo_125 jV_2_175 rfl rfl rfl rfl
theorem e125_61 : jv_ev d 125 61 lc [.int v] h = some (.inl (some (.int v)), h) := jq_reti (jv_insR jm_125 dX0_loom_61) jr_125
theorem e125_62 : jv_ev d 125 62 [some (.ref a), x1, x2] st h = jv_ev d 125 63 [some (.ref a), x1, x2] (.ref a :: st) h := jq_nx (jv_insR jm_125 dX0_loom_62) rfl
theorem e125_63 : jv_ev d 125 63 lc (.ref a :: st) h = (jv_gf h a [(1, 7, .object "RainLoom$Land")]).bind fun r => jv_ev d 125 66 lc (r :: st) h := jq_get (jv_insR jm_125 dX0_loom_63) jo_125 jF_2_51
theorem e125_66 : jv_ev d 125 66 lc (.ref a :: st) h = (jv_gf h a [(6, 3, .array .int)]).bind fun r => jv_ev d 125 69 lc (r :: st) h := jq_get (jv_insR jm_125 dX0_loom_66) jo_125 jF_2_210
theorem e125_69 : jv_ev d 125 69 [x0, some (.int v), x2] st h = jv_ev d 125 70 [x0, some (.int v), x2] (.int v :: st) h := jq_nx (jv_insR jm_125 dX0_loom_69) rfl
theorem e125_70 : jv_ev d 125 70 lc (.int v :: .ref a :: st) h = (jv_ig h a 0 0 v).bind fun w => jv_ev d 125 71 lc (.int w :: st) h := jq_iald (jv_insR jm_125 dX0_loom_70)
theorem e125_71 : jv_ev d 125 71 lc [.int v] h = some (.inl (some (.int v)), h) := jq_reti (jv_insR jm_125 dX0_loom_71) jr_125
theorem e125_72 : jv_ev d 125 72 [some (.ref a), x1, x2] st h = jv_ev d 125 73 [some (.ref a), x1, x2] (.ref a :: st) h := jq_nx (jv_insR jm_125 dX0_loom_72) rfl
theorem e125_73 : jv_ev d 125 73 lc (.ref a :: st) h = (jv_gf h a [(1, 7, .object "RainLoom$Land")]).bind fun r => jv_ev d 125 76 lc (r :: st) h := jq_get (jv_insR jm_125 dX0_loom_73) jo_125 jF_2_51
theorem e125_76 : jv_ev d 125 76 lc (.ref a :: st) h = (jv_gf h a [(6, 6, .array .int)]).bind fun r => jv_ev d 125 79 lc (r :: st) h := jq_get (jv_insR jm_125 dX0_loom_76) jo_125 jF_2_213
theorem e125_79 : jv_ev d 125 79 [x0, some (.int v), x2] st h = jv_ev d 125 80 [x0, some (.int v), x2] (.int v :: st) h := jq_nx (jv_insR jm_125 dX0_loom_79) rfl
theorem e125_80 : jv_ev d 125 80 lc (.int v :: .ref a :: st) h = (jv_ig h a 0 0 v).bind fun w => jv_ev d 125 81 lc (.int w :: st) h := jq_iald (jv_insR jm_125 dX0_loom_80)
theorem e125_81 : jv_ev d 125 81 lc [.int v] h = some (.inl (some (.int v)), h) := jq_reti (jv_insR jm_125 dX0_loom_81) jr_125
theorem e125_82 : jv_ev d 125 82 [some (.ref a), x1, x2] st h = jv_ev d 125 83 [some (.ref a), x1, x2] (.ref a :: st) h := jq_nx (jv_insR jm_125 dX0_loom_82) rfl
theorem e125_83 : jv_ev d 125 83 lc (.ref a :: st) h = (jv_gf h a [(1, 7, .object "RainLoom$Land")]).bind fun r => jv_ev d 125 86 lc (r :: st) h := jq_get (jv_insR jm_125 dX0_loom_83) jo_125 jF_2_51
theorem e125_86 : jv_ev d 125 86 lc (.ref a :: st) h = (jv_gf h a [(6, 7, .array .int)]).bind fun r => jv_ev d 125 89 lc (r :: st) h := jq_get (jv_insR jm_125 dX0_loom_86) jo_125 jF_2_215
theorem e125_89 : jv_ev d 125 89 [x0, some (.int v), x2] st h = jv_ev d 125 90 [x0, some (.int v), x2] (.int v :: st) h := jq_nx (jv_insR jm_125 dX0_loom_89) rfl
theorem e125_90 : jv_ev d 125 90 lc (.int v :: .ref a :: st) h = (jv_ig h a 0 0 v).bind fun w => jv_ev d 125 91 lc (.int w :: st) h := jq_iald (jv_insR jm_125 dX0_loom_90)
theorem e125_91 : jv_ev d 125 91 lc [.int v] h = some (.inl (some (.int v)), h) := jq_reti (jv_insR jm_125 dX0_loom_91) jr_125
theorem e125_92 : jv_ev d 125 92 [some (.ref a), x1, x2] st h = jv_ev d 125 93 [some (.ref a), x1, x2] (.ref a :: st) h := jq_nx (jv_insR jm_125 dX0_loom_92) rfl
theorem e125_93 : jv_ev d 125 93 lc (.ref a :: st) h = (jv_gf h a [(1, 7, .object "RainLoom$Land")]).bind fun r => jv_ev d 125 96 lc (r :: st) h := jq_get (jv_insR jm_125 dX0_loom_93) jo_125 jF_2_51
theorem e125_96 : jv_ev d 125 96 lc (.ref a :: st) h = (jv_gf h a [(6, 8, .array .int)]).bind fun r => jv_ev d 125 99 lc (r :: st) h := jq_get (jv_insR jm_125 dX0_loom_96) jo_125 jF_2_218
theorem e125_99 : jv_ev d 125 99 [x0, some (.int v), x2] st h = jv_ev d 125 100 [x0, some (.int v), x2] (.int v :: st) h := jq_nx (jv_insR jm_125 dX0_loom_99) rfl
theorem e125_100 : jv_ev d 125 100 lc (.int v :: .ref a :: st) h = (jv_ig h a 0 0 v).bind fun w => jv_ev d 125 101 lc (.int w :: st) h := jq_iald (jv_insR jm_125 dX0_loom_100)
theorem e125_101 : jv_ev d 125 101 lc [.int v] h = some (.inl (some (.int v)), h) := jq_reti (jv_insR jm_125 dX0_loom_101) jr_125
theorem e125_102 : jv_ev d 125 102 [some (.ref a), x1, x2] st h = jv_ev d 125 103 [some (.ref a), x1, x2] (.ref a :: st) h := jq_nx (jv_insR jm_125 dX0_loom_102) rfl
theorem e125_103 : jv_ev d 125 103 lc (.ref a :: st) h = (jv_gf h a [(1, 7, .object "RainLoom$Land")]).bind fun r => jv_ev d 125 106 lc (r :: st) h := jq_get (jv_insR jm_125 dX0_loom_103) jo_125 jF_2_51
theorem e125_106 : jv_ev d 125 106 lc (.ref a :: st) h = (jv_gf h a [(6, 9, .array .int)]).bind fun r => jv_ev d 125 109 lc (r :: st) h := jq_get (jv_insR jm_125 dX0_loom_106) jo_125 jF_2_221
theorem e125_109 : jv_ev d 125 109 [x0, some (.int v), x2] st h = jv_ev d 125 110 [x0, some (.int v), x2] (.int v :: st) h := jq_nx (jv_insR jm_125 dX0_loom_109) rfl
theorem e125_110 : jv_ev d 125 110 lc (.int v :: .ref a :: st) h = (jv_ig h a 0 0 v).bind fun w => jv_ev d 125 111 lc (.int w :: st) h := jq_iald (jv_insR jm_125 dX0_loom_110)
theorem e125_111 : jv_ev d 125 111 lc [.int v] h = some (.inl (some (.int v)), h) := jq_reti (jv_insR jm_125 dX0_loom_111) jr_125
theorem e125_112 : jv_ev d 125 112 [some (.ref a), x1, x2] st h = jv_ev d 125 113 [some (.ref a), x1, x2] (.ref a :: st) h := jq_nx (jv_insR jm_125 dX0_loom_112) rfl
theorem e125_113 : jv_ev d 125 113 lc (.ref a :: st) h = (jv_gf h a [(1, 7, .object "RainLoom$Land")]).bind fun r => jv_ev d 125 116 lc (r :: st) h := jq_get (jv_insR jm_125 dX0_loom_113) jo_125 jF_2_51
theorem e125_116 : jv_ev d 125 116 lc (.ref a :: st) h = (jv_gf h a [(6, 4, .array .int)]).bind fun r => jv_ev d 125 119 lc (r :: st) h := jq_get (jv_insR jm_125 dX0_loom_116) jo_125 jF_2_224
theorem e125_119 : jv_ev d 125 119 [x0, some (.int v), x2] st h = jv_ev d 125 120 [x0, some (.int v), x2] (.int v :: st) h := jq_nx (jv_insR jm_125 dX0_loom_119) rfl
theorem e125_120 : jv_ev d 125 120 lc (.int v :: .ref a :: st) h = (jv_ig h a 0 0 v).bind fun w => jv_ev d 125 121 lc (.int w :: st) h := jq_iald (jv_insR jm_125 dX0_loom_120)
theorem e125_121 : jv_ev d 125 121 lc [.int v] h = some (.inl (some (.int v)), h) := jq_reti (jv_insR jm_125 dX0_loom_121) jr_125
theorem e125_122 : jv_ev d 125 122 [some (.ref a), x1, x2] st h = jv_ev d 125 123 [some (.ref a), x1, x2] (.ref a :: st) h := jq_nx (jv_insR jm_125 dX0_loom_122) rfl
theorem e125_123 : jv_ev d 125 123 lc (.ref a :: st) h = (jv_gf h a [(1, 7, .object "RainLoom$Land")]).bind fun r => jv_ev d 125 126 lc (r :: st) h := jq_get (jv_insR jm_125 dX0_loom_123) jo_125 jF_2_51
theorem e125_126 : jv_ev d 125 126 lc (.ref a :: st) h = (jv_gf h a [(6, 5, .array .int)]).bind fun r => jv_ev d 125 129 lc (r :: st) h := jq_get (jv_insR jm_125 dX0_loom_126) jo_125 jF_2_227
theorem e125_129 : jv_ev d 125 129 [x0, some (.int v), x2] st h = jv_ev d 125 130 [x0, some (.int v), x2] (.int v :: st) h := jq_nx (jv_insR jm_125 dX0_loom_129) rfl
theorem e125_130 : jv_ev d 125 130 lc (.int v :: .ref a :: st) h = (jv_ig h a 0 0 v).bind fun w => jv_ev d 125 131 lc (.int w :: st) h := jq_iald (jv_insR jm_125 dX0_loom_130)
theorem e125_131 : jv_ev d 125 131 lc [.int v] h = some (.inl (some (.int v)), h) := jq_reti (jv_insR jm_125 dX0_loom_131) jr_125
theorem e125_132 : jv_ev d 125 132 lc st h = jv_ev d 125 133 lc (.int (-1) :: st) h := jq_iconst (jv_insR jm_125 dX0_loom_132) (by decide)
theorem e125_133 : jv_ev d 125 133 lc [.int v] h = some (.inl (some (.int v)), h) := jq_reti (jv_insR jm_125 dX0_loom_133) jr_125
/-! 126: RainLoom.isLoom(I)Z -/
theorem n126 : jv_cd (d + 1) 126 [.ref a0, .int i1] h = jv_ev d 126 0 [some (.ref a0), some (.int i1)] [] h := rfl
theorem e126_0 : jv_ev d 126 0 [x0, some (.int v)] st h = jv_ev d 126 1 [x0, some (.int v)] (.int v :: st) h := jq_nx (jv_insR jm_126 dX0_isLoom_0) rfl
theorem e126_1 : jv_ev d 126 1 lc st h = jv_ev d 126 2 lc (.int 0 :: st) h := jq_iconst (jv_insR jm_126 dX0_isLoom_1) (by decide)
theorem e126_2 : jv_ev d 126 2 [some (.ref a), x1] st h = jv_ev d 126 3 [some (.ref a), x1] (.ref a :: st) h := jq_nx (jv_insR jm_126 dX0_isLoom_2) rfl
theorem e126_3 : jv_ev d 126 3 lc [.ref b, y0, y1] h = (jv_rc h b [(1, 127)]).bind fun y => (jv_cd d y [.ref b] h).bind fun r => jv_on r (fun v h => jv_ev d 126 6 lc (v.toList ++ [y0, y1]) h) (fun q h => some (.inr q, h)) := jq_V (as := []) (rest := [y0, y1]) (jv_insR jm_126 dX0_isLoom_3) jo_126 jV_2_156 rfl rfl rfl rfl
theorem e126_6 : jv_ev d 126 6 lc st h = jv_ev d 126 7 lc (.int 1 :: st) h := jq_iconst (jv_insR jm_126 dX0_isLoom_6) (by decide)
theorem e126_7 : jv_ev d 126 7 lc (.int w :: .int v :: st) h = jv_ev d 126 8 lc (.int (v - w) :: st) h := jq_nx (jv_insR jm_126 dX0_isLoom_7) rfl
theorem e126_8 : jv_ev d 126 8 lc [z2, z1, z0] h = (jv_cd d 124 [z0, z1, z2] h).bind fun r => jv_on r (fun v h => jv_ev d 126 11 lc (v.toList ++ []) h) (fun q h => some (.inr q, h)) := jq_S (as := [z0, z1, z2]) (rest := []) (jv_insR jm_126 dX0_isLoom_8) jo_126 jT_2_158 rfl rfl rfl rfl
theorem e126_11 : jv_ev d 126 11 lc [.int v] h = if narrow .boolean (.int v) = .int v then some (.inl (some (.int v)), h) else none := jq_ret (jv_insR jm_126 dX0_isLoom_11) jr_126 (by decide)
/-! 127: RainLoom.looms()I -/
theorem n127 : jv_cd (d + 1) 127 [.ref a0] h = jv_ev d 127 0 [some (.ref a0)] [] h := rfl
theorem e127_0 : jv_ev d 127 0 [some (.ref a)] st h = jv_ev d 127 1 [some (.ref a)] (.ref a :: st) h := jq_nx (jv_insR jm_127 dX0_looms_0) rfl
theorem e127_1 : jv_ev d 127 1 lc (.ref a :: st) h = (jv_gf h a [(1, 3, .object "RainLoom$Text")]).bind fun r => jv_ev d 127 4 lc (r :: st) h := jq_get (jv_insR jm_127 dX0_looms_1) jo_127 jF_2_40
theorem e127_4 : jv_ev d 127 4 lc (.ref a :: st) h = (jv_gf h a [(5, 2, .object "java/util/ArrayList")]).bind fun r => jv_ev d 127 7 lc (r :: st) h := jq_get (jv_insR jm_127 dX0_looms_4) jo_127 jF_2_153
theorem e127_7 : jv_ev d 127 7 lc [.ref b] h = (jv_rc h b [(18, 258)]).bind fun y => (jv_cd d y [.ref b] h).bind fun r => jv_on r (fun v h => jv_ev d 127 10 lc (v.toList ++ []) h) (fun q h => some (.inr q, h)) := jq_V (as := []) (rest := []) (jv_insR jm_127 dX0_looms_7) jo_127 jV_2_147 rfl rfl rfl rfl
theorem e127_10 : jv_ev d 127 10 lc [.int v] h = some (.inl (some (.int v)), h) := jq_reti (jv_insR jm_127 dX0_looms_10) jr_127
/-! 128: RainLoom.wideOf(I)I -/
theorem n128 : jv_cd (d + 1) 128 [.ref a0, .int i1] h = jv_ev d 128 0 [some (.ref a0), some (.int i1)] [] h := rfl
theorem e128_0 : jv_ev d 128 0 [some (.ref a), x1] st h = jv_ev d 128 1 [some (.ref a), x1] (.ref a :: st) h := jq_nx (jv_insR jm_128 dX0_wideOf_0) rfl
theorem e128_1 : jv_ev d 128 1 lc (.ref a :: st) h = (jv_gf h a [(1, 3, .object "RainLoom$Text")]).bind fun r => jv_ev d 128 4 lc (r :: st) h := jq_get (jv_insR jm_128 dX0_wideOf_1) jo_128 jF_2_40
theorem e128_4 : jv_ev d 128 4 lc (.ref a :: st) h = (jv_gf h a [(5, 2, .object "java/util/ArrayList")]).bind fun r => jv_ev d 128 7 lc (r :: st) h := jq_get (jv_insR jm_128 dX0_wideOf_4) jo_128 jF_2_153
theorem e128_7 : jv_ev d 128 7 [x0, some (.int v)] st h = jv_ev d 128 8 [x0, some (.int v)] (.int v :: st) h := jq_nx (jv_insR jm_128 dX0_wideOf_7) rfl
theorem e128_8 : jv_ev d 128 8 lc [z0, .ref b] h = (jv_rc h b [(18, 259)]).bind fun y => (jv_cd d y [.ref b, z0] h).bind fun r => jv_on r (fun v h => jv_ev d 128 11 lc (v.toList ++ []) h) (fun q h => some (.inr q, h)) := jq_V (as := [z0]) (rest := []) (jv_insR jm_128 dX0_wideOf_8) jo_128 jV_2_162 rfl rfl rfl rfl
theorem e128_11 : jv_ev d 128 11 lc (.ref a :: st) h = (jv_cls h a).bind fun ci => if jt_CK.contains (2, 166, ci) = true then jv_ev d 128 14 lc (.ref a :: st) h else none := jq_cast (jv_insR jm_128 dX0_wideOf_11) jo_128
theorem e128_14 : jv_ev d 128 14 lc (.ref a :: st) h = (jv_gf h a [(17, 1, .int)]).bind fun r => jv_ev d 128 17 lc (r :: st) h := jq_get (jv_insR jm_128 dX0_wideOf_14) jo_128 jF_2_168
theorem e128_17 : jv_ev d 128 17 lc [.int v] h = some (.inl (some (.int v)), h) := jq_reti (jv_insR jm_128 dX0_wideOf_17) jr_128
/-! 129: RainLoom.thread(III)I -/
theorem n129 : jv_cd (d + 1) 129 [.ref a0, .int i1, .int i2, .int i3] h = jv_ev d 129 0 [some (.ref a0), some (.int i1), some (.int i2), some (.int i3)] [] h := rfl
theorem e129_0 : jv_ev d 129 0 [some (.ref a), x1, x2, x3] st h = jv_ev d 129 1 [some (.ref a), x1, x2, x3] (.ref a :: st) h := jq_nx (jv_insR jm_129 dX0_thread_0) rfl
theorem e129_1 : jv_ev d 129 1 [x0, some (.int v), x2, x3] st h = jv_ev d 129 2 [x0, some (.int v), x2, x3] (.int v :: st) h := jq_nx (jv_insR jm_129 dX0_thread_1) rfl
theorem e129_2 : jv_ev d 129 2 lc [z0, .ref b] h = (jv_rc h b [(1, 126)]).bind fun y => (jv_cd d y [.ref b, z0] h).bind fun r => jv_on r (fun v h => jv_ev d 129 5 lc (v.toList ++ []) h) (fun q h => some (.inr q, h)) := jq_V (as := [z0]) (rest := []) (jv_insR jm_129 dX0_thread_2) jo_129 jV_2_171 rfl rfl rfl rfl
theorem e129_5 : jv_ev d 129 5 lc (.int v :: st) h = if v = 0 then jv_ev d 129 51 lc st h else jv_ev d 129 8 lc st h := jq_if (jv_insR jm_129 dX0_thread_5) rfl (by decide)
theorem e129_8 : jv_ev d 129 8 [x0, x1, some (.int v), x3] st h = jv_ev d 129 9 [x0, x1, some (.int v), x3] (.int v :: st) h := jq_nx (jv_insR jm_129 dX0_thread_8) rfl
theorem e129_9 : jv_ev d 129 9 lc st h = jv_ev d 129 10 lc (.int 0 :: st) h := jq_iconst (jv_insR jm_129 dX0_thread_9) (by decide)
theorem e129_10 : jv_ev d 129 10 [some (.ref a), x1, x2, x3] st h = jv_ev d 129 11 [some (.ref a), x1, x2, x3] (.ref a :: st) h := jq_nx (jv_insR jm_129 dX0_thread_10) rfl
theorem e129_11 : jv_ev d 129 11 [x0, some (.int v), x2, x3] st h = jv_ev d 129 12 [x0, some (.int v), x2, x3] (.int v :: st) h := jq_nx (jv_insR jm_129 dX0_thread_11) rfl
theorem e129_12 : jv_ev d 129 12 lc [z0, .ref b, y0, y1] h = (jv_rc h b [(1, 128)]).bind fun y => (jv_cd d y [.ref b, z0] h).bind fun r => jv_on r (fun v h => jv_ev d 129 15 lc (v.toList ++ [y0, y1]) h) (fun q h => some (.inr q, h)) := jq_V (as := [z0]) (rest := [y0, y1]) (jv_insR jm_129 dX0_thread_12) jo_129 jV_2_175 rfl rfl rfl rfl
theorem e129_15 : jv_ev d 129 15 lc st h = jv_ev d 129 16 lc (.int 1 :: st) h := jq_iconst (jv_insR jm_129 dX0_thread_15) (by decide)
theorem e129_16 : jv_ev d 129 16 lc (.int w :: .int v :: st) h = jv_ev d 129 17 lc (.int (v - w) :: st) h := jq_nx (jv_insR jm_129 dX0_thread_16) rfl
theorem e129_17 : jv_ev d 129 17 lc [z2, z1, z0] h = (jv_cd d 124 [z0, z1, z2] h).bind fun r => jv_on r (fun v h => jv_ev d 129 20 lc (v.toList ++ []) h) (fun q h => some (.inr q, h)) := jq_S (as := [z0, z1, z2]) (rest := []) (jv_insR jm_129 dX0_thread_17) jo_129 jT_2_158 rfl rfl rfl rfl
theorem e129_20 : jv_ev d 129 20 lc (.int v :: st) h = if v = 0 then jv_ev d 129 51 lc st h else jv_ev d 129 23 lc st h := jq_if (jv_insR jm_129 dX0_thread_20) rfl (by decide)
theorem e129_23 : jv_ev d 129 23 [x0, x1, x2, some (.int v)] st h = jv_ev d 129 24 [x0, x1, x2, some (.int v)] (.int v :: st) h := jq_nx (jv_insR jm_129 dX0_thread_23) rfl
theorem e129_24 : jv_ev d 129 24 lc st h = jv_ev d 129 25 lc (.int 0 :: st) h := jq_iconst (jv_insR jm_129 dX0_thread_24) (by decide)
theorem e129_25 : jv_ev d 129 25 lc st h = jv_ev d 129 28 lc (.int 9999 :: st) h := jq_sipush (jv_insR jm_129 dX0_thread_25) (by decide)
theorem e129_28 : jv_ev d 129 28 lc [z2, z1, z0] h = (jv_cd d 124 [z0, z1, z2] h).bind fun r => jv_on r (fun v h => jv_ev d 129 31 lc (v.toList ++ []) h) (fun q h => some (.inr q, h)) := jq_S (as := [z0, z1, z2]) (rest := []) (jv_insR jm_129 dX0_thread_28) jo_129 jT_2_158 rfl rfl rfl rfl
theorem e129_31 : jv_ev d 129 31 lc (.int v :: st) h = if v = 0 then jv_ev d 129 51 lc st h else jv_ev d 129 34 lc st h := jq_if (jv_insR jm_129 dX0_thread_31) rfl (by decide)
theorem e129_34 : jv_ev d 129 34 [some (.ref a), x1, x2, x3] st h = jv_ev d 129 35 [some (.ref a), x1, x2, x3] (.ref a :: st) h := jq_nx (jv_insR jm_129 dX0_thread_34) rfl
theorem e129_35 : jv_ev d 129 35 lc (.ref a :: st) h = (jv_gf h a [(1, 7, .object "RainLoom$Land")]).bind fun r => jv_ev d 129 38 lc (r :: st) h := jq_get (jv_insR jm_129 dX0_thread_35) jo_129 jF_2_51
theorem e129_38 : jv_ev d 129 38 [some (.ref a), x1, x2, x3] st h = jv_ev d 129 39 [some (.ref a), x1, x2, x3] (.ref a :: st) h := jq_nx (jv_insR jm_129 dX0_thread_38) rfl
theorem e129_39 : jv_ev d 129 39 lc (.ref a :: st) h = (jv_gf h a [(1, 3, .object "RainLoom$Text")]).bind fun r => jv_ev d 129 42 lc (r :: st) h := jq_get (jv_insR jm_129 dX0_thread_39) jo_129 jF_2_40
theorem e129_42 : jv_ev d 129 42 [x0, some (.int v), x2, x3] st h = jv_ev d 129 43 [x0, some (.int v), x2, x3] (.int v :: st) h := jq_nx (jv_insR jm_129 dX0_thread_42) rfl
theorem e129_43 : jv_ev d 129 43 [x0, x1, some (.int v), x3] st h = jv_ev d 129 44 [x0, x1, some (.int v), x3] (.int v :: st) h := jq_nx (jv_insR jm_129 dX0_thread_43) rfl
theorem e129_44 : jv_ev d 129 44 [x0, x1, x2, some (.int v)] st h = jv_ev d 129 45 [x0, x1, x2, some (.int v)] (.int v :: st) h := jq_nx (jv_insR jm_129 dX0_thread_44) rfl
theorem e129_45 : jv_ev d 129 45 lc [z3, z2, z1, z0, .ref b] h = (jv_rc h b [(6, 221)]).bind fun y => (jv_cd d y [.ref b, z0, z1, z2, z3] h).bind fun r => jv_on r (fun v h => jv_ev d 129 48 lc (v.toList ++ []) h) (fun q h => some (.inr q, h)) := jq_V (as := [z0, z1, z2, z3]) (rest := []) (jv_insR jm_129 dX0_thread_45) jo_129 jV_2_230 rfl rfl rfl rfl
theorem e129_48 : jv_ev d 129 48 lc st h = jv_ev d 129 52 lc st h := jq_go (jv_insR jm_129 dX0_thread_48) (by decide)
theorem e129_51 : jv_ev d 129 51 lc st h = jv_ev d 129 52 lc (.int (-1) :: st) h := jq_iconst (jv_insR jm_129 dX0_thread_51) (by decide)
theorem e129_52 : jv_ev d 129 52 lc [.int v] h = some (.inl (some (.int v)), h) := jq_reti (jv_insR jm_129 dX0_thread_52) jr_129
/-! 130: RainLoom.order(IIIII)Z -/
theorem n130 : jv_cd (d + 1) 130 [.ref a0, .int i1, .int i2, .int i3, .int i4, .int i5] h = jv_ev d 130 0 [some (.ref a0), some (.int i1), some (.int i2), some (.int i3), some (.int i4), some (.int i5)] [] h := rfl
theorem e130_0 : jv_ev d 130 0 [some (.ref a), x1, x2, x3, x4, x5] st h = jv_ev d 130 1 [some (.ref a), x1, x2, x3, x4, x5] (.ref a :: st) h := jq_nx (jv_insR jm_130 dX0_order_0) rfl
theorem e130_1 : jv_ev d 130 1 [x0, some (.int v), x2, x3, x4, x5] st h = jv_ev d 130 2 [x0, some (.int v), x2, x3, x4, x5] (.int v :: st) h := jq_nx (jv_insR jm_130 dX0_order_1) rfl
theorem e130_2 : jv_ev d 130 2 [x0, x1, some (.int v), x3, x4, x5] st h = jv_ev d 130 3 [x0, x1, some (.int v), x3, x4, x5] (.int v :: st) h := jq_nx (jv_insR jm_130 dX0_order_2) rfl
theorem e130_3 : jv_ev d 130 3 [x0, x1, x2, some (.int v), x4, x5] st h = jv_ev d 130 4 [x0, x1, x2, some (.int v), x4, x5] (.int v :: st) h := jq_nx (jv_insR jm_130 dX0_order_3) rfl
theorem e130_4 : jv_ev d 130 4 lc [z2, z1, z0, .ref b] h = (jv_rc h b [(1, 131)]).bind fun y => (jv_cd d y [.ref b, z0, z1, z2] h).bind fun r => jv_on r (fun v h => jv_ev d 130 7 lc (v.toList ++ []) h) (fun q h => some (.inr q, h)) := jq_V (as := [z0, z1, z2]) (rest := []) (jv_insR jm_130 dX0_order_4) jo_130 jV_2_253 rfl rfl rfl rfl
theorem e130_7 : jv_ev d 130 7 lc (.int v :: st) h = if v = 0 then jv_ev d 130 24 lc st h else jv_ev d 130 10 lc st h := jq_if (jv_insR jm_130 dX0_order_7) rfl (by decide)
theorem e130_10 : jv_ev d 130 10 [some (.ref a), x1, x2, x3, x4, x5] st h = jv_ev d 130 11 [some (.ref a), x1, x2, x3, x4, x5] (.ref a :: st) h := jq_nx (jv_insR jm_130 dX0_order_10) rfl
theorem e130_11 : jv_ev d 130 11 lc (.ref a :: st) h = (jv_gf h a [(1, 3, .object "RainLoom$Text")]).bind fun r => jv_ev d 130 14 lc (r :: st) h := jq_get (jv_insR jm_130 dX0_order_11) jo_130 jF_2_40
theorem e130_14 : jv_ev d 130 14 [x0, x1, x2, x3, some (.int v), x5] st h = jv_ev d 130 16 [x0, x1, x2, x3, some (.int v), x5] (.int v :: st) h := jq_nx (jv_insR jm_130 dX0_order_14) rfl
theorem e130_16 : jv_ev d 130 16 [x0, x1, x2, x3, x4, some (.int v)] st h = jv_ev d 130 18 [x0, x1, x2, x3, x4, some (.int v)] (.int v :: st) h := jq_nx (jv_insR jm_130 dX0_order_16) rfl
theorem e130_18 : jv_ev d 130 18 lc [z1, z0, .ref b] h = (jv_rc h b [(5, 212)]).bind fun y => (jv_cd d y [.ref b, z0, z1] h).bind fun r => jv_on r (fun v h => jv_ev d 130 21 lc (v.toList ++ []) h) (fun q h => some (.inr q, h)) := jq_V (as := [z0, z1]) (rest := []) (jv_insR jm_130 dX0_order_18) jo_130 jV_2_179 rfl rfl rfl rfl
theorem e130_21 : jv_ev d 130 21 lc (.int v :: st) h = if ¬ v = 0 then jv_ev d 130 26 lc st h else jv_ev d 130 24 lc st h := jq_if (jv_insR jm_130 dX0_order_21) rfl (by decide)
theorem e130_24 : jv_ev d 130 24 lc st h = jv_ev d 130 25 lc (.int 0 :: st) h := jq_iconst (jv_insR jm_130 dX0_order_24) (by decide)
theorem e130_25 : jv_ev d 130 25 lc [.int v] h = if narrow .boolean (.int v) = .int v then some (.inl (some (.int v)), h) else none := jq_ret (jv_insR jm_130 dX0_order_25) jr_130 (by decide)
theorem e130_26 : jv_ev d 130 26 [some (.ref a), x1, x2, x3, x4, x5] st h = jv_ev d 130 27 [some (.ref a), x1, x2, x3, x4, x5] (.ref a :: st) h := jq_nx (jv_insR jm_130 dX0_order_26) rfl
theorem e130_27 : jv_ev d 130 27 lc (.ref a :: st) h = (jv_gf h a [(1, 7, .object "RainLoom$Land")]).bind fun r => jv_ev d 130 30 lc (r :: st) h := jq_get (jv_insR jm_130 dX0_order_27) jo_130 jF_2_51
theorem e130_30 : jv_ev d 130 30 lc (.ref a :: st) h = (jv_gf h a [(6, 6, .array .int)]).bind fun r => jv_ev d 130 33 lc (r :: st) h := jq_get (jv_insR jm_130 dX0_order_30) jo_130 jF_2_213
theorem e130_33 : jv_ev d 130 33 [x0, some (.int v), x2, x3, x4, x5] st h = jv_ev d 130 34 [x0, some (.int v), x2, x3, x4, x5] (.int v :: st) h := jq_nx (jv_insR jm_130 dX0_order_33) rfl
theorem e130_34 : jv_ev d 130 34 lc (.int v :: .ref a :: st) h = (jv_ig h a 0 0 v).bind fun w => jv_ev d 130 35 lc (.int w :: st) h := jq_iald (jv_insR jm_130 dX0_order_34)
theorem e130_35 : jv_ev d 130 35 [x0, x1, some (.int v), x3, x4, x5] st h = jv_ev d 130 36 [x0, x1, some (.int v), x3, x4, x5] (.int v :: st) h := jq_nx (jv_insR jm_130 dX0_order_35) rfl
theorem e130_36 : jv_ev d 130 36 lc (.int w :: .int v :: st) h = if ¬ v = w then jv_ev d 130 82 lc st h else jv_ev d 130 39 lc st h := jq_if (jv_insR jm_130 dX0_order_36) rfl (by decide)
theorem e130_39 : jv_ev d 130 39 [some (.ref a), x1, x2, x3, x4, x5] st h = jv_ev d 130 40 [some (.ref a), x1, x2, x3, x4, x5] (.ref a :: st) h := jq_nx (jv_insR jm_130 dX0_order_39) rfl
theorem e130_40 : jv_ev d 130 40 lc (.ref a :: st) h = (jv_gf h a [(1, 7, .object "RainLoom$Land")]).bind fun r => jv_ev d 130 43 lc (r :: st) h := jq_get (jv_insR jm_130 dX0_order_40) jo_130 jF_2_51
theorem e130_43 : jv_ev d 130 43 lc (.ref a :: st) h = (jv_gf h a [(6, 7, .array .int)]).bind fun r => jv_ev d 130 46 lc (r :: st) h := jq_get (jv_insR jm_130 dX0_order_43) jo_130 jF_2_215
theorem e130_46 : jv_ev d 130 46 [x0, some (.int v), x2, x3, x4, x5] st h = jv_ev d 130 47 [x0, some (.int v), x2, x3, x4, x5] (.int v :: st) h := jq_nx (jv_insR jm_130 dX0_order_46) rfl
theorem e130_47 : jv_ev d 130 47 lc (.int v :: .ref a :: st) h = (jv_ig h a 0 0 v).bind fun w => jv_ev d 130 48 lc (.int w :: st) h := jq_iald (jv_insR jm_130 dX0_order_47)
theorem e130_48 : jv_ev d 130 48 [x0, x1, x2, some (.int v), x4, x5] st h = jv_ev d 130 49 [x0, x1, x2, some (.int v), x4, x5] (.int v :: st) h := jq_nx (jv_insR jm_130 dX0_order_48) rfl
theorem e130_49 : jv_ev d 130 49 lc (.int w :: .int v :: st) h = if ¬ v = w then jv_ev d 130 82 lc st h else jv_ev d 130 52 lc st h := jq_if (jv_insR jm_130 dX0_order_49) rfl (by decide)
theorem e130_52 : jv_ev d 130 52 [some (.ref a), x1, x2, x3, x4, x5] st h = jv_ev d 130 53 [some (.ref a), x1, x2, x3, x4, x5] (.ref a :: st) h := jq_nx (jv_insR jm_130 dX0_order_52) rfl
theorem e130_53 : jv_ev d 130 53 lc (.ref a :: st) h = (jv_gf h a [(1, 7, .object "RainLoom$Land")]).bind fun r => jv_ev d 130 56 lc (r :: st) h := jq_get (jv_insR jm_130 dX0_order_53) jo_130 jF_2_51
theorem e130_56 : jv_ev d 130 56 lc (.ref a :: st) h = (jv_gf h a [(6, 8, .array .int)]).bind fun r => jv_ev d 130 59 lc (r :: st) h := jq_get (jv_insR jm_130 dX0_order_56) jo_130 jF_2_218
theorem e130_59 : jv_ev d 130 59 [x0, some (.int v), x2, x3, x4, x5] st h = jv_ev d 130 60 [x0, some (.int v), x2, x3, x4, x5] (.int v :: st) h := jq_nx (jv_insR jm_130 dX0_order_59) rfl
theorem e130_60 : jv_ev d 130 60 lc (.int v :: .ref a :: st) h = (jv_ig h a 0 0 v).bind fun w => jv_ev d 130 61 lc (.int w :: st) h := jq_iald (jv_insR jm_130 dX0_order_60)
theorem e130_61 : jv_ev d 130 61 [x0, x1, x2, x3, some (.int v), x5] st h = jv_ev d 130 63 [x0, x1, x2, x3, some (.int v), x5] (.int v :: st) h := jq_nx (jv_insR jm_130 dX0_order_61) rfl
theorem e130_63 : jv_ev d 130 63 lc (.int w :: .int v :: st) h = if ¬ v = w then jv_ev d 130 82 lc st h else jv_ev d 130 66 lc st h := jq_if (jv_insR jm_130 dX0_order_63) rfl (by decide)
theorem e130_66 : jv_ev d 130 66 [some (.ref a), x1, x2, x3, x4, x5] st h = jv_ev d 130 67 [some (.ref a), x1, x2, x3, x4, x5] (.ref a :: st) h := jq_nx (jv_insR jm_130 dX0_order_66) rfl
theorem e130_67 : jv_ev d 130 67 lc (.ref a :: st) h = (jv_gf h a [(1, 7, .object "RainLoom$Land")]).bind fun r => jv_ev d 130 70 lc (r :: st) h := jq_get (jv_insR jm_130 dX0_order_67) jo_130 jF_2_51
theorem e130_70 : jv_ev d 130 70 lc (.ref a :: st) h = (jv_gf h a [(6, 9, .array .int)]).bind fun r => jv_ev d 130 73 lc (r :: st) h := jq_get (jv_insR jm_130 dX0_order_70) jo_130 jF_2_221
theorem e130_73 : jv_ev d 130 73 [x0, some (.int v), x2, x3, x4, x5] st h = jv_ev d 130 74 [x0, some (.int v), x2, x3, x4, x5] (.int v :: st) h := jq_nx (jv_insR jm_130 dX0_order_73) rfl
theorem e130_74 : jv_ev d 130 74 lc (.int v :: .ref a :: st) h = (jv_ig h a 0 0 v).bind fun w => jv_ev d 130 75 lc (.int w :: st) h := jq_iald (jv_insR jm_130 dX0_order_74)
theorem e130_75 : jv_ev d 130 75 [x0, x1, x2, x3, x4, some (.int v)] st h = jv_ev d 130 77 [x0, x1, x2, x3, x4, some (.int v)] (.int v :: st) h := jq_nx (jv_insR jm_130 dX0_order_75) rfl
theorem e130_77 : jv_ev d 130 77 lc (.int w :: .int v :: st) h = if ¬ v = w then jv_ev d 130 82 lc st h else jv_ev d 130 80 lc st h := jq_if (jv_insR jm_130 dX0_order_77) rfl (by decide)
theorem e130_80 : jv_ev d 130 80 lc st h = jv_ev d 130 81 lc (.int 0 :: st) h := jq_iconst (jv_insR jm_130 dX0_order_80) (by decide)
theorem e130_81 : jv_ev d 130 81 lc [.int v] h = if narrow .boolean (.int v) = .int v then some (.inl (some (.int v)), h) else none := jq_ret (jv_insR jm_130 dX0_order_81) jr_130 (by decide)
theorem e130_82 : jv_ev d 130 82 [some (.ref a), x1, x2, x3, x4, x5] st h = jv_ev d 130 83 [some (.ref a), x1, x2, x3, x4, x5] (.ref a :: st) h := jq_nx (jv_insR jm_130 dX0_order_82) rfl
theorem e130_83 : jv_ev d 130 83 lc [.ref b] h = (jv_rc h b [(1, 132)]).bind fun y => (jv_cd d y [.ref b] h).bind fun r => jv_on r (fun v h => jv_ev d 130 86 lc (v.toList ++ []) h) (fun q h => some (.inr q, h)) := jq_V (as := []) (rest := []) (jv_insR jm_130 dX0_order_83) jo_130 jV_2_256 rfl rfl rfl rfl
theorem e130_86 : jv_ev d 130 86 [some (.ref a), x1, x2, x3, x4, x5] st h = jv_ev d 130 87 [some (.ref a), x1, x2, x3, x4, x5] (.ref a :: st) h := jq_nx (jv_insR jm_130 dX0_order_86) rfl
theorem e130_87 : jv_ev d 130 87 lc (.ref a :: st) h = (jv_gf h a [(1, 7, .object "RainLoom$Land")]).bind fun r => jv_ev d 130 90 lc (r :: st) h := jq_get (jv_insR jm_130 dX0_order_87) jo_130 jF_2_51
theorem e130_90 : jv_ev d 130 90 lc (.ref a :: st) h = (jv_gf h a [(6, 6, .array .int)]).bind fun r => jv_ev d 130 93 lc (r :: st) h := jq_get (jv_insR jm_130 dX0_order_90) jo_130 jF_2_213
theorem e130_93 : jv_ev d 130 93 [x0, some (.int v), x2, x3, x4, x5] st h = jv_ev d 130 94 [x0, some (.int v), x2, x3, x4, x5] (.int v :: st) h := jq_nx (jv_insR jm_130 dX0_order_93) rfl
theorem e130_94 : jv_ev d 130 94 [x0, x1, some (.int v), x3, x4, x5] st h = jv_ev d 130 95 [x0, x1, some (.int v), x3, x4, x5] (.int v :: st) h := jq_nx (jv_insR jm_130 dX0_order_94) rfl
theorem e130_95 : jv_ev d 130 95 lc (.int w :: .int v :: .ref a :: st) h = (jv_ip h a 0 0 v w).bind fun h => jv_ev d 130 96 lc st h := jq_iast (jv_insR jm_130 dX0_order_95)
theorem e130_96 : jv_ev d 130 96 [some (.ref a), x1, x2, x3, x4, x5] st h = jv_ev d 130 97 [some (.ref a), x1, x2, x3, x4, x5] (.ref a :: st) h := jq_nx (jv_insR jm_130 dX0_order_96) rfl
theorem e130_97 : jv_ev d 130 97 lc (.ref a :: st) h = (jv_gf h a [(1, 7, .object "RainLoom$Land")]).bind fun r => jv_ev d 130 100 lc (r :: st) h := jq_get (jv_insR jm_130 dX0_order_97) jo_130 jF_2_51
theorem e130_100 : jv_ev d 130 100 lc (.ref a :: st) h = (jv_gf h a [(6, 7, .array .int)]).bind fun r => jv_ev d 130 103 lc (r :: st) h := jq_get (jv_insR jm_130 dX0_order_100) jo_130 jF_2_215
theorem e130_103 : jv_ev d 130 103 [x0, some (.int v), x2, x3, x4, x5] st h = jv_ev d 130 104 [x0, some (.int v), x2, x3, x4, x5] (.int v :: st) h := jq_nx (jv_insR jm_130 dX0_order_103) rfl
theorem e130_104 : jv_ev d 130 104 [x0, x1, x2, some (.int v), x4, x5] st h = jv_ev d 130 105 [x0, x1, x2, some (.int v), x4, x5] (.int v :: st) h := jq_nx (jv_insR jm_130 dX0_order_104) rfl
theorem e130_105 : jv_ev d 130 105 lc (.int w :: .int v :: .ref a :: st) h = (jv_ip h a 0 0 v w).bind fun h => jv_ev d 130 106 lc st h := jq_iast (jv_insR jm_130 dX0_order_105)
theorem e130_106 : jv_ev d 130 106 [some (.ref a), x1, x2, x3, x4, x5] st h = jv_ev d 130 107 [some (.ref a), x1, x2, x3, x4, x5] (.ref a :: st) h := jq_nx (jv_insR jm_130 dX0_order_106) rfl
theorem e130_107 : jv_ev d 130 107 lc (.ref a :: st) h = (jv_gf h a [(1, 7, .object "RainLoom$Land")]).bind fun r => jv_ev d 130 110 lc (r :: st) h := jq_get (jv_insR jm_130 dX0_order_107) jo_130 jF_2_51
theorem e130_110 : jv_ev d 130 110 lc (.ref a :: st) h = (jv_gf h a [(6, 8, .array .int)]).bind fun r => jv_ev d 130 113 lc (r :: st) h := jq_get (jv_insR jm_130 dX0_order_110) jo_130 jF_2_218
theorem e130_113 : jv_ev d 130 113 [x0, some (.int v), x2, x3, x4, x5] st h = jv_ev d 130 114 [x0, some (.int v), x2, x3, x4, x5] (.int v :: st) h := jq_nx (jv_insR jm_130 dX0_order_113) rfl
theorem e130_114 : jv_ev d 130 114 [x0, x1, x2, x3, some (.int v), x5] st h = jv_ev d 130 116 [x0, x1, x2, x3, some (.int v), x5] (.int v :: st) h := jq_nx (jv_insR jm_130 dX0_order_114) rfl
theorem e130_116 : jv_ev d 130 116 lc (.int w :: .int v :: .ref a :: st) h = (jv_ip h a 0 0 v w).bind fun h => jv_ev d 130 117 lc st h := jq_iast (jv_insR jm_130 dX0_order_116)
theorem e130_117 : jv_ev d 130 117 [some (.ref a), x1, x2, x3, x4, x5] st h = jv_ev d 130 118 [some (.ref a), x1, x2, x3, x4, x5] (.ref a :: st) h := jq_nx (jv_insR jm_130 dX0_order_117) rfl
theorem e130_118 : jv_ev d 130 118 lc (.ref a :: st) h = (jv_gf h a [(1, 7, .object "RainLoom$Land")]).bind fun r => jv_ev d 130 121 lc (r :: st) h := jq_get (jv_insR jm_130 dX0_order_118) jo_130 jF_2_51
theorem e130_121 : jv_ev d 130 121 lc (.ref a :: st) h = (jv_gf h a [(6, 9, .array .int)]).bind fun r => jv_ev d 130 124 lc (r :: st) h := jq_get (jv_insR jm_130 dX0_order_121) jo_130 jF_2_221
theorem e130_124 : jv_ev d 130 124 [x0, some (.int v), x2, x3, x4, x5] st h = jv_ev d 130 125 [x0, some (.int v), x2, x3, x4, x5] (.int v :: st) h := jq_nx (jv_insR jm_130 dX0_order_124) rfl
theorem e130_125 : jv_ev d 130 125 [x0, x1, x2, x3, x4, some (.int v)] st h = jv_ev d 130 127 [x0, x1, x2, x3, x4, some (.int v)] (.int v :: st) h := jq_nx (jv_insR jm_130 dX0_order_125) rfl
theorem e130_127 : jv_ev d 130 127 lc (.int w :: .int v :: .ref a :: st) h = (jv_ip h a 0 0 v w).bind fun h => jv_ev d 130 128 lc st h := jq_iast (jv_insR jm_130 dX0_order_127)
theorem e130_128 : jv_ev d 130 128 lc st h = jv_ev d 130 129 lc (.int 1 :: st) h := jq_iconst (jv_insR jm_130 dX0_order_128) (by decide)
theorem e130_129 : jv_ev d 130 129 lc [.int v] h = if narrow .boolean (.int v) = .int v then some (.inl (some (.int v)), h) else none := jq_ret (jv_insR jm_130 dX0_order_129) jr_130 (by decide)
/-! 131: RainLoom.isPiece(III)Z -/
theorem n131 : jv_cd (d + 1) 131 [.ref a0, .int i1, .int i2, .int i3] h = jv_ev d 131 0 [some (.ref a0), some (.int i1), some (.int i2), some (.int i3)] [] h := rfl
theorem e131_0 : jv_ev d 131 0 [some (.ref a), x1, x2, x3] st h = jv_ev d 131 1 [some (.ref a), x1, x2, x3] (.ref a :: st) h := jq_nx (jv_insR jm_131 dX0_isPiece_0) rfl
theorem e131_1 : jv_ev d 131 1 [x0, some (.int v), x2, x3] st h = jv_ev d 131 2 [x0, some (.int v), x2, x3] (.int v :: st) h := jq_nx (jv_insR jm_131 dX0_isPiece_1) rfl
theorem e131_2 : jv_ev d 131 2 lc [z0, .ref b] h = (jv_rc h b [(1, 126)]).bind fun y => (jv_cd d y [.ref b, z0] h).bind fun r => jv_on r (fun v h => jv_ev d 131 5 lc (v.toList ++ []) h) (fun q h => some (.inr q, h)) := jq_V (as := [z0]) (rest := []) (jv_insR jm_131 dX0_isPiece_2) jo_131 jV_2_171 rfl rfl rfl rfl
theorem e131_5 : jv_ev d 131 5 lc (.int v :: st) h = if v = 0 then jv_ev d 131 35 lc st h else jv_ev d 131 8 lc st h := jq_if (jv_insR jm_131 dX0_isPiece_5) rfl (by decide)
theorem e131_8 : jv_ev d 131 8 [x0, x1, some (.int v), x3] st h = jv_ev d 131 9 [x0, x1, some (.int v), x3] (.int v :: st) h := jq_nx (jv_insR jm_131 dX0_isPiece_8) rfl
theorem e131_9 : jv_ev d 131 9 lc st h = jv_ev d 131 10 lc (.int 1 :: st) h := jq_iconst (jv_insR jm_131 dX0_isPiece_9) (by decide)
theorem e131_10 : jv_ev d 131 10 [some (.ref a), x1, x2, x3] st h = jv_ev d 131 11 [some (.ref a), x1, x2, x3] (.ref a :: st) h := jq_nx (jv_insR jm_131 dX0_isPiece_10) rfl
theorem e131_11 : jv_ev d 131 11 [x0, some (.int v), x2, x3] st h = jv_ev d 131 12 [x0, some (.int v), x2, x3] (.int v :: st) h := jq_nx (jv_insR jm_131 dX0_isPiece_11) rfl
theorem e131_12 : jv_ev d 131 12 lc [z0, .ref b, y0, y1] h = (jv_rc h b [(1, 128)]).bind fun y => (jv_cd d y [.ref b, z0] h).bind fun r => jv_on r (fun v h => jv_ev d 131 15 lc (v.toList ++ [y0, y1]) h) (fun q h => some (.inr q, h)) := jq_V (as := [z0]) (rest := [y0, y1]) (jv_insR jm_131 dX0_isPiece_12) jo_131 jV_2_175 rfl rfl rfl rfl
theorem e131_15 : jv_ev d 131 15 lc [z2, z1, z0] h = (jv_cd d 124 [z0, z1, z2] h).bind fun r => jv_on r (fun v h => jv_ev d 131 18 lc (v.toList ++ []) h) (fun q h => some (.inr q, h)) := jq_S (as := [z0, z1, z2]) (rest := []) (jv_insR jm_131 dX0_isPiece_15) jo_131 jT_2_158 rfl rfl rfl rfl
theorem e131_18 : jv_ev d 131 18 lc (.int v :: st) h = if v = 0 then jv_ev d 131 35 lc st h else jv_ev d 131 21 lc st h := jq_if (jv_insR jm_131 dX0_isPiece_18) rfl (by decide)
theorem e131_21 : jv_ev d 131 21 [x0, x1, x2, some (.int v)] st h = jv_ev d 131 22 [x0, x1, x2, some (.int v)] (.int v :: st) h := jq_nx (jv_insR jm_131 dX0_isPiece_21) rfl
theorem e131_22 : jv_ev d 131 22 lc st h = jv_ev d 131 23 lc (.int 1 :: st) h := jq_iconst (jv_insR jm_131 dX0_isPiece_22) (by decide)
theorem e131_23 : jv_ev d 131 23 lc st h = jv_ev d 131 25 lc (.int 6 :: st) h := jq_bipush (jv_insR jm_131 dX0_isPiece_23) (by decide)
theorem e131_25 : jv_ev d 131 25 lc [z2, z1, z0] h = (jv_cd d 124 [z0, z1, z2] h).bind fun r => jv_on r (fun v h => jv_ev d 131 28 lc (v.toList ++ []) h) (fun q h => some (.inr q, h)) := jq_S (as := [z0, z1, z2]) (rest := []) (jv_insR jm_131 dX0_isPiece_25) jo_131 jT_2_158 rfl rfl rfl rfl
theorem e131_28 : jv_ev d 131 28 lc (.int v :: st) h = if v = 0 then jv_ev d 131 35 lc st h else jv_ev d 131 31 lc st h := jq_if (jv_insR jm_131 dX0_isPiece_28) rfl (by decide)
theorem e131_31 : jv_ev d 131 31 lc st h = jv_ev d 131 32 lc (.int 1 :: st) h := jq_iconst (jv_insR jm_131 dX0_isPiece_31) (by decide)
theorem e131_32 : jv_ev d 131 32 lc st h = jv_ev d 131 36 lc st h := jq_go (jv_insR jm_131 dX0_isPiece_32) (by decide)
theorem e131_35 : jv_ev d 131 35 lc st h = jv_ev d 131 36 lc (.int 0 :: st) h := jq_iconst (jv_insR jm_131 dX0_isPiece_35) (by decide)
theorem e131_36 : jv_ev d 131 36 lc [.int v] h = if narrow .boolean (.int v) = .int v then some (.inl (some (.int v)), h) else none := jq_ret (jv_insR jm_131 dX0_isPiece_36) jr_131 (by decide)
/-! 132: RainLoom.keeps()V -/
theorem n132 : jv_cd (d + 1) 132 [.ref a0] h = jv_ev d 132 0 [some (.ref a0)] [] h := rfl
theorem e132_0 : jv_ev d 132 0 [some (.ref a)] st h = jv_ev d 132 1 [some (.ref a)] (.ref a :: st) h := jq_nx (jv_insR jm_132 dX0_keeps_0) rfl
theorem e132_1 : jv_ev d 132 1 lc (.ref a :: st) h = (jv_gf h a [(1, 9, .array (.object "RainLoom$Land"))]).bind fun r => jv_ev d 132 4 lc (r :: st) h := jq_get (jv_insR jm_132 dX0_keeps_1) jo_132 jF_2_58
theorem e132_4 : jv_ev d 132 4 [some (.ref a)] st h = jv_ev d 132 5 [some (.ref a)] (.ref a :: st) h := jq_nx (jv_insR jm_132 dX0_keeps_4) rfl
theorem e132_5 : jv_ev d 132 5 lc (.ref a :: st) h = (jv_gf h a [(1, 6, .int)]).bind fun r => jv_ev d 132 8 lc (r :: st) h := jq_get (jv_insR jm_132 dX0_keeps_5) jo_132 jF_2_234
theorem e132_8 : jv_ev d 132 8 lc (.int v :: .ref a :: st) h = (jv_rg h a v).bind fun w => jv_ev d 132 9 lc (w :: st) h := jq_aald (jv_insR jm_132 dX0_keeps_8)
theorem e132_9 : jv_ev d 132 9 [some (.ref a)] st h = jv_ev d 132 10 [some (.ref a)] (.ref a :: st) h := jq_nx (jv_insR jm_132 dX0_keeps_9) rfl
theorem e132_10 : jv_ev d 132 10 lc (.ref a :: st) h = (jv_gf h a [(1, 7, .object "RainLoom$Land")]).bind fun r => jv_ev d 132 13 lc (r :: st) h := jq_get (jv_insR jm_132 dX0_keeps_10) jo_132 jF_2_51
theorem e132_13 : jv_ev d 132 13 lc [z0, .ref b] h = (jv_rc h b [(6, 223)]).bind fun y => (jv_cd d y [.ref b, z0] h).bind fun r => jv_on r (fun v h => jv_ev d 132 16 lc (v.toList ++ []) h) (fun q h => some (.inr q, h)) := jq_V (as := [z0]) (rest := []) (jv_insR jm_132 dX0_keeps_13) jo_132 jV_2_237 rfl rfl rfl rfl
theorem e132_16 : jv_ev d 132 16 [some (.ref a)] st h = jv_ev d 132 17 [some (.ref a)] (.ref a :: st) h := jq_nx (jv_insR jm_132 dX0_keeps_16) rfl
theorem e132_17 : jv_ev d 132 17 [some (.ref a)] st h = jv_ev d 132 18 [some (.ref a)] (.ref a :: st) h := jq_nx (jv_insR jm_132 dX0_keeps_17) rfl
theorem e132_18 : jv_ev d 132 18 lc (.ref a :: st) h = (jv_gf h a [(1, 6, .int)]).bind fun r => jv_ev d 132 21 lc (r :: st) h := jq_get (jv_insR jm_132 dX0_keeps_18) jo_132 jF_2_234
theorem e132_21 : jv_ev d 132 21 lc st h = jv_ev d 132 22 lc (.int 1 :: st) h := jq_iconst (jv_insR jm_132 dX0_keeps_21) (by decide)
theorem e132_22 : jv_ev d 132 22 lc (.int w :: .int v :: st) h = jv_ev d 132 23 lc (.int (v + w) :: st) h := jq_nx (jv_insR jm_132 dX0_keeps_22) rfl
theorem e132_23 : jv_ev d 132 23 lc st h = jv_ev d 132 25 lc (.int 30 :: st) h := jq_bipush (jv_insR jm_132 dX0_keeps_23) (by decide)
theorem e132_25 : jv_ev d 132 25 lc (.int w :: .int v :: st) h = if w = 0 then none else jv_ev d 132 26 lc (.int (v - v / w * w) :: st) h := jq_irem (jv_insR jm_132 dX0_keeps_25)
theorem e132_26 : jv_ev d 132 26 lc (r :: .ref a :: st) h = (jv_pf h a [(1, 6, .int)] r).bind fun h => jv_ev d 132 29 lc st h := jq_put (jv_insR jm_132 dX0_keeps_26) jo_132 ji_132 jG_2_234
theorem e132_29 : jv_ev d 132 29 [some (.ref a)] st h = jv_ev d 132 30 [some (.ref a)] (.ref a :: st) h := jq_nx (jv_insR jm_132 dX0_keeps_29) rfl
theorem e132_30 : jv_ev d 132 30 lc st h = jv_ev d 132 32 lc (.int 30 :: st) h := jq_bipush (jv_insR jm_132 dX0_keeps_30) (by decide)
theorem e132_32 : jv_ev d 132 32 [some (.ref a)] st h = jv_ev d 132 33 [some (.ref a)] (.ref a :: st) h := jq_nx (jv_insR jm_132 dX0_keeps_32) rfl
theorem e132_33 : jv_ev d 132 33 lc (.ref a :: st) h = (jv_gf h a [(1, 5, .int)]).bind fun r => jv_ev d 132 36 lc (r :: st) h := jq_get (jv_insR jm_132 dX0_keeps_33) jo_132 jF_2_133
theorem e132_36 : jv_ev d 132 36 lc st h = jv_ev d 132 37 lc (.int 1 :: st) h := jq_iconst (jv_insR jm_132 dX0_keeps_36) (by decide)
theorem e132_37 : jv_ev d 132 37 lc (.int w :: .int v :: st) h = jv_ev d 132 38 lc (.int (v + w) :: st) h := jq_nx (jv_insR jm_132 dX0_keeps_37) rfl
theorem e132_38 : jv_ev d 132 38 lc [z1, z0, y0] h = (jv_cd d 309 [z0, z1] h).bind fun r => jv_on r (fun v h => jv_ev d 132 41 lc (v.toList ++ [y0]) h) (fun q h => some (.inr q, h)) := jq_S (as := [z0, z1]) (rest := [y0]) (jv_insR jm_132 dX0_keeps_38) jo_132 jT_2_241 rfl rfl rfl rfl
theorem e132_41 : jv_ev d 132 41 lc (r :: .ref a :: st) h = (jv_pf h a [(1, 5, .int)] r).bind fun h => jv_ev d 132 44 lc st h := jq_put (jv_insR jm_132 dX0_keeps_41) jo_132 ji_132 jG_2_133
theorem e132_44 : jv_ev d 132 44 lc [] h = some (.inl none, h) := jq_retv (jv_insR jm_132 dX0_keeps_44) jr_132
/-! 133: RainLoom.stop(I)Z -/
theorem n133 : jv_cd (d + 1) 133 [.ref a0, .int i1] h = jv_ev d 133 0 [some (.ref a0), some (.int i1)] [] h := rfl
theorem e133_0 : jv_ev d 133 0 [some (.ref a), x1] st h = jv_ev d 133 1 [some (.ref a), x1] (.ref a :: st) h := jq_nx (jv_insR jm_133 dX0_stop_0) rfl
theorem e133_1 : jv_ev d 133 1 [x0, some (.int v)] st h = jv_ev d 133 2 [x0, some (.int v)] (.int v :: st) h := jq_nx (jv_insR jm_133 dX0_stop_1) rfl
theorem e133_2 : jv_ev d 133 2 lc [z0, .ref b] h = (jv_rc h b [(1, 126)]).bind fun y => (jv_cd d y [.ref b, z0] h).bind fun r => jv_on r (fun v h => jv_ev d 133 5 lc (v.toList ++ []) h) (fun q h => some (.inr q, h)) := jq_V (as := [z0]) (rest := []) (jv_insR jm_133 dX0_stop_2) jo_133 jV_2_171 rfl rfl rfl rfl
theorem e133_5 : jv_ev d 133 5 lc (.int v :: st) h = if v = 0 then jv_ev d 133 20 lc st h else jv_ev d 133 8 lc st h := jq_if (jv_insR jm_133 dX0_stop_5) rfl (by decide)
theorem e133_8 : jv_ev d 133 8 [some (.ref a), x1] st h = jv_ev d 133 9 [some (.ref a), x1] (.ref a :: st) h := jq_nx (jv_insR jm_133 dX0_stop_8) rfl
theorem e133_9 : jv_ev d 133 9 lc (.ref a :: st) h = (jv_gf h a [(1, 7, .object "RainLoom$Land")]).bind fun r => jv_ev d 133 12 lc (r :: st) h := jq_get (jv_insR jm_133 dX0_stop_9) jo_133 jF_2_51
theorem e133_12 : jv_ev d 133 12 lc (.ref a :: st) h = (jv_gf h a [(6, 6, .array .int)]).bind fun r => jv_ev d 133 15 lc (r :: st) h := jq_get (jv_insR jm_133 dX0_stop_12) jo_133 jF_2_213
theorem e133_15 : jv_ev d 133 15 [x0, some (.int v)] st h = jv_ev d 133 16 [x0, some (.int v)] (.int v :: st) h := jq_nx (jv_insR jm_133 dX0_stop_15) rfl
theorem e133_16 : jv_ev d 133 16 lc (.int v :: .ref a :: st) h = (jv_ig h a 0 0 v).bind fun w => jv_ev d 133 17 lc (.int w :: st) h := jq_iald (jv_insR jm_133 dX0_stop_16)
theorem e133_17 : jv_ev d 133 17 lc (.int v :: st) h = if 0 ≤ v then jv_ev d 133 22 lc st h else jv_ev d 133 20 lc st h := jq_if (jv_insR jm_133 dX0_stop_17) rfl (by decide)
theorem e133_20 : jv_ev d 133 20 lc st h = jv_ev d 133 21 lc (.int 0 :: st) h := jq_iconst (jv_insR jm_133 dX0_stop_20) (by decide)
theorem e133_21 : jv_ev d 133 21 lc [.int v] h = if narrow .boolean (.int v) = .int v then some (.inl (some (.int v)), h) else none := jq_ret (jv_insR jm_133 dX0_stop_21) jr_133 (by decide)
theorem e133_22 : jv_ev d 133 22 [some (.ref a), x1] st h = jv_ev d 133 23 [some (.ref a), x1] (.ref a :: st) h := jq_nx (jv_insR jm_133 dX0_stop_22) rfl
theorem e133_23 : jv_ev d 133 23 lc [.ref b] h = (jv_rc h b [(1, 132)]).bind fun y => (jv_cd d y [.ref b] h).bind fun r => jv_on r (fun v h => jv_ev d 133 26 lc (v.toList ++ []) h) (fun q h => some (.inr q, h)) := jq_V (as := []) (rest := []) (jv_insR jm_133 dX0_stop_23) jo_133 jV_2_256 rfl rfl rfl rfl
theorem e133_26 : jv_ev d 133 26 [some (.ref a), x1] st h = jv_ev d 133 27 [some (.ref a), x1] (.ref a :: st) h := jq_nx (jv_insR jm_133 dX0_stop_26) rfl
theorem e133_27 : jv_ev d 133 27 lc (.ref a :: st) h = (jv_gf h a [(1, 7, .object "RainLoom$Land")]).bind fun r => jv_ev d 133 30 lc (r :: st) h := jq_get (jv_insR jm_133 dX0_stop_27) jo_133 jF_2_51
theorem e133_30 : jv_ev d 133 30 [x0, some (.int v)] st h = jv_ev d 133 31 [x0, some (.int v)] (.int v :: st) h := jq_nx (jv_insR jm_133 dX0_stop_30) rfl
theorem e133_31 : jv_ev d 133 31 lc [z0, .ref b] h = (jv_rc h b [(6, 218)]).bind fun y => (jv_cd d y [.ref b, z0] h).bind fun r => jv_on r (fun v h => jv_ev d 133 34 lc (v.toList ++ []) h) (fun q h => some (.inr q, h)) := jq_V (as := [z0]) (rest := []) (jv_insR jm_133 dX0_stop_31) jo_133 jV_2_259 rfl rfl rfl rfl
theorem e133_34 : jv_ev d 133 34 lc st h = jv_ev d 133 35 lc (.int 1 :: st) h := jq_iconst (jv_insR jm_133 dX0_stop_34) (by decide)
theorem e133_35 : jv_ev d 133 35 lc [.int v] h = if narrow .boolean (.int v) = .int v then some (.inl (some (.int v)), h) else none := jq_ret (jv_insR jm_133 dX0_stop_35) jr_133 (by decide)
/-! 134: RainLoom.fall(IIIII)I -/
theorem n134 : jv_cd (d + 1) 134 [.ref a0, .int i1, .int i2, .int i3, .int i4, .int i5] h = jv_ev d 134 0 [some (.ref a0), some (.int i1), some (.int i2), some (.int i3), some (.int i4), some (.int i5)] [] h := rfl
theorem e134_0 : jv_ev d 134 0 [some (.ref a), x1, x2, x3, x4, x5] st h = jv_ev d 134 1 [some (.ref a), x1, x2, x3, x4, x5] (.ref a :: st) h := jq_nx (jv_insR jm_134 dX0_fall_0) rfl
theorem e134_1 : jv_ev d 134 1 [x0, some (.int v), x2, x3, x4, x5] st h = jv_ev d 134 2 [x0, some (.int v), x2, x3, x4, x5] (.int v :: st) h := jq_nx (jv_insR jm_134 dX0_fall_1) rfl
theorem e134_2 : jv_ev d 134 2 [x0, x1, some (.int v), x3, x4, x5] st h = jv_ev d 134 3 [x0, x1, some (.int v), x3, x4, x5] (.int v :: st) h := jq_nx (jv_insR jm_134 dX0_fall_2) rfl
theorem e134_3 : jv_ev d 134 3 [x0, x1, x2, some (.int v), x4, x5] st h = jv_ev d 134 4 [x0, x1, x2, some (.int v), x4, x5] (.int v :: st) h := jq_nx (jv_insR jm_134 dX0_fall_3) rfl
theorem e134_4 : jv_ev d 134 4 lc [z2, z1, z0, .ref b] h = (jv_rc h b [(1, 131)]).bind fun y => (jv_cd d y [.ref b, z0, z1, z2] h).bind fun r => jv_on r (fun v h => jv_ev d 134 7 lc (v.toList ++ []) h) (fun q h => some (.inr q, h)) := jq_V (as := [z0, z1, z2]) (rest := []) (jv_insR jm_134 dX0_fall_4) jo_134 jV_2_253 rfl rfl rfl rfl
theorem e134_7 : jv_ev d 134 7 lc (.int v :: st) h = if v = 0 then jv_ev d 134 24 lc st h else jv_ev d 134 10 lc st h := jq_if (jv_insR jm_134 dX0_fall_7) rfl (by decide)
theorem e134_10 : jv_ev d 134 10 [some (.ref a), x1, x2, x3, x4, x5] st h = jv_ev d 134 11 [some (.ref a), x1, x2, x3, x4, x5] (.ref a :: st) h := jq_nx (jv_insR jm_134 dX0_fall_10) rfl
theorem e134_11 : jv_ev d 134 11 lc (.ref a :: st) h = (jv_gf h a [(1, 3, .object "RainLoom$Text")]).bind fun r => jv_ev d 134 14 lc (r :: st) h := jq_get (jv_insR jm_134 dX0_fall_11) jo_134 jF_2_40
theorem e134_14 : jv_ev d 134 14 [x0, x1, x2, x3, some (.int v), x5] st h = jv_ev d 134 16 [x0, x1, x2, x3, some (.int v), x5] (.int v :: st) h := jq_nx (jv_insR jm_134 dX0_fall_14) rfl
theorem e134_16 : jv_ev d 134 16 [x0, x1, x2, x3, x4, some (.int v)] st h = jv_ev d 134 18 [x0, x1, x2, x3, x4, some (.int v)] (.int v :: st) h := jq_nx (jv_insR jm_134 dX0_fall_16) rfl
theorem e134_18 : jv_ev d 134 18 lc [z1, z0, .ref b] h = (jv_rc h b [(5, 212)]).bind fun y => (jv_cd d y [.ref b, z0, z1] h).bind fun r => jv_on r (fun v h => jv_ev d 134 21 lc (v.toList ++ []) h) (fun q h => some (.inr q, h)) := jq_V (as := [z0, z1]) (rest := []) (jv_insR jm_134 dX0_fall_18) jo_134 jV_2_179 rfl rfl rfl rfl
theorem e134_21 : jv_ev d 134 21 lc (.int v :: st) h = if ¬ v = 0 then jv_ev d 134 26 lc st h else jv_ev d 134 24 lc st h := jq_if (jv_insR jm_134 dX0_fall_21) rfl (by decide)
theorem e134_24 : jv_ev d 134 24 lc st h = jv_ev d 134 25 lc (.int (-1) :: st) h := jq_iconst (jv_insR jm_134 dX0_fall_24) (by decide)
theorem e134_25 : jv_ev d 134 25 lc [.int v] h = some (.inl (some (.int v)), h) := jq_reti (jv_insR jm_134 dX0_fall_25) jr_134
theorem e134_26 : jv_ev d 134 26 [some (.ref a), x1, x2, x3, x4, x5] st h = jv_ev d 134 27 [some (.ref a), x1, x2, x3, x4, x5] (.ref a :: st) h := jq_nx (jv_insR jm_134 dX0_fall_26) rfl
theorem e134_27 : jv_ev d 134 27 lc [.ref b] h = (jv_rc h b [(1, 132)]).bind fun y => (jv_cd d y [.ref b] h).bind fun r => jv_on r (fun v h => jv_ev d 134 30 lc (v.toList ++ []) h) (fun q h => some (.inr q, h)) := jq_V (as := []) (rest := []) (jv_insR jm_134 dX0_fall_27) jo_134 jV_2_256 rfl rfl rfl rfl
theorem e134_30 : jv_ev d 134 30 [some (.ref a), x1, x2, x3, x4, x5] st h = jv_ev d 134 31 [some (.ref a), x1, x2, x3, x4, x5] (.ref a :: st) h := jq_nx (jv_insR jm_134 dX0_fall_30) rfl
theorem e134_31 : jv_ev d 134 31 lc (.ref a :: st) h = (jv_gf h a [(1, 7, .object "RainLoom$Land")]).bind fun r => jv_ev d 134 34 lc (r :: st) h := jq_get (jv_insR jm_134 dX0_fall_31) jo_134 jF_2_51
theorem e134_34 : jv_ev d 134 34 [some (.ref a), x1, x2, x3, x4, x5] st h = jv_ev d 134 35 [some (.ref a), x1, x2, x3, x4, x5] (.ref a :: st) h := jq_nx (jv_insR jm_134 dX0_fall_34) rfl
theorem e134_35 : jv_ev d 134 35 lc (.ref a :: st) h = (jv_gf h a [(1, 3, .object "RainLoom$Text")]).bind fun r => jv_ev d 134 38 lc (r :: st) h := jq_get (jv_insR jm_134 dX0_fall_35) jo_134 jF_2_40
theorem e134_38 : jv_ev d 134 38 [x0, some (.int v), x2, x3, x4, x5] st h = jv_ev d 134 39 [x0, some (.int v), x2, x3, x4, x5] (.int v :: st) h := jq_nx (jv_insR jm_134 dX0_fall_38) rfl
theorem e134_39 : jv_ev d 134 39 [x0, x1, some (.int v), x3, x4, x5] st h = jv_ev d 134 40 [x0, x1, some (.int v), x3, x4, x5] (.int v :: st) h := jq_nx (jv_insR jm_134 dX0_fall_39) rfl
theorem e134_40 : jv_ev d 134 40 [x0, x1, x2, some (.int v), x4, x5] st h = jv_ev d 134 41 [x0, x1, x2, some (.int v), x4, x5] (.int v :: st) h := jq_nx (jv_insR jm_134 dX0_fall_40) rfl
theorem e134_41 : jv_ev d 134 41 [x0, x1, x2, x3, some (.int v), x5] st h = jv_ev d 134 43 [x0, x1, x2, x3, some (.int v), x5] (.int v :: st) h := jq_nx (jv_insR jm_134 dX0_fall_41) rfl
theorem e134_43 : jv_ev d 134 43 [x0, x1, x2, x3, x4, some (.int v)] st h = jv_ev d 134 45 [x0, x1, x2, x3, x4, some (.int v)] (.int v :: st) h := jq_nx (jv_insR jm_134 dX0_fall_43) rfl
theorem e134_45 : jv_ev d 134 45 lc [z5, z4, z3, z2, z1, z0, .ref b] h = (jv_rc h b [(6, 225)]).bind fun y => (jv_cd d y [.ref b, z0, z1, z2, z3, z4, z5] h).bind fun r => jv_on r (fun v h => jv_ev d 134 48 lc (v.toList ++ []) h) (fun q h => some (.inr q, h)) := jq_V (as := [z0, z1, z2, z3, z4, z5]) (rest := []) (jv_insR jm_134 dX0_fall_45) jo_134 jV_2_262 rfl rfl rfl rfl
theorem e134_48 : jv_ev d 134 48 lc [.int v] h = some (.inl (some (.int v)), h) := jq_reti (jv_insR jm_134 dX0_fall_48) jr_134
/-! 135: RainLoom.turn(II)I -/
theorem n135 : jv_cd (d + 1) 135 [.ref a0, .int i1, .int i2] h = jv_ev d 135 0 [some (.ref a0), some (.int i1), some (.int i2)] [] h := rfl
theorem e135_0 : jv_ev d 135 0 [some (.ref a), x1, x2] st h = jv_ev d 135 1 [some (.ref a), x1, x2] (.ref a :: st) h := jq_nx (jv_insR jm_135 dX0_turn_0) rfl
theorem e135_1 : jv_ev d 135 1 [x0, some (.int v), x2] st h = jv_ev d 135 2 [x0, some (.int v), x2] (.int v :: st) h := jq_nx (jv_insR jm_135 dX0_turn_1) rfl
theorem e135_2 : jv_ev d 135 2 lc [z0, .ref b] h = (jv_rc h b [(1, 126)]).bind fun y => (jv_cd d y [.ref b, z0] h).bind fun r => jv_on r (fun v h => jv_ev d 135 5 lc (v.toList ++ []) h) (fun q h => some (.inr q, h)) := jq_V (as := [z0]) (rest := []) (jv_insR jm_135 dX0_turn_2) jo_135 jV_2_171 rfl rfl rfl rfl
theorem e135_5 : jv_ev d 135 5 lc (.int v :: st) h = if v = 0 then jv_ev d 135 18 lc st h else jv_ev d 135 8 lc st h := jq_if (jv_insR jm_135 dX0_turn_5) rfl (by decide)
theorem e135_8 : jv_ev d 135 8 [x0, x1, some (.int v)] st h = jv_ev d 135 9 [x0, x1, some (.int v)] (.int v :: st) h := jq_nx (jv_insR jm_135 dX0_turn_8) rfl
theorem e135_9 : jv_ev d 135 9 lc st h = jv_ev d 135 10 lc (.int 1 :: st) h := jq_iconst (jv_insR jm_135 dX0_turn_9) (by decide)
theorem e135_10 : jv_ev d 135 10 lc st h = jv_ev d 135 12 lc (.int 99 :: st) h := jq_bipush (jv_insR jm_135 dX0_turn_10) (by decide)
theorem e135_12 : jv_ev d 135 12 lc [z2, z1, z0] h = (jv_cd d 124 [z0, z1, z2] h).bind fun r => jv_on r (fun v h => jv_ev d 135 15 lc (v.toList ++ []) h) (fun q h => some (.inr q, h)) := jq_S (as := [z0, z1, z2]) (rest := []) (jv_insR jm_135 dX0_turn_12) jo_135 jT_2_158 rfl rfl rfl rfl
theorem e135_15 : jv_ev d 135 15 lc (.int v :: st) h = if ¬ v = 0 then jv_ev d 135 20 lc st h else jv_ev d 135 18 lc st h := jq_if (jv_insR jm_135 dX0_turn_15) rfl (by decide)
theorem e135_18 : jv_ev d 135 18 lc st h = jv_ev d 135 19 lc (.int (-1) :: st) h := jq_iconst (jv_insR jm_135 dX0_turn_18) (by decide)
theorem e135_19 : jv_ev d 135 19 lc [.int v] h = some (.inl (some (.int v)), h) := jq_reti (jv_insR jm_135 dX0_turn_19) jr_135
theorem e135_20 : jv_ev d 135 20 [some (.ref a), x1, x2] st h = jv_ev d 135 21 [some (.ref a), x1, x2] (.ref a :: st) h := jq_nx (jv_insR jm_135 dX0_turn_20) rfl
theorem e135_21 : jv_ev d 135 21 lc [.ref b] h = (jv_rc h b [(1, 132)]).bind fun y => (jv_cd d y [.ref b] h).bind fun r => jv_on r (fun v h => jv_ev d 135 24 lc (v.toList ++ []) h) (fun q h => some (.inr q, h)) := jq_V (as := []) (rest := []) (jv_insR jm_135 dX0_turn_21) jo_135 jV_2_256 rfl rfl rfl rfl
theorem e135_24 : jv_ev d 135 24 [some (.ref a), x1, x2] st h = jv_ev d 135 25 [some (.ref a), x1, x2] (.ref a :: st) h := jq_nx (jv_insR jm_135 dX0_turn_24) rfl
theorem e135_25 : jv_ev d 135 25 lc (.ref a :: st) h = (jv_gf h a [(1, 7, .object "RainLoom$Land")]).bind fun r => jv_ev d 135 28 lc (r :: st) h := jq_get (jv_insR jm_135 dX0_turn_25) jo_135 jF_2_51
theorem e135_28 : jv_ev d 135 28 lc (.ref a :: st) h = (jv_gf h a [(6, 3, .array .int)]).bind fun r => jv_ev d 135 31 lc (r :: st) h := jq_get (jv_insR jm_135 dX0_turn_28) jo_135 jF_2_210
theorem e135_31 : jv_ev d 135 31 [x0, some (.int v), x2] st h = jv_ev d 135 32 [x0, some (.int v), x2] (.int v :: st) h := jq_nx (jv_insR jm_135 dX0_turn_31) rfl
theorem e135_32 : jv_ev d 135 32 lc (.int v :: .ref b :: st) h = jv_ev d 135 33 lc (.int v :: .ref b :: .int v :: .ref b :: st) h := jq_nx (jv_insR jm_135 dX0_turn_32) rfl
theorem e135_33 : jv_ev d 135 33 lc (.int v :: .ref a :: st) h = (jv_ig h a 0 0 v).bind fun w => jv_ev d 135 34 lc (.int w :: st) h := jq_iald (jv_insR jm_135 dX0_turn_33)
theorem e135_34 : jv_ev d 135 34 [x0, x1, some (.int v)] st h = jv_ev d 135 35 [x0, x1, some (.int v)] (.int v :: st) h := jq_nx (jv_insR jm_135 dX0_turn_34) rfl
theorem e135_35 : jv_ev d 135 35 lc (.int w :: .int v :: st) h = jv_ev d 135 36 lc (.int (v + w) :: st) h := jq_nx (jv_insR jm_135 dX0_turn_35) rfl
theorem e135_36 : jv_ev d 135 36 lc (.int w :: .int v :: .ref a :: st) h = (jv_ip h a 0 0 v w).bind fun h => jv_ev d 135 37 lc st h := jq_iast (jv_insR jm_135 dX0_turn_36)
theorem e135_37 : jv_ev d 135 37 [some (.ref a), x1, x2] st h = jv_ev d 135 38 [some (.ref a), x1, x2] (.ref a :: st) h := jq_nx (jv_insR jm_135 dX0_turn_37) rfl
theorem e135_38 : jv_ev d 135 38 lc (.ref a :: st) h = (jv_gf h a [(1, 7, .object "RainLoom$Land")]).bind fun r => jv_ev d 135 41 lc (r :: st) h := jq_get (jv_insR jm_135 dX0_turn_38) jo_135 jF_2_51
theorem e135_41 : jv_ev d 135 41 lc (.ref a :: st) h = (jv_gf h a [(6, 3, .array .int)]).bind fun r => jv_ev d 135 44 lc (r :: st) h := jq_get (jv_insR jm_135 dX0_turn_41) jo_135 jF_2_210
theorem e135_44 : jv_ev d 135 44 [x0, some (.int v), x2] st h = jv_ev d 135 45 [x0, some (.int v), x2] (.int v :: st) h := jq_nx (jv_insR jm_135 dX0_turn_44) rfl
theorem e135_45 : jv_ev d 135 45 lc (.int v :: .ref a :: st) h = (jv_ig h a 0 0 v).bind fun w => jv_ev d 135 46 lc (.int w :: st) h := jq_iald (jv_insR jm_135 dX0_turn_45)
theorem e135_46 : jv_ev d 135 46 lc [.int v] h = some (.inl (some (.int v)), h) := jq_reti (jv_insR jm_135 dX0_turn_46) jr_135
/-! 136: RainLoom.days(I)I -/
theorem n136 : jv_cd (d + 1) 136 [.ref a0, .int i1] h = jv_ev d 136 0 [some (.ref a0), some (.int i1)] [] h := rfl
theorem e136_0 : jv_ev d 136 0 [x0, some (.int v)] st h = jv_ev d 136 1 [x0, some (.int v)] (.int v :: st) h := jq_nx (jv_insR jm_136 dX0_days_0) rfl
theorem e136_1 : jv_ev d 136 1 lc st h = jv_ev d 136 2 lc (.int 0 :: st) h := jq_iconst (jv_insR jm_136 dX0_days_1) (by decide)
theorem e136_2 : jv_ev d 136 2 lc st h = jv_ev d 136 4 lc (.int 30 :: st) h := jq_bipush (jv_insR jm_136 dX0_days_2) (by decide)
theorem e136_4 : jv_ev d 136 4 lc [z2, z1, z0] h = (jv_cd d 124 [z0, z1, z2] h).bind fun r => jv_on r (fun v h => jv_ev d 136 7 lc (v.toList ++ []) h) (fun q h => some (.inr q, h)) := jq_S (as := [z0, z1, z2]) (rest := []) (jv_insR jm_136 dX0_days_4) jo_136 jT_2_158 rfl rfl rfl rfl
theorem e136_7 : jv_ev d 136 7 lc (.int v :: st) h = if ¬ v = 0 then jv_ev d 136 12 lc st h else jv_ev d 136 10 lc st h := jq_if (jv_insR jm_136 dX0_days_7) rfl (by decide)
theorem e136_10 : jv_ev d 136 10 lc st h = jv_ev d 136 11 lc (.int (-1) :: st) h := jq_iconst (jv_insR jm_136 dX0_days_10) (by decide)
theorem e136_11 : jv_ev d 136 11 lc [.int v] h = some (.inl (some (.int v)), h) := jq_reti (jv_insR jm_136 dX0_days_11) jr_136
theorem e136_12 : jv_ev d 136 12 [x0, some (.int v)] st h = jv_ev d 136 13 [x0, some (.int v)] (.int v :: st) h := jq_nx (jv_insR jm_136 dX0_days_12) rfl
theorem e136_13 : jv_ev d 136 13 lc (.int v :: st) h = if v ≤ 0 then jv_ev d 136 20 lc st h else jv_ev d 136 16 lc st h := jq_if (jv_insR jm_136 dX0_days_13) rfl (by decide)
theorem e136_16 : jv_ev d 136 16 [some (.ref a), x1] st h = jv_ev d 136 17 [some (.ref a), x1] (.ref a :: st) h := jq_nx (jv_insR jm_136 dX0_days_16) rfl
theorem e136_17 : jv_ev d 136 17 lc [.ref b] h = (jv_rc h b [(1, 132)]).bind fun y => (jv_cd d y [.ref b] h).bind fun r => jv_on r (fun v h => jv_ev d 136 20 lc (v.toList ++ []) h) (fun q h => some (.inr q, h)) := jq_V (as := []) (rest := []) (jv_insR jm_136 dX0_days_17) jo_136 jV_2_256 rfl rfl rfl rfl
theorem e136_20 : jv_ev d 136 20 [some (.ref a), x1] st h = jv_ev d 136 21 [some (.ref a), x1] (.ref a :: st) h := jq_nx (jv_insR jm_136 dX0_days_20) rfl
theorem e136_21 : jv_ev d 136 21 [some (.ref a), x1] st h = jv_ev d 136 22 [some (.ref a), x1] (.ref a :: st) h := jq_nx (jv_insR jm_136 dX0_days_21) rfl
theorem e136_22 : jv_ev d 136 22 lc (.ref a :: st) h = (jv_gf h a [(1, 7, .object "RainLoom$Land")]).bind fun r => jv_ev d 136 25 lc (r :: st) h := jq_get (jv_insR jm_136 dX0_days_22) jo_136 jF_2_51
theorem e136_25 : jv_ev d 136 25 [x0, some (.int v)] st h = jv_ev d 136 26 [x0, some (.int v)] (.int v :: st) h := jq_nx (jv_insR jm_136 dX0_days_25) rfl
theorem e136_26 : jv_ev d 136 26 lc [z1, z0, .ref b] h = (jv_rc h b [(1, 137)]).bind fun y => (jv_cd d y [.ref b, z0, z1] h).bind fun r => jv_on r (fun v h => jv_ev d 136 29 lc (v.toList ++ []) h) (fun q h => some (.inr q, h)) := jq_V (as := [z0, z1]) (rest := []) (jv_insR jm_136 dX0_days_26) jo_136 jV_2_266 rfl rfl rfl rfl
theorem e136_29 : jv_ev d 136 29 [some (.ref a), x1] st h = jv_ev d 136 30 [some (.ref a), x1] (.ref a :: st) h := jq_nx (jv_insR jm_136 dX0_days_29) rfl
theorem e136_30 : jv_ev d 136 30 lc (.ref a :: st) h = (jv_gf h a [(1, 7, .object "RainLoom$Land")]).bind fun r => jv_ev d 136 33 lc (r :: st) h := jq_get (jv_insR jm_136 dX0_days_30) jo_136 jF_2_51
theorem e136_33 : jv_ev d 136 33 lc (.ref a :: st) h = (jv_gf h a [(6, 11, .int)]).bind fun r => jv_ev d 136 36 lc (r :: st) h := jq_get (jv_insR jm_136 dX0_days_33) jo_136 jF_2_270
theorem e136_36 : jv_ev d 136 36 lc [.int v] h = some (.inl (some (.int v)), h) := jq_reti (jv_insR jm_136 dX0_days_36) jr_136
/-! 137: RainLoom.runs(LRainLoom$Land;I)V -/
theorem n137 : jv_cd (d + 1) 137 [.ref a0, .ref a1, .int i2] h = jv_ev d 137 0 [some (.ref a0), some (.ref a1), some (.int i2), none] [] h := rfl
theorem e137_0 : jv_ev d 137 0 lc st h = jv_ev d 137 1 lc (.int 0 :: st) h := jq_iconst (jv_insR jm_137 dX0_runs_0) (by decide)
theorem e137_1 : jv_ev d 137 1 [x0, x1, x2, x3] (.int v :: st) h = jv_ev d 137 2 [x0, x1, x2, some (.int v)] st h := jq_nx (jv_insR jm_137 dX0_runs_1) rfl
theorem e137_2 : jv_ev d 137 2 [x0, x1, x2, some (.int v)] st h = jv_ev d 137 3 [x0, x1, x2, some (.int v)] (.int v :: st) h := jq_nx (jv_insR jm_137 dX0_runs_2) rfl
theorem e137_3 : jv_ev d 137 3 [x0, x1, some (.int v), x3] st h = jv_ev d 137 4 [x0, x1, some (.int v), x3] (.int v :: st) h := jq_nx (jv_insR jm_137 dX0_runs_3) rfl
theorem e137_4 : jv_ev d 137 4 lc (.int w :: .int v :: st) h = if w ≤ v then jv_ev d 137 18 lc st h else jv_ev d 137 7 lc st h := jq_if (jv_insR jm_137 dX0_runs_4) rfl (by decide)
theorem e137_7 : jv_ev d 137 7 [some (.ref a), x1, x2, x3] st h = jv_ev d 137 8 [some (.ref a), x1, x2, x3] (.ref a :: st) h := jq_nx (jv_insR jm_137 dX0_runs_7) rfl
theorem e137_8 : jv_ev d 137 8 [x0, some (.ref a), x2, x3] st h = jv_ev d 137 9 [x0, some (.ref a), x2, x3] (.ref a :: st) h := jq_nx (jv_insR jm_137 dX0_runs_8) rfl
theorem e137_9 : jv_ev d 137 9 lc [z0, .ref b] h = (jv_rc h b [(1, 138)]).bind fun y => (jv_cd d y [.ref b, z0] h).bind fun r => jv_on r (fun v h => jv_ev d 137 12 lc (v.toList ++ []) h) (fun q h => some (.inr q, h)) := jq_V (as := [z0]) (rest := []) (jv_insR jm_137 dX0_runs_9) jo_137 jV_2_250 rfl rfl rfl rfl
theorem e137_12 : jv_ev d 137 12 [x0, x1, x2, some (.int v)] st h = jv_ev d 137 15 [x0, x1, x2, some (.int (v + 1))] st h := jq_nx (jv_insR jm_137 dX0_runs_12) rfl
theorem e137_15 : jv_ev d 137 15 lc st h = jv_ev d 137 2 lc st h := jq_go (jv_insR jm_137 dX0_runs_15) (by decide)
theorem e137_18 : jv_ev d 137 18 lc [] h = some (.inl none, h) := jq_retv (jv_insR jm_137 dX0_runs_18) jr_137
/-! 138: RainLoom.day(LRainLoom$Land;)V -/
theorem n138 : jv_cd (d + 1) 138 [.ref a0, .ref a1] h = jv_ev d 138 0 [some (.ref a0), some (.ref a1), none] [] h := rfl
theorem e138_0 : jv_ev d 138 0 lc st h = jv_ev d 138 1 lc (.int 0 :: st) h := jq_iconst (jv_insR jm_138 dX0_day_0) (by decide)
theorem e138_1 : jv_ev d 138 1 [x0, x1, x2] (.int v :: st) h = jv_ev d 138 2 [x0, x1, some (.int v)] st h := jq_nx (jv_insR jm_138 dX0_day_1) rfl
theorem e138_2 : jv_ev d 138 2 [x0, x1, some (.int v)] st h = jv_ev d 138 3 [x0, x1, some (.int v)] (.int v :: st) h := jq_nx (jv_insR jm_138 dX0_day_2) rfl
theorem e138_3 : jv_ev d 138 3 [some (.ref a), x1, x2] st h = jv_ev d 138 4 [some (.ref a), x1, x2] (.ref a :: st) h := jq_nx (jv_insR jm_138 dX0_day_3) rfl
theorem e138_4 : jv_ev d 138 4 lc (.ref a :: st) h = (jv_gf h a [(1, 11, .array (.object "RainLoom$Part"))]).bind fun r => jv_ev d 138 7 lc (r :: st) h := jq_get (jv_insR jm_138 dX0_day_4) jo_138 jF_2_79
theorem e138_7 : jv_ev d 138 7 lc (.ref a :: st) h = (jv_al h a).bind fun v => jv_ev d 138 8 lc (.int v :: st) h := jq_alen (jv_insR jm_138 dX0_day_7)
theorem e138_8 : jv_ev d 138 8 lc (.int w :: .int v :: st) h = if w ≤ v then jv_ev d 138 31 lc st h else jv_ev d 138 11 lc st h := jq_if (jv_insR jm_138 dX0_day_8) rfl (by decide)
theorem e138_11 : jv_ev d 138 11 [some (.ref a), x1, x2] st h = jv_ev d 138 12 [some (.ref a), x1, x2] (.ref a :: st) h := jq_nx (jv_insR jm_138 dX0_day_11) rfl
theorem e138_12 : jv_ev d 138 12 lc (.ref a :: st) h = (jv_gf h a [(1, 11, .array (.object "RainLoom$Part"))]).bind fun r => jv_ev d 138 15 lc (r :: st) h := jq_get (jv_insR jm_138 dX0_day_12) jo_138 jF_2_79
theorem e138_15 : jv_ev d 138 15 [x0, x1, some (.int v)] st h = jv_ev d 138 16 [x0, x1, some (.int v)] (.int v :: st) h := jq_nx (jv_insR jm_138 dX0_day_15) rfl
theorem e138_16 : jv_ev d 138 16 lc (.int v :: .ref a :: st) h = (jv_rg h a v).bind fun w => jv_ev d 138 17 lc (w :: st) h := jq_aald (jv_insR jm_138 dX0_day_16)
theorem e138_17 : jv_ev d 138 17 [x0, some (.ref a), x2] st h = jv_ev d 138 18 [x0, some (.ref a), x2] (.ref a :: st) h := jq_nx (jv_insR jm_138 dX0_day_17) rfl
theorem e138_18 : jv_ev d 138 18 [some (.ref a), x1, x2] st h = jv_ev d 138 19 [some (.ref a), x1, x2] (.ref a :: st) h := jq_nx (jv_insR jm_138 dX0_day_18) rfl
theorem e138_19 : jv_ev d 138 19 lc (.ref a :: st) h = (jv_gf h a [(1, 3, .object "RainLoom$Text")]).bind fun r => jv_ev d 138 22 lc (r :: st) h := jq_get (jv_insR jm_138 dX0_day_19) jo_138 jF_2_40
theorem e138_22 : jv_ev d 138 22 lc [z1, z0, .ref b] h = (jv_rc h b [(9, 234), (10, 236), (8, 232), (11, 238)]).bind fun y => (jv_cd d y [.ref b, z0, z1] h).bind fun r => jv_on r (fun v h => jv_ev d 138 25 lc (v.toList ++ []) h) (fun q h => some (.inr q, h)) := jq_V (as := [z0, z1]) (rest := []) (jv_insR jm_138 dX0_day_22) jo_138 jV_2_246 rfl rfl rfl rfl
theorem e138_25 : jv_ev d 138 25 [x0, x1, some (.int v)] st h = jv_ev d 138 28 [x0, x1, some (.int (v + 1))] st h := jq_nx (jv_insR jm_138 dX0_day_25) rfl
theorem e138_28 : jv_ev d 138 28 lc st h = jv_ev d 138 2 lc st h := jq_go (jv_insR jm_138 dX0_day_28) (by decide)
theorem e138_31 : jv_ev d 138 31 lc [] h = some (.inl none, h) := jq_retv (jv_insR jm_138 dX0_day_31) jr_138
/-! 139: RainLoom.lot(III)I -/
theorem n139 : jv_cd (d + 1) 139 [.int i0, .int i1, .int i2] h = jv_ev d 139 0 [some (.int i0), some (.int i1), some (.int i2)] [] h := rfl
theorem e139_0 : jv_ev d 139 0 [some (.int v), x1, x2] st h = jv_ev d 139 1 [some (.int v), x1, x2] (.int v :: st) h := jq_nx (jv_insR jm_139 dX0_lot_0) rfl
theorem e139_1 : jv_ev d 139 1 lc st h = jv_ev d 139 3 lc (.int 75 :: st) h := jq_bipush (jv_insR jm_139 dX0_lot_1) (by decide)
theorem e139_3 : jv_ev d 139 3 lc [z1, z0] h = (jv_cd d 140 [z0, z1] h).bind fun r => jv_on r (fun v h => jv_ev d 139 6 lc (v.toList ++ []) h) (fun q h => some (.inr q, h)) := jq_S (as := [z0, z1]) (rest := []) (jv_insR jm_139 dX0_lot_3) jo_139 jT_2_2 rfl rfl rfl rfl
theorem e139_6 : jv_ev d 139 6 [x0, some (.int v), x2] st h = jv_ev d 139 7 [x0, some (.int v), x2] (.int v :: st) h := jq_nx (jv_insR jm_139 dX0_lot_6) rfl
theorem e139_7 : jv_ev d 139 7 lc [z1, z0] h = (jv_cd d 140 [z0, z1] h).bind fun r => jv_on r (fun v h => jv_ev d 139 10 lc (v.toList ++ []) h) (fun q h => some (.inr q, h)) := jq_S (as := [z0, z1]) (rest := []) (jv_insR jm_139 dX0_lot_7) jo_139 jT_2_2 rfl rfl rfl rfl
theorem e139_10 : jv_ev d 139 10 lc st h = jv_ev d 139 11 lc (.int 1 :: st) h := jq_iconst (jv_insR jm_139 dX0_lot_10) (by decide)
theorem e139_11 : jv_ev d 139 11 lc (.int w :: .int v :: st) h = jv_ev d 139 12 lc (.int ((v.toUInt32 >>> (w.toUInt32 &&& Int32.toUInt32 31)).toInt32) :: st) h := jq_nx (jv_insR jm_139 dX0_lot_11) rfl
theorem e139_12 : jv_ev d 139 12 [x0, x1, some (.int v)] st h = jv_ev d 139 13 [x0, x1, some (.int v)] (.int v :: st) h := jq_nx (jv_insR jm_139 dX0_lot_12) rfl
theorem e139_13 : jv_ev d 139 13 lc (.int w :: .int v :: st) h = if w = 0 then none else jv_ev d 139 14 lc (.int (v - v / w * w) :: st) h := jq_irem (jv_insR jm_139 dX0_lot_13)
theorem e139_14 : jv_ev d 139 14 lc [.int v] h = some (.inl (some (.int v)), h) := jq_reti (jv_insR jm_139 dX0_lot_14) jr_139
/-! 140: RainLoom.mixed(II)I -/
theorem n140 : jv_cd (d + 1) 140 [.int i0, .int i1] h = jv_ev d 140 0 [some (.int i0), some (.int i1), none] [] h := rfl
theorem e140_0 : jv_ev d 140 0 [some (.int v), x1, x2] st h = jv_ev d 140 1 [some (.int v), x1, x2] (.int v :: st) h := jq_nx (jv_insR jm_140 dX0_mixed_0) rfl
theorem e140_1 : jv_ev d 140 1 [x0, some (.int v), x2] st h = jv_ev d 140 2 [x0, some (.int v), x2] (.int v :: st) h := jq_nx (jv_insR jm_140 dX0_mixed_1) rfl
theorem e140_2 : jv_ev d 140 2 lc (.int w :: .int v :: st) h = jv_ev d 140 3 lc (.int (v ^^^ w) :: st) h := jq_nx (jv_insR jm_140 dX0_mixed_2) rfl
theorem e140_3 : jv_ev d 140 3 lc st h = jv_ev d 140 5 lc (.int (1103515245) :: st) h := jq_ldc (jv_insR jm_140 dX0_mixed_3) jo_140 jK_2_1 rfl
theorem e140_5 : jv_ev d 140 5 lc (.int w :: .int v :: st) h = jv_ev d 140 6 lc (.int (v * w) :: st) h := jq_nx (jv_insR jm_140 dX0_mixed_5) rfl
theorem e140_6 : jv_ev d 140 6 lc st h = jv_ev d 140 9 lc (.int 12345 :: st) h := jq_sipush (jv_insR jm_140 dX0_mixed_6) (by decide)
theorem e140_9 : jv_ev d 140 9 lc (.int w :: .int v :: st) h = jv_ev d 140 10 lc (.int (v + w) :: st) h := jq_nx (jv_insR jm_140 dX0_mixed_9) rfl
theorem e140_10 : jv_ev d 140 10 [x0, x1, x2] (.int v :: st) h = jv_ev d 140 11 [x0, x1, some (.int v)] st h := jq_nx (jv_insR jm_140 dX0_mixed_10) rfl
theorem e140_11 : jv_ev d 140 11 [x0, x1, some (.int v)] st h = jv_ev d 140 12 [x0, x1, some (.int v)] (.int v :: st) h := jq_nx (jv_insR jm_140 dX0_mixed_11) rfl
theorem e140_12 : jv_ev d 140 12 [x0, x1, some (.int v)] st h = jv_ev d 140 13 [x0, x1, some (.int v)] (.int v :: st) h := jq_nx (jv_insR jm_140 dX0_mixed_12) rfl
theorem e140_13 : jv_ev d 140 13 lc st h = jv_ev d 140 15 lc (.int 15 :: st) h := jq_bipush (jv_insR jm_140 dX0_mixed_13) (by decide)
theorem e140_15 : jv_ev d 140 15 lc (.int w :: .int v :: st) h = jv_ev d 140 16 lc (.int ((v.toUInt32 >>> (w.toUInt32 &&& Int32.toUInt32 31)).toInt32) :: st) h := jq_nx (jv_insR jm_140 dX0_mixed_15) rfl
theorem e140_16 : jv_ev d 140 16 lc (.int w :: .int v :: st) h = jv_ev d 140 17 lc (.int (v ^^^ w) :: st) h := jq_nx (jv_insR jm_140 dX0_mixed_16) rfl
theorem e140_17 : jv_ev d 140 17 lc [.int v] h = some (.inl (some (.int v)), h) := jq_reti (jv_insR jm_140 dX0_mixed_17) jr_140
/-! 141: RainLoom.undo()Z -/
theorem n141 : jv_cd (d + 1) 141 [.ref a0] h = jv_ev d 141 0 [some (.ref a0)] [] h := rfl
theorem e141_0 : jv_ev d 141 0 [some (.ref a)] st h = jv_ev d 141 1 [some (.ref a)] (.ref a :: st) h := jq_nx (jv_insR jm_141 dX0_undo_0) rfl
theorem e141_1 : jv_ev d 141 1 lc (.ref a :: st) h = (jv_gf h a [(1, 5, .int)]).bind fun r => jv_ev d 141 4 lc (r :: st) h := jq_get (jv_insR jm_141 dX0_undo_1) jo_141 jF_2_133
theorem e141_4 : jv_ev d 141 4 lc (.int v :: st) h = if ¬ v = 0 then jv_ev d 141 9 lc st h else jv_ev d 141 7 lc st h := jq_if (jv_insR jm_141 dX0_undo_4) rfl (by decide)
theorem e141_7 : jv_ev d 141 7 lc st h = jv_ev d 141 8 lc (.int 0 :: st) h := jq_iconst (jv_insR jm_141 dX0_undo_7) (by decide)
theorem e141_8 : jv_ev d 141 8 lc [.int v] h = if narrow .boolean (.int v) = .int v then some (.inl (some (.int v)), h) else none := jq_ret (jv_insR jm_141 dX0_undo_8) jr_141 (by decide)
theorem e141_9 : jv_ev d 141 9 [some (.ref a)] st h = jv_ev d 141 10 [some (.ref a)] (.ref a :: st) h := jq_nx (jv_insR jm_141 dX0_undo_9) rfl
theorem e141_10 : jv_ev d 141 10 lc (.ref a :: st) h = jv_ev d 141 11 lc (.ref a :: .ref a :: st) h := jq_nx (jv_insR jm_141 dX0_undo_10) rfl
theorem e141_11 : jv_ev d 141 11 lc (.ref a :: st) h = (jv_gf h a [(1, 5, .int)]).bind fun r => jv_ev d 141 14 lc (r :: st) h := jq_get (jv_insR jm_141 dX0_undo_11) jo_141 jF_2_133
theorem e141_14 : jv_ev d 141 14 lc st h = jv_ev d 141 15 lc (.int 1 :: st) h := jq_iconst (jv_insR jm_141 dX0_undo_14) (by decide)
theorem e141_15 : jv_ev d 141 15 lc (.int w :: .int v :: st) h = jv_ev d 141 16 lc (.int (v - w) :: st) h := jq_nx (jv_insR jm_141 dX0_undo_15) rfl
theorem e141_16 : jv_ev d 141 16 lc (r :: .ref a :: st) h = (jv_pf h a [(1, 5, .int)] r).bind fun h => jv_ev d 141 19 lc st h := jq_put (jv_insR jm_141 dX0_undo_16) jo_141 ji_141 jG_2_133
theorem e141_19 : jv_ev d 141 19 [some (.ref a)] st h = jv_ev d 141 20 [some (.ref a)] (.ref a :: st) h := jq_nx (jv_insR jm_141 dX0_undo_19) rfl
theorem e141_20 : jv_ev d 141 20 [some (.ref a)] st h = jv_ev d 141 21 [some (.ref a)] (.ref a :: st) h := jq_nx (jv_insR jm_141 dX0_undo_20) rfl
theorem e141_21 : jv_ev d 141 21 lc (.ref a :: st) h = (jv_gf h a [(1, 6, .int)]).bind fun r => jv_ev d 141 24 lc (r :: st) h := jq_get (jv_insR jm_141 dX0_undo_21) jo_141 jF_2_234
theorem e141_24 : jv_ev d 141 24 lc st h = jv_ev d 141 26 lc (.int 30 :: st) h := jq_bipush (jv_insR jm_141 dX0_undo_24) (by decide)
theorem e141_26 : jv_ev d 141 26 lc (.int w :: .int v :: st) h = jv_ev d 141 27 lc (.int (v + w) :: st) h := jq_nx (jv_insR jm_141 dX0_undo_26) rfl
theorem e141_27 : jv_ev d 141 27 lc st h = jv_ev d 141 28 lc (.int 1 :: st) h := jq_iconst (jv_insR jm_141 dX0_undo_27) (by decide)
theorem e141_28 : jv_ev d 141 28 lc (.int w :: .int v :: st) h = jv_ev d 141 29 lc (.int (v - w) :: st) h := jq_nx (jv_insR jm_141 dX0_undo_28) rfl
theorem e141_29 : jv_ev d 141 29 lc st h = jv_ev d 141 31 lc (.int 30 :: st) h := jq_bipush (jv_insR jm_141 dX0_undo_29) (by decide)
theorem e141_31 : jv_ev d 141 31 lc (.int w :: .int v :: st) h = if w = 0 then none else jv_ev d 141 32 lc (.int (v - v / w * w) :: st) h := jq_irem (jv_insR jm_141 dX0_undo_31)
theorem e141_32 : jv_ev d 141 32 lc (r :: .ref a :: st) h = (jv_pf h a [(1, 6, .int)] r).bind fun h => jv_ev d 141 35 lc st h := jq_put (jv_insR jm_141 dX0_undo_32) jo_141 ji_141 jG_2_234
theorem e141_35 : jv_ev d 141 35 [some (.ref a)] st h = jv_ev d 141 36 [some (.ref a)] (.ref a :: st) h := jq_nx (jv_insR jm_141 dX0_undo_35) rfl
theorem e141_36 : jv_ev d 141 36 lc (.ref a :: st) h = (jv_gf h a [(1, 7, .object "RainLoom$Land")]).bind fun r => jv_ev d 141 39 lc (r :: st) h := jq_get (jv_insR jm_141 dX0_undo_36) jo_141 jF_2_51
theorem e141_39 : jv_ev d 141 39 [some (.ref a)] st h = jv_ev d 141 40 [some (.ref a)] (.ref a :: st) h := jq_nx (jv_insR jm_141 dX0_undo_39) rfl
theorem e141_40 : jv_ev d 141 40 lc (.ref a :: st) h = (jv_gf h a [(1, 9, .array (.object "RainLoom$Land"))]).bind fun r => jv_ev d 141 43 lc (r :: st) h := jq_get (jv_insR jm_141 dX0_undo_40) jo_141 jF_2_58
theorem e141_43 : jv_ev d 141 43 [some (.ref a)] st h = jv_ev d 141 44 [some (.ref a)] (.ref a :: st) h := jq_nx (jv_insR jm_141 dX0_undo_43) rfl
theorem e141_44 : jv_ev d 141 44 lc (.ref a :: st) h = (jv_gf h a [(1, 6, .int)]).bind fun r => jv_ev d 141 47 lc (r :: st) h := jq_get (jv_insR jm_141 dX0_undo_44) jo_141 jF_2_234
theorem e141_47 : jv_ev d 141 47 lc (.int v :: .ref a :: st) h = (jv_rg h a v).bind fun w => jv_ev d 141 48 lc (w :: st) h := jq_aald (jv_insR jm_141 dX0_undo_47)
theorem e141_48 : jv_ev d 141 48 lc [z0, .ref b] h = (jv_rc h b [(6, 223)]).bind fun y => (jv_cd d y [.ref b, z0] h).bind fun r => jv_on r (fun v h => jv_ev d 141 51 lc (v.toList ++ []) h) (fun q h => some (.inr q, h)) := jq_V (as := [z0]) (rest := []) (jv_insR jm_141 dX0_undo_48) jo_141 jV_2_237 rfl rfl rfl rfl
theorem e141_51 : jv_ev d 141 51 lc st h = jv_ev d 141 52 lc (.int 1 :: st) h := jq_iconst (jv_insR jm_141 dX0_undo_51) (by decide)
theorem e141_52 : jv_ev d 141 52 lc [.int v] h = if narrow .boolean (.int v) = .int v then some (.inl (some (.int v)), h) else none := jq_ret (jv_insR jm_141 dX0_undo_52) jr_141 (by decide)
/-! 142: RainLoom.holds(IIIZ)I -/
theorem n142 : jv_cd (d + 1) 142 [.ref a0, .int i1, .int i2, .int i3, .int i4] h = jv_ev d 142 0 [some (.ref a0), some (.int i1), some (.int i2), some (.int i3), some (.int i4)] [] h := rfl
theorem e142_0 : jv_ev d 142 0 [some (.ref a), x1, x2, x3, x4] st h = jv_ev d 142 1 [some (.ref a), x1, x2, x3, x4] (.ref a :: st) h := jq_nx (jv_insR jm_142 dX0_holds_0) rfl
theorem e142_1 : jv_ev d 142 1 [x0, some (.int v), x2, x3, x4] st h = jv_ev d 142 2 [x0, some (.int v), x2, x3, x4] (.int v :: st) h := jq_nx (jv_insR jm_142 dX0_holds_1) rfl
theorem e142_2 : jv_ev d 142 2 [x0, x1, some (.int v), x3, x4] st h = jv_ev d 142 3 [x0, x1, some (.int v), x3, x4] (.int v :: st) h := jq_nx (jv_insR jm_142 dX0_holds_2) rfl
theorem e142_3 : jv_ev d 142 3 [x0, x1, x2, some (.int v), x4] st h = jv_ev d 142 4 [x0, x1, x2, some (.int v), x4] (.int v :: st) h := jq_nx (jv_insR jm_142 dX0_holds_3) rfl
theorem e142_4 : jv_ev d 142 4 lc [z2, z1, z0, .ref b] h = (jv_rc h b [(1, 131)]).bind fun y => (jv_cd d y [.ref b, z0, z1, z2] h).bind fun r => jv_on r (fun v h => jv_ev d 142 7 lc (v.toList ++ []) h) (fun q h => some (.inr q, h)) := jq_V (as := [z0, z1, z2]) (rest := []) (jv_insR jm_142 dX0_holds_4) jo_142 jV_2_253 rfl rfl rfl rfl
theorem e142_7 : jv_ev d 142 7 lc (.int v :: st) h = if v = 0 then jv_ev d 142 22 lc st h else jv_ev d 142 10 lc st h := jq_if (jv_insR jm_142 dX0_holds_7) rfl (by decide)
theorem e142_10 : jv_ev d 142 10 [some (.ref a), x1, x2, x3, x4] st h = jv_ev d 142 11 [some (.ref a), x1, x2, x3, x4] (.ref a :: st) h := jq_nx (jv_insR jm_142 dX0_holds_10) rfl
theorem e142_11 : jv_ev d 142 11 [x0, some (.int v), x2, x3, x4] st h = jv_ev d 142 12 [x0, some (.int v), x2, x3, x4] (.int v :: st) h := jq_nx (jv_insR jm_142 dX0_holds_11) rfl
theorem e142_12 : jv_ev d 142 12 [x0, x1, some (.int v), x3, x4] st h = jv_ev d 142 13 [x0, x1, some (.int v), x3, x4] (.int v :: st) h := jq_nx (jv_insR jm_142 dX0_holds_12) rfl
theorem e142_13 : jv_ev d 142 13 [x0, x1, x2, some (.int v), x4] st h = jv_ev d 142 14 [x0, x1, x2, some (.int v), x4] (.int v :: st) h := jq_nx (jv_insR jm_142 dX0_holds_13) rfl
theorem e142_14 : jv_ev d 142 14 [x0, x1, x2, x3, some (.int v)] st h = jv_ev d 142 16 [x0, x1, x2, x3, some (.int v)] (.int v :: st) h := jq_nx (jv_insR jm_142 dX0_holds_14) rfl
theorem e142_16 : jv_ev d 142 16 lc [z3, z2, z1, z0, .ref b] h = (jv_rc h b [(1, 143)]).bind fun y => (jv_cd d y [.ref b, z0, z1, z2, z3] h).bind fun r => jv_on r (fun v h => jv_ev d 142 19 lc (v.toList ++ []) h) (fun q h => some (.inr q, h)) := jq_V (as := [z0, z1, z2, z3]) (rest := []) (jv_insR jm_142 dX0_holds_16) jo_142 jV_2_272 rfl rfl rfl rfl
theorem e142_19 : jv_ev d 142 19 lc st h = jv_ev d 142 23 lc st h := jq_go (jv_insR jm_142 dX0_holds_19) (by decide)
theorem e142_22 : jv_ev d 142 22 lc st h = jv_ev d 142 23 lc (.int (-1) :: st) h := jq_iconst (jv_insR jm_142 dX0_holds_22) (by decide)
theorem e142_23 : jv_ev d 142 23 lc [.int v] h = some (.inl (some (.int v)), h) := jq_reti (jv_insR jm_142 dX0_holds_23) jr_142
/-! 143: RainLoom.holdsOf(IIIZ)I -/
theorem n143 : jv_cd (d + 1) 143 [.ref a0, .int i1, .int i2, .int i3, .int i4] h = jv_ev d 143 0 [some (.ref a0), some (.int i1), some (.int i2), some (.int i3), some (.int i4), none, none, none] [] h := rfl
theorem e143_0 : jv_ev d 143 0 lc st h = jv_ev d 143 1 lc (.int 0 :: st) h := jq_iconst (jv_insR jm_143 dX0_holdsOf_0) (by decide)
theorem e143_1 : jv_ev d 143 1 [x0, x1, x2, x3, x4, x5, x6, x7] (.int v :: st) h = jv_ev d 143 3 [x0, x1, x2, x3, x4, some (.int v), x6, x7] st h := jq_nx (jv_insR jm_143 dX0_holdsOf_1) rfl
theorem e143_3 : jv_ev d 143 3 lc st h = jv_ev d 143 4 lc (.int 0 :: st) h := jq_iconst (jv_insR jm_143 dX0_holdsOf_3) (by decide)
theorem e143_4 : jv_ev d 143 4 [x0, x1, x2, x3, x4, x5, x6, x7] (.int v :: st) h = jv_ev d 143 6 [x0, x1, x2, x3, x4, x5, some (.int v), x7] st h := jq_nx (jv_insR jm_143 dX0_holdsOf_4) rfl
theorem e143_6 : jv_ev d 143 6 [x0, x1, x2, x3, x4, x5, some (.int v), x7] st h = jv_ev d 143 8 [x0, x1, x2, x3, x4, x5, some (.int v), x7] (.int v :: st) h := jq_nx (jv_insR jm_143 dX0_holdsOf_6) rfl
theorem e143_8 : jv_ev d 143 8 [x0, x1, some (.int v), x3, x4, x5, x6, x7] st h = jv_ev d 143 9 [x0, x1, some (.int v), x3, x4, x5, x6, x7] (.int v :: st) h := jq_nx (jv_insR jm_143 dX0_holdsOf_8) rfl
theorem e143_9 : jv_ev d 143 9 [x0, x1, x2, some (.int v), x4, x5, x6, x7] st h = jv_ev d 143 10 [x0, x1, x2, some (.int v), x4, x5, x6, x7] (.int v :: st) h := jq_nx (jv_insR jm_143 dX0_holdsOf_9) rfl
theorem e143_10 : jv_ev d 143 10 lc (.int w :: .int v :: st) h = jv_ev d 143 11 lc (.int (v * w) :: st) h := jq_nx (jv_insR jm_143 dX0_holdsOf_10) rfl
theorem e143_11 : jv_ev d 143 11 lc (.int w :: .int v :: st) h = if w ≤ v then jv_ev d 143 77 lc st h else jv_ev d 143 14 lc st h := jq_if (jv_insR jm_143 dX0_holdsOf_11) rfl (by decide)
theorem e143_14 : jv_ev d 143 14 [some (.ref a), x1, x2, x3, x4, x5, x6, x7] st h = jv_ev d 143 15 [some (.ref a), x1, x2, x3, x4, x5, x6, x7] (.ref a :: st) h := jq_nx (jv_insR jm_143 dX0_holdsOf_14) rfl
theorem e143_15 : jv_ev d 143 15 lc (.ref a :: st) h = (jv_gf h a [(1, 7, .object "RainLoom$Land")]).bind fun r => jv_ev d 143 18 lc (r :: st) h := jq_get (jv_insR jm_143 dX0_holdsOf_15) jo_143 jF_2_51
theorem e143_18 : jv_ev d 143 18 [some (.ref a), x1, x2, x3, x4, x5, x6, x7] st h = jv_ev d 143 19 [some (.ref a), x1, x2, x3, x4, x5, x6, x7] (.ref a :: st) h := jq_nx (jv_insR jm_143 dX0_holdsOf_18) rfl
theorem e143_19 : jv_ev d 143 19 lc (.ref a :: st) h = (jv_gf h a [(1, 3, .object "RainLoom$Text")]).bind fun r => jv_ev d 143 22 lc (r :: st) h := jq_get (jv_insR jm_143 dX0_holdsOf_19) jo_143 jF_2_40
theorem e143_22 : jv_ev d 143 22 [x0, some (.int v), x2, x3, x4, x5, x6, x7] st h = jv_ev d 143 23 [x0, some (.int v), x2, x3, x4, x5, x6, x7] (.int v :: st) h := jq_nx (jv_insR jm_143 dX0_holdsOf_22) rfl
theorem e143_23 : jv_ev d 143 23 [x0, x1, x2, x3, x4, x5, some (.int v), x7] st h = jv_ev d 143 25 [x0, x1, x2, x3, x4, x5, some (.int v), x7] (.int v :: st) h := jq_nx (jv_insR jm_143 dX0_holdsOf_23) rfl
theorem e143_25 : jv_ev d 143 25 [x0, x1, some (.int v), x3, x4, x5, x6, x7] st h = jv_ev d 143 26 [x0, x1, some (.int v), x3, x4, x5, x6, x7] (.int v :: st) h := jq_nx (jv_insR jm_143 dX0_holdsOf_25) rfl
theorem e143_26 : jv_ev d 143 26 lc (.int w :: .int v :: st) h = if w = 0 then none else jv_ev d 143 27 lc (.int (v - v / w * w) :: st) h := jq_irem (jv_insR jm_143 dX0_holdsOf_26)
theorem e143_27 : jv_ev d 143 27 [some (.ref a), x1, x2, x3, x4, x5, x6, x7] st h = jv_ev d 143 28 [some (.ref a), x1, x2, x3, x4, x5, x6, x7] (.ref a :: st) h := jq_nx (jv_insR jm_143 dX0_holdsOf_27) rfl
theorem e143_28 : jv_ev d 143 28 lc (.ref a :: st) h = (jv_gf h a [(1, 7, .object "RainLoom$Land")]).bind fun r => jv_ev d 143 31 lc (r :: st) h := jq_get (jv_insR jm_143 dX0_holdsOf_28) jo_143 jF_2_51
theorem e143_31 : jv_ev d 143 31 lc (.ref a :: st) h = (jv_gf h a [(6, 3, .array .int)]).bind fun r => jv_ev d 143 34 lc (r :: st) h := jq_get (jv_insR jm_143 dX0_holdsOf_31) jo_143 jF_2_210
theorem e143_34 : jv_ev d 143 34 [x0, some (.int v), x2, x3, x4, x5, x6, x7] st h = jv_ev d 143 35 [x0, some (.int v), x2, x3, x4, x5, x6, x7] (.int v :: st) h := jq_nx (jv_insR jm_143 dX0_holdsOf_34) rfl
theorem e143_35 : jv_ev d 143 35 lc (.int v :: .ref a :: st) h = (jv_ig h a 0 0 v).bind fun w => jv_ev d 143 36 lc (.int w :: st) h := jq_iald (jv_insR jm_143 dX0_holdsOf_35)
theorem e143_36 : jv_ev d 143 36 [x0, x1, x2, x3, x4, x5, some (.int v), x7] st h = jv_ev d 143 38 [x0, x1, x2, x3, x4, x5, some (.int v), x7] (.int v :: st) h := jq_nx (jv_insR jm_143 dX0_holdsOf_36) rfl
theorem e143_38 : jv_ev d 143 38 [x0, x1, some (.int v), x3, x4, x5, x6, x7] st h = jv_ev d 143 39 [x0, x1, some (.int v), x3, x4, x5, x6, x7] (.int v :: st) h := jq_nx (jv_insR jm_143 dX0_holdsOf_38) rfl
theorem e143_39 : jv_ev d 143 39 lc (.int w :: .int v :: st) h = if w = 0 then none else jv_ev d 143 40 lc (.int (v / w) :: st) h := jq_idiv (jv_insR jm_143 dX0_holdsOf_39)
theorem e143_40 : jv_ev d 143 40 lc (.int w :: .int v :: st) h = jv_ev d 143 41 lc (.int (v + w) :: st) h := jq_nx (jv_insR jm_143 dX0_holdsOf_40) rfl
theorem e143_41 : jv_ev d 143 41 lc [z3, z2, z1, z0, .ref b] h = (jv_rc h b [(6, 221)]).bind fun y => (jv_cd d y [.ref b, z0, z1, z2, z3] h).bind fun r => jv_on r (fun v h => jv_ev d 143 44 lc (v.toList ++ []) h) (fun q h => some (.inr q, h)) := jq_V (as := [z0, z1, z2, z3]) (rest := []) (jv_insR jm_143 dX0_holdsOf_41) jo_143 jV_2_230 rfl rfl rfl rfl
theorem e143_44 : jv_ev d 143 44 [x0, x1, x2, x3, x4, x5, x6, x7] (.int v :: st) h = jv_ev d 143 46 [x0, x1, x2, x3, x4, x5, x6, some (.int v)] st h := jq_nx (jv_insR jm_143 dX0_holdsOf_44) rfl
theorem e143_46 : jv_ev d 143 46 [x0, x1, x2, x3, x4, some (.int v), x6, x7] st h = jv_ev d 143 48 [x0, x1, x2, x3, x4, some (.int v), x6, x7] (.int v :: st) h := jq_nx (jv_insR jm_143 dX0_holdsOf_46) rfl
theorem e143_48 : jv_ev d 143 48 [x0, x1, x2, x3, some (.int v), x5, x6, x7] st h = jv_ev d 143 50 [x0, x1, x2, x3, some (.int v), x5, x6, x7] (.int v :: st) h := jq_nx (jv_insR jm_143 dX0_holdsOf_48) rfl
theorem e143_50 : jv_ev d 143 50 lc (.int v :: st) h = if v = 0 then jv_ev d 143 66 lc st h else jv_ev d 143 53 lc st h := jq_if (jv_insR jm_143 dX0_holdsOf_50) rfl (by decide)
theorem e143_53 : jv_ev d 143 53 [x0, x1, x2, x3, x4, x5, x6, some (.int v)] st h = jv_ev d 143 55 [x0, x1, x2, x3, x4, x5, x6, some (.int v)] (.int v :: st) h := jq_nx (jv_insR jm_143 dX0_holdsOf_53) rfl
theorem e143_55 : jv_ev d 143 55 lc (.int v :: st) h = if ¬ v = 0 then jv_ev d 143 62 lc st h else jv_ev d 143 58 lc st h := jq_if (jv_insR jm_143 dX0_holdsOf_55) rfl (by decide)
theorem e143_58 : jv_ev d 143 58 lc st h = jv_ev d 143 59 lc (.int 1 :: st) h := jq_iconst (jv_insR jm_143 dX0_holdsOf_58) (by decide)
theorem e143_59 : jv_ev d 143 59 lc st h = jv_ev d 143 68 lc st h := jq_go (jv_insR jm_143 dX0_holdsOf_59) (by decide)
theorem e143_62 : jv_ev d 143 62 lc st h = jv_ev d 143 63 lc (.int 0 :: st) h := jq_iconst (jv_insR jm_143 dX0_holdsOf_62) (by decide)
theorem e143_63 : jv_ev d 143 63 lc st h = jv_ev d 143 68 lc st h := jq_go (jv_insR jm_143 dX0_holdsOf_63) (by decide)
theorem e143_66 : jv_ev d 143 66 [x0, x1, x2, x3, x4, x5, x6, some (.int v)] st h = jv_ev d 143 68 [x0, x1, x2, x3, x4, x5, x6, some (.int v)] (.int v :: st) h := jq_nx (jv_insR jm_143 dX0_holdsOf_66) rfl
theorem e143_68 : jv_ev d 143 68 lc (.int w :: .int v :: st) h = jv_ev d 143 69 lc (.int (v + w) :: st) h := jq_nx (jv_insR jm_143 dX0_holdsOf_68) rfl
theorem e143_69 : jv_ev d 143 69 [x0, x1, x2, x3, x4, x5, x6, x7] (.int v :: st) h = jv_ev d 143 71 [x0, x1, x2, x3, x4, some (.int v), x6, x7] st h := jq_nx (jv_insR jm_143 dX0_holdsOf_69) rfl
theorem e143_71 : jv_ev d 143 71 [x0, x1, x2, x3, x4, x5, some (.int v), x7] st h = jv_ev d 143 74 [x0, x1, x2, x3, x4, x5, some (.int (v + 1)), x7] st h := jq_nx (jv_insR jm_143 dX0_holdsOf_71) rfl
theorem e143_74 : jv_ev d 143 74 lc st h = jv_ev d 143 6 lc st h := jq_go (jv_insR jm_143 dX0_holdsOf_74) (by decide)
theorem e143_77 : jv_ev d 143 77 [x0, x1, x2, x3, x4, some (.int v), x6, x7] st h = jv_ev d 143 79 [x0, x1, x2, x3, x4, some (.int v), x6, x7] (.int v :: st) h := jq_nx (jv_insR jm_143 dX0_holdsOf_77) rfl
theorem e143_79 : jv_ev d 143 79 lc [.int v] h = some (.inl (some (.int v)), h) := jq_reti (jv_insR jm_143 dX0_holdsOf_79) jr_143
/-! 144: RainLoom.comes(III)I -/
theorem n144 : jv_cd (d + 1) 144 [.ref a0, .int i1, .int i2, .int i3] h = jv_ev d 144 0 [some (.ref a0), some (.int i1), some (.int i2), some (.int i3), none, none, none] [] h := rfl
theorem e144_0 : jv_ev d 144 0 [some (.ref a), x1, x2, x3, x4, x5, x6] st h = jv_ev d 144 1 [some (.ref a), x1, x2, x3, x4, x5, x6] (.ref a :: st) h := jq_nx (jv_insR jm_144 dX0_comes_0) rfl
theorem e144_1 : jv_ev d 144 1 [x0, some (.int v), x2, x3, x4, x5, x6] st h = jv_ev d 144 2 [x0, some (.int v), x2, x3, x4, x5, x6] (.int v :: st) h := jq_nx (jv_insR jm_144 dX0_comes_1) rfl
theorem e144_2 : jv_ev d 144 2 [x0, x1, some (.int v), x3, x4, x5, x6] st h = jv_ev d 144 3 [x0, x1, some (.int v), x3, x4, x5, x6] (.int v :: st) h := jq_nx (jv_insR jm_144 dX0_comes_2) rfl
theorem e144_3 : jv_ev d 144 3 lc st h = jv_ev d 144 4 lc (.int 1 :: st) h := jq_iconst (jv_insR jm_144 dX0_comes_3) (by decide)
theorem e144_4 : jv_ev d 144 4 lc [z2, z1, z0, .ref b] h = (jv_rc h b [(1, 131)]).bind fun y => (jv_cd d y [.ref b, z0, z1, z2] h).bind fun r => jv_on r (fun v h => jv_ev d 144 7 lc (v.toList ++ []) h) (fun q h => some (.inr q, h)) := jq_V (as := [z0, z1, z2]) (rest := []) (jv_insR jm_144 dX0_comes_4) jo_144 jV_2_253 rfl rfl rfl rfl
theorem e144_7 : jv_ev d 144 7 lc (.int v :: st) h = if v = 0 then jv_ev d 144 23 lc st h else jv_ev d 144 10 lc st h := jq_if (jv_insR jm_144 dX0_comes_7) rfl (by decide)
theorem e144_10 : jv_ev d 144 10 [x0, x1, x2, some (.int v), x4, x5, x6] st h = jv_ev d 144 11 [x0, x1, x2, some (.int v), x4, x5, x6] (.int v :: st) h := jq_nx (jv_insR jm_144 dX0_comes_10) rfl
theorem e144_11 : jv_ev d 144 11 lc st h = jv_ev d 144 12 lc (.int 0 :: st) h := jq_iconst (jv_insR jm_144 dX0_comes_11) (by decide)
theorem e144_12 : jv_ev d 144 12 lc st h = jv_ev d 144 13 lc (.int 1 :: st) h := jq_iconst (jv_insR jm_144 dX0_comes_12) (by decide)
theorem e144_13 : jv_ev d 144 13 [x0, x1, some (.int v), x3, x4, x5, x6] st h = jv_ev d 144 14 [x0, x1, some (.int v), x3, x4, x5, x6] (.int v :: st) h := jq_nx (jv_insR jm_144 dX0_comes_13) rfl
theorem e144_14 : jv_ev d 144 14 lc (.int w :: .int v :: st) h = jv_ev d 144 15 lc (.int (v <<< (w &&& 31)) :: st) h := jq_nx (jv_insR jm_144 dX0_comes_14) rfl
theorem e144_15 : jv_ev d 144 15 lc st h = jv_ev d 144 16 lc (.int 1 :: st) h := jq_iconst (jv_insR jm_144 dX0_comes_15) (by decide)
theorem e144_16 : jv_ev d 144 16 lc (.int w :: .int v :: st) h = jv_ev d 144 17 lc (.int (v - w) :: st) h := jq_nx (jv_insR jm_144 dX0_comes_16) rfl
theorem e144_17 : jv_ev d 144 17 lc [z2, z1, z0] h = (jv_cd d 124 [z0, z1, z2] h).bind fun r => jv_on r (fun v h => jv_ev d 144 20 lc (v.toList ++ []) h) (fun q h => some (.inr q, h)) := jq_S (as := [z0, z1, z2]) (rest := []) (jv_insR jm_144 dX0_comes_17) jo_144 jT_2_158 rfl rfl rfl rfl
theorem e144_20 : jv_ev d 144 20 lc (.int v :: st) h = if ¬ v = 0 then jv_ev d 144 25 lc st h else jv_ev d 144 23 lc st h := jq_if (jv_insR jm_144 dX0_comes_20) rfl (by decide)
theorem e144_23 : jv_ev d 144 23 lc st h = jv_ev d 144 24 lc (.int (-1) :: st) h := jq_iconst (jv_insR jm_144 dX0_comes_23) (by decide)
theorem e144_24 : jv_ev d 144 24 lc [.int v] h = some (.inl (some (.int v)), h) := jq_reti (jv_insR jm_144 dX0_comes_24) jr_144
theorem e144_25 : jv_ev d 144 25 lc st h = jv_ev d 144 26 lc (.int 0 :: st) h := jq_iconst (jv_insR jm_144 dX0_comes_25) (by decide)
theorem e144_26 : jv_ev d 144 26 [x0, x1, x2, x3, x4, x5, x6] (.int v :: st) h = jv_ev d 144 28 [x0, x1, x2, x3, some (.int v), x5, x6] st h := jq_nx (jv_insR jm_144 dX0_comes_26) rfl
theorem e144_28 : jv_ev d 144 28 [x0, x1, x2, x3, some (.int v), x5, x6] st h = jv_ev d 144 30 [x0, x1, x2, x3, some (.int v), x5, x6] (.int v :: st) h := jq_nx (jv_insR jm_144 dX0_comes_28) rfl
theorem e144_30 : jv_ev d 144 30 lc st h = jv_ev d 144 33 lc (.int 200 :: st) h := jq_sipush (jv_insR jm_144 dX0_comes_30) (by decide)
theorem e144_33 : jv_ev d 144 33 lc (.int w :: .int v :: st) h = if w < v then jv_ev d 144 111 lc st h else jv_ev d 144 36 lc st h := jq_if (jv_insR jm_144 dX0_comes_33) rfl (by decide)
theorem e144_36 : jv_ev d 144 36 lc st h = jv_ev d 144 37 lc (.int 0 :: st) h := jq_iconst (jv_insR jm_144 dX0_comes_36) (by decide)
theorem e144_37 : jv_ev d 144 37 [x0, x1, x2, x3, x4, x5, x6] (.int v :: st) h = jv_ev d 144 39 [x0, x1, x2, x3, x4, some (.int v), x6] st h := jq_nx (jv_insR jm_144 dX0_comes_37) rfl
theorem e144_39 : jv_ev d 144 39 lc st h = jv_ev d 144 40 lc (.int 0 :: st) h := jq_iconst (jv_insR jm_144 dX0_comes_39) (by decide)
theorem e144_40 : jv_ev d 144 40 [x0, x1, x2, x3, x4, x5, x6] (.int v :: st) h = jv_ev d 144 42 [x0, x1, x2, x3, x4, x5, some (.int v)] st h := jq_nx (jv_insR jm_144 dX0_comes_40) rfl
theorem e144_42 : jv_ev d 144 42 [x0, x1, x2, x3, x4, x5, some (.int v)] st h = jv_ev d 144 44 [x0, x1, x2, x3, x4, x5, some (.int v)] (.int v :: st) h := jq_nx (jv_insR jm_144 dX0_comes_42) rfl
theorem e144_44 : jv_ev d 144 44 [x0, x1, some (.int v), x3, x4, x5, x6] st h = jv_ev d 144 45 [x0, x1, some (.int v), x3, x4, x5, x6] (.int v :: st) h := jq_nx (jv_insR jm_144 dX0_comes_44) rfl
theorem e144_45 : jv_ev d 144 45 lc (.int w :: .int v :: st) h = if w ≤ v then jv_ev d 144 96 lc st h else jv_ev d 144 48 lc st h := jq_if (jv_insR jm_144 dX0_comes_45) rfl (by decide)
theorem e144_48 : jv_ev d 144 48 [x0, x1, x2, x3, x4, some (.int v), x6] st h = jv_ev d 144 50 [x0, x1, x2, x3, x4, some (.int v), x6] (.int v :: st) h := jq_nx (jv_insR jm_144 dX0_comes_48) rfl
theorem e144_50 : jv_ev d 144 50 [some (.ref a), x1, x2, x3, x4, x5, x6] st h = jv_ev d 144 51 [some (.ref a), x1, x2, x3, x4, x5, x6] (.ref a :: st) h := jq_nx (jv_insR jm_144 dX0_comes_50) rfl
theorem e144_51 : jv_ev d 144 51 lc (.ref a :: st) h = (jv_gf h a [(1, 7, .object "RainLoom$Land")]).bind fun r => jv_ev d 144 54 lc (r :: st) h := jq_get (jv_insR jm_144 dX0_comes_51) jo_144 jF_2_51
theorem e144_54 : jv_ev d 144 54 [some (.ref a), x1, x2, x3, x4, x5, x6] st h = jv_ev d 144 55 [some (.ref a), x1, x2, x3, x4, x5, x6] (.ref a :: st) h := jq_nx (jv_insR jm_144 dX0_comes_54) rfl
theorem e144_55 : jv_ev d 144 55 lc (.ref a :: st) h = (jv_gf h a [(1, 3, .object "RainLoom$Text")]).bind fun r => jv_ev d 144 58 lc (r :: st) h := jq_get (jv_insR jm_144 dX0_comes_55) jo_144 jF_2_40
theorem e144_58 : jv_ev d 144 58 [x0, some (.int v), x2, x3, x4, x5, x6] st h = jv_ev d 144 59 [x0, some (.int v), x2, x3, x4, x5, x6] (.int v :: st) h := jq_nx (jv_insR jm_144 dX0_comes_58) rfl
theorem e144_59 : jv_ev d 144 59 [x0, x1, x2, x3, x4, x5, some (.int v)] st h = jv_ev d 144 61 [x0, x1, x2, x3, x4, x5, some (.int v)] (.int v :: st) h := jq_nx (jv_insR jm_144 dX0_comes_59) rfl
theorem e144_61 : jv_ev d 144 61 [some (.ref a), x1, x2, x3, x4, x5, x6] st h = jv_ev d 144 62 [some (.ref a), x1, x2, x3, x4, x5, x6] (.ref a :: st) h := jq_nx (jv_insR jm_144 dX0_comes_61) rfl
theorem e144_62 : jv_ev d 144 62 lc (.ref a :: st) h = (jv_gf h a [(1, 7, .object "RainLoom$Land")]).bind fun r => jv_ev d 144 65 lc (r :: st) h := jq_get (jv_insR jm_144 dX0_comes_62) jo_144 jF_2_51
theorem e144_65 : jv_ev d 144 65 lc (.ref a :: st) h = (jv_gf h a [(6, 3, .array .int)]).bind fun r => jv_ev d 144 68 lc (r :: st) h := jq_get (jv_insR jm_144 dX0_comes_65) jo_144 jF_2_210
theorem e144_68 : jv_ev d 144 68 [x0, some (.int v), x2, x3, x4, x5, x6] st h = jv_ev d 144 69 [x0, some (.int v), x2, x3, x4, x5, x6] (.int v :: st) h := jq_nx (jv_insR jm_144 dX0_comes_68) rfl
theorem e144_69 : jv_ev d 144 69 lc (.int v :: .ref a :: st) h = (jv_ig h a 0 0 v).bind fun w => jv_ev d 144 70 lc (.int w :: st) h := jq_iald (jv_insR jm_144 dX0_comes_69)
theorem e144_70 : jv_ev d 144 70 [x0, x1, x2, x3, some (.int v), x5, x6] st h = jv_ev d 144 72 [x0, x1, x2, x3, some (.int v), x5, x6] (.int v :: st) h := jq_nx (jv_insR jm_144 dX0_comes_70) rfl
theorem e144_72 : jv_ev d 144 72 lc (.int w :: .int v :: st) h = jv_ev d 144 73 lc (.int (v + w) :: st) h := jq_nx (jv_insR jm_144 dX0_comes_72) rfl
theorem e144_73 : jv_ev d 144 73 lc [z3, z2, z1, z0, .ref b, y0] h = (jv_rc h b [(6, 221)]).bind fun y => (jv_cd d y [.ref b, z0, z1, z2, z3] h).bind fun r => jv_on r (fun v h => jv_ev d 144 76 lc (v.toList ++ [y0]) h) (fun q h => some (.inr q, h)) := jq_V (as := [z0, z1, z2, z3]) (rest := [y0]) (jv_insR jm_144 dX0_comes_73) jo_144 jV_2_230 rfl rfl rfl rfl
theorem e144_76 : jv_ev d 144 76 lc (.int v :: st) h = if v ≤ 0 then jv_ev d 144 86 lc st h else jv_ev d 144 79 lc st h := jq_if (jv_insR jm_144 dX0_comes_76) rfl (by decide)
theorem e144_79 : jv_ev d 144 79 lc st h = jv_ev d 144 80 lc (.int 1 :: st) h := jq_iconst (jv_insR jm_144 dX0_comes_79) (by decide)
theorem e144_80 : jv_ev d 144 80 [x0, x1, x2, x3, x4, x5, some (.int v)] st h = jv_ev d 144 82 [x0, x1, x2, x3, x4, x5, some (.int v)] (.int v :: st) h := jq_nx (jv_insR jm_144 dX0_comes_80) rfl
theorem e144_82 : jv_ev d 144 82 lc (.int w :: .int v :: st) h = jv_ev d 144 83 lc (.int (v <<< (w &&& 31)) :: st) h := jq_nx (jv_insR jm_144 dX0_comes_82) rfl
theorem e144_83 : jv_ev d 144 83 lc st h = jv_ev d 144 87 lc st h := jq_go (jv_insR jm_144 dX0_comes_83) (by decide)
theorem e144_86 : jv_ev d 144 86 lc st h = jv_ev d 144 87 lc (.int 0 :: st) h := jq_iconst (jv_insR jm_144 dX0_comes_86) (by decide)
theorem e144_87 : jv_ev d 144 87 lc (.int w :: .int v :: st) h = jv_ev d 144 88 lc (.int (v ||| w) :: st) h := jq_nx (jv_insR jm_144 dX0_comes_87) rfl
theorem e144_88 : jv_ev d 144 88 [x0, x1, x2, x3, x4, x5, x6] (.int v :: st) h = jv_ev d 144 90 [x0, x1, x2, x3, x4, some (.int v), x6] st h := jq_nx (jv_insR jm_144 dX0_comes_88) rfl
theorem e144_90 : jv_ev d 144 90 [x0, x1, x2, x3, x4, x5, some (.int v)] st h = jv_ev d 144 93 [x0, x1, x2, x3, x4, x5, some (.int (v + 1))] st h := jq_nx (jv_insR jm_144 dX0_comes_90) rfl
theorem e144_93 : jv_ev d 144 93 lc st h = jv_ev d 144 42 lc st h := jq_go (jv_insR jm_144 dX0_comes_93) (by decide)
theorem e144_96 : jv_ev d 144 96 [x0, x1, x2, x3, x4, some (.int v), x6] st h = jv_ev d 144 98 [x0, x1, x2, x3, x4, some (.int v), x6] (.int v :: st) h := jq_nx (jv_insR jm_144 dX0_comes_96) rfl
theorem e144_98 : jv_ev d 144 98 [x0, x1, x2, some (.int v), x4, x5, x6] st h = jv_ev d 144 99 [x0, x1, x2, some (.int v), x4, x5, x6] (.int v :: st) h := jq_nx (jv_insR jm_144 dX0_comes_98) rfl
theorem e144_99 : jv_ev d 144 99 lc (.int w :: .int v :: st) h = if ¬ v = w then jv_ev d 144 105 lc st h else jv_ev d 144 102 lc st h := jq_if (jv_insR jm_144 dX0_comes_99) rfl (by decide)
theorem e144_102 : jv_ev d 144 102 [x0, x1, x2, x3, some (.int v), x5, x6] st h = jv_ev d 144 104 [x0, x1, x2, x3, some (.int v), x5, x6] (.int v :: st) h := jq_nx (jv_insR jm_144 dX0_comes_102) rfl
theorem e144_104 : jv_ev d 144 104 lc [.int v] h = some (.inl (some (.int v)), h) := jq_reti (jv_insR jm_144 dX0_comes_104) jr_144
theorem e144_105 : jv_ev d 144 105 [x0, x1, x2, x3, some (.int v), x5, x6] st h = jv_ev d 144 108 [x0, x1, x2, x3, some (.int (v + 1)), x5, x6] st h := jq_nx (jv_insR jm_144 dX0_comes_105) rfl
theorem e144_108 : jv_ev d 144 108 lc st h = jv_ev d 144 28 lc st h := jq_go (jv_insR jm_144 dX0_comes_108) (by decide)
theorem e144_111 : jv_ev d 144 111 lc st h = jv_ev d 144 113 lc (.int (-2) :: st) h := jq_bipush (jv_insR jm_144 dX0_comes_111) (by decide)
theorem e144_113 : jv_ev d 144 113 lc [.int v] h = some (.inl (some (.int v)), h) := jq_reti (jv_insR jm_144 dX0_comes_113) jr_144
/-! 145: RainLoom.agree(II)I -/
theorem n145 : jv_cd (d + 1) 145 [.ref a0, .int i1, .int i2] h = jv_ev d 145 0 [some (.ref a0), some (.int i1), some (.int i2), none] [] h := rfl
theorem e145_0 : jv_ev d 145 0 [some (.ref a), x1, x2, x3] st h = jv_ev d 145 1 [some (.ref a), x1, x2, x3] (.ref a :: st) h := jq_nx (jv_insR jm_145 dX0_agree_0) rfl
theorem e145_1 : jv_ev d 145 1 [x0, some (.int v), x2, x3] st h = jv_ev d 145 2 [x0, some (.int v), x2, x3] (.int v :: st) h := jq_nx (jv_insR jm_145 dX0_agree_1) rfl
theorem e145_2 : jv_ev d 145 2 lc [z0, .ref b] h = (jv_rc h b [(1, 126)]).bind fun y => (jv_cd d y [.ref b, z0] h).bind fun r => jv_on r (fun v h => jv_ev d 145 5 lc (v.toList ++ []) h) (fun q h => some (.inr q, h)) := jq_V (as := [z0]) (rest := []) (jv_insR jm_145 dX0_agree_2) jo_145 jV_2_171 rfl rfl rfl rfl
theorem e145_5 : jv_ev d 145 5 lc (.int v :: st) h = if v = 0 then jv_ev d 145 21 lc st h else jv_ev d 145 8 lc st h := jq_if (jv_insR jm_145 dX0_agree_5) rfl (by decide)
theorem e145_8 : jv_ev d 145 8 [some (.ref a), x1, x2, x3] st h = jv_ev d 145 9 [some (.ref a), x1, x2, x3] (.ref a :: st) h := jq_nx (jv_insR jm_145 dX0_agree_8) rfl
theorem e145_9 : jv_ev d 145 9 [x0, x1, some (.int v), x3] st h = jv_ev d 145 10 [x0, x1, some (.int v), x3] (.int v :: st) h := jq_nx (jv_insR jm_145 dX0_agree_9) rfl
theorem e145_10 : jv_ev d 145 10 lc [z0, .ref b] h = (jv_rc h b [(1, 126)]).bind fun y => (jv_cd d y [.ref b, z0] h).bind fun r => jv_on r (fun v h => jv_ev d 145 13 lc (v.toList ++ []) h) (fun q h => some (.inr q, h)) := jq_V (as := [z0]) (rest := []) (jv_insR jm_145 dX0_agree_10) jo_145 jV_2_171 rfl rfl rfl rfl
theorem e145_13 : jv_ev d 145 13 lc (.int v :: st) h = if v = 0 then jv_ev d 145 21 lc st h else jv_ev d 145 16 lc st h := jq_if (jv_insR jm_145 dX0_agree_13) rfl (by decide)
theorem e145_16 : jv_ev d 145 16 [x0, some (.int v), x2, x3] st h = jv_ev d 145 17 [x0, some (.int v), x2, x3] (.int v :: st) h := jq_nx (jv_insR jm_145 dX0_agree_16) rfl
theorem e145_17 : jv_ev d 145 17 [x0, x1, some (.int v), x3] st h = jv_ev d 145 18 [x0, x1, some (.int v), x3] (.int v :: st) h := jq_nx (jv_insR jm_145 dX0_agree_17) rfl
theorem e145_18 : jv_ev d 145 18 lc (.int w :: .int v :: st) h = if ¬ v = w then jv_ev d 145 23 lc st h else jv_ev d 145 21 lc st h := jq_if (jv_insR jm_145 dX0_agree_18) rfl (by decide)
theorem e145_21 : jv_ev d 145 21 lc st h = jv_ev d 145 22 lc (.int (-1) :: st) h := jq_iconst (jv_insR jm_145 dX0_agree_21) (by decide)
theorem e145_22 : jv_ev d 145 22 lc [.int v] h = some (.inl (some (.int v)), h) := jq_reti (jv_insR jm_145 dX0_agree_22) jr_145
theorem e145_23 : jv_ev d 145 23 lc st h = jv_ev d 145 24 lc (.int 0 :: st) h := jq_iconst (jv_insR jm_145 dX0_agree_23) (by decide)
theorem e145_24 : jv_ev d 145 24 [x0, x1, x2, x3] (.int v :: st) h = jv_ev d 145 25 [x0, x1, x2, some (.int v)] st h := jq_nx (jv_insR jm_145 dX0_agree_24) rfl
theorem e145_25 : jv_ev d 145 25 [x0, x1, x2, some (.int v)] st h = jv_ev d 145 26 [x0, x1, x2, some (.int v)] (.int v :: st) h := jq_nx (jv_insR jm_145 dX0_agree_25) rfl
theorem e145_26 : jv_ev d 145 26 lc st h = jv_ev d 145 29 lc (.int 200 :: st) h := jq_sipush (jv_insR jm_145 dX0_agree_26) (by decide)
theorem e145_29 : jv_ev d 145 29 lc (.int w :: .int v :: st) h = if w < v then jv_ev d 145 50 lc st h else jv_ev d 145 32 lc st h := jq_if (jv_insR jm_145 dX0_agree_29) rfl (by decide)
theorem e145_32 : jv_ev d 145 32 [some (.ref a), x1, x2, x3] st h = jv_ev d 145 33 [some (.ref a), x1, x2, x3] (.ref a :: st) h := jq_nx (jv_insR jm_145 dX0_agree_32) rfl
theorem e145_33 : jv_ev d 145 33 [x0, some (.int v), x2, x3] st h = jv_ev d 145 34 [x0, some (.int v), x2, x3] (.int v :: st) h := jq_nx (jv_insR jm_145 dX0_agree_33) rfl
theorem e145_34 : jv_ev d 145 34 [x0, x1, some (.int v), x3] st h = jv_ev d 145 35 [x0, x1, some (.int v), x3] (.int v :: st) h := jq_nx (jv_insR jm_145 dX0_agree_34) rfl
theorem e145_35 : jv_ev d 145 35 [x0, x1, x2, some (.int v)] st h = jv_ev d 145 36 [x0, x1, x2, some (.int v)] (.int v :: st) h := jq_nx (jv_insR jm_145 dX0_agree_35) rfl
theorem e145_36 : jv_ev d 145 36 lc [z2, z1, z0, .ref b] h = (jv_rc h b [(1, 146)]).bind fun y => (jv_cd d y [.ref b, z0, z1, z2] h).bind fun r => jv_on r (fun v h => jv_ev d 145 39 lc (v.toList ++ []) h) (fun q h => some (.inr q, h)) := jq_V (as := [z0, z1, z2]) (rest := []) (jv_insR jm_145 dX0_agree_36) jo_145 jV_2_276 rfl rfl rfl rfl
theorem e145_39 : jv_ev d 145 39 lc (.int v :: st) h = if v = 0 then jv_ev d 145 44 lc st h else jv_ev d 145 42 lc st h := jq_if (jv_insR jm_145 dX0_agree_39) rfl (by decide)
theorem e145_42 : jv_ev d 145 42 [x0, x1, x2, some (.int v)] st h = jv_ev d 145 43 [x0, x1, x2, some (.int v)] (.int v :: st) h := jq_nx (jv_insR jm_145 dX0_agree_42) rfl
theorem e145_43 : jv_ev d 145 43 lc [.int v] h = some (.inl (some (.int v)), h) := jq_reti (jv_insR jm_145 dX0_agree_43) jr_145
theorem e145_44 : jv_ev d 145 44 [x0, x1, x2, some (.int v)] st h = jv_ev d 145 47 [x0, x1, x2, some (.int (v + 1))] st h := jq_nx (jv_insR jm_145 dX0_agree_44) rfl
theorem e145_47 : jv_ev d 145 47 lc st h = jv_ev d 145 25 lc st h := jq_go (jv_insR jm_145 dX0_agree_47) (by decide)
theorem e145_50 : jv_ev d 145 50 lc st h = jv_ev d 145 52 lc (.int (-2) :: st) h := jq_bipush (jv_insR jm_145 dX0_agree_50) (by decide)
theorem e145_52 : jv_ev d 145 52 lc [.int v] h = some (.inl (some (.int v)), h) := jq_reti (jv_insR jm_145 dX0_agree_52) jr_145
/-! 146: RainLoom.areSame(III)Z -/
theorem n146 : jv_cd (d + 1) 146 [.ref a0, .int i1, .int i2, .int i3] h = jv_ev d 146 0 [some (.ref a0), some (.int i1), some (.int i2), some (.int i3), none] [] h := rfl
theorem e146_0 : jv_ev d 146 0 lc st h = jv_ev d 146 1 lc (.int 0 :: st) h := jq_iconst (jv_insR jm_146 dX0_areSame_0) (by decide)
theorem e146_1 : jv_ev d 146 1 [x0, x1, x2, x3, x4] (.int v :: st) h = jv_ev d 146 3 [x0, x1, x2, x3, some (.int v)] st h := jq_nx (jv_insR jm_146 dX0_areSame_1) rfl
theorem e146_3 : jv_ev d 146 3 [x0, x1, x2, x3, some (.int v)] st h = jv_ev d 146 5 [x0, x1, x2, x3, some (.int v)] (.int v :: st) h := jq_nx (jv_insR jm_146 dX0_areSame_3) rfl
theorem e146_5 : jv_ev d 146 5 [some (.ref a), x1, x2, x3, x4] st h = jv_ev d 146 6 [some (.ref a), x1, x2, x3, x4] (.ref a :: st) h := jq_nx (jv_insR jm_146 dX0_areSame_5) rfl
theorem e146_6 : jv_ev d 146 6 [x0, some (.int v), x2, x3, x4] st h = jv_ev d 146 7 [x0, some (.int v), x2, x3, x4] (.int v :: st) h := jq_nx (jv_insR jm_146 dX0_areSame_6) rfl
theorem e146_7 : jv_ev d 146 7 lc [z0, .ref b, y0] h = (jv_rc h b [(1, 128)]).bind fun y => (jv_cd d y [.ref b, z0] h).bind fun r => jv_on r (fun v h => jv_ev d 146 10 lc (v.toList ++ [y0]) h) (fun q h => some (.inr q, h)) := jq_V (as := [z0]) (rest := [y0]) (jv_insR jm_146 dX0_areSame_7) jo_146 jV_2_175 rfl rfl rfl rfl
theorem e146_10 : jv_ev d 146 10 [some (.ref a), x1, x2, x3, x4] st h = jv_ev d 146 11 [some (.ref a), x1, x2, x3, x4] (.ref a :: st) h := jq_nx (jv_insR jm_146 dX0_areSame_10) rfl
theorem e146_11 : jv_ev d 146 11 [x0, x1, some (.int v), x3, x4] st h = jv_ev d 146 12 [x0, x1, some (.int v), x3, x4] (.int v :: st) h := jq_nx (jv_insR jm_146 dX0_areSame_11) rfl
theorem e146_12 : jv_ev d 146 12 lc [z0, .ref b, y0, y1] h = (jv_rc h b [(1, 128)]).bind fun y => (jv_cd d y [.ref b, z0] h).bind fun r => jv_on r (fun v h => jv_ev d 146 15 lc (v.toList ++ [y0, y1]) h) (fun q h => some (.inr q, h)) := jq_V (as := [z0]) (rest := [y0, y1]) (jv_insR jm_146 dX0_areSame_12) jo_146 jV_2_175 rfl rfl rfl rfl
theorem e146_15 : jv_ev d 146 15 lc [z1, z0, y0] h = (jv_cd d 309 [z0, z1] h).bind fun r => jv_on r (fun v h => jv_ev d 146 18 lc (v.toList ++ [y0]) h) (fun q h => some (.inr q, h)) := jq_S (as := [z0, z1]) (rest := [y0]) (jv_insR jm_146 dX0_areSame_15) jo_146 jT_2_241 rfl rfl rfl rfl
theorem e146_18 : jv_ev d 146 18 lc (.int w :: .int v :: st) h = if w ≤ v then jv_ev d 146 82 lc st h else jv_ev d 146 21 lc st h := jq_if (jv_insR jm_146 dX0_areSame_18) rfl (by decide)
theorem e146_21 : jv_ev d 146 21 [some (.ref a), x1, x2, x3, x4] st h = jv_ev d 146 22 [some (.ref a), x1, x2, x3, x4] (.ref a :: st) h := jq_nx (jv_insR jm_146 dX0_areSame_21) rfl
theorem e146_22 : jv_ev d 146 22 lc (.ref a :: st) h = (jv_gf h a [(1, 7, .object "RainLoom$Land")]).bind fun r => jv_ev d 146 25 lc (r :: st) h := jq_get (jv_insR jm_146 dX0_areSame_22) jo_146 jF_2_51
theorem e146_25 : jv_ev d 146 25 [some (.ref a), x1, x2, x3, x4] st h = jv_ev d 146 26 [some (.ref a), x1, x2, x3, x4] (.ref a :: st) h := jq_nx (jv_insR jm_146 dX0_areSame_25) rfl
theorem e146_26 : jv_ev d 146 26 lc (.ref a :: st) h = (jv_gf h a [(1, 3, .object "RainLoom$Text")]).bind fun r => jv_ev d 146 29 lc (r :: st) h := jq_get (jv_insR jm_146 dX0_areSame_26) jo_146 jF_2_40
theorem e146_29 : jv_ev d 146 29 [x0, some (.int v), x2, x3, x4] st h = jv_ev d 146 30 [x0, some (.int v), x2, x3, x4] (.int v :: st) h := jq_nx (jv_insR jm_146 dX0_areSame_29) rfl
theorem e146_30 : jv_ev d 146 30 [x0, x1, x2, x3, some (.int v)] st h = jv_ev d 146 32 [x0, x1, x2, x3, some (.int v)] (.int v :: st) h := jq_nx (jv_insR jm_146 dX0_areSame_30) rfl
theorem e146_32 : jv_ev d 146 32 [some (.ref a), x1, x2, x3, x4] st h = jv_ev d 146 33 [some (.ref a), x1, x2, x3, x4] (.ref a :: st) h := jq_nx (jv_insR jm_146 dX0_areSame_32) rfl
theorem e146_33 : jv_ev d 146 33 lc (.ref a :: st) h = (jv_gf h a [(1, 7, .object "RainLoom$Land")]).bind fun r => jv_ev d 146 36 lc (r :: st) h := jq_get (jv_insR jm_146 dX0_areSame_33) jo_146 jF_2_51
theorem e146_36 : jv_ev d 146 36 lc (.ref a :: st) h = (jv_gf h a [(6, 3, .array .int)]).bind fun r => jv_ev d 146 39 lc (r :: st) h := jq_get (jv_insR jm_146 dX0_areSame_36) jo_146 jF_2_210
theorem e146_39 : jv_ev d 146 39 [x0, some (.int v), x2, x3, x4] st h = jv_ev d 146 40 [x0, some (.int v), x2, x3, x4] (.int v :: st) h := jq_nx (jv_insR jm_146 dX0_areSame_39) rfl
theorem e146_40 : jv_ev d 146 40 lc (.int v :: .ref a :: st) h = (jv_ig h a 0 0 v).bind fun w => jv_ev d 146 41 lc (.int w :: st) h := jq_iald (jv_insR jm_146 dX0_areSame_40)
theorem e146_41 : jv_ev d 146 41 [x0, x1, x2, some (.int v), x4] st h = jv_ev d 146 42 [x0, x1, x2, some (.int v), x4] (.int v :: st) h := jq_nx (jv_insR jm_146 dX0_areSame_41) rfl
theorem e146_42 : jv_ev d 146 42 lc (.int w :: .int v :: st) h = jv_ev d 146 43 lc (.int (v + w) :: st) h := jq_nx (jv_insR jm_146 dX0_areSame_42) rfl
theorem e146_43 : jv_ev d 146 43 lc [z3, z2, z1, z0, .ref b] h = (jv_rc h b [(6, 221)]).bind fun y => (jv_cd d y [.ref b, z0, z1, z2, z3] h).bind fun r => jv_on r (fun v h => jv_ev d 146 46 lc (v.toList ++ []) h) (fun q h => some (.inr q, h)) := jq_V (as := [z0, z1, z2, z3]) (rest := []) (jv_insR jm_146 dX0_areSame_43) jo_146 jV_2_230 rfl rfl rfl rfl
theorem e146_46 : jv_ev d 146 46 [some (.ref a), x1, x2, x3, x4] st h = jv_ev d 146 47 [some (.ref a), x1, x2, x3, x4] (.ref a :: st) h := jq_nx (jv_insR jm_146 dX0_areSame_46) rfl
theorem e146_47 : jv_ev d 146 47 lc (.ref a :: st) h = (jv_gf h a [(1, 7, .object "RainLoom$Land")]).bind fun r => jv_ev d 146 50 lc (r :: st) h := jq_get (jv_insR jm_146 dX0_areSame_47) jo_146 jF_2_51
theorem e146_50 : jv_ev d 146 50 [some (.ref a), x1, x2, x3, x4] st h = jv_ev d 146 51 [some (.ref a), x1, x2, x3, x4] (.ref a :: st) h := jq_nx (jv_insR jm_146 dX0_areSame_50) rfl
theorem e146_51 : jv_ev d 146 51 lc (.ref a :: st) h = (jv_gf h a [(1, 3, .object "RainLoom$Text")]).bind fun r => jv_ev d 146 54 lc (r :: st) h := jq_get (jv_insR jm_146 dX0_areSame_51) jo_146 jF_2_40
theorem e146_54 : jv_ev d 146 54 [x0, x1, some (.int v), x3, x4] st h = jv_ev d 146 55 [x0, x1, some (.int v), x3, x4] (.int v :: st) h := jq_nx (jv_insR jm_146 dX0_areSame_54) rfl
theorem e146_55 : jv_ev d 146 55 [x0, x1, x2, x3, some (.int v)] st h = jv_ev d 146 57 [x0, x1, x2, x3, some (.int v)] (.int v :: st) h := jq_nx (jv_insR jm_146 dX0_areSame_55) rfl
theorem e146_57 : jv_ev d 146 57 [some (.ref a), x1, x2, x3, x4] st h = jv_ev d 146 58 [some (.ref a), x1, x2, x3, x4] (.ref a :: st) h := jq_nx (jv_insR jm_146 dX0_areSame_57) rfl
theorem e146_58 : jv_ev d 146 58 lc (.ref a :: st) h = (jv_gf h a [(1, 7, .object "RainLoom$Land")]).bind fun r => jv_ev d 146 61 lc (r :: st) h := jq_get (jv_insR jm_146 dX0_areSame_58) jo_146 jF_2_51
theorem e146_61 : jv_ev d 146 61 lc (.ref a :: st) h = (jv_gf h a [(6, 3, .array .int)]).bind fun r => jv_ev d 146 64 lc (r :: st) h := jq_get (jv_insR jm_146 dX0_areSame_61) jo_146 jF_2_210
theorem e146_64 : jv_ev d 146 64 [x0, x1, some (.int v), x3, x4] st h = jv_ev d 146 65 [x0, x1, some (.int v), x3, x4] (.int v :: st) h := jq_nx (jv_insR jm_146 dX0_areSame_64) rfl
theorem e146_65 : jv_ev d 146 65 lc (.int v :: .ref a :: st) h = (jv_ig h a 0 0 v).bind fun w => jv_ev d 146 66 lc (.int w :: st) h := jq_iald (jv_insR jm_146 dX0_areSame_65)
theorem e146_66 : jv_ev d 146 66 [x0, x1, x2, some (.int v), x4] st h = jv_ev d 146 67 [x0, x1, x2, some (.int v), x4] (.int v :: st) h := jq_nx (jv_insR jm_146 dX0_areSame_66) rfl
theorem e146_67 : jv_ev d 146 67 lc (.int w :: .int v :: st) h = jv_ev d 146 68 lc (.int (v + w) :: st) h := jq_nx (jv_insR jm_146 dX0_areSame_67) rfl
theorem e146_68 : jv_ev d 146 68 lc [z3, z2, z1, z0, .ref b, y0] h = (jv_rc h b [(6, 221)]).bind fun y => (jv_cd d y [.ref b, z0, z1, z2, z3] h).bind fun r => jv_on r (fun v h => jv_ev d 146 71 lc (v.toList ++ [y0]) h) (fun q h => some (.inr q, h)) := jq_V (as := [z0, z1, z2, z3]) (rest := [y0]) (jv_insR jm_146 dX0_areSame_68) jo_146 jV_2_230 rfl rfl rfl rfl
theorem e146_71 : jv_ev d 146 71 lc (.int w :: .int v :: st) h = if v = w then jv_ev d 146 76 lc st h else jv_ev d 146 74 lc st h := jq_if (jv_insR jm_146 dX0_areSame_71) rfl (by decide)
theorem e146_74 : jv_ev d 146 74 lc st h = jv_ev d 146 75 lc (.int 0 :: st) h := jq_iconst (jv_insR jm_146 dX0_areSame_74) (by decide)
theorem e146_75 : jv_ev d 146 75 lc [.int v] h = if narrow .boolean (.int v) = .int v then some (.inl (some (.int v)), h) else none := jq_ret (jv_insR jm_146 dX0_areSame_75) jr_146 (by decide)
theorem e146_76 : jv_ev d 146 76 [x0, x1, x2, x3, some (.int v)] st h = jv_ev d 146 79 [x0, x1, x2, x3, some (.int (v + 1))] st h := jq_nx (jv_insR jm_146 dX0_areSame_76) rfl
theorem e146_79 : jv_ev d 146 79 lc st h = jv_ev d 146 3 lc st h := jq_go (jv_insR jm_146 dX0_areSame_79) (by decide)
theorem e146_82 : jv_ev d 146 82 lc st h = jv_ev d 146 83 lc (.int 1 :: st) h := jq_iconst (jv_insR jm_146 dX0_areSame_82) (by decide)
theorem e146_83 : jv_ev d 146 83 lc [.int v] h = if narrow .boolean (.int v) = .int v then some (.inl (some (.int v)), h) else none := jq_ret (jv_insR jm_146 dX0_areSame_83) jr_146 (by decide)
/-! 147: RainLoom.round(I)I -/
theorem n147 : jv_cd (d + 1) 147 [.ref a0, .int i1] h = jv_ev d 147 0 [some (.ref a0), some (.int i1), none] [] h := rfl
theorem e147_0 : jv_ev d 147 0 [some (.ref a), x1, x2] st h = jv_ev d 147 1 [some (.ref a), x1, x2] (.ref a :: st) h := jq_nx (jv_insR jm_147 dX0_round_0) rfl
theorem e147_1 : jv_ev d 147 1 [x0, some (.int v), x2] st h = jv_ev d 147 2 [x0, some (.int v), x2] (.int v :: st) h := jq_nx (jv_insR jm_147 dX0_round_1) rfl
theorem e147_2 : jv_ev d 147 2 lc [z0, .ref b] h = (jv_rc h b [(1, 126)]).bind fun y => (jv_cd d y [.ref b, z0] h).bind fun r => jv_on r (fun v h => jv_ev d 147 5 lc (v.toList ++ []) h) (fun q h => some (.inr q, h)) := jq_V (as := [z0]) (rest := []) (jv_insR jm_147 dX0_round_2) jo_147 jV_2_171 rfl rfl rfl rfl
theorem e147_5 : jv_ev d 147 5 lc (.int v :: st) h = if ¬ v = 0 then jv_ev d 147 10 lc st h else jv_ev d 147 8 lc st h := jq_if (jv_insR jm_147 dX0_round_5) rfl (by decide)
theorem e147_8 : jv_ev d 147 8 lc st h = jv_ev d 147 9 lc (.int (-1) :: st) h := jq_iconst (jv_insR jm_147 dX0_round_8) (by decide)
theorem e147_9 : jv_ev d 147 9 lc [.int v] h = some (.inl (some (.int v)), h) := jq_reti (jv_insR jm_147 dX0_round_9) jr_147
theorem e147_10 : jv_ev d 147 10 lc st h = jv_ev d 147 11 lc (.int 1 :: st) h := jq_iconst (jv_insR jm_147 dX0_round_10) (by decide)
theorem e147_11 : jv_ev d 147 11 [x0, x1, x2] (.int v :: st) h = jv_ev d 147 12 [x0, x1, some (.int v)] st h := jq_nx (jv_insR jm_147 dX0_round_11) rfl
theorem e147_12 : jv_ev d 147 12 [x0, x1, some (.int v)] st h = jv_ev d 147 13 [x0, x1, some (.int v)] (.int v :: st) h := jq_nx (jv_insR jm_147 dX0_round_12) rfl
theorem e147_13 : jv_ev d 147 13 lc st h = jv_ev d 147 15 lc (.int 99 :: st) h := jq_bipush (jv_insR jm_147 dX0_round_13) (by decide)
theorem e147_15 : jv_ev d 147 15 lc (.int w :: .int v :: st) h = if w < v then jv_ev d 147 35 lc st h else jv_ev d 147 18 lc st h := jq_if (jv_insR jm_147 dX0_round_15) rfl (by decide)
theorem e147_18 : jv_ev d 147 18 [some (.ref a), x1, x2] st h = jv_ev d 147 19 [some (.ref a), x1, x2] (.ref a :: st) h := jq_nx (jv_insR jm_147 dX0_round_18) rfl
theorem e147_19 : jv_ev d 147 19 [x0, some (.int v), x2] st h = jv_ev d 147 20 [x0, some (.int v), x2] (.int v :: st) h := jq_nx (jv_insR jm_147 dX0_round_19) rfl
theorem e147_20 : jv_ev d 147 20 [x0, x1, some (.int v)] st h = jv_ev d 147 21 [x0, x1, some (.int v)] (.int v :: st) h := jq_nx (jv_insR jm_147 dX0_round_20) rfl
theorem e147_21 : jv_ev d 147 21 lc [z1, z0, .ref b] h = (jv_rc h b [(1, 148)]).bind fun y => (jv_cd d y [.ref b, z0, z1] h).bind fun r => jv_on r (fun v h => jv_ev d 147 24 lc (v.toList ++ []) h) (fun q h => some (.inr q, h)) := jq_V (as := [z0, z1]) (rest := []) (jv_insR jm_147 dX0_round_21) jo_147 jV_2_279 rfl rfl rfl rfl
theorem e147_24 : jv_ev d 147 24 lc (.int v :: st) h = if v = 0 then jv_ev d 147 29 lc st h else jv_ev d 147 27 lc st h := jq_if (jv_insR jm_147 dX0_round_24) rfl (by decide)
theorem e147_27 : jv_ev d 147 27 [x0, x1, some (.int v)] st h = jv_ev d 147 28 [x0, x1, some (.int v)] (.int v :: st) h := jq_nx (jv_insR jm_147 dX0_round_27) rfl
theorem e147_28 : jv_ev d 147 28 lc [.int v] h = some (.inl (some (.int v)), h) := jq_reti (jv_insR jm_147 dX0_round_28) jr_147
theorem e147_29 : jv_ev d 147 29 [x0, x1, some (.int v)] st h = jv_ev d 147 32 [x0, x1, some (.int (v + 1))] st h := jq_nx (jv_insR jm_147 dX0_round_29) rfl
theorem e147_32 : jv_ev d 147 32 lc st h = jv_ev d 147 12 lc st h := jq_go (jv_insR jm_147 dX0_round_32) (by decide)
theorem e147_35 : jv_ev d 147 35 lc st h = jv_ev d 147 37 lc (.int (-2) :: st) h := jq_bipush (jv_insR jm_147 dX0_round_35) (by decide)
theorem e147_37 : jv_ev d 147 37 lc [.int v] h = some (.inl (some (.int v)), h) := jq_reti (jv_insR jm_147 dX0_round_37) jr_147
/-! 148: RainLoom.isRound(II)Z -/
theorem n148 : jv_cd (d + 1) 148 [.ref a0, .int i1, .int i2] h = jv_ev d 148 0 [some (.ref a0), some (.int i1), some (.int i2), none, none] [] h := rfl
theorem e148_0 : jv_ev d 148 0 lc st h = jv_ev d 148 1 lc (.int 0 :: st) h := jq_iconst (jv_insR jm_148 dX0_isRound_0) (by decide)
theorem e148_1 : jv_ev d 148 1 [x0, x1, x2, x3, x4] (.int v :: st) h = jv_ev d 148 2 [x0, x1, x2, some (.int v), x4] st h := jq_nx (jv_insR jm_148 dX0_isRound_1) rfl
theorem e148_2 : jv_ev d 148 2 [x0, x1, x2, some (.int v), x4] st h = jv_ev d 148 3 [x0, x1, x2, some (.int v), x4] (.int v :: st) h := jq_nx (jv_insR jm_148 dX0_isRound_2) rfl
theorem e148_3 : jv_ev d 148 3 lc st h = jv_ev d 148 5 lc (.int 48 :: st) h := jq_bipush (jv_insR jm_148 dX0_isRound_3) (by decide)
theorem e148_5 : jv_ev d 148 5 lc (.int w :: .int v :: st) h = if w ≤ v then jv_ev d 148 90 lc st h else jv_ev d 148 8 lc st h := jq_if (jv_insR jm_148 dX0_isRound_5) rfl (by decide)
theorem e148_8 : jv_ev d 148 8 lc st h = jv_ev d 148 9 lc (.int 0 :: st) h := jq_iconst (jv_insR jm_148 dX0_isRound_8) (by decide)
theorem e148_9 : jv_ev d 148 9 [x0, x1, x2, x3, x4] (.int v :: st) h = jv_ev d 148 11 [x0, x1, x2, x3, some (.int v)] st h := jq_nx (jv_insR jm_148 dX0_isRound_9) rfl
theorem e148_11 : jv_ev d 148 11 [x0, x1, x2, x3, some (.int v)] st h = jv_ev d 148 13 [x0, x1, x2, x3, some (.int v)] (.int v :: st) h := jq_nx (jv_insR jm_148 dX0_isRound_11) rfl
theorem e148_13 : jv_ev d 148 13 [some (.ref a), x1, x2, x3, x4] st h = jv_ev d 148 14 [some (.ref a), x1, x2, x3, x4] (.ref a :: st) h := jq_nx (jv_insR jm_148 dX0_isRound_13) rfl
theorem e148_14 : jv_ev d 148 14 [x0, some (.int v), x2, x3, x4] st h = jv_ev d 148 15 [x0, some (.int v), x2, x3, x4] (.int v :: st) h := jq_nx (jv_insR jm_148 dX0_isRound_14) rfl
theorem e148_15 : jv_ev d 148 15 lc [z0, .ref b, y0] h = (jv_rc h b [(1, 128)]).bind fun y => (jv_cd d y [.ref b, z0] h).bind fun r => jv_on r (fun v h => jv_ev d 148 18 lc (v.toList ++ [y0]) h) (fun q h => some (.inr q, h)) := jq_V (as := [z0]) (rest := [y0]) (jv_insR jm_148 dX0_isRound_15) jo_148 jV_2_175 rfl rfl rfl rfl
theorem e148_18 : jv_ev d 148 18 lc (.int w :: .int v :: st) h = if w ≤ v then jv_ev d 148 84 lc st h else jv_ev d 148 21 lc st h := jq_if (jv_insR jm_148 dX0_isRound_18) rfl (by decide)
theorem e148_21 : jv_ev d 148 21 [some (.ref a), x1, x2, x3, x4] st h = jv_ev d 148 22 [some (.ref a), x1, x2, x3, x4] (.ref a :: st) h := jq_nx (jv_insR jm_148 dX0_isRound_21) rfl
theorem e148_22 : jv_ev d 148 22 lc (.ref a :: st) h = (jv_gf h a [(1, 7, .object "RainLoom$Land")]).bind fun r => jv_ev d 148 25 lc (r :: st) h := jq_get (jv_insR jm_148 dX0_isRound_22) jo_148 jF_2_51
theorem e148_25 : jv_ev d 148 25 [some (.ref a), x1, x2, x3, x4] st h = jv_ev d 148 26 [some (.ref a), x1, x2, x3, x4] (.ref a :: st) h := jq_nx (jv_insR jm_148 dX0_isRound_25) rfl
theorem e148_26 : jv_ev d 148 26 lc (.ref a :: st) h = (jv_gf h a [(1, 3, .object "RainLoom$Text")]).bind fun r => jv_ev d 148 29 lc (r :: st) h := jq_get (jv_insR jm_148 dX0_isRound_26) jo_148 jF_2_40
theorem e148_29 : jv_ev d 148 29 [x0, some (.int v), x2, x3, x4] st h = jv_ev d 148 30 [x0, some (.int v), x2, x3, x4] (.int v :: st) h := jq_nx (jv_insR jm_148 dX0_isRound_29) rfl
theorem e148_30 : jv_ev d 148 30 [x0, x1, x2, x3, some (.int v)] st h = jv_ev d 148 32 [x0, x1, x2, x3, some (.int v)] (.int v :: st) h := jq_nx (jv_insR jm_148 dX0_isRound_30) rfl
theorem e148_32 : jv_ev d 148 32 [some (.ref a), x1, x2, x3, x4] st h = jv_ev d 148 33 [some (.ref a), x1, x2, x3, x4] (.ref a :: st) h := jq_nx (jv_insR jm_148 dX0_isRound_32) rfl
theorem e148_33 : jv_ev d 148 33 lc (.ref a :: st) h = (jv_gf h a [(1, 7, .object "RainLoom$Land")]).bind fun r => jv_ev d 148 36 lc (r :: st) h := jq_get (jv_insR jm_148 dX0_isRound_33) jo_148 jF_2_51
theorem e148_36 : jv_ev d 148 36 lc (.ref a :: st) h = (jv_gf h a [(6, 3, .array .int)]).bind fun r => jv_ev d 148 39 lc (r :: st) h := jq_get (jv_insR jm_148 dX0_isRound_36) jo_148 jF_2_210
theorem e148_39 : jv_ev d 148 39 [x0, some (.int v), x2, x3, x4] st h = jv_ev d 148 40 [x0, some (.int v), x2, x3, x4] (.int v :: st) h := jq_nx (jv_insR jm_148 dX0_isRound_39) rfl
theorem e148_40 : jv_ev d 148 40 lc (.int v :: .ref a :: st) h = (jv_ig h a 0 0 v).bind fun w => jv_ev d 148 41 lc (.int w :: st) h := jq_iald (jv_insR jm_148 dX0_isRound_40)
theorem e148_41 : jv_ev d 148 41 [x0, x1, x2, some (.int v), x4] st h = jv_ev d 148 42 [x0, x1, x2, some (.int v), x4] (.int v :: st) h := jq_nx (jv_insR jm_148 dX0_isRound_41) rfl
theorem e148_42 : jv_ev d 148 42 lc (.int w :: .int v :: st) h = jv_ev d 148 43 lc (.int (v + w) :: st) h := jq_nx (jv_insR jm_148 dX0_isRound_42) rfl
theorem e148_43 : jv_ev d 148 43 lc [z3, z2, z1, z0, .ref b] h = (jv_rc h b [(6, 221)]).bind fun y => (jv_cd d y [.ref b, z0, z1, z2, z3] h).bind fun r => jv_on r (fun v h => jv_ev d 148 46 lc (v.toList ++ []) h) (fun q h => some (.inr q, h)) := jq_V (as := [z0, z1, z2, z3]) (rest := []) (jv_insR jm_148 dX0_isRound_43) jo_148 jV_2_230 rfl rfl rfl rfl
theorem e148_46 : jv_ev d 148 46 [some (.ref a), x1, x2, x3, x4] st h = jv_ev d 148 47 [some (.ref a), x1, x2, x3, x4] (.ref a :: st) h := jq_nx (jv_insR jm_148 dX0_isRound_46) rfl
theorem e148_47 : jv_ev d 148 47 lc (.ref a :: st) h = (jv_gf h a [(1, 7, .object "RainLoom$Land")]).bind fun r => jv_ev d 148 50 lc (r :: st) h := jq_get (jv_insR jm_148 dX0_isRound_47) jo_148 jF_2_51
theorem e148_50 : jv_ev d 148 50 [some (.ref a), x1, x2, x3, x4] st h = jv_ev d 148 51 [some (.ref a), x1, x2, x3, x4] (.ref a :: st) h := jq_nx (jv_insR jm_148 dX0_isRound_50) rfl
theorem e148_51 : jv_ev d 148 51 lc (.ref a :: st) h = (jv_gf h a [(1, 3, .object "RainLoom$Text")]).bind fun r => jv_ev d 148 54 lc (r :: st) h := jq_get (jv_insR jm_148 dX0_isRound_51) jo_148 jF_2_40
theorem e148_54 : jv_ev d 148 54 [x0, some (.int v), x2, x3, x4] st h = jv_ev d 148 55 [x0, some (.int v), x2, x3, x4] (.int v :: st) h := jq_nx (jv_insR jm_148 dX0_isRound_54) rfl
theorem e148_55 : jv_ev d 148 55 [x0, x1, x2, x3, some (.int v)] st h = jv_ev d 148 57 [x0, x1, x2, x3, some (.int v)] (.int v :: st) h := jq_nx (jv_insR jm_148 dX0_isRound_55) rfl
theorem e148_57 : jv_ev d 148 57 [some (.ref a), x1, x2, x3, x4] st h = jv_ev d 148 58 [some (.ref a), x1, x2, x3, x4] (.ref a :: st) h := jq_nx (jv_insR jm_148 dX0_isRound_57) rfl
theorem e148_58 : jv_ev d 148 58 lc (.ref a :: st) h = (jv_gf h a [(1, 7, .object "RainLoom$Land")]).bind fun r => jv_ev d 148 61 lc (r :: st) h := jq_get (jv_insR jm_148 dX0_isRound_58) jo_148 jF_2_51
theorem e148_61 : jv_ev d 148 61 lc (.ref a :: st) h = (jv_gf h a [(6, 3, .array .int)]).bind fun r => jv_ev d 148 64 lc (r :: st) h := jq_get (jv_insR jm_148 dX0_isRound_61) jo_148 jF_2_210
theorem e148_64 : jv_ev d 148 64 [x0, some (.int v), x2, x3, x4] st h = jv_ev d 148 65 [x0, some (.int v), x2, x3, x4] (.int v :: st) h := jq_nx (jv_insR jm_148 dX0_isRound_64) rfl
theorem e148_65 : jv_ev d 148 65 lc (.int v :: .ref a :: st) h = (jv_ig h a 0 0 v).bind fun w => jv_ev d 148 66 lc (.int w :: st) h := jq_iald (jv_insR jm_148 dX0_isRound_65)
theorem e148_66 : jv_ev d 148 66 [x0, x1, x2, some (.int v), x4] st h = jv_ev d 148 67 [x0, x1, x2, some (.int v), x4] (.int v :: st) h := jq_nx (jv_insR jm_148 dX0_isRound_66) rfl
theorem e148_67 : jv_ev d 148 67 lc (.int w :: .int v :: st) h = jv_ev d 148 68 lc (.int (v + w) :: st) h := jq_nx (jv_insR jm_148 dX0_isRound_67) rfl
theorem e148_68 : jv_ev d 148 68 [x0, x1, some (.int v), x3, x4] st h = jv_ev d 148 69 [x0, x1, some (.int v), x3, x4] (.int v :: st) h := jq_nx (jv_insR jm_148 dX0_isRound_68) rfl
theorem e148_69 : jv_ev d 148 69 lc (.int w :: .int v :: st) h = jv_ev d 148 70 lc (.int (v + w) :: st) h := jq_nx (jv_insR jm_148 dX0_isRound_69) rfl
theorem e148_70 : jv_ev d 148 70 lc [z3, z2, z1, z0, .ref b, y0] h = (jv_rc h b [(6, 221)]).bind fun y => (jv_cd d y [.ref b, z0, z1, z2, z3] h).bind fun r => jv_on r (fun v h => jv_ev d 148 73 lc (v.toList ++ [y0]) h) (fun q h => some (.inr q, h)) := jq_V (as := [z0, z1, z2, z3]) (rest := [y0]) (jv_insR jm_148 dX0_isRound_70) jo_148 jV_2_230 rfl rfl rfl rfl
theorem e148_73 : jv_ev d 148 73 lc (.int w :: .int v :: st) h = if v = w then jv_ev d 148 78 lc st h else jv_ev d 148 76 lc st h := jq_if (jv_insR jm_148 dX0_isRound_73) rfl (by decide)
theorem e148_76 : jv_ev d 148 76 lc st h = jv_ev d 148 77 lc (.int 0 :: st) h := jq_iconst (jv_insR jm_148 dX0_isRound_76) (by decide)
theorem e148_77 : jv_ev d 148 77 lc [.int v] h = if narrow .boolean (.int v) = .int v then some (.inl (some (.int v)), h) else none := jq_ret (jv_insR jm_148 dX0_isRound_77) jr_148 (by decide)
theorem e148_78 : jv_ev d 148 78 [x0, x1, x2, x3, some (.int v)] st h = jv_ev d 148 81 [x0, x1, x2, x3, some (.int (v + 1))] st h := jq_nx (jv_insR jm_148 dX0_isRound_78) rfl
theorem e148_81 : jv_ev d 148 81 lc st h = jv_ev d 148 11 lc st h := jq_go (jv_insR jm_148 dX0_isRound_81) (by decide)
theorem e148_84 : jv_ev d 148 84 [x0, x1, x2, some (.int v), x4] st h = jv_ev d 148 87 [x0, x1, x2, some (.int (v + 1)), x4] st h := jq_nx (jv_insR jm_148 dX0_isRound_84) rfl
theorem e148_87 : jv_ev d 148 87 lc st h = jv_ev d 148 2 lc st h := jq_go (jv_insR jm_148 dX0_isRound_87) (by decide)
theorem e148_90 : jv_ev d 148 90 lc st h = jv_ev d 148 91 lc (.int 1 :: st) h := jq_iconst (jv_insR jm_148 dX0_isRound_90) (by decide)
theorem e148_91 : jv_ev d 148 91 lc [.int v] h = if narrow .boolean (.int v) = .int v then some (.inl (some (.int v)), h) else none := jq_ret (jv_insR jm_148 dX0_isRound_91) jr_148 (by decide)
/-! 149: RainLoom.where(IIII)I -/
theorem n149 : jv_cd (d + 1) 149 [.ref a0, .int i1, .int i2, .int i3, .int i4] h = jv_ev d 149 0 [some (.ref a0), some (.int i1), some (.int i2), some (.int i3), some (.int i4), none, none, none, none, none, none, none] [] h := rfl
theorem e149_0 : jv_ev d 149 0 [some (.ref a), x1, x2, x3, x4, x5, x6, x7, x8, x9, x10, x11] st h = jv_ev d 149 1 [some (.ref a), x1, x2, x3, x4, x5, x6, x7, x8, x9, x10, x11] (.ref a :: st) h := jq_nx (jv_insR jm_149 dX0_where_0) rfl
theorem e149_1 : jv_ev d 149 1 [x0, some (.int v), x2, x3, x4, x5, x6, x7, x8, x9, x10, x11] st h = jv_ev d 149 2 [x0, some (.int v), x2, x3, x4, x5, x6, x7, x8, x9, x10, x11] (.int v :: st) h := jq_nx (jv_insR jm_149 dX0_where_1) rfl
theorem e149_2 : jv_ev d 149 2 [x0, x1, some (.int v), x3, x4, x5, x6, x7, x8, x9, x10, x11] st h = jv_ev d 149 3 [x0, x1, some (.int v), x3, x4, x5, x6, x7, x8, x9, x10, x11] (.int v :: st) h := jq_nx (jv_insR jm_149 dX0_where_2) rfl
theorem e149_3 : jv_ev d 149 3 [x0, x1, x2, some (.int v), x4, x5, x6, x7, x8, x9, x10, x11] st h = jv_ev d 149 4 [x0, x1, x2, some (.int v), x4, x5, x6, x7, x8, x9, x10, x11] (.int v :: st) h := jq_nx (jv_insR jm_149 dX0_where_3) rfl
theorem e149_4 : jv_ev d 149 4 lc [z2, z1, z0, .ref b] h = (jv_rc h b [(1, 131)]).bind fun y => (jv_cd d y [.ref b, z0, z1, z2] h).bind fun r => jv_on r (fun v h => jv_ev d 149 7 lc (v.toList ++ []) h) (fun q h => some (.inr q, h)) := jq_V (as := [z0, z1, z2]) (rest := []) (jv_insR jm_149 dX0_where_4) jo_149 jV_2_253 rfl rfl rfl rfl
theorem e149_7 : jv_ev d 149 7 lc (.int v :: st) h = if v = 0 then jv_ev d 149 20 lc st h else jv_ev d 149 10 lc st h := jq_if (jv_insR jm_149 dX0_where_7) rfl (by decide)
theorem e149_10 : jv_ev d 149 10 [x0, x1, x2, x3, some (.int v), x5, x6, x7, x8, x9, x10, x11] st h = jv_ev d 149 12 [x0, x1, x2, x3, some (.int v), x5, x6, x7, x8, x9, x10, x11] (.int v :: st) h := jq_nx (jv_insR jm_149 dX0_where_10) rfl
theorem e149_12 : jv_ev d 149 12 lc st h = jv_ev d 149 13 lc (.int 0 :: st) h := jq_iconst (jv_insR jm_149 dX0_where_12) (by decide)
theorem e149_13 : jv_ev d 149 13 lc st h = jv_ev d 149 14 lc (.int 2 :: st) h := jq_iconst (jv_insR jm_149 dX0_where_13) (by decide)
theorem e149_14 : jv_ev d 149 14 lc [z2, z1, z0] h = (jv_cd d 124 [z0, z1, z2] h).bind fun r => jv_on r (fun v h => jv_ev d 149 17 lc (v.toList ++ []) h) (fun q h => some (.inr q, h)) := jq_S (as := [z0, z1, z2]) (rest := []) (jv_insR jm_149 dX0_where_14) jo_149 jT_2_158 rfl rfl rfl rfl
theorem e149_17 : jv_ev d 149 17 lc (.int v :: st) h = if ¬ v = 0 then jv_ev d 149 24 lc st h else jv_ev d 149 20 lc st h := jq_if (jv_insR jm_149 dX0_where_17) rfl (by decide)
theorem e149_20 : jv_ev d 149 20 lc st h = jv_ev d 149 23 lc (.int (-1000) :: st) h := jq_sipush (jv_insR jm_149 dX0_where_20) (by decide)
theorem e149_23 : jv_ev d 149 23 lc [.int v] h = some (.inl (some (.int v)), h) := jq_reti (jv_insR jm_149 dX0_where_23) jr_149
theorem e149_24 : jv_ev d 149 24 lc st h = jv_ev d 149 27 lc (.int (-1000) :: st) h := jq_sipush (jv_insR jm_149 dX0_where_24) (by decide)
theorem e149_27 : jv_ev d 149 27 [x0, x1, x2, x3, x4, x5, x6, x7, x8, x9, x10, x11] (.int v :: st) h = jv_ev d 149 29 [x0, x1, x2, x3, x4, some (.int v), x6, x7, x8, x9, x10, x11] st h := jq_nx (jv_insR jm_149 dX0_where_27) rfl
theorem e149_29 : jv_ev d 149 29 lc st h = jv_ev d 149 30 lc (.int 0 :: st) h := jq_iconst (jv_insR jm_149 dX0_where_29) (by decide)
theorem e149_30 : jv_ev d 149 30 [x0, x1, x2, x3, x4, x5, x6, x7, x8, x9, x10, x11] (.int v :: st) h = jv_ev d 149 32 [x0, x1, x2, x3, x4, x5, some (.int v), x7, x8, x9, x10, x11] st h := jq_nx (jv_insR jm_149 dX0_where_30) rfl
theorem e149_32 : jv_ev d 149 32 lc st h = jv_ev d 149 33 lc (.int 0 :: st) h := jq_iconst (jv_insR jm_149 dX0_where_32) (by decide)
theorem e149_33 : jv_ev d 149 33 [x0, x1, x2, x3, x4, x5, x6, x7, x8, x9, x10, x11] (.int v :: st) h = jv_ev d 149 35 [x0, x1, x2, x3, x4, x5, x6, some (.int v), x8, x9, x10, x11] st h := jq_nx (jv_insR jm_149 dX0_where_33) rfl
theorem e149_35 : jv_ev d 149 35 lc st h = jv_ev d 149 36 lc (.int 0 :: st) h := jq_iconst (jv_insR jm_149 dX0_where_35) (by decide)
theorem e149_36 : jv_ev d 149 36 [x0, x1, x2, x3, x4, x5, x6, x7, x8, x9, x10, x11] (.int v :: st) h = jv_ev d 149 38 [x0, x1, x2, x3, x4, x5, x6, x7, some (.int v), x9, x10, x11] st h := jq_nx (jv_insR jm_149 dX0_where_36) rfl
theorem e149_38 : jv_ev d 149 38 [x0, x1, x2, x3, x4, x5, x6, x7, some (.int v), x9, x10, x11] st h = jv_ev d 149 40 [x0, x1, x2, x3, x4, x5, x6, x7, some (.int v), x9, x10, x11] (.int v :: st) h := jq_nx (jv_insR jm_149 dX0_where_38) rfl
theorem e149_40 : jv_ev d 149 40 [x0, x1, x2, some (.int v), x4, x5, x6, x7, x8, x9, x10, x11] st h = jv_ev d 149 41 [x0, x1, x2, some (.int v), x4, x5, x6, x7, x8, x9, x10, x11] (.int v :: st) h := jq_nx (jv_insR jm_149 dX0_where_40) rfl
theorem e149_41 : jv_ev d 149 41 lc (.int w :: .int v :: st) h = jv_ev d 149 42 lc (.int (v + w) :: st) h := jq_nx (jv_insR jm_149 dX0_where_41) rfl
theorem e149_42 : jv_ev d 149 42 [some (.ref a), x1, x2, x3, x4, x5, x6, x7, x8, x9, x10, x11] st h = jv_ev d 149 43 [some (.ref a), x1, x2, x3, x4, x5, x6, x7, x8, x9, x10, x11] (.ref a :: st) h := jq_nx (jv_insR jm_149 dX0_where_42) rfl
theorem e149_43 : jv_ev d 149 43 lc (.ref a :: st) h = (jv_gf h a [(1, 3, .object "RainLoom$Text")]).bind fun r => jv_ev d 149 46 lc (r :: st) h := jq_get (jv_insR jm_149 dX0_where_43) jo_149 jF_2_40
theorem e149_46 : jv_ev d 149 46 lc (.ref a :: st) h = (jv_gf h a [(5, 4, .int)]).bind fun r => jv_ev d 149 49 lc (r :: st) h := jq_get (jv_insR jm_149 dX0_where_46) jo_149 jF_2_282
theorem e149_49 : jv_ev d 149 49 lc (.int w :: .int v :: st) h = if w < v then jv_ev d 149 140 lc st h else jv_ev d 149 52 lc st h := jq_if (jv_insR jm_149 dX0_where_49) rfl (by decide)
theorem e149_52 : jv_ev d 149 52 lc st h = jv_ev d 149 53 lc (.int 0 :: st) h := jq_iconst (jv_insR jm_149 dX0_where_52) (by decide)
theorem e149_53 : jv_ev d 149 53 [x0, x1, x2, x3, x4, x5, x6, x7, x8, x9, x10, x11] (.int v :: st) h = jv_ev d 149 55 [x0, x1, x2, x3, x4, x5, x6, x7, x8, some (.int v), x10, x11] st h := jq_nx (jv_insR jm_149 dX0_where_53) rfl
theorem e149_55 : jv_ev d 149 55 [x0, x1, x2, x3, x4, x5, x6, x7, x8, some (.int v), x10, x11] st h = jv_ev d 149 57 [x0, x1, x2, x3, x4, x5, x6, x7, x8, some (.int v), x10, x11] (.int v :: st) h := jq_nx (jv_insR jm_149 dX0_where_55) rfl
theorem e149_57 : jv_ev d 149 57 [x0, x1, some (.int v), x3, x4, x5, x6, x7, x8, x9, x10, x11] st h = jv_ev d 149 58 [x0, x1, some (.int v), x3, x4, x5, x6, x7, x8, x9, x10, x11] (.int v :: st) h := jq_nx (jv_insR jm_149 dX0_where_57) rfl
theorem e149_58 : jv_ev d 149 58 lc (.int w :: .int v :: st) h = jv_ev d 149 59 lc (.int (v + w) :: st) h := jq_nx (jv_insR jm_149 dX0_where_58) rfl
theorem e149_59 : jv_ev d 149 59 [some (.ref a), x1, x2, x3, x4, x5, x6, x7, x8, x9, x10, x11] st h = jv_ev d 149 60 [some (.ref a), x1, x2, x3, x4, x5, x6, x7, x8, x9, x10, x11] (.ref a :: st) h := jq_nx (jv_insR jm_149 dX0_where_59) rfl
theorem e149_60 : jv_ev d 149 60 lc (.ref a :: st) h = (jv_gf h a [(1, 3, .object "RainLoom$Text")]).bind fun r => jv_ev d 149 63 lc (r :: st) h := jq_get (jv_insR jm_149 dX0_where_60) jo_149 jF_2_40
theorem e149_63 : jv_ev d 149 63 lc (.ref a :: st) h = (jv_gf h a [(5, 5, .int)]).bind fun r => jv_ev d 149 66 lc (r :: st) h := jq_get (jv_insR jm_149 dX0_where_63) jo_149 jF_2_285
theorem e149_66 : jv_ev d 149 66 lc (.int w :: .int v :: st) h = if w < v then jv_ev d 149 134 lc st h else jv_ev d 149 69 lc st h := jq_if (jv_insR jm_149 dX0_where_66) rfl (by decide)
theorem e149_69 : jv_ev d 149 69 [some (.ref a), x1, x2, x3, x4, x5, x6, x7, x8, x9, x10, x11] st h = jv_ev d 149 70 [some (.ref a), x1, x2, x3, x4, x5, x6, x7, x8, x9, x10, x11] (.ref a :: st) h := jq_nx (jv_insR jm_149 dX0_where_69) rfl
theorem e149_70 : jv_ev d 149 70 lc (.ref a :: st) h = (jv_gf h a [(1, 8, .object "RainLoom$Land")]).bind fun r => jv_ev d 149 73 lc (r :: st) h := jq_get (jv_insR jm_149 dX0_where_70) jo_149 jF_2_55
theorem e149_73 : jv_ev d 149 73 [some (.ref a), x1, x2, x3, x4, x5, x6, x7, x8, x9, x10, x11] st h = jv_ev d 149 74 [some (.ref a), x1, x2, x3, x4, x5, x6, x7, x8, x9, x10, x11] (.ref a :: st) h := jq_nx (jv_insR jm_149 dX0_where_73) rfl
theorem e149_74 : jv_ev d 149 74 lc (.ref a :: st) h = (jv_gf h a [(1, 7, .object "RainLoom$Land")]).bind fun r => jv_ev d 149 77 lc (r :: st) h := jq_get (jv_insR jm_149 dX0_where_74) jo_149 jF_2_51
theorem e149_77 : jv_ev d 149 77 lc [z0, .ref b] h = (jv_rc h b [(6, 223)]).bind fun y => (jv_cd d y [.ref b, z0] h).bind fun r => jv_on r (fun v h => jv_ev d 149 80 lc (v.toList ++ []) h) (fun q h => some (.inr q, h)) := jq_V (as := [z0]) (rest := []) (jv_insR jm_149 dX0_where_77) jo_149 jV_2_237 rfl rfl rfl rfl
theorem e149_80 : jv_ev d 149 80 [some (.ref a), x1, x2, x3, x4, x5, x6, x7, x8, x9, x10, x11] st h = jv_ev d 149 81 [some (.ref a), x1, x2, x3, x4, x5, x6, x7, x8, x9, x10, x11] (.ref a :: st) h := jq_nx (jv_insR jm_149 dX0_where_80) rfl
theorem e149_81 : jv_ev d 149 81 lc (.ref a :: st) h = (jv_gf h a [(1, 8, .object "RainLoom$Land")]).bind fun r => jv_ev d 149 84 lc (r :: st) h := jq_get (jv_insR jm_149 dX0_where_81) jo_149 jF_2_55
theorem e149_84 : jv_ev d 149 84 [some (.ref a), x1, x2, x3, x4, x5, x6, x7, x8, x9, x10, x11] st h = jv_ev d 149 85 [some (.ref a), x1, x2, x3, x4, x5, x6, x7, x8, x9, x10, x11] (.ref a :: st) h := jq_nx (jv_insR jm_149 dX0_where_84) rfl
theorem e149_85 : jv_ev d 149 85 lc (.ref a :: st) h = (jv_gf h a [(1, 3, .object "RainLoom$Text")]).bind fun r => jv_ev d 149 88 lc (r :: st) h := jq_get (jv_insR jm_149 dX0_where_85) jo_149 jF_2_40
theorem e149_88 : jv_ev d 149 88 [x0, some (.int v), x2, x3, x4, x5, x6, x7, x8, x9, x10, x11] st h = jv_ev d 149 89 [x0, some (.int v), x2, x3, x4, x5, x6, x7, x8, x9, x10, x11] (.int v :: st) h := jq_nx (jv_insR jm_149 dX0_where_88) rfl
theorem e149_89 : jv_ev d 149 89 [x0, x1, some (.int v), x3, x4, x5, x6, x7, x8, x9, x10, x11] st h = jv_ev d 149 90 [x0, x1, some (.int v), x3, x4, x5, x6, x7, x8, x9, x10, x11] (.int v :: st) h := jq_nx (jv_insR jm_149 dX0_where_89) rfl
theorem e149_90 : jv_ev d 149 90 [x0, x1, x2, some (.int v), x4, x5, x6, x7, x8, x9, x10, x11] st h = jv_ev d 149 91 [x0, x1, x2, some (.int v), x4, x5, x6, x7, x8, x9, x10, x11] (.int v :: st) h := jq_nx (jv_insR jm_149 dX0_where_90) rfl
theorem e149_91 : jv_ev d 149 91 [x0, x1, x2, x3, x4, x5, x6, x7, x8, some (.int v), x10, x11] st h = jv_ev d 149 93 [x0, x1, x2, x3, x4, x5, x6, x7, x8, some (.int v), x10, x11] (.int v :: st) h := jq_nx (jv_insR jm_149 dX0_where_91) rfl
theorem e149_93 : jv_ev d 149 93 [x0, x1, x2, x3, x4, x5, x6, x7, some (.int v), x9, x10, x11] st h = jv_ev d 149 95 [x0, x1, x2, x3, x4, x5, x6, x7, some (.int v), x9, x10, x11] (.int v :: st) h := jq_nx (jv_insR jm_149 dX0_where_93) rfl
theorem e149_95 : jv_ev d 149 95 lc [z5, z4, z3, z2, z1, z0, .ref b] h = (jv_rc h b [(6, 225)]).bind fun y => (jv_cd d y [.ref b, z0, z1, z2, z3, z4, z5] h).bind fun r => jv_on r (fun v h => jv_ev d 149 98 lc (v.toList ++ []) h) (fun q h => some (.inr q, h)) := jq_V (as := [z0, z1, z2, z3, z4, z5]) (rest := []) (jv_insR jm_149 dX0_where_95) jo_149 jV_2_262 rfl rfl rfl rfl
theorem e149_98 : jv_ev d 149 98 [x0, x1, x2, x3, x4, x5, x6, x7, x8, x9, x10, x11] (.int v :: st) h = jv_ev d 149 100 [x0, x1, x2, x3, x4, x5, x6, x7, x8, x9, some (.int v), x11] st h := jq_nx (jv_insR jm_149 dX0_where_98) rfl
theorem e149_100 : jv_ev d 149 100 [some (.ref a), x1, x2, x3, x4, x5, x6, x7, x8, x9, x10, x11] st h = jv_ev d 149 101 [some (.ref a), x1, x2, x3, x4, x5, x6, x7, x8, x9, x10, x11] (.ref a :: st) h := jq_nx (jv_insR jm_149 dX0_where_100) rfl
theorem e149_101 : jv_ev d 149 101 lc [.ref b] h = (jv_rc h b [(1, 150)]).bind fun y => (jv_cd d y [.ref b] h).bind fun r => jv_on r (fun v h => jv_ev d 149 104 lc (v.toList ++ []) h) (fun q h => some (.inr q, h)) := jq_V (as := []) (rest := []) (jv_insR jm_149 dX0_where_101) jo_149 jV_2_286 rfl rfl rfl rfl
theorem e149_104 : jv_ev d 149 104 [x0, x1, x2, x3, x4, x5, x6, x7, x8, x9, x10, x11] (.int v :: st) h = jv_ev d 149 106 [x0, x1, x2, x3, x4, x5, x6, x7, x8, x9, x10, some (.int v)] st h := jq_nx (jv_insR jm_149 dX0_where_104) rfl
theorem e149_106 : jv_ev d 149 106 [x0, x1, x2, x3, x4, x5, x6, x7, x8, x9, x10, some (.int v)] st h = jv_ev d 149 108 [x0, x1, x2, x3, x4, x5, x6, x7, x8, x9, x10, some (.int v)] (.int v :: st) h := jq_nx (jv_insR jm_149 dX0_where_106) rfl
theorem e149_108 : jv_ev d 149 108 [x0, x1, x2, x3, x4, some (.int v), x6, x7, x8, x9, x10, x11] st h = jv_ev d 149 110 [x0, x1, x2, x3, x4, some (.int v), x6, x7, x8, x9, x10, x11] (.int v :: st) h := jq_nx (jv_insR jm_149 dX0_where_108) rfl
theorem e149_110 : jv_ev d 149 110 lc (.int w :: .int v :: st) h = if w < v then jv_ev d 149 116 lc st h else jv_ev d 149 113 lc st h := jq_if (jv_insR jm_149 dX0_where_110) rfl (by decide)
theorem e149_113 : jv_ev d 149 113 lc st h = jv_ev d 149 128 lc st h := jq_go (jv_insR jm_149 dX0_where_113) (by decide)
theorem e149_116 : jv_ev d 149 116 [x0, x1, x2, x3, x4, x5, x6, x7, x8, x9, x10, some (.int v)] st h = jv_ev d 149 118 [x0, x1, x2, x3, x4, x5, x6, x7, x8, x9, x10, some (.int v)] (.int v :: st) h := jq_nx (jv_insR jm_149 dX0_where_116) rfl
theorem e149_118 : jv_ev d 149 118 [x0, x1, x2, x3, x4, x5, x6, x7, x8, x9, x10, x11] (.int v :: st) h = jv_ev d 149 120 [x0, x1, x2, x3, x4, some (.int v), x6, x7, x8, x9, x10, x11] st h := jq_nx (jv_insR jm_149 dX0_where_118) rfl
theorem e149_120 : jv_ev d 149 120 [x0, x1, x2, x3, x4, x5, x6, x7, x8, some (.int v), x10, x11] st h = jv_ev d 149 122 [x0, x1, x2, x3, x4, x5, x6, x7, x8, some (.int v), x10, x11] (.int v :: st) h := jq_nx (jv_insR jm_149 dX0_where_120) rfl
theorem e149_122 : jv_ev d 149 122 [x0, x1, x2, x3, x4, x5, x6, x7, x8, x9, x10, x11] (.int v :: st) h = jv_ev d 149 124 [x0, x1, x2, x3, x4, x5, some (.int v), x7, x8, x9, x10, x11] st h := jq_nx (jv_insR jm_149 dX0_where_122) rfl
theorem e149_124 : jv_ev d 149 124 [x0, x1, x2, x3, x4, x5, x6, x7, some (.int v), x9, x10, x11] st h = jv_ev d 149 126 [x0, x1, x2, x3, x4, x5, x6, x7, some (.int v), x9, x10, x11] (.int v :: st) h := jq_nx (jv_insR jm_149 dX0_where_124) rfl
theorem e149_126 : jv_ev d 149 126 [x0, x1, x2, x3, x4, x5, x6, x7, x8, x9, x10, x11] (.int v :: st) h = jv_ev d 149 128 [x0, x1, x2, x3, x4, x5, x6, some (.int v), x8, x9, x10, x11] st h := jq_nx (jv_insR jm_149 dX0_where_126) rfl
theorem e149_128 : jv_ev d 149 128 [x0, x1, x2, x3, x4, x5, x6, x7, x8, some (.int v), x10, x11] st h = jv_ev d 149 131 [x0, x1, x2, x3, x4, x5, x6, x7, x8, some (.int (v + 1)), x10, x11] st h := jq_nx (jv_insR jm_149 dX0_where_128) rfl
theorem e149_131 : jv_ev d 149 131 lc st h = jv_ev d 149 55 lc st h := jq_go (jv_insR jm_149 dX0_where_131) (by decide)
theorem e149_134 : jv_ev d 149 134 [x0, x1, x2, x3, x4, x5, x6, x7, some (.int v), x9, x10, x11] st h = jv_ev d 149 137 [x0, x1, x2, x3, x4, x5, x6, x7, some (.int (v + 1)), x9, x10, x11] st h := jq_nx (jv_insR jm_149 dX0_where_134) rfl
theorem e149_137 : jv_ev d 149 137 lc st h = jv_ev d 149 38 lc st h := jq_go (jv_insR jm_149 dX0_where_137) (by decide)
theorem e149_140 : jv_ev d 149 140 [x0, x1, x2, x3, x4, some (.int v), x6, x7, x8, x9, x10, x11] st h = jv_ev d 149 142 [x0, x1, x2, x3, x4, some (.int v), x6, x7, x8, x9, x10, x11] (.int v :: st) h := jq_nx (jv_insR jm_149 dX0_where_140) rfl
theorem e149_142 : jv_ev d 149 142 lc st h = jv_ev d 149 145 lc (.int (-1000) :: st) h := jq_sipush (jv_insR jm_149 dX0_where_142) (by decide)
theorem e149_145 : jv_ev d 149 145 lc (.int w :: .int v :: st) h = if v = w then jv_ev d 149 153 lc st h else jv_ev d 149 148 lc st h := jq_if (jv_insR jm_149 dX0_where_145) rfl (by decide)
theorem e149_148 : jv_ev d 149 148 [x0, x1, x2, x3, some (.int v), x5, x6, x7, x8, x9, x10, x11] st h = jv_ev d 149 150 [x0, x1, x2, x3, some (.int v), x5, x6, x7, x8, x9, x10, x11] (.int v :: st) h := jq_nx (jv_insR jm_149 dX0_where_148) rfl
theorem e149_150 : jv_ev d 149 150 lc (.int v :: st) h = if ¬ v = 0 then jv_ev d 149 158 lc st h else jv_ev d 149 153 lc st h := jq_if (jv_insR jm_149 dX0_where_150) rfl (by decide)
theorem e149_153 : jv_ev d 149 153 [x0, x1, x2, x3, x4, some (.int v), x6, x7, x8, x9, x10, x11] st h = jv_ev d 149 155 [x0, x1, x2, x3, x4, some (.int v), x6, x7, x8, x9, x10, x11] (.int v :: st) h := jq_nx (jv_insR jm_149 dX0_where_153) rfl
theorem e149_155 : jv_ev d 149 155 lc st h = jv_ev d 149 171 lc st h := jq_go (jv_insR jm_149 dX0_where_155) (by decide)
theorem e149_158 : jv_ev d 149 158 [x0, x1, x2, x3, some (.int v), x5, x6, x7, x8, x9, x10, x11] st h = jv_ev d 149 160 [x0, x1, x2, x3, some (.int v), x5, x6, x7, x8, x9, x10, x11] (.int v :: st) h := jq_nx (jv_insR jm_149 dX0_where_158) rfl
theorem e149_160 : jv_ev d 149 160 lc st h = jv_ev d 149 161 lc (.int 1 :: st) h := jq_iconst (jv_insR jm_149 dX0_where_160) (by decide)
theorem e149_161 : jv_ev d 149 161 lc (.int w :: .int v :: st) h = if ¬ v = w then jv_ev d 149 169 lc st h else jv_ev d 149 164 lc st h := jq_if (jv_insR jm_149 dX0_where_161) rfl (by decide)
theorem e149_164 : jv_ev d 149 164 [x0, x1, x2, x3, x4, x5, some (.int v), x7, x8, x9, x10, x11] st h = jv_ev d 149 166 [x0, x1, x2, x3, x4, x5, some (.int v), x7, x8, x9, x10, x11] (.int v :: st) h := jq_nx (jv_insR jm_149 dX0_where_164) rfl
theorem e149_166 : jv_ev d 149 166 lc st h = jv_ev d 149 171 lc st h := jq_go (jv_insR jm_149 dX0_where_166) (by decide)
theorem e149_169 : jv_ev d 149 169 [x0, x1, x2, x3, x4, x5, x6, some (.int v), x8, x9, x10, x11] st h = jv_ev d 149 171 [x0, x1, x2, x3, x4, x5, x6, some (.int v), x8, x9, x10, x11] (.int v :: st) h := jq_nx (jv_insR jm_149 dX0_where_169) rfl
theorem e149_171 : jv_ev d 149 171 lc [.int v] h = some (.inl (some (.int v)), h) := jq_reti (jv_insR jm_149 dX0_where_171) jr_149
/-! 150: RainLoom.gains()I -/
theorem n150 : jv_cd (d + 1) 150 [.ref a0] h = jv_ev d 150 0 [some (.ref a0), none, none] [] h := rfl
theorem e150_0 : jv_ev d 150 0 lc st h = jv_ev d 150 1 lc (.int 0 :: st) h := jq_iconst (jv_insR jm_150 dX0_gains_0) (by decide)
theorem e150_1 : jv_ev d 150 1 [x0, x1, x2] (.int v :: st) h = jv_ev d 150 2 [x0, some (.int v), x2] st h := jq_nx (jv_insR jm_150 dX0_gains_1) rfl
theorem e150_2 : jv_ev d 150 2 lc st h = jv_ev d 150 3 lc (.int 0 :: st) h := jq_iconst (jv_insR jm_150 dX0_gains_2) (by decide)
theorem e150_3 : jv_ev d 150 3 [x0, x1, x2] (.int v :: st) h = jv_ev d 150 4 [x0, x1, some (.int v)] st h := jq_nx (jv_insR jm_150 dX0_gains_3) rfl
theorem e150_4 : jv_ev d 150 4 [x0, x1, some (.int v)] st h = jv_ev d 150 5 [x0, x1, some (.int v)] (.int v :: st) h := jq_nx (jv_insR jm_150 dX0_gains_4) rfl
theorem e150_5 : jv_ev d 150 5 lc st h = jv_ev d 150 7 lc (.int 48 :: st) h := jq_bipush (jv_insR jm_150 dX0_gains_5) (by decide)
theorem e150_7 : jv_ev d 150 7 lc (.int w :: .int v :: st) h = if w ≤ v then jv_ev d 150 106 lc st h else jv_ev d 150 10 lc st h := jq_if (jv_insR jm_150 dX0_gains_7) rfl (by decide)
theorem e150_10 : jv_ev d 150 10 [some (.ref a), x1, x2] st h = jv_ev d 150 11 [some (.ref a), x1, x2] (.ref a :: st) h := jq_nx (jv_insR jm_150 dX0_gains_10) rfl
theorem e150_11 : jv_ev d 150 11 lc (.ref a :: st) h = (jv_gf h a [(1, 3, .object "RainLoom$Text")]).bind fun r => jv_ev d 150 14 lc (r :: st) h := jq_get (jv_insR jm_150 dX0_gains_11) jo_150 jF_2_40
theorem e150_14 : jv_ev d 150 14 [x0, x1, some (.int v)] st h = jv_ev d 150 15 [x0, x1, some (.int v)] (.int v :: st) h := jq_nx (jv_insR jm_150 dX0_gains_14) rfl
theorem e150_15 : jv_ev d 150 15 lc [z0, .ref b] h = (jv_rc h b [(5, 211)]).bind fun y => (jv_cd d y [.ref b, z0] h).bind fun r => jv_on r (fun v h => jv_ev d 150 18 lc (v.toList ++ []) h) (fun q h => some (.inr q, h)) := jq_V (as := [z0]) (rest := []) (jv_insR jm_150 dX0_gains_15) jo_150 jV_2_198 rfl rfl rfl rfl
theorem e150_18 : jv_ev d 150 18 lc (.int v :: st) h = if ¬ v = 0 then jv_ev d 150 24 lc st h else jv_ev d 150 21 lc st h := jq_if (jv_insR jm_150 dX0_gains_18) rfl (by decide)
theorem e150_21 : jv_ev d 150 21 lc st h = jv_ev d 150 100 lc st h := jq_go (jv_insR jm_150 dX0_gains_21) (by decide)
theorem e150_24 : jv_ev d 150 24 [x0, some (.int v), x2] st h = jv_ev d 150 25 [x0, some (.int v), x2] (.int v :: st) h := jq_nx (jv_insR jm_150 dX0_gains_24) rfl
theorem e150_25 : jv_ev d 150 25 [some (.ref a), x1, x2] st h = jv_ev d 150 26 [some (.ref a), x1, x2] (.ref a :: st) h := jq_nx (jv_insR jm_150 dX0_gains_25) rfl
theorem e150_26 : jv_ev d 150 26 lc (.ref a :: st) h = (jv_gf h a [(1, 7, .object "RainLoom$Land")]).bind fun r => jv_ev d 150 29 lc (r :: st) h := jq_get (jv_insR jm_150 dX0_gains_26) jo_150 jF_2_51
theorem e150_29 : jv_ev d 150 29 [some (.ref a), x1, x2] st h = jv_ev d 150 30 [some (.ref a), x1, x2] (.ref a :: st) h := jq_nx (jv_insR jm_150 dX0_gains_29) rfl
theorem e150_30 : jv_ev d 150 30 lc (.ref a :: st) h = (jv_gf h a [(1, 3, .object "RainLoom$Text")]).bind fun r => jv_ev d 150 33 lc (r :: st) h := jq_get (jv_insR jm_150 dX0_gains_30) jo_150 jF_2_40
theorem e150_33 : jv_ev d 150 33 [x0, x1, some (.int v)] st h = jv_ev d 150 34 [x0, x1, some (.int v)] (.int v :: st) h := jq_nx (jv_insR jm_150 dX0_gains_33) rfl
theorem e150_34 : jv_ev d 150 34 lc [z1, z0, .ref b, y0] h = (jv_rc h b [(6, 219)]).bind fun y => (jv_cd d y [.ref b, z0, z1] h).bind fun r => jv_on r (fun v h => jv_ev d 150 37 lc (v.toList ++ [y0]) h) (fun q h => some (.inr q, h)) := jq_V (as := [z0, z1]) (rest := [y0]) (jv_insR jm_150 dX0_gains_34) jo_150 jV_2_189 rfl rfl rfl rfl
theorem e150_37 : jv_ev d 150 37 lc (.int v :: st) h = if v = 0 then jv_ev d 150 59 lc st h else jv_ev d 150 40 lc st h := jq_if (jv_insR jm_150 dX0_gains_37) rfl (by decide)
theorem e150_40 : jv_ev d 150 40 [some (.ref a), x1, x2] st h = jv_ev d 150 41 [some (.ref a), x1, x2] (.ref a :: st) h := jq_nx (jv_insR jm_150 dX0_gains_40) rfl
theorem e150_41 : jv_ev d 150 41 lc (.ref a :: st) h = (jv_gf h a [(1, 8, .object "RainLoom$Land")]).bind fun r => jv_ev d 150 44 lc (r :: st) h := jq_get (jv_insR jm_150 dX0_gains_41) jo_150 jF_2_55
theorem e150_44 : jv_ev d 150 44 [some (.ref a), x1, x2] st h = jv_ev d 150 45 [some (.ref a), x1, x2] (.ref a :: st) h := jq_nx (jv_insR jm_150 dX0_gains_44) rfl
theorem e150_45 : jv_ev d 150 45 lc (.ref a :: st) h = (jv_gf h a [(1, 3, .object "RainLoom$Text")]).bind fun r => jv_ev d 150 48 lc (r :: st) h := jq_get (jv_insR jm_150 dX0_gains_45) jo_150 jF_2_40
theorem e150_48 : jv_ev d 150 48 [x0, x1, some (.int v)] st h = jv_ev d 150 49 [x0, x1, some (.int v)] (.int v :: st) h := jq_nx (jv_insR jm_150 dX0_gains_48) rfl
theorem e150_49 : jv_ev d 150 49 lc [z1, z0, .ref b, y0] h = (jv_rc h b [(6, 219)]).bind fun y => (jv_cd d y [.ref b, z0, z1] h).bind fun r => jv_on r (fun v h => jv_ev d 150 52 lc (v.toList ++ [y0]) h) (fun q h => some (.inr q, h)) := jq_V (as := [z0, z1]) (rest := [y0]) (jv_insR jm_150 dX0_gains_49) jo_150 jV_2_189 rfl rfl rfl rfl
theorem e150_52 : jv_ev d 150 52 lc (.int v :: st) h = if ¬ v = 0 then jv_ev d 150 59 lc st h else jv_ev d 150 55 lc st h := jq_if (jv_insR jm_150 dX0_gains_52) rfl (by decide)
theorem e150_55 : jv_ev d 150 55 lc st h = jv_ev d 150 56 lc (.int 1 :: st) h := jq_iconst (jv_insR jm_150 dX0_gains_55) (by decide)
theorem e150_56 : jv_ev d 150 56 lc st h = jv_ev d 150 60 lc st h := jq_go (jv_insR jm_150 dX0_gains_56) (by decide)
theorem e150_59 : jv_ev d 150 59 lc st h = jv_ev d 150 60 lc (.int 0 :: st) h := jq_iconst (jv_insR jm_150 dX0_gains_59) (by decide)
theorem e150_60 : jv_ev d 150 60 lc (.int w :: .int v :: st) h = jv_ev d 150 61 lc (.int (v + w) :: st) h := jq_nx (jv_insR jm_150 dX0_gains_60) rfl
theorem e150_61 : jv_ev d 150 61 [x0, x1, x2] (.int v :: st) h = jv_ev d 150 62 [x0, some (.int v), x2] st h := jq_nx (jv_insR jm_150 dX0_gains_61) rfl
theorem e150_62 : jv_ev d 150 62 [x0, some (.int v), x2] st h = jv_ev d 150 63 [x0, some (.int v), x2] (.int v :: st) h := jq_nx (jv_insR jm_150 dX0_gains_62) rfl
theorem e150_63 : jv_ev d 150 63 [some (.ref a), x1, x2] st h = jv_ev d 150 64 [some (.ref a), x1, x2] (.ref a :: st) h := jq_nx (jv_insR jm_150 dX0_gains_63) rfl
theorem e150_64 : jv_ev d 150 64 lc (.ref a :: st) h = (jv_gf h a [(1, 8, .object "RainLoom$Land")]).bind fun r => jv_ev d 150 67 lc (r :: st) h := jq_get (jv_insR jm_150 dX0_gains_64) jo_150 jF_2_55
theorem e150_67 : jv_ev d 150 67 [some (.ref a), x1, x2] st h = jv_ev d 150 68 [some (.ref a), x1, x2] (.ref a :: st) h := jq_nx (jv_insR jm_150 dX0_gains_67) rfl
theorem e150_68 : jv_ev d 150 68 lc (.ref a :: st) h = (jv_gf h a [(1, 3, .object "RainLoom$Text")]).bind fun r => jv_ev d 150 71 lc (r :: st) h := jq_get (jv_insR jm_150 dX0_gains_68) jo_150 jF_2_40
theorem e150_71 : jv_ev d 150 71 [x0, x1, some (.int v)] st h = jv_ev d 150 72 [x0, x1, some (.int v)] (.int v :: st) h := jq_nx (jv_insR jm_150 dX0_gains_71) rfl
theorem e150_72 : jv_ev d 150 72 lc [z1, z0, .ref b, y0] h = (jv_rc h b [(6, 220)]).bind fun y => (jv_cd d y [.ref b, z0, z1] h).bind fun r => jv_on r (fun v h => jv_ev d 150 75 lc (v.toList ++ [y0]) h) (fun q h => some (.inr q, h)) := jq_V (as := [z0, z1]) (rest := [y0]) (jv_insR jm_150 dX0_gains_72) jo_150 jV_2_193 rfl rfl rfl rfl
theorem e150_75 : jv_ev d 150 75 lc (.int v :: st) h = if v = 0 then jv_ev d 150 97 lc st h else jv_ev d 150 78 lc st h := jq_if (jv_insR jm_150 dX0_gains_75) rfl (by decide)
theorem e150_78 : jv_ev d 150 78 [some (.ref a), x1, x2] st h = jv_ev d 150 79 [some (.ref a), x1, x2] (.ref a :: st) h := jq_nx (jv_insR jm_150 dX0_gains_78) rfl
theorem e150_79 : jv_ev d 150 79 lc (.ref a :: st) h = (jv_gf h a [(1, 7, .object "RainLoom$Land")]).bind fun r => jv_ev d 150 82 lc (r :: st) h := jq_get (jv_insR jm_150 dX0_gains_79) jo_150 jF_2_51
theorem e150_82 : jv_ev d 150 82 [some (.ref a), x1, x2] st h = jv_ev d 150 83 [some (.ref a), x1, x2] (.ref a :: st) h := jq_nx (jv_insR jm_150 dX0_gains_82) rfl
theorem e150_83 : jv_ev d 150 83 lc (.ref a :: st) h = (jv_gf h a [(1, 3, .object "RainLoom$Text")]).bind fun r => jv_ev d 150 86 lc (r :: st) h := jq_get (jv_insR jm_150 dX0_gains_83) jo_150 jF_2_40
theorem e150_86 : jv_ev d 150 86 [x0, x1, some (.int v)] st h = jv_ev d 150 87 [x0, x1, some (.int v)] (.int v :: st) h := jq_nx (jv_insR jm_150 dX0_gains_86) rfl
theorem e150_87 : jv_ev d 150 87 lc [z1, z0, .ref b, y0] h = (jv_rc h b [(6, 220)]).bind fun y => (jv_cd d y [.ref b, z0, z1] h).bind fun r => jv_on r (fun v h => jv_ev d 150 90 lc (v.toList ++ [y0]) h) (fun q h => some (.inr q, h)) := jq_V (as := [z0, z1]) (rest := [y0]) (jv_insR jm_150 dX0_gains_87) jo_150 jV_2_193 rfl rfl rfl rfl
theorem e150_90 : jv_ev d 150 90 lc (.int v :: st) h = if ¬ v = 0 then jv_ev d 150 97 lc st h else jv_ev d 150 93 lc st h := jq_if (jv_insR jm_150 dX0_gains_90) rfl (by decide)
theorem e150_93 : jv_ev d 150 93 lc st h = jv_ev d 150 94 lc (.int 1 :: st) h := jq_iconst (jv_insR jm_150 dX0_gains_93) (by decide)
theorem e150_94 : jv_ev d 150 94 lc st h = jv_ev d 150 98 lc st h := jq_go (jv_insR jm_150 dX0_gains_94) (by decide)
theorem e150_97 : jv_ev d 150 97 lc st h = jv_ev d 150 98 lc (.int 0 :: st) h := jq_iconst (jv_insR jm_150 dX0_gains_97) (by decide)
theorem e150_98 : jv_ev d 150 98 lc (.int w :: .int v :: st) h = jv_ev d 150 99 lc (.int (v - w) :: st) h := jq_nx (jv_insR jm_150 dX0_gains_98) rfl
theorem e150_99 : jv_ev d 150 99 [x0, x1, x2] (.int v :: st) h = jv_ev d 150 100 [x0, some (.int v), x2] st h := jq_nx (jv_insR jm_150 dX0_gains_99) rfl
theorem e150_100 : jv_ev d 150 100 [x0, x1, some (.int v)] st h = jv_ev d 150 103 [x0, x1, some (.int (v + 1))] st h := jq_nx (jv_insR jm_150 dX0_gains_100) rfl
theorem e150_103 : jv_ev d 150 103 lc st h = jv_ev d 150 4 lc st h := jq_go (jv_insR jm_150 dX0_gains_103) (by decide)
theorem e150_106 : jv_ev d 150 106 [x0, some (.int v), x2] st h = jv_ev d 150 107 [x0, some (.int v), x2] (.int v :: st) h := jq_nx (jv_insR jm_150 dX0_gains_106) rfl
theorem e150_107 : jv_ev d 150 107 lc [.int v] h = some (.inl (some (.int v)), h) := jq_reti (jv_insR jm_150 dX0_gains_107) jr_150
/-! 151: RainLoom.cut(IIII)I -/
theorem n151 : jv_cd (d + 1) 151 [.ref a0, .int i1, .int i2, .int i3, .int i4] h = jv_ev d 151 0 [some (.ref a0), some (.int i1), some (.int i2), some (.int i3), some (.int i4), none] [] h := rfl
theorem e151_0 : jv_ev d 151 0 [some (.ref a), x1, x2, x3, x4, x5] st h = jv_ev d 151 1 [some (.ref a), x1, x2, x3, x4, x5] (.ref a :: st) h := jq_nx (jv_insR jm_151 dX0_cut_0) rfl
theorem e151_1 : jv_ev d 151 1 lc st h = jv_ev d 151 2 lc (.int 0 :: st) h := jq_iconst (jv_insR jm_151 dX0_cut_1) (by decide)
theorem e151_2 : jv_ev d 151 2 lc (r :: .ref a :: st) h = (jv_pf h a [(1, 16, .int)] r).bind fun h => jv_ev d 151 5 lc st h := jq_put (jv_insR jm_151 dX0_cut_2) jo_151 ji_151 jG_2_292
theorem e151_5 : jv_ev d 151 5 [some (.ref a), x1, x2, x3, x4, x5] st h = jv_ev d 151 6 [some (.ref a), x1, x2, x3, x4, x5] (.ref a :: st) h := jq_nx (jv_insR jm_151 dX0_cut_5) rfl
theorem e151_6 : jv_ev d 151 6 [x0, some (.int v), x2, x3, x4, x5] st h = jv_ev d 151 7 [x0, some (.int v), x2, x3, x4, x5] (.int v :: st) h := jq_nx (jv_insR jm_151 dX0_cut_6) rfl
theorem e151_7 : jv_ev d 151 7 lc [z0, .ref b] h = (jv_rc h b [(1, 152)]).bind fun y => (jv_cd d y [.ref b, z0] h).bind fun r => jv_on r (fun v h => jv_ev d 151 10 lc (v.toList ++ []) h) (fun q h => some (.inr q, h)) := jq_V (as := [z0]) (rest := []) (jv_insR jm_151 dX0_cut_7) jo_151 jV_2_305 rfl rfl rfl rfl
theorem e151_10 : jv_ev d 151 10 lc (.int v :: st) h = if v = 0 then jv_ev d 151 59 lc st h else jv_ev d 151 13 lc st h := jq_if (jv_insR jm_151 dX0_cut_10) rfl (by decide)
theorem e151_13 : jv_ev d 151 13 [x0, x1, some (.int v), x3, x4, x5] st h = jv_ev d 151 14 [x0, x1, some (.int v), x3, x4, x5] (.int v :: st) h := jq_nx (jv_insR jm_151 dX0_cut_13) rfl
theorem e151_14 : jv_ev d 151 14 lc (.int v :: st) h = if v = 0 then jv_ev d 151 25 lc st h else jv_ev d 151 17 lc st h := jq_if (jv_insR jm_151 dX0_cut_14) rfl (by decide)
theorem e151_17 : jv_ev d 151 17 [some (.ref a), x1, x2, x3, x4, x5] st h = jv_ev d 151 18 [some (.ref a), x1, x2, x3, x4, x5] (.ref a :: st) h := jq_nx (jv_insR jm_151 dX0_cut_17) rfl
theorem e151_18 : jv_ev d 151 18 [x0, x1, some (.int v), x3, x4, x5] st h = jv_ev d 151 19 [x0, x1, some (.int v), x3, x4, x5] (.int v :: st) h := jq_nx (jv_insR jm_151 dX0_cut_18) rfl
theorem e151_19 : jv_ev d 151 19 lc [z0, .ref b] h = (jv_rc h b [(1, 152)]).bind fun y => (jv_cd d y [.ref b, z0] h).bind fun r => jv_on r (fun v h => jv_ev d 151 22 lc (v.toList ++ []) h) (fun q h => some (.inr q, h)) := jq_V (as := [z0]) (rest := []) (jv_insR jm_151 dX0_cut_19) jo_151 jV_2_305 rfl rfl rfl rfl
theorem e151_22 : jv_ev d 151 22 lc (.int v :: st) h = if v = 0 then jv_ev d 151 59 lc st h else jv_ev d 151 25 lc st h := jq_if (jv_insR jm_151 dX0_cut_22) rfl (by decide)
theorem e151_25 : jv_ev d 151 25 [x0, x1, x2, some (.int v), x4, x5] st h = jv_ev d 151 26 [x0, x1, x2, some (.int v), x4, x5] (.int v :: st) h := jq_nx (jv_insR jm_151 dX0_cut_25) rfl
theorem e151_26 : jv_ev d 151 26 lc (.int v :: st) h = if v = 0 then jv_ev d 151 41 lc st h else jv_ev d 151 29 lc st h := jq_if (jv_insR jm_151 dX0_cut_26) rfl (by decide)
theorem e151_29 : jv_ev d 151 29 [x0, x1, some (.int v), x3, x4, x5] st h = jv_ev d 151 30 [x0, x1, some (.int v), x3, x4, x5] (.int v :: st) h := jq_nx (jv_insR jm_151 dX0_cut_29) rfl
theorem e151_30 : jv_ev d 151 30 lc (.int v :: st) h = if v = 0 then jv_ev d 151 59 lc st h else jv_ev d 151 33 lc st h := jq_if (jv_insR jm_151 dX0_cut_30) rfl (by decide)
theorem e151_33 : jv_ev d 151 33 [some (.ref a), x1, x2, x3, x4, x5] st h = jv_ev d 151 34 [some (.ref a), x1, x2, x3, x4, x5] (.ref a :: st) h := jq_nx (jv_insR jm_151 dX0_cut_33) rfl
theorem e151_34 : jv_ev d 151 34 [x0, x1, x2, some (.int v), x4, x5] st h = jv_ev d 151 35 [x0, x1, x2, some (.int v), x4, x5] (.int v :: st) h := jq_nx (jv_insR jm_151 dX0_cut_34) rfl
theorem e151_35 : jv_ev d 151 35 lc [z0, .ref b] h = (jv_rc h b [(1, 152)]).bind fun y => (jv_cd d y [.ref b, z0] h).bind fun r => jv_on r (fun v h => jv_ev d 151 38 lc (v.toList ++ []) h) (fun q h => some (.inr q, h)) := jq_V (as := [z0]) (rest := []) (jv_insR jm_151 dX0_cut_35) jo_151 jV_2_305 rfl rfl rfl rfl
theorem e151_38 : jv_ev d 151 38 lc (.int v :: st) h = if v = 0 then jv_ev d 151 59 lc st h else jv_ev d 151 41 lc st h := jq_if (jv_insR jm_151 dX0_cut_38) rfl (by decide)
theorem e151_41 : jv_ev d 151 41 [x0, x1, x2, x3, some (.int v), x5] st h = jv_ev d 151 43 [x0, x1, x2, x3, some (.int v), x5] (.int v :: st) h := jq_nx (jv_insR jm_151 dX0_cut_41) rfl
theorem e151_43 : jv_ev d 151 43 lc (.int v :: st) h = if v = 0 then jv_ev d 151 61 lc st h else jv_ev d 151 46 lc st h := jq_if (jv_insR jm_151 dX0_cut_43) rfl (by decide)
theorem e151_46 : jv_ev d 151 46 [x0, x1, x2, some (.int v), x4, x5] st h = jv_ev d 151 47 [x0, x1, x2, some (.int v), x4, x5] (.int v :: st) h := jq_nx (jv_insR jm_151 dX0_cut_46) rfl
theorem e151_47 : jv_ev d 151 47 lc (.int v :: st) h = if v = 0 then jv_ev d 151 59 lc st h else jv_ev d 151 50 lc st h := jq_if (jv_insR jm_151 dX0_cut_47) rfl (by decide)
theorem e151_50 : jv_ev d 151 50 [some (.ref a), x1, x2, x3, x4, x5] st h = jv_ev d 151 51 [some (.ref a), x1, x2, x3, x4, x5] (.ref a :: st) h := jq_nx (jv_insR jm_151 dX0_cut_50) rfl
theorem e151_51 : jv_ev d 151 51 [x0, x1, x2, x3, some (.int v), x5] st h = jv_ev d 151 53 [x0, x1, x2, x3, some (.int v), x5] (.int v :: st) h := jq_nx (jv_insR jm_151 dX0_cut_51) rfl
theorem e151_53 : jv_ev d 151 53 lc [z0, .ref b] h = (jv_rc h b [(1, 152)]).bind fun y => (jv_cd d y [.ref b, z0] h).bind fun r => jv_on r (fun v h => jv_ev d 151 56 lc (v.toList ++ []) h) (fun q h => some (.inr q, h)) := jq_V (as := [z0]) (rest := []) (jv_insR jm_151 dX0_cut_53) jo_151 jV_2_305 rfl rfl rfl rfl
theorem e151_56 : jv_ev d 151 56 lc (.int v :: st) h = if ¬ v = 0 then jv_ev d 151 61 lc st h else jv_ev d 151 59 lc st h := jq_if (jv_insR jm_151 dX0_cut_56) rfl (by decide)
theorem e151_59 : jv_ev d 151 59 lc st h = jv_ev d 151 60 lc (.int (-1) :: st) h := jq_iconst (jv_insR jm_151 dX0_cut_59) (by decide)
theorem e151_60 : jv_ev d 151 60 lc [.int v] h = some (.inl (some (.int v)), h) := jq_reti (jv_insR jm_151 dX0_cut_60) jr_151
theorem e151_61 : jv_ev d 151 61 [some (.ref a), x1, x2, x3, x4, x5] st h = jv_ev d 151 62 [some (.ref a), x1, x2, x3, x4, x5] (.ref a :: st) h := jq_nx (jv_insR jm_151 dX0_cut_61) rfl
theorem e151_62 : jv_ev d 151 62 lc st h = jv_ev d 151 65 lc (.int (1000000) :: st) h := jq_ldcw (jv_insR jm_151 dX0_cut_62) jo_151 jK_2_308
theorem e151_65 : jv_ev d 151 65 lc (r :: .ref a :: st) h = (jv_pf h a [(1, 17, .int)] r).bind fun h => jv_ev d 151 68 lc st h := jq_put (jv_insR jm_151 dX0_cut_65) jo_151 ji_151 jG_2_289
theorem e151_68 : jv_ev d 151 68 lc st h = jv_ev d 151 69 lc (.int 0 :: st) h := jq_iconst (jv_insR jm_151 dX0_cut_68) (by decide)
theorem e151_69 : jv_ev d 151 69 [x0, x1, x2, x3, x4, x5] (.int v :: st) h = jv_ev d 151 71 [x0, x1, x2, x3, x4, some (.int v)] st h := jq_nx (jv_insR jm_151 dX0_cut_69) rfl
theorem e151_71 : jv_ev d 151 71 [x0, x1, x2, x3, x4, some (.int v)] st h = jv_ev d 151 73 [x0, x1, x2, x3, x4, some (.int v)] (.int v :: st) h := jq_nx (jv_insR jm_151 dX0_cut_71) rfl
theorem e151_73 : jv_ev d 151 73 lc st h = jv_ev d 151 75 lc (.int 8 :: st) h := jq_bipush (jv_insR jm_151 dX0_cut_73) (by decide)
theorem e151_75 : jv_ev d 151 75 lc (.int w :: .int v :: st) h = if w ≤ v then jv_ev d 151 94 lc st h else jv_ev d 151 78 lc st h := jq_if (jv_insR jm_151 dX0_cut_75) rfl (by decide)
theorem e151_78 : jv_ev d 151 78 [some (.ref a), x1, x2, x3, x4, x5] st h = jv_ev d 151 79 [some (.ref a), x1, x2, x3, x4, x5] (.ref a :: st) h := jq_nx (jv_insR jm_151 dX0_cut_78) rfl
theorem e151_79 : jv_ev d 151 79 lc (.ref a :: st) h = (jv_gf h a [(1, 15, .array (.array .int))]).bind fun r => jv_ev d 151 82 lc (r :: st) h := jq_get (jv_insR jm_151 dX0_cut_79) jo_151 jF_2_96
theorem e151_82 : jv_ev d 151 82 lc st h = jv_ev d 151 83 lc (.int 0 :: st) h := jq_iconst (jv_insR jm_151 dX0_cut_82) (by decide)
theorem e151_83 : jv_ev d 151 83 lc (.int v :: .ref a :: st) h = (jv_rg h a v).bind fun w => jv_ev d 151 84 lc (w :: st) h := jq_aald (jv_insR jm_151 dX0_cut_83)
theorem e151_84 : jv_ev d 151 84 [x0, x1, x2, x3, x4, some (.int v)] st h = jv_ev d 151 86 [x0, x1, x2, x3, x4, some (.int v)] (.int v :: st) h := jq_nx (jv_insR jm_151 dX0_cut_84) rfl
theorem e151_86 : jv_ev d 151 86 lc st h = jv_ev d 151 87 lc (.int 0 :: st) h := jq_iconst (jv_insR jm_151 dX0_cut_86) (by decide)
theorem e151_87 : jv_ev d 151 87 lc (.int w :: .int v :: .ref a :: st) h = (jv_ip h a 0 0 v w).bind fun h => jv_ev d 151 88 lc st h := jq_iast (jv_insR jm_151 dX0_cut_87)
theorem e151_88 : jv_ev d 151 88 [x0, x1, x2, x3, x4, some (.int v)] st h = jv_ev d 151 91 [x0, x1, x2, x3, x4, some (.int (v + 1))] st h := jq_nx (jv_insR jm_151 dX0_cut_88) rfl
theorem e151_91 : jv_ev d 151 91 lc st h = jv_ev d 151 71 lc st h := jq_go (jv_insR jm_151 dX0_cut_91) (by decide)
theorem e151_94 : jv_ev d 151 94 [some (.ref a), x1, x2, x3, x4, x5] st h = jv_ev d 151 95 [some (.ref a), x1, x2, x3, x4, x5] (.ref a :: st) h := jq_nx (jv_insR jm_151 dX0_cut_94) rfl
theorem e151_95 : jv_ev d 151 95 lc st h = jv_ev d 151 96 lc (.int 0 :: st) h := jq_iconst (jv_insR jm_151 dX0_cut_95) (by decide)
theorem e151_96 : jv_ev d 151 96 lc st h = jv_ev d 151 97 lc (.int 0 :: st) h := jq_iconst (jv_insR jm_151 dX0_cut_96) (by decide)
theorem e151_97 : jv_ev d 151 97 lc st h = jv_ev d 151 98 lc (.int 0 :: st) h := jq_iconst (jv_insR jm_151 dX0_cut_97) (by decide)
theorem e151_98 : jv_ev d 151 98 lc [z2, z1, z0, .ref b] h = (jv_rc h b [(1, 154)]).bind fun y => (jv_cd d y [.ref b, z0, z1, z2] h).bind fun r => jv_on r (fun v h => jv_ev d 151 101 lc (v.toList ++ []) h) (fun q h => some (.inr q, h)) := jq_V (as := [z0, z1, z2]) (rest := []) (jv_insR jm_151 dX0_cut_98) jo_151 jV_2_298 rfl rfl rfl rfl
theorem e151_101 : jv_ev d 151 101 [some (.ref a), x1, x2, x3, x4, x5] st h = jv_ev d 151 102 [some (.ref a), x1, x2, x3, x4, x5] (.ref a :: st) h := jq_nx (jv_insR jm_151 dX0_cut_101) rfl
theorem e151_102 : jv_ev d 151 102 lc (.ref a :: st) h = (jv_gf h a [(1, 17, .int)]).bind fun r => jv_ev d 151 105 lc (r :: st) h := jq_get (jv_insR jm_151 dX0_cut_102) jo_151 jF_2_289
theorem e151_105 : jv_ev d 151 105 lc [.int v] h = some (.inl (some (.int v)), h) := jq_reti (jv_insR jm_151 dX0_cut_105) jr_151
/-! 152: RainLoom.takesCut(I)Z -/
theorem n152 : jv_cd (d + 1) 152 [.ref a0, .int i1] h = jv_ev d 152 0 [some (.ref a0), some (.int i1)] [] h := rfl
theorem e152_0 : jv_ev d 152 0 [some (.ref a), x1] st h = jv_ev d 152 1 [some (.ref a), x1] (.ref a :: st) h := jq_nx (jv_insR jm_152 dX0_takesCut_0) rfl
theorem e152_1 : jv_ev d 152 1 [x0, some (.int v)] st h = jv_ev d 152 2 [x0, some (.int v)] (.int v :: st) h := jq_nx (jv_insR jm_152 dX0_takesCut_1) rfl
theorem e152_2 : jv_ev d 152 2 lc [z0, .ref b] h = (jv_rc h b [(1, 153)]).bind fun y => (jv_cd d y [.ref b, z0] h).bind fun r => jv_on r (fun v h => jv_ev d 152 5 lc (v.toList ++ []) h) (fun q h => some (.inr q, h)) := jq_V (as := [z0]) (rest := []) (jv_insR jm_152 dX0_takesCut_2) jo_152 jV_2_302 rfl rfl rfl rfl
theorem e152_5 : jv_ev d 152 5 lc (.int v :: st) h = if ¬ v = 0 then jv_ev d 152 10 lc st h else jv_ev d 152 8 lc st h := jq_if (jv_insR jm_152 dX0_takesCut_5) rfl (by decide)
theorem e152_8 : jv_ev d 152 8 lc st h = jv_ev d 152 9 lc (.int 0 :: st) h := jq_iconst (jv_insR jm_152 dX0_takesCut_8) (by decide)
theorem e152_9 : jv_ev d 152 9 lc [.int v] h = if narrow .boolean (.int v) = .int v then some (.inl (some (.int v)), h) else none := jq_ret (jv_insR jm_152 dX0_takesCut_9) jr_152 (by decide)
theorem e152_10 : jv_ev d 152 10 [some (.ref a), x1] st h = jv_ev d 152 11 [some (.ref a), x1] (.ref a :: st) h := jq_nx (jv_insR jm_152 dX0_takesCut_10) rfl
theorem e152_11 : jv_ev d 152 11 lc (.ref a :: st) h = (jv_gf h a [(1, 13, .array .int)]).bind fun r => jv_ev d 152 14 lc (r :: st) h := jq_get (jv_insR jm_152 dX0_takesCut_11) jo_152 jF_2_87
theorem e152_14 : jv_ev d 152 14 [some (.ref a), x1] st h = jv_ev d 152 15 [some (.ref a), x1] (.ref a :: st) h := jq_nx (jv_insR jm_152 dX0_takesCut_14) rfl
theorem e152_15 : jv_ev d 152 15 lc (.ref a :: st) h = (jv_gf h a [(1, 16, .int)]).bind fun r => jv_ev d 152 18 lc (r :: st) h := jq_get (jv_insR jm_152 dX0_takesCut_15) jo_152 jF_2_292
theorem e152_18 : jv_ev d 152 18 [x0, some (.int v)] st h = jv_ev d 152 19 [x0, some (.int v)] (.int v :: st) h := jq_nx (jv_insR jm_152 dX0_takesCut_18) rfl
theorem e152_19 : jv_ev d 152 19 lc st h = jv_ev d 152 21 lc (.int 10 :: st) h := jq_bipush (jv_insR jm_152 dX0_takesCut_19) (by decide)
theorem e152_21 : jv_ev d 152 21 lc (.int w :: .int v :: st) h = if w = 0 then none else jv_ev d 152 22 lc (.int (v / w) :: st) h := jq_idiv (jv_insR jm_152 dX0_takesCut_21)
theorem e152_22 : jv_ev d 152 22 lc (.int w :: .int v :: .ref a :: st) h = (jv_ip h a 0 0 v w).bind fun h => jv_ev d 152 23 lc st h := jq_iast (jv_insR jm_152 dX0_takesCut_22)
theorem e152_23 : jv_ev d 152 23 [some (.ref a), x1] st h = jv_ev d 152 24 [some (.ref a), x1] (.ref a :: st) h := jq_nx (jv_insR jm_152 dX0_takesCut_23) rfl
theorem e152_24 : jv_ev d 152 24 lc (.ref a :: st) h = (jv_gf h a [(1, 14, .array .int)]).bind fun r => jv_ev d 152 27 lc (r :: st) h := jq_get (jv_insR jm_152 dX0_takesCut_24) jo_152 jF_2_91
theorem e152_27 : jv_ev d 152 27 [some (.ref a), x1] st h = jv_ev d 152 28 [some (.ref a), x1] (.ref a :: st) h := jq_nx (jv_insR jm_152 dX0_takesCut_27) rfl
theorem e152_28 : jv_ev d 152 28 lc (.ref a :: st) h = (jv_gf h a [(1, 16, .int)]).bind fun r => jv_ev d 152 31 lc (r :: st) h := jq_get (jv_insR jm_152 dX0_takesCut_28) jo_152 jF_2_292
theorem e152_31 : jv_ev d 152 31 [x0, some (.int v)] st h = jv_ev d 152 32 [x0, some (.int v)] (.int v :: st) h := jq_nx (jv_insR jm_152 dX0_takesCut_31) rfl
theorem e152_32 : jv_ev d 152 32 lc st h = jv_ev d 152 34 lc (.int 10 :: st) h := jq_bipush (jv_insR jm_152 dX0_takesCut_32) (by decide)
theorem e152_34 : jv_ev d 152 34 lc (.int w :: .int v :: st) h = if w = 0 then none else jv_ev d 152 35 lc (.int (v - v / w * w) :: st) h := jq_irem (jv_insR jm_152 dX0_takesCut_34)
theorem e152_35 : jv_ev d 152 35 lc (.int w :: .int v :: .ref a :: st) h = (jv_ip h a 0 0 v w).bind fun h => jv_ev d 152 36 lc st h := jq_iast (jv_insR jm_152 dX0_takesCut_35)
theorem e152_36 : jv_ev d 152 36 [some (.ref a), x1] st h = jv_ev d 152 37 [some (.ref a), x1] (.ref a :: st) h := jq_nx (jv_insR jm_152 dX0_takesCut_36) rfl
theorem e152_37 : jv_ev d 152 37 lc (.ref a :: st) h = jv_ev d 152 38 lc (.ref a :: .ref a :: st) h := jq_nx (jv_insR jm_152 dX0_takesCut_37) rfl
theorem e152_38 : jv_ev d 152 38 lc (.ref a :: st) h = (jv_gf h a [(1, 16, .int)]).bind fun r => jv_ev d 152 41 lc (r :: st) h := jq_get (jv_insR jm_152 dX0_takesCut_38) jo_152 jF_2_292
theorem e152_41 : jv_ev d 152 41 lc st h = jv_ev d 152 42 lc (.int 1 :: st) h := jq_iconst (jv_insR jm_152 dX0_takesCut_41) (by decide)
theorem e152_42 : jv_ev d 152 42 lc (.int w :: .int v :: st) h = jv_ev d 152 43 lc (.int (v + w) :: st) h := jq_nx (jv_insR jm_152 dX0_takesCut_42) rfl
theorem e152_43 : jv_ev d 152 43 lc (r :: .ref a :: st) h = (jv_pf h a [(1, 16, .int)] r).bind fun h => jv_ev d 152 46 lc st h := jq_put (jv_insR jm_152 dX0_takesCut_43) jo_152 ji_152 jG_2_292
theorem e152_46 : jv_ev d 152 46 lc st h = jv_ev d 152 47 lc (.int 1 :: st) h := jq_iconst (jv_insR jm_152 dX0_takesCut_46) (by decide)
theorem e152_47 : jv_ev d 152 47 lc [.int v] h = if narrow .boolean (.int v) = .int v then some (.inl (some (.int v)), h) else none := jq_ret (jv_insR jm_152 dX0_takesCut_47) jr_152 (by decide)
/-! 153: RainLoom.isCut(I)Z -/
theorem n153 : jv_cd (d + 1) 153 [.ref a0, .int i1] h = jv_ev d 153 0 [some (.ref a0), some (.int i1)] [] h := rfl
theorem e153_0 : jv_ev d 153 0 [x0, some (.int v)] st h = jv_ev d 153 1 [x0, some (.int v)] (.int v :: st) h := jq_nx (jv_insR jm_153 dX0_isCut_0) rfl
theorem e153_1 : jv_ev d 153 1 lc st h = jv_ev d 153 3 lc (.int 10 :: st) h := jq_bipush (jv_insR jm_153 dX0_isCut_1) (by decide)
theorem e153_3 : jv_ev d 153 3 lc (.int w :: .int v :: st) h = if w = 0 then none else jv_ev d 153 4 lc (.int (v / w) :: st) h := jq_idiv (jv_insR jm_153 dX0_isCut_3)
theorem e153_4 : jv_ev d 153 4 lc st h = jv_ev d 153 5 lc (.int 1 :: st) h := jq_iconst (jv_insR jm_153 dX0_isCut_4) (by decide)
theorem e153_5 : jv_ev d 153 5 lc st h = jv_ev d 153 7 lc (.int 8 :: st) h := jq_bipush (jv_insR jm_153 dX0_isCut_5) (by decide)
theorem e153_7 : jv_ev d 153 7 lc [z2, z1, z0] h = (jv_cd d 124 [z0, z1, z2] h).bind fun r => jv_on r (fun v h => jv_ev d 153 10 lc (v.toList ++ []) h) (fun q h => some (.inr q, h)) := jq_S (as := [z0, z1, z2]) (rest := []) (jv_insR jm_153 dX0_isCut_7) jo_153 jT_2_158 rfl rfl rfl rfl
theorem e153_10 : jv_ev d 153 10 lc (.int v :: st) h = if v = 0 then jv_ev d 153 30 lc st h else jv_ev d 153 13 lc st h := jq_if (jv_insR jm_153 dX0_isCut_10) rfl (by decide)
theorem e153_13 : jv_ev d 153 13 [x0, some (.int v)] st h = jv_ev d 153 14 [x0, some (.int v)] (.int v :: st) h := jq_nx (jv_insR jm_153 dX0_isCut_13) rfl
theorem e153_14 : jv_ev d 153 14 lc st h = jv_ev d 153 16 lc (.int 10 :: st) h := jq_bipush (jv_insR jm_153 dX0_isCut_14) (by decide)
theorem e153_16 : jv_ev d 153 16 lc (.int w :: .int v :: st) h = if w = 0 then none else jv_ev d 153 17 lc (.int (v - v / w * w) :: st) h := jq_irem (jv_insR jm_153 dX0_isCut_16)
theorem e153_17 : jv_ev d 153 17 lc st h = jv_ev d 153 18 lc (.int 1 :: st) h := jq_iconst (jv_insR jm_153 dX0_isCut_17) (by decide)
theorem e153_18 : jv_ev d 153 18 lc st h = jv_ev d 153 20 lc (.int 6 :: st) h := jq_bipush (jv_insR jm_153 dX0_isCut_18) (by decide)
theorem e153_20 : jv_ev d 153 20 lc [z2, z1, z0] h = (jv_cd d 124 [z0, z1, z2] h).bind fun r => jv_on r (fun v h => jv_ev d 153 23 lc (v.toList ++ []) h) (fun q h => some (.inr q, h)) := jq_S (as := [z0, z1, z2]) (rest := []) (jv_insR jm_153 dX0_isCut_20) jo_153 jT_2_158 rfl rfl rfl rfl
theorem e153_23 : jv_ev d 153 23 lc (.int v :: st) h = if v = 0 then jv_ev d 153 30 lc st h else jv_ev d 153 26 lc st h := jq_if (jv_insR jm_153 dX0_isCut_23) rfl (by decide)
theorem e153_26 : jv_ev d 153 26 lc st h = jv_ev d 153 27 lc (.int 1 :: st) h := jq_iconst (jv_insR jm_153 dX0_isCut_26) (by decide)
theorem e153_27 : jv_ev d 153 27 lc st h = jv_ev d 153 31 lc st h := jq_go (jv_insR jm_153 dX0_isCut_27) (by decide)
theorem e153_30 : jv_ev d 153 30 lc st h = jv_ev d 153 31 lc (.int 0 :: st) h := jq_iconst (jv_insR jm_153 dX0_isCut_30) (by decide)
theorem e153_31 : jv_ev d 153 31 lc [.int v] h = if narrow .boolean (.int v) = .int v then some (.inl (some (.int v)), h) else none := jq_ret (jv_insR jm_153 dX0_isCut_31) jr_153 (by decide)
/-! 154: RainLoom.laysCut(III)V -/
theorem n154 : jv_cd (d + 1) 154 [.ref a0, .int i1, .int i2, .int i3] h = jv_ev d 154 0 [some (.ref a0), some (.int i1), some (.int i2), some (.int i3), none, none, none, none] [] h := rfl
theorem e154_0 : jv_ev d 154 0 [x0, x1, x2, some (.int v), x4, x5, x6, x7] st h = jv_ev d 154 1 [x0, x1, x2, some (.int v), x4, x5, x6, x7] (.int v :: st) h := jq_nx (jv_insR jm_154 dX0_laysCut_0) rfl
theorem e154_1 : jv_ev d 154 1 [some (.ref a), x1, x2, x3, x4, x5, x6, x7] st h = jv_ev d 154 2 [some (.ref a), x1, x2, x3, x4, x5, x6, x7] (.ref a :: st) h := jq_nx (jv_insR jm_154 dX0_laysCut_1) rfl
theorem e154_2 : jv_ev d 154 2 lc (.ref a :: st) h = (jv_gf h a [(1, 17, .int)]).bind fun r => jv_ev d 154 5 lc (r :: st) h := jq_get (jv_insR jm_154 dX0_laysCut_2) jo_154 jF_2_289
theorem e154_5 : jv_ev d 154 5 lc (.int w :: .int v :: st) h = if v < w then jv_ev d 154 9 lc st h else jv_ev d 154 8 lc st h := jq_if (jv_insR jm_154 dX0_laysCut_5) rfl (by decide)
theorem e154_8 : jv_ev d 154 8 lc [] h = some (.inl none, h) := jq_retv (jv_insR jm_154 dX0_laysCut_8) jr_154
theorem e154_9 : jv_ev d 154 9 [x0, some (.int v), x2, x3, x4, x5, x6, x7] st h = jv_ev d 154 10 [x0, some (.int v), x2, x3, x4, x5, x6, x7] (.int v :: st) h := jq_nx (jv_insR jm_154 dX0_laysCut_9) rfl
theorem e154_10 : jv_ev d 154 10 [some (.ref a), x1, x2, x3, x4, x5, x6, x7] st h = jv_ev d 154 11 [some (.ref a), x1, x2, x3, x4, x5, x6, x7] (.ref a :: st) h := jq_nx (jv_insR jm_154 dX0_laysCut_10) rfl
theorem e154_11 : jv_ev d 154 11 lc (.ref a :: st) h = (jv_gf h a [(1, 16, .int)]).bind fun r => jv_ev d 154 14 lc (r :: st) h := jq_get (jv_insR jm_154 dX0_laysCut_11) jo_154 jF_2_292
theorem e154_14 : jv_ev d 154 14 lc (.int w :: .int v :: st) h = if ¬ v = w then jv_ev d 154 23 lc st h else jv_ev d 154 17 lc st h := jq_if (jv_insR jm_154 dX0_laysCut_14) rfl (by decide)
theorem e154_17 : jv_ev d 154 17 [some (.ref a), x1, x2, x3, x4, x5, x6, x7] st h = jv_ev d 154 18 [some (.ref a), x1, x2, x3, x4, x5, x6, x7] (.ref a :: st) h := jq_nx (jv_insR jm_154 dX0_laysCut_17) rfl
theorem e154_18 : jv_ev d 154 18 [x0, x1, x2, some (.int v), x4, x5, x6, x7] st h = jv_ev d 154 19 [x0, x1, x2, some (.int v), x4, x5, x6, x7] (.int v :: st) h := jq_nx (jv_insR jm_154 dX0_laysCut_18) rfl
theorem e154_19 : jv_ev d 154 19 lc (r :: .ref a :: st) h = (jv_pf h a [(1, 17, .int)] r).bind fun h => jv_ev d 154 22 lc st h := jq_put (jv_insR jm_154 dX0_laysCut_19) jo_154 ji_154 jG_2_289
theorem e154_22 : jv_ev d 154 22 lc [] h = some (.inl none, h) := jq_retv (jv_insR jm_154 dX0_laysCut_22) jr_154
theorem e154_23 : jv_ev d 154 23 lc st h = jv_ev d 154 24 lc (.int 0 :: st) h := jq_iconst (jv_insR jm_154 dX0_laysCut_23) (by decide)
theorem e154_24 : jv_ev d 154 24 [x0, x1, x2, x3, x4, x5, x6, x7] (.int v :: st) h = jv_ev d 154 26 [x0, x1, x2, x3, some (.int v), x5, x6, x7] st h := jq_nx (jv_insR jm_154 dX0_laysCut_24) rfl
theorem e154_26 : jv_ev d 154 26 [x0, x1, x2, x3, some (.int v), x5, x6, x7] st h = jv_ev d 154 28 [x0, x1, x2, x3, some (.int v), x5, x6, x7] (.int v :: st) h := jq_nx (jv_insR jm_154 dX0_laysCut_26) rfl
theorem e154_28 : jv_ev d 154 28 [some (.ref a), x1, x2, x3, x4, x5, x6, x7] st h = jv_ev d 154 29 [some (.ref a), x1, x2, x3, x4, x5, x6, x7] (.ref a :: st) h := jq_nx (jv_insR jm_154 dX0_laysCut_28) rfl
theorem e154_29 : jv_ev d 154 29 lc (.ref a :: st) h = (jv_gf h a [(1, 16, .int)]).bind fun r => jv_ev d 154 32 lc (r :: st) h := jq_get (jv_insR jm_154 dX0_laysCut_29) jo_154 jF_2_292
theorem e154_32 : jv_ev d 154 32 lc (.int w :: .int v :: st) h = if w ≤ v then jv_ev d 154 219 lc st h else jv_ev d 154 35 lc st h := jq_if (jv_insR jm_154 dX0_laysCut_32) rfl (by decide)
theorem e154_35 : jv_ev d 154 35 [x0, x1, some (.int v), x3, x4, x5, x6, x7] st h = jv_ev d 154 36 [x0, x1, some (.int v), x3, x4, x5, x6, x7] (.int v :: st) h := jq_nx (jv_insR jm_154 dX0_laysCut_35) rfl
theorem e154_36 : jv_ev d 154 36 [x0, x1, x2, x3, some (.int v), x5, x6, x7] st h = jv_ev d 154 38 [x0, x1, x2, x3, some (.int v), x5, x6, x7] (.int v :: st) h := jq_nx (jv_insR jm_154 dX0_laysCut_36) rfl
theorem e154_38 : jv_ev d 154 38 lc (.int w :: .int v :: st) h = jv_ev d 154 39 lc (.int (v >>> (w &&& 31)) :: st) h := jq_nx (jv_insR jm_154 dX0_laysCut_38) rfl
theorem e154_39 : jv_ev d 154 39 lc st h = jv_ev d 154 40 lc (.int 1 :: st) h := jq_iconst (jv_insR jm_154 dX0_laysCut_39) (by decide)
theorem e154_40 : jv_ev d 154 40 lc (.int w :: .int v :: st) h = jv_ev d 154 41 lc (.int (v &&& w) :: st) h := jq_nx (jv_insR jm_154 dX0_laysCut_40) rfl
theorem e154_41 : jv_ev d 154 41 lc st h = jv_ev d 154 42 lc (.int 1 :: st) h := jq_iconst (jv_insR jm_154 dX0_laysCut_41) (by decide)
theorem e154_42 : jv_ev d 154 42 lc (.int w :: .int v :: st) h = if ¬ v = w then jv_ev d 154 48 lc st h else jv_ev d 154 45 lc st h := jq_if (jv_insR jm_154 dX0_laysCut_42) rfl (by decide)
theorem e154_45 : jv_ev d 154 45 lc st h = jv_ev d 154 213 lc st h := jq_go (jv_insR jm_154 dX0_laysCut_45) (by decide)
theorem e154_48 : jv_ev d 154 48 lc st h = jv_ev d 154 49 lc (.int 0 :: st) h := jq_iconst (jv_insR jm_154 dX0_laysCut_48) (by decide)
theorem e154_49 : jv_ev d 154 49 [x0, x1, x2, x3, x4, x5, x6, x7] (.int v :: st) h = jv_ev d 154 51 [x0, x1, x2, x3, x4, some (.int v), x6, x7] st h := jq_nx (jv_insR jm_154 dX0_laysCut_49) rfl
theorem e154_51 : jv_ev d 154 51 [x0, x1, x2, x3, x4, some (.int v), x6, x7] st h = jv_ev d 154 53 [x0, x1, x2, x3, x4, some (.int v), x6, x7] (.int v :: st) h := jq_nx (jv_insR jm_154 dX0_laysCut_51) rfl
theorem e154_53 : jv_ev d 154 53 [some (.ref a), x1, x2, x3, x4, x5, x6, x7] st h = jv_ev d 154 54 [some (.ref a), x1, x2, x3, x4, x5, x6, x7] (.ref a :: st) h := jq_nx (jv_insR jm_154 dX0_laysCut_53) rfl
theorem e154_54 : jv_ev d 154 54 lc (.ref a :: st) h = (jv_gf h a [(1, 13, .array .int)]).bind fun r => jv_ev d 154 57 lc (r :: st) h := jq_get (jv_insR jm_154 dX0_laysCut_54) jo_154 jF_2_87
theorem e154_57 : jv_ev d 154 57 [x0, x1, x2, x3, some (.int v), x5, x6, x7] st h = jv_ev d 154 59 [x0, x1, x2, x3, some (.int v), x5, x6, x7] (.int v :: st) h := jq_nx (jv_insR jm_154 dX0_laysCut_57) rfl
theorem e154_59 : jv_ev d 154 59 lc (.int v :: .ref a :: st) h = (jv_ig h a 0 0 v).bind fun w => jv_ev d 154 60 lc (.int w :: st) h := jq_iald (jv_insR jm_154 dX0_laysCut_59)
theorem e154_60 : jv_ev d 154 60 lc (.int w :: .int v :: st) h = jv_ev d 154 61 lc (.int (v + w) :: st) h := jq_nx (jv_insR jm_154 dX0_laysCut_60) rfl
theorem e154_61 : jv_ev d 154 61 lc st h = jv_ev d 154 63 lc (.int 8 :: st) h := jq_bipush (jv_insR jm_154 dX0_laysCut_61) (by decide)
theorem e154_63 : jv_ev d 154 63 lc (.int w :: .int v :: st) h = if w < v then jv_ev d 154 213 lc st h else jv_ev d 154 66 lc st h := jq_if (jv_insR jm_154 dX0_laysCut_63) rfl (by decide)
theorem e154_66 : jv_ev d 154 66 lc st h = jv_ev d 154 67 lc (.int 0 :: st) h := jq_iconst (jv_insR jm_154 dX0_laysCut_66) (by decide)
theorem e154_67 : jv_ev d 154 67 [x0, x1, x2, x3, x4, x5, x6, x7] (.int v :: st) h = jv_ev d 154 69 [x0, x1, x2, x3, x4, x5, some (.int v), x7] st h := jq_nx (jv_insR jm_154 dX0_laysCut_67) rfl
theorem e154_69 : jv_ev d 154 69 lc st h = jv_ev d 154 70 lc (.int 0 :: st) h := jq_iconst (jv_insR jm_154 dX0_laysCut_69) (by decide)
theorem e154_70 : jv_ev d 154 70 [x0, x1, x2, x3, x4, x5, x6, x7] (.int v :: st) h = jv_ev d 154 72 [x0, x1, x2, x3, x4, x5, x6, some (.int v)] st h := jq_nx (jv_insR jm_154 dX0_laysCut_70) rfl
theorem e154_72 : jv_ev d 154 72 [x0, x1, x2, x3, x4, x5, x6, some (.int v)] st h = jv_ev d 154 74 [x0, x1, x2, x3, x4, x5, x6, some (.int v)] (.int v :: st) h := jq_nx (jv_insR jm_154 dX0_laysCut_72) rfl
theorem e154_74 : jv_ev d 154 74 [some (.ref a), x1, x2, x3, x4, x5, x6, x7] st h = jv_ev d 154 75 [some (.ref a), x1, x2, x3, x4, x5, x6, x7] (.ref a :: st) h := jq_nx (jv_insR jm_154 dX0_laysCut_74) rfl
theorem e154_75 : jv_ev d 154 75 lc (.ref a :: st) h = (jv_gf h a [(1, 13, .array .int)]).bind fun r => jv_ev d 154 78 lc (r :: st) h := jq_get (jv_insR jm_154 dX0_laysCut_75) jo_154 jF_2_87
theorem e154_78 : jv_ev d 154 78 [x0, x1, x2, x3, some (.int v), x5, x6, x7] st h = jv_ev d 154 80 [x0, x1, x2, x3, some (.int v), x5, x6, x7] (.int v :: st) h := jq_nx (jv_insR jm_154 dX0_laysCut_78) rfl
theorem e154_80 : jv_ev d 154 80 lc (.int v :: .ref a :: st) h = (jv_ig h a 0 0 v).bind fun w => jv_ev d 154 81 lc (.int w :: st) h := jq_iald (jv_insR jm_154 dX0_laysCut_80)
theorem e154_81 : jv_ev d 154 81 lc (.int w :: .int v :: st) h = if w ≤ v then jv_ev d 154 109 lc st h else jv_ev d 154 84 lc st h := jq_if (jv_insR jm_154 dX0_laysCut_81) rfl (by decide)
theorem e154_84 : jv_ev d 154 84 [x0, x1, x2, x3, x4, x5, some (.int v), x7] st h = jv_ev d 154 86 [x0, x1, x2, x3, x4, x5, some (.int v), x7] (.int v :: st) h := jq_nx (jv_insR jm_154 dX0_laysCut_84) rfl
theorem e154_86 : jv_ev d 154 86 [some (.ref a), x1, x2, x3, x4, x5, x6, x7] st h = jv_ev d 154 87 [some (.ref a), x1, x2, x3, x4, x5, x6, x7] (.ref a :: st) h := jq_nx (jv_insR jm_154 dX0_laysCut_86) rfl
theorem e154_87 : jv_ev d 154 87 lc (.ref a :: st) h = (jv_gf h a [(1, 15, .array (.array .int))]).bind fun r => jv_ev d 154 90 lc (r :: st) h := jq_get (jv_insR jm_154 dX0_laysCut_87) jo_154 jF_2_96
theorem e154_90 : jv_ev d 154 90 [x0, some (.int v), x2, x3, x4, x5, x6, x7] st h = jv_ev d 154 91 [x0, some (.int v), x2, x3, x4, x5, x6, x7] (.int v :: st) h := jq_nx (jv_insR jm_154 dX0_laysCut_90) rfl
theorem e154_91 : jv_ev d 154 91 lc (.int v :: .ref a :: st) h = (jv_rg h a v).bind fun w => jv_ev d 154 92 lc (w :: st) h := jq_aald (jv_insR jm_154 dX0_laysCut_91)
theorem e154_92 : jv_ev d 154 92 [x0, x1, x2, x3, x4, some (.int v), x6, x7] st h = jv_ev d 154 94 [x0, x1, x2, x3, x4, some (.int v), x6, x7] (.int v :: st) h := jq_nx (jv_insR jm_154 dX0_laysCut_92) rfl
theorem e154_94 : jv_ev d 154 94 [x0, x1, x2, x3, x4, x5, x6, some (.int v)] st h = jv_ev d 154 96 [x0, x1, x2, x3, x4, x5, x6, some (.int v)] (.int v :: st) h := jq_nx (jv_insR jm_154 dX0_laysCut_94) rfl
theorem e154_96 : jv_ev d 154 96 lc (.int w :: .int v :: st) h = jv_ev d 154 97 lc (.int (v + w) :: st) h := jq_nx (jv_insR jm_154 dX0_laysCut_96) rfl
theorem e154_97 : jv_ev d 154 97 lc (.int v :: .ref a :: st) h = (jv_ig h a 0 0 v).bind fun w => jv_ev d 154 98 lc (.int w :: st) h := jq_iald (jv_insR jm_154 dX0_laysCut_97)
theorem e154_98 : jv_ev d 154 98 lc [z1, z0] h = (jv_cd d 308 [z0, z1] h).bind fun r => jv_on r (fun v h => jv_ev d 154 101 lc (v.toList ++ []) h) (fun q h => some (.inr q, h)) := jq_S (as := [z0, z1]) (rest := []) (jv_insR jm_154 dX0_laysCut_98) jo_154 jT_2_295 rfl rfl rfl rfl
theorem e154_101 : jv_ev d 154 101 [x0, x1, x2, x3, x4, x5, x6, x7] (.int v :: st) h = jv_ev d 154 103 [x0, x1, x2, x3, x4, x5, some (.int v), x7] st h := jq_nx (jv_insR jm_154 dX0_laysCut_101) rfl
theorem e154_103 : jv_ev d 154 103 [x0, x1, x2, x3, x4, x5, x6, some (.int v)] st h = jv_ev d 154 106 [x0, x1, x2, x3, x4, x5, x6, some (.int (v + 1))] st h := jq_nx (jv_insR jm_154 dX0_laysCut_103) rfl
theorem e154_106 : jv_ev d 154 106 lc st h = jv_ev d 154 72 lc st h := jq_go (jv_insR jm_154 dX0_laysCut_106) (by decide)
theorem e154_109 : jv_ev d 154 109 lc st h = jv_ev d 154 110 lc (.int 0 :: st) h := jq_iconst (jv_insR jm_154 dX0_laysCut_109) (by decide)
theorem e154_110 : jv_ev d 154 110 [x0, x1, x2, x3, x4, x5, x6, x7] (.int v :: st) h = jv_ev d 154 112 [x0, x1, x2, x3, x4, x5, x6, some (.int v)] st h := jq_nx (jv_insR jm_154 dX0_laysCut_110) rfl
theorem e154_112 : jv_ev d 154 112 [x0, x1, x2, x3, x4, x5, x6, some (.int v)] st h = jv_ev d 154 114 [x0, x1, x2, x3, x4, x5, x6, some (.int v)] (.int v :: st) h := jq_nx (jv_insR jm_154 dX0_laysCut_112) rfl
theorem e154_114 : jv_ev d 154 114 lc st h = jv_ev d 154 116 lc (.int 8 :: st) h := jq_bipush (jv_insR jm_154 dX0_laysCut_114) (by decide)
theorem e154_116 : jv_ev d 154 116 lc (.int w :: .int v :: st) h = if w ≤ v then jv_ev d 154 180 lc st h else jv_ev d 154 119 lc st h := jq_if (jv_insR jm_154 dX0_laysCut_116) rfl (by decide)
theorem e154_119 : jv_ev d 154 119 [some (.ref a), x1, x2, x3, x4, x5, x6, x7] st h = jv_ev d 154 120 [some (.ref a), x1, x2, x3, x4, x5, x6, x7] (.ref a :: st) h := jq_nx (jv_insR jm_154 dX0_laysCut_119) rfl
theorem e154_120 : jv_ev d 154 120 lc (.ref a :: st) h = (jv_gf h a [(1, 15, .array (.array .int))]).bind fun r => jv_ev d 154 123 lc (r :: st) h := jq_get (jv_insR jm_154 dX0_laysCut_120) jo_154 jF_2_96
theorem e154_123 : jv_ev d 154 123 [x0, some (.int v), x2, x3, x4, x5, x6, x7] st h = jv_ev d 154 124 [x0, some (.int v), x2, x3, x4, x5, x6, x7] (.int v :: st) h := jq_nx (jv_insR jm_154 dX0_laysCut_123) rfl
theorem e154_124 : jv_ev d 154 124 lc st h = jv_ev d 154 125 lc (.int 1 :: st) h := jq_iconst (jv_insR jm_154 dX0_laysCut_124) (by decide)
theorem e154_125 : jv_ev d 154 125 lc (.int w :: .int v :: st) h = jv_ev d 154 126 lc (.int (v + w) :: st) h := jq_nx (jv_insR jm_154 dX0_laysCut_125) rfl
theorem e154_126 : jv_ev d 154 126 lc (.int v :: .ref a :: st) h = (jv_rg h a v).bind fun w => jv_ev d 154 127 lc (w :: st) h := jq_aald (jv_insR jm_154 dX0_laysCut_126)
theorem e154_127 : jv_ev d 154 127 [x0, x1, x2, x3, x4, x5, x6, some (.int v)] st h = jv_ev d 154 129 [x0, x1, x2, x3, x4, x5, x6, some (.int v)] (.int v :: st) h := jq_nx (jv_insR jm_154 dX0_laysCut_127) rfl
theorem e154_129 : jv_ev d 154 129 [x0, x1, x2, x3, x4, x5, x6, some (.int v)] st h = jv_ev d 154 131 [x0, x1, x2, x3, x4, x5, x6, some (.int v)] (.int v :: st) h := jq_nx (jv_insR jm_154 dX0_laysCut_129) rfl
theorem e154_131 : jv_ev d 154 131 [x0, x1, x2, x3, x4, some (.int v), x6, x7] st h = jv_ev d 154 133 [x0, x1, x2, x3, x4, some (.int v), x6, x7] (.int v :: st) h := jq_nx (jv_insR jm_154 dX0_laysCut_131) rfl
theorem e154_133 : jv_ev d 154 133 lc (.int w :: .int v :: st) h = if v < w then jv_ev d 154 164 lc st h else jv_ev d 154 136 lc st h := jq_if (jv_insR jm_154 dX0_laysCut_133) rfl (by decide)
theorem e154_136 : jv_ev d 154 136 [x0, x1, x2, x3, x4, x5, x6, some (.int v)] st h = jv_ev d 154 138 [x0, x1, x2, x3, x4, x5, x6, some (.int v)] (.int v :: st) h := jq_nx (jv_insR jm_154 dX0_laysCut_136) rfl
theorem e154_138 : jv_ev d 154 138 [x0, x1, x2, x3, x4, some (.int v), x6, x7] st h = jv_ev d 154 140 [x0, x1, x2, x3, x4, some (.int v), x6, x7] (.int v :: st) h := jq_nx (jv_insR jm_154 dX0_laysCut_138) rfl
theorem e154_140 : jv_ev d 154 140 [some (.ref a), x1, x2, x3, x4, x5, x6, x7] st h = jv_ev d 154 141 [some (.ref a), x1, x2, x3, x4, x5, x6, x7] (.ref a :: st) h := jq_nx (jv_insR jm_154 dX0_laysCut_140) rfl
theorem e154_141 : jv_ev d 154 141 lc (.ref a :: st) h = (jv_gf h a [(1, 13, .array .int)]).bind fun r => jv_ev d 154 144 lc (r :: st) h := jq_get (jv_insR jm_154 dX0_laysCut_141) jo_154 jF_2_87
theorem e154_144 : jv_ev d 154 144 [x0, x1, x2, x3, some (.int v), x5, x6, x7] st h = jv_ev d 154 146 [x0, x1, x2, x3, some (.int v), x5, x6, x7] (.int v :: st) h := jq_nx (jv_insR jm_154 dX0_laysCut_144) rfl
theorem e154_146 : jv_ev d 154 146 lc (.int v :: .ref a :: st) h = (jv_ig h a 0 0 v).bind fun w => jv_ev d 154 147 lc (.int w :: st) h := jq_iald (jv_insR jm_154 dX0_laysCut_146)
theorem e154_147 : jv_ev d 154 147 lc (.int w :: .int v :: st) h = jv_ev d 154 148 lc (.int (v + w) :: st) h := jq_nx (jv_insR jm_154 dX0_laysCut_147) rfl
theorem e154_148 : jv_ev d 154 148 lc (.int w :: .int v :: st) h = if w ≤ v then jv_ev d 154 164 lc st h else jv_ev d 154 151 lc st h := jq_if (jv_insR jm_154 dX0_laysCut_148) rfl (by decide)
theorem e154_151 : jv_ev d 154 151 [x0, x1, x2, x3, x4, x5, some (.int v), x7] st h = jv_ev d 154 153 [x0, x1, x2, x3, x4, x5, some (.int v), x7] (.int v :: st) h := jq_nx (jv_insR jm_154 dX0_laysCut_151) rfl
theorem e154_153 : jv_ev d 154 153 [some (.ref a), x1, x2, x3, x4, x5, x6, x7] st h = jv_ev d 154 154 [some (.ref a), x1, x2, x3, x4, x5, x6, x7] (.ref a :: st) h := jq_nx (jv_insR jm_154 dX0_laysCut_153) rfl
theorem e154_154 : jv_ev d 154 154 lc (.ref a :: st) h = (jv_gf h a [(1, 14, .array .int)]).bind fun r => jv_ev d 154 157 lc (r :: st) h := jq_get (jv_insR jm_154 dX0_laysCut_154) jo_154 jF_2_91
theorem e154_157 : jv_ev d 154 157 [x0, x1, x2, x3, some (.int v), x5, x6, x7] st h = jv_ev d 154 159 [x0, x1, x2, x3, some (.int v), x5, x6, x7] (.int v :: st) h := jq_nx (jv_insR jm_154 dX0_laysCut_157) rfl
theorem e154_159 : jv_ev d 154 159 lc (.int v :: .ref a :: st) h = (jv_ig h a 0 0 v).bind fun w => jv_ev d 154 160 lc (.int w :: st) h := jq_iald (jv_insR jm_154 dX0_laysCut_159)
theorem e154_160 : jv_ev d 154 160 lc (.int w :: .int v :: st) h = jv_ev d 154 161 lc (.int (v + w) :: st) h := jq_nx (jv_insR jm_154 dX0_laysCut_160) rfl
theorem e154_161 : jv_ev d 154 161 lc st h = jv_ev d 154 173 lc st h := jq_go (jv_insR jm_154 dX0_laysCut_161) (by decide)
theorem e154_164 : jv_ev d 154 164 [some (.ref a), x1, x2, x3, x4, x5, x6, x7] st h = jv_ev d 154 165 [some (.ref a), x1, x2, x3, x4, x5, x6, x7] (.ref a :: st) h := jq_nx (jv_insR jm_154 dX0_laysCut_164) rfl
theorem e154_165 : jv_ev d 154 165 lc (.ref a :: st) h = (jv_gf h a [(1, 15, .array (.array .int))]).bind fun r => jv_ev d 154 168 lc (r :: st) h := jq_get (jv_insR jm_154 dX0_laysCut_165) jo_154 jF_2_96
theorem e154_168 : jv_ev d 154 168 [x0, some (.int v), x2, x3, x4, x5, x6, x7] st h = jv_ev d 154 169 [x0, some (.int v), x2, x3, x4, x5, x6, x7] (.int v :: st) h := jq_nx (jv_insR jm_154 dX0_laysCut_168) rfl
theorem e154_169 : jv_ev d 154 169 lc (.int v :: .ref a :: st) h = (jv_rg h a v).bind fun w => jv_ev d 154 170 lc (w :: st) h := jq_aald (jv_insR jm_154 dX0_laysCut_169)
theorem e154_170 : jv_ev d 154 170 [x0, x1, x2, x3, x4, x5, x6, some (.int v)] st h = jv_ev d 154 172 [x0, x1, x2, x3, x4, x5, x6, some (.int v)] (.int v :: st) h := jq_nx (jv_insR jm_154 dX0_laysCut_170) rfl
theorem e154_172 : jv_ev d 154 172 lc (.int v :: .ref a :: st) h = (jv_ig h a 0 0 v).bind fun w => jv_ev d 154 173 lc (.int w :: st) h := jq_iald (jv_insR jm_154 dX0_laysCut_172)
theorem e154_173 : jv_ev d 154 173 lc (.int w :: .int v :: .ref a :: st) h = (jv_ip h a 0 0 v w).bind fun h => jv_ev d 154 174 lc st h := jq_iast (jv_insR jm_154 dX0_laysCut_173)
theorem e154_174 : jv_ev d 154 174 [x0, x1, x2, x3, x4, x5, x6, some (.int v)] st h = jv_ev d 154 177 [x0, x1, x2, x3, x4, x5, x6, some (.int (v + 1))] st h := jq_nx (jv_insR jm_154 dX0_laysCut_174) rfl
theorem e154_177 : jv_ev d 154 177 lc st h = jv_ev d 154 112 lc st h := jq_go (jv_insR jm_154 dX0_laysCut_177) (by decide)
theorem e154_180 : jv_ev d 154 180 [some (.ref a), x1, x2, x3, x4, x5, x6, x7] st h = jv_ev d 154 181 [some (.ref a), x1, x2, x3, x4, x5, x6, x7] (.ref a :: st) h := jq_nx (jv_insR jm_154 dX0_laysCut_180) rfl
theorem e154_181 : jv_ev d 154 181 [x0, some (.int v), x2, x3, x4, x5, x6, x7] st h = jv_ev d 154 182 [x0, some (.int v), x2, x3, x4, x5, x6, x7] (.int v :: st) h := jq_nx (jv_insR jm_154 dX0_laysCut_181) rfl
theorem e154_182 : jv_ev d 154 182 lc st h = jv_ev d 154 183 lc (.int 1 :: st) h := jq_iconst (jv_insR jm_154 dX0_laysCut_182) (by decide)
theorem e154_183 : jv_ev d 154 183 lc (.int w :: .int v :: st) h = jv_ev d 154 184 lc (.int (v + w) :: st) h := jq_nx (jv_insR jm_154 dX0_laysCut_183) rfl
theorem e154_184 : jv_ev d 154 184 [x0, x1, some (.int v), x3, x4, x5, x6, x7] st h = jv_ev d 154 185 [x0, x1, some (.int v), x3, x4, x5, x6, x7] (.int v :: st) h := jq_nx (jv_insR jm_154 dX0_laysCut_184) rfl
theorem e154_185 : jv_ev d 154 185 lc st h = jv_ev d 154 186 lc (.int 1 :: st) h := jq_iconst (jv_insR jm_154 dX0_laysCut_185) (by decide)
theorem e154_186 : jv_ev d 154 186 [x0, x1, x2, x3, some (.int v), x5, x6, x7] st h = jv_ev d 154 188 [x0, x1, x2, x3, some (.int v), x5, x6, x7] (.int v :: st) h := jq_nx (jv_insR jm_154 dX0_laysCut_186) rfl
theorem e154_188 : jv_ev d 154 188 lc (.int w :: .int v :: st) h = jv_ev d 154 189 lc (.int (v <<< (w &&& 31)) :: st) h := jq_nx (jv_insR jm_154 dX0_laysCut_188) rfl
theorem e154_189 : jv_ev d 154 189 lc (.int w :: .int v :: st) h = jv_ev d 154 190 lc (.int (v ||| w) :: st) h := jq_nx (jv_insR jm_154 dX0_laysCut_189) rfl
theorem e154_190 : jv_ev d 154 190 [x0, x1, x2, some (.int v), x4, x5, x6, x7] st h = jv_ev d 154 191 [x0, x1, x2, some (.int v), x4, x5, x6, x7] (.int v :: st) h := jq_nx (jv_insR jm_154 dX0_laysCut_190) rfl
theorem e154_191 : jv_ev d 154 191 [x0, x1, x2, x3, x4, x5, some (.int v), x7] st h = jv_ev d 154 193 [x0, x1, x2, x3, x4, x5, some (.int v), x7] (.int v :: st) h := jq_nx (jv_insR jm_154 dX0_laysCut_191) rfl
theorem e154_193 : jv_ev d 154 193 [some (.ref a), x1, x2, x3, x4, x5, x6, x7] st h = jv_ev d 154 194 [some (.ref a), x1, x2, x3, x4, x5, x6, x7] (.ref a :: st) h := jq_nx (jv_insR jm_154 dX0_laysCut_193) rfl
theorem e154_194 : jv_ev d 154 194 lc (.ref a :: st) h = (jv_gf h a [(1, 14, .array .int)]).bind fun r => jv_ev d 154 197 lc (r :: st) h := jq_get (jv_insR jm_154 dX0_laysCut_194) jo_154 jF_2_91
theorem e154_197 : jv_ev d 154 197 [x0, x1, x2, x3, some (.int v), x5, x6, x7] st h = jv_ev d 154 199 [x0, x1, x2, x3, some (.int v), x5, x6, x7] (.int v :: st) h := jq_nx (jv_insR jm_154 dX0_laysCut_197) rfl
theorem e154_199 : jv_ev d 154 199 lc (.int v :: .ref a :: st) h = (jv_ig h a 0 0 v).bind fun w => jv_ev d 154 200 lc (.int w :: st) h := jq_iald (jv_insR jm_154 dX0_laysCut_199)
theorem e154_200 : jv_ev d 154 200 lc (.int w :: .int v :: st) h = jv_ev d 154 201 lc (.int (v + w) :: st) h := jq_nx (jv_insR jm_154 dX0_laysCut_200) rfl
theorem e154_201 : jv_ev d 154 201 lc [z1, z0, y0, y1, y2] h = (jv_cd d 308 [z0, z1] h).bind fun r => jv_on r (fun v h => jv_ev d 154 204 lc (v.toList ++ [y0, y1, y2]) h) (fun q h => some (.inr q, h)) := jq_S (as := [z0, z1]) (rest := [y0, y1, y2]) (jv_insR jm_154 dX0_laysCut_201) jo_154 jT_2_295 rfl rfl rfl rfl
theorem e154_204 : jv_ev d 154 204 lc [z2, z1, z0, .ref b] h = (jv_rc h b [(1, 154)]).bind fun y => (jv_cd d y [.ref b, z0, z1, z2] h).bind fun r => jv_on r (fun v h => jv_ev d 154 207 lc (v.toList ++ []) h) (fun q h => some (.inr q, h)) := jq_V (as := [z0, z1, z2]) (rest := []) (jv_insR jm_154 dX0_laysCut_204) jo_154 jV_2_298 rfl rfl rfl rfl
theorem e154_207 : jv_ev d 154 207 [x0, x1, x2, x3, x4, some (.int v), x6, x7] st h = jv_ev d 154 210 [x0, x1, x2, x3, x4, some (.int (v + 1)), x6, x7] st h := jq_nx (jv_insR jm_154 dX0_laysCut_207) rfl
theorem e154_210 : jv_ev d 154 210 lc st h = jv_ev d 154 51 lc st h := jq_go (jv_insR jm_154 dX0_laysCut_210) (by decide)
theorem e154_213 : jv_ev d 154 213 [x0, x1, x2, x3, some (.int v), x5, x6, x7] st h = jv_ev d 154 216 [x0, x1, x2, x3, some (.int (v + 1)), x5, x6, x7] st h := jq_nx (jv_insR jm_154 dX0_laysCut_213) rfl
theorem e154_216 : jv_ev d 154 216 lc st h = jv_ev d 154 26 lc st h := jq_go (jv_insR jm_154 dX0_laysCut_216) (by decide)
theorem e154_219 : jv_ev d 154 219 lc [] h = some (.inl none, h) := jq_retv (jv_insR jm_154 dX0_laysCut_219) jr_154
/-! 155: RainLoom.then(III)I -/
theorem n155 : jv_cd (d + 1) 155 [.ref a0, .int i1, .int i2, .int i3] h = jv_ev d 155 0 [some (.ref a0), some (.int i1), some (.int i2), some (.int i3)] [] h := rfl
theorem e155_0 : jv_ev d 155 0 [some (.ref a), x1, x2, x3] st h = jv_ev d 155 1 [some (.ref a), x1, x2, x3] (.ref a :: st) h := jq_nx (jv_insR jm_155 dX0_then_0) rfl
theorem e155_1 : jv_ev d 155 1 lc (.ref a :: st) h = (jv_gf h a [(1, 3, .object "RainLoom$Text")]).bind fun r => jv_ev d 155 4 lc (r :: st) h := jq_get (jv_insR jm_155 dX0_then_1) jo_155 jF_2_40
theorem e155_4 : jv_ev d 155 4 [x0, some (.int v), x2, x3] st h = jv_ev d 155 5 [x0, some (.int v), x2, x3] (.int v :: st) h := jq_nx (jv_insR jm_155 dX0_then_4) rfl
theorem e155_5 : jv_ev d 155 5 [x0, x1, some (.int v), x3] st h = jv_ev d 155 6 [x0, x1, some (.int v), x3] (.int v :: st) h := jq_nx (jv_insR jm_155 dX0_then_5) rfl
theorem e155_6 : jv_ev d 155 6 lc [z1, z0, .ref b] h = (jv_rc h b [(5, 212)]).bind fun y => (jv_cd d y [.ref b, z0, z1] h).bind fun r => jv_on r (fun v h => jv_ev d 155 9 lc (v.toList ++ []) h) (fun q h => some (.inr q, h)) := jq_V (as := [z0, z1]) (rest := []) (jv_insR jm_155 dX0_then_6) jo_155 jV_2_179 rfl rfl rfl rfl
theorem e155_9 : jv_ev d 155 9 lc (.int v :: st) h = if v = 0 then jv_ev d 155 22 lc st h else jv_ev d 155 12 lc st h := jq_if (jv_insR jm_155 dX0_then_9) rfl (by decide)
theorem e155_12 : jv_ev d 155 12 [x0, x1, x2, some (.int v)] st h = jv_ev d 155 13 [x0, x1, x2, some (.int v)] (.int v :: st) h := jq_nx (jv_insR jm_155 dX0_then_12) rfl
theorem e155_13 : jv_ev d 155 13 lc st h = jv_ev d 155 14 lc (.int 0 :: st) h := jq_iconst (jv_insR jm_155 dX0_then_13) (by decide)
theorem e155_14 : jv_ev d 155 14 lc st h = jv_ev d 155 16 lc (.int 60 :: st) h := jq_bipush (jv_insR jm_155 dX0_then_14) (by decide)
theorem e155_16 : jv_ev d 155 16 lc [z2, z1, z0] h = (jv_cd d 124 [z0, z1, z2] h).bind fun r => jv_on r (fun v h => jv_ev d 155 19 lc (v.toList ++ []) h) (fun q h => some (.inr q, h)) := jq_S (as := [z0, z1, z2]) (rest := []) (jv_insR jm_155 dX0_then_16) jo_155 jT_2_158 rfl rfl rfl rfl
theorem e155_19 : jv_ev d 155 19 lc (.int v :: st) h = if ¬ v = 0 then jv_ev d 155 24 lc st h else jv_ev d 155 22 lc st h := jq_if (jv_insR jm_155 dX0_then_19) rfl (by decide)
theorem e155_22 : jv_ev d 155 22 lc st h = jv_ev d 155 23 lc (.int (-1) :: st) h := jq_iconst (jv_insR jm_155 dX0_then_22) (by decide)
theorem e155_23 : jv_ev d 155 23 lc [.int v] h = some (.inl (some (.int v)), h) := jq_reti (jv_insR jm_155 dX0_then_23) jr_155
theorem e155_24 : jv_ev d 155 24 [some (.ref a), x1, x2, x3] st h = jv_ev d 155 25 [some (.ref a), x1, x2, x3] (.ref a :: st) h := jq_nx (jv_insR jm_155 dX0_then_24) rfl
theorem e155_25 : jv_ev d 155 25 lc (.ref a :: st) h = (jv_gf h a [(1, 8, .object "RainLoom$Land")]).bind fun r => jv_ev d 155 28 lc (r :: st) h := jq_get (jv_insR jm_155 dX0_then_25) jo_155 jF_2_55
theorem e155_28 : jv_ev d 155 28 [some (.ref a), x1, x2, x3] st h = jv_ev d 155 29 [some (.ref a), x1, x2, x3] (.ref a :: st) h := jq_nx (jv_insR jm_155 dX0_then_28) rfl
theorem e155_29 : jv_ev d 155 29 lc (.ref a :: st) h = (jv_gf h a [(1, 7, .object "RainLoom$Land")]).bind fun r => jv_ev d 155 32 lc (r :: st) h := jq_get (jv_insR jm_155 dX0_then_29) jo_155 jF_2_51
theorem e155_32 : jv_ev d 155 32 lc [z0, .ref b] h = (jv_rc h b [(6, 223)]).bind fun y => (jv_cd d y [.ref b, z0] h).bind fun r => jv_on r (fun v h => jv_ev d 155 35 lc (v.toList ++ []) h) (fun q h => some (.inr q, h)) := jq_V (as := [z0]) (rest := []) (jv_insR jm_155 dX0_then_32) jo_155 jV_2_237 rfl rfl rfl rfl
theorem e155_35 : jv_ev d 155 35 [some (.ref a), x1, x2, x3] st h = jv_ev d 155 36 [some (.ref a), x1, x2, x3] (.ref a :: st) h := jq_nx (jv_insR jm_155 dX0_then_35) rfl
theorem e155_36 : jv_ev d 155 36 [some (.ref a), x1, x2, x3] st h = jv_ev d 155 37 [some (.ref a), x1, x2, x3] (.ref a :: st) h := jq_nx (jv_insR jm_155 dX0_then_36) rfl
theorem e155_37 : jv_ev d 155 37 lc (.ref a :: st) h = (jv_gf h a [(1, 8, .object "RainLoom$Land")]).bind fun r => jv_ev d 155 40 lc (r :: st) h := jq_get (jv_insR jm_155 dX0_then_37) jo_155 jF_2_55
theorem e155_40 : jv_ev d 155 40 [x0, x1, x2, some (.int v)] st h = jv_ev d 155 41 [x0, x1, x2, some (.int v)] (.int v :: st) h := jq_nx (jv_insR jm_155 dX0_then_40) rfl
theorem e155_41 : jv_ev d 155 41 lc [z1, z0, .ref b] h = (jv_rc h b [(1, 137)]).bind fun y => (jv_cd d y [.ref b, z0, z1] h).bind fun r => jv_on r (fun v h => jv_ev d 155 44 lc (v.toList ++ []) h) (fun q h => some (.inr q, h)) := jq_V (as := [z0, z1]) (rest := []) (jv_insR jm_155 dX0_then_41) jo_155 jV_2_266 rfl rfl rfl rfl
theorem e155_44 : jv_ev d 155 44 [some (.ref a), x1, x2, x3] st h = jv_ev d 155 45 [some (.ref a), x1, x2, x3] (.ref a :: st) h := jq_nx (jv_insR jm_155 dX0_then_44) rfl
theorem e155_45 : jv_ev d 155 45 lc (.ref a :: st) h = (jv_gf h a [(1, 8, .object "RainLoom$Land")]).bind fun r => jv_ev d 155 48 lc (r :: st) h := jq_get (jv_insR jm_155 dX0_then_45) jo_155 jF_2_55
theorem e155_48 : jv_ev d 155 48 lc (.ref a :: st) h = (jv_gf h a [(6, 0, .array .int)]).bind fun r => jv_ev d 155 51 lc (r :: st) h := jq_get (jv_insR jm_155 dX0_then_48) jo_155 jF_2_186
theorem e155_51 : jv_ev d 155 51 [x0, x1, some (.int v), x3] st h = jv_ev d 155 52 [x0, x1, some (.int v), x3] (.int v :: st) h := jq_nx (jv_insR jm_155 dX0_then_51) rfl
theorem e155_52 : jv_ev d 155 52 lc st h = jv_ev d 155 54 lc (.int 8 :: st) h := jq_bipush (jv_insR jm_155 dX0_then_52) (by decide)
theorem e155_54 : jv_ev d 155 54 lc (.int w :: .int v :: st) h = jv_ev d 155 55 lc (.int (v * w) :: st) h := jq_nx (jv_insR jm_155 dX0_then_54) rfl
theorem e155_55 : jv_ev d 155 55 [x0, some (.int v), x2, x3] st h = jv_ev d 155 56 [x0, some (.int v), x2, x3] (.int v :: st) h := jq_nx (jv_insR jm_155 dX0_then_55) rfl
theorem e155_56 : jv_ev d 155 56 lc (.int w :: .int v :: st) h = jv_ev d 155 57 lc (.int (v + w) :: st) h := jq_nx (jv_insR jm_155 dX0_then_56) rfl
theorem e155_57 : jv_ev d 155 57 lc (.int v :: .ref a :: st) h = (jv_ig h a 0 0 v).bind fun w => jv_ev d 155 58 lc (.int w :: st) h := jq_iald (jv_insR jm_155 dX0_then_57)
theorem e155_58 : jv_ev d 155 58 lc [.int v] h = some (.inl (some (.int v)), h) := jq_reti (jv_insR jm_155 dX0_then_58) jr_155
/-! 156: RainLoom.all(II)I -/
theorem n156 : jv_cd (d + 1) 156 [.ref a0, .int i1, .int i2] h = jv_ev d 156 0 [some (.ref a0), some (.int i1), some (.int i2)] [] h := rfl
theorem e156_0 : jv_ev d 156 0 [x0, some (.int v), x2] st h = jv_ev d 156 1 [x0, some (.int v), x2] (.int v :: st) h := jq_nx (jv_insR jm_156 dX0_all_0) rfl
theorem e156_1 : jv_ev d 156 1 lc st h = jv_ev d 156 2 lc (.int 0 :: st) h := jq_iconst (jv_insR jm_156 dX0_all_1) (by decide)
theorem e156_2 : jv_ev d 156 2 lc st h = jv_ev d 156 4 lc (.int 60 :: st) h := jq_bipush (jv_insR jm_156 dX0_all_2) (by decide)
theorem e156_4 : jv_ev d 156 4 lc [z2, z1, z0] h = (jv_cd d 124 [z0, z1, z2] h).bind fun r => jv_on r (fun v h => jv_ev d 156 7 lc (v.toList ++ []) h) (fun q h => some (.inr q, h)) := jq_S (as := [z0, z1, z2]) (rest := []) (jv_insR jm_156 dX0_all_4) jo_156 jT_2_158 rfl rfl rfl rfl
theorem e156_7 : jv_ev d 156 7 lc (.int v :: st) h = if v = 0 then jv_ev d 156 19 lc st h else jv_ev d 156 10 lc st h := jq_if (jv_insR jm_156 dX0_all_7) rfl (by decide)
theorem e156_10 : jv_ev d 156 10 [x0, x1, some (.int v)] st h = jv_ev d 156 11 [x0, x1, some (.int v)] (.int v :: st) h := jq_nx (jv_insR jm_156 dX0_all_10) rfl
theorem e156_11 : jv_ev d 156 11 lc st h = jv_ev d 156 12 lc (.int 0 :: st) h := jq_iconst (jv_insR jm_156 dX0_all_11) (by decide)
theorem e156_12 : jv_ev d 156 12 lc st h = jv_ev d 156 13 lc (.int 2 :: st) h := jq_iconst (jv_insR jm_156 dX0_all_12) (by decide)
theorem e156_13 : jv_ev d 156 13 lc [z2, z1, z0] h = (jv_cd d 124 [z0, z1, z2] h).bind fun r => jv_on r (fun v h => jv_ev d 156 16 lc (v.toList ++ []) h) (fun q h => some (.inr q, h)) := jq_S (as := [z0, z1, z2]) (rest := []) (jv_insR jm_156 dX0_all_13) jo_156 jT_2_158 rfl rfl rfl rfl
theorem e156_16 : jv_ev d 156 16 lc (.int v :: st) h = if ¬ v = 0 then jv_ev d 156 21 lc st h else jv_ev d 156 19 lc st h := jq_if (jv_insR jm_156 dX0_all_16) rfl (by decide)
theorem e156_19 : jv_ev d 156 19 lc st h = jv_ev d 156 20 lc (.int (-1) :: st) h := jq_iconst (jv_insR jm_156 dX0_all_19) (by decide)
theorem e156_20 : jv_ev d 156 20 lc [.int v] h = some (.inl (some (.int v)), h) := jq_reti (jv_insR jm_156 dX0_all_20) jr_156
theorem e156_21 : jv_ev d 156 21 [some (.ref a), x1, x2] st h = jv_ev d 156 22 [some (.ref a), x1, x2] (.ref a :: st) h := jq_nx (jv_insR jm_156 dX0_all_21) rfl
theorem e156_22 : jv_ev d 156 22 lc (.ref a :: st) h = (jv_gf h a [(1, 8, .object "RainLoom$Land")]).bind fun r => jv_ev d 156 25 lc (r :: st) h := jq_get (jv_insR jm_156 dX0_all_22) jo_156 jF_2_55
theorem e156_25 : jv_ev d 156 25 [some (.ref a), x1, x2] st h = jv_ev d 156 26 [some (.ref a), x1, x2] (.ref a :: st) h := jq_nx (jv_insR jm_156 dX0_all_25) rfl
theorem e156_26 : jv_ev d 156 26 lc (.ref a :: st) h = (jv_gf h a [(1, 7, .object "RainLoom$Land")]).bind fun r => jv_ev d 156 29 lc (r :: st) h := jq_get (jv_insR jm_156 dX0_all_26) jo_156 jF_2_51
theorem e156_29 : jv_ev d 156 29 lc [z0, .ref b] h = (jv_rc h b [(6, 223)]).bind fun y => (jv_cd d y [.ref b, z0] h).bind fun r => jv_on r (fun v h => jv_ev d 156 32 lc (v.toList ++ []) h) (fun q h => some (.inr q, h)) := jq_V (as := [z0]) (rest := []) (jv_insR jm_156 dX0_all_29) jo_156 jV_2_237 rfl rfl rfl rfl
theorem e156_32 : jv_ev d 156 32 [some (.ref a), x1, x2] st h = jv_ev d 156 33 [some (.ref a), x1, x2] (.ref a :: st) h := jq_nx (jv_insR jm_156 dX0_all_32) rfl
theorem e156_33 : jv_ev d 156 33 [some (.ref a), x1, x2] st h = jv_ev d 156 34 [some (.ref a), x1, x2] (.ref a :: st) h := jq_nx (jv_insR jm_156 dX0_all_33) rfl
theorem e156_34 : jv_ev d 156 34 lc (.ref a :: st) h = (jv_gf h a [(1, 8, .object "RainLoom$Land")]).bind fun r => jv_ev d 156 37 lc (r :: st) h := jq_get (jv_insR jm_156 dX0_all_34) jo_156 jF_2_55
theorem e156_37 : jv_ev d 156 37 [x0, some (.int v), x2] st h = jv_ev d 156 38 [x0, some (.int v), x2] (.int v :: st) h := jq_nx (jv_insR jm_156 dX0_all_37) rfl
theorem e156_38 : jv_ev d 156 38 lc [z1, z0, .ref b] h = (jv_rc h b [(1, 137)]).bind fun y => (jv_cd d y [.ref b, z0, z1] h).bind fun r => jv_on r (fun v h => jv_ev d 156 41 lc (v.toList ++ []) h) (fun q h => some (.inr q, h)) := jq_V (as := [z0, z1]) (rest := []) (jv_insR jm_156 dX0_all_38) jo_156 jV_2_266 rfl rfl rfl rfl
theorem e156_41 : jv_ev d 156 41 [x0, x1, some (.int v)] st h = jv_ev d 156 42 [x0, x1, some (.int v)] (.int v :: st) h := jq_nx (jv_insR jm_156 dX0_all_41) rfl
theorem e156_42 : jv_ev d 156 42 lc st h = jv_ev d 156 43 lc (.int 2 :: st) h := jq_iconst (jv_insR jm_156 dX0_all_42) (by decide)
theorem e156_43 : jv_ev d 156 43 lc (.int w :: .int v :: st) h = if ¬ v = w then jv_ev d 156 56 lc st h else jv_ev d 156 46 lc st h := jq_if (jv_insR jm_156 dX0_all_43) rfl (by decide)
theorem e156_46 : jv_ev d 156 46 [some (.ref a), x1, x2] st h = jv_ev d 156 47 [some (.ref a), x1, x2] (.ref a :: st) h := jq_nx (jv_insR jm_156 dX0_all_46) rfl
theorem e156_47 : jv_ev d 156 47 lc (.ref a :: st) h = (jv_gf h a [(1, 8, .object "RainLoom$Land")]).bind fun r => jv_ev d 156 50 lc (r :: st) h := jq_get (jv_insR jm_156 dX0_all_47) jo_156 jF_2_55
theorem e156_50 : jv_ev d 156 50 lc (.ref a :: st) h = (jv_gf h a [(6, 10, .int)]).bind fun r => jv_ev d 156 53 lc (r :: st) h := jq_get (jv_insR jm_156 dX0_all_50) jo_156 jF_2_309
theorem e156_53 : jv_ev d 156 53 lc st h = jv_ev d 156 105 lc st h := jq_go (jv_insR jm_156 dX0_all_53) (by decide)
theorem e156_56 : jv_ev d 156 56 [x0, x1, some (.int v)] st h = jv_ev d 156 57 [x0, x1, some (.int v)] (.int v :: st) h := jq_nx (jv_insR jm_156 dX0_all_56) rfl
theorem e156_57 : jv_ev d 156 57 lc (.int v :: st) h = if ¬ v = 0 then jv_ev d 156 84 lc st h else jv_ev d 156 60 lc st h := jq_if (jv_insR jm_156 dX0_all_57) rfl (by decide)
theorem e156_60 : jv_ev d 156 60 [some (.ref a), x1, x2] st h = jv_ev d 156 61 [some (.ref a), x1, x2] (.ref a :: st) h := jq_nx (jv_insR jm_156 dX0_all_60) rfl
theorem e156_61 : jv_ev d 156 61 lc (.ref a :: st) h = (jv_gf h a [(1, 8, .object "RainLoom$Land")]).bind fun r => jv_ev d 156 64 lc (r :: st) h := jq_get (jv_insR jm_156 dX0_all_61) jo_156 jF_2_55
theorem e156_64 : jv_ev d 156 64 lc (.ref a :: st) h = (jv_gf h a [(6, 1, .array .int)]).bind fun r => jv_ev d 156 67 lc (r :: st) h := jq_get (jv_insR jm_156 dX0_all_64) jo_156 jF_2_201
theorem e156_67 : jv_ev d 156 67 lc [z0] h = (jv_cd d 228 [z0] h).bind fun r => jv_on r (fun v h => jv_ev d 156 70 lc (v.toList ++ []) h) (fun q h => some (.inr q, h)) := jq_S (as := [z0]) (rest := []) (jv_insR jm_156 dX0_all_67) jo_156 jT_2_312 rfl rfl rfl rfl
theorem e156_70 : jv_ev d 156 70 [some (.ref a), x1, x2] st h = jv_ev d 156 71 [some (.ref a), x1, x2] (.ref a :: st) h := jq_nx (jv_insR jm_156 dX0_all_70) rfl
theorem e156_71 : jv_ev d 156 71 lc (.ref a :: st) h = (jv_gf h a [(1, 7, .object "RainLoom$Land")]).bind fun r => jv_ev d 156 74 lc (r :: st) h := jq_get (jv_insR jm_156 dX0_all_71) jo_156 jF_2_51
theorem e156_74 : jv_ev d 156 74 lc (.ref a :: st) h = (jv_gf h a [(6, 1, .array .int)]).bind fun r => jv_ev d 156 77 lc (r :: st) h := jq_get (jv_insR jm_156 dX0_all_74) jo_156 jF_2_201
theorem e156_77 : jv_ev d 156 77 lc [z0, y0] h = (jv_cd d 228 [z0] h).bind fun r => jv_on r (fun v h => jv_ev d 156 80 lc (v.toList ++ [y0]) h) (fun q h => some (.inr q, h)) := jq_S (as := [z0]) (rest := [y0]) (jv_insR jm_156 dX0_all_77) jo_156 jT_2_312 rfl rfl rfl rfl
theorem e156_80 : jv_ev d 156 80 lc (.int w :: .int v :: st) h = jv_ev d 156 81 lc (.int (v - w) :: st) h := jq_nx (jv_insR jm_156 dX0_all_80) rfl
theorem e156_81 : jv_ev d 156 81 lc st h = jv_ev d 156 105 lc st h := jq_go (jv_insR jm_156 dX0_all_81) (by decide)
theorem e156_84 : jv_ev d 156 84 [some (.ref a), x1, x2] st h = jv_ev d 156 85 [some (.ref a), x1, x2] (.ref a :: st) h := jq_nx (jv_insR jm_156 dX0_all_84) rfl
theorem e156_85 : jv_ev d 156 85 lc (.ref a :: st) h = (jv_gf h a [(1, 8, .object "RainLoom$Land")]).bind fun r => jv_ev d 156 88 lc (r :: st) h := jq_get (jv_insR jm_156 dX0_all_85) jo_156 jF_2_55
theorem e156_88 : jv_ev d 156 88 lc (.ref a :: st) h = (jv_gf h a [(6, 2, .array .int)]).bind fun r => jv_ev d 156 91 lc (r :: st) h := jq_get (jv_insR jm_156 dX0_all_88) jo_156 jF_2_204
theorem e156_91 : jv_ev d 156 91 lc [z0] h = (jv_cd d 228 [z0] h).bind fun r => jv_on r (fun v h => jv_ev d 156 94 lc (v.toList ++ []) h) (fun q h => some (.inr q, h)) := jq_S (as := [z0]) (rest := []) (jv_insR jm_156 dX0_all_91) jo_156 jT_2_312 rfl rfl rfl rfl
theorem e156_94 : jv_ev d 156 94 [some (.ref a), x1, x2] st h = jv_ev d 156 95 [some (.ref a), x1, x2] (.ref a :: st) h := jq_nx (jv_insR jm_156 dX0_all_94) rfl
theorem e156_95 : jv_ev d 156 95 lc (.ref a :: st) h = (jv_gf h a [(1, 7, .object "RainLoom$Land")]).bind fun r => jv_ev d 156 98 lc (r :: st) h := jq_get (jv_insR jm_156 dX0_all_95) jo_156 jF_2_51
theorem e156_98 : jv_ev d 156 98 lc (.ref a :: st) h = (jv_gf h a [(6, 2, .array .int)]).bind fun r => jv_ev d 156 101 lc (r :: st) h := jq_get (jv_insR jm_156 dX0_all_98) jo_156 jF_2_204
theorem e156_101 : jv_ev d 156 101 lc [z0, y0] h = (jv_cd d 228 [z0] h).bind fun r => jv_on r (fun v h => jv_ev d 156 104 lc (v.toList ++ [y0]) h) (fun q h => some (.inr q, h)) := jq_S (as := [z0]) (rest := [y0]) (jv_insR jm_156 dX0_all_101) jo_156 jT_2_312 rfl rfl rfl rfl
theorem e156_104 : jv_ev d 156 104 lc (.int w :: .int v :: st) h = jv_ev d 156 105 lc (.int (v - w) :: st) h := jq_nx (jv_insR jm_156 dX0_all_104) rfl
theorem e156_105 : jv_ev d 156 105 lc [.int v] h = some (.inl (some (.int v)), h) := jq_reti (jv_insR jm_156 dX0_all_105) jr_156
/-! 157: RainLoom.wettest(II)I -/
theorem n157 : jv_cd (d + 1) 157 [.ref a0, .int i1, .int i2] h = jv_ev d 157 0 [some (.ref a0), some (.int i1), some (.int i2), none, none] [] h := rfl
theorem e157_0 : jv_ev d 157 0 [x0, some (.int v), x2, x3, x4] st h = jv_ev d 157 1 [x0, some (.int v), x2, x3, x4] (.int v :: st) h := jq_nx (jv_insR jm_157 dX0_wettest_0) rfl
theorem e157_1 : jv_ev d 157 1 lc st h = jv_ev d 157 2 lc (.int 0 :: st) h := jq_iconst (jv_insR jm_157 dX0_wettest_1) (by decide)
theorem e157_2 : jv_ev d 157 2 lc st h = jv_ev d 157 4 lc (.int 60 :: st) h := jq_bipush (jv_insR jm_157 dX0_wettest_2) (by decide)
theorem e157_4 : jv_ev d 157 4 lc [z2, z1, z0] h = (jv_cd d 124 [z0, z1, z2] h).bind fun r => jv_on r (fun v h => jv_ev d 157 7 lc (v.toList ++ []) h) (fun q h => some (.inr q, h)) := jq_S (as := [z0, z1, z2]) (rest := []) (jv_insR jm_157 dX0_wettest_4) jo_157 jT_2_158 rfl rfl rfl rfl
theorem e157_7 : jv_ev d 157 7 lc (.int v :: st) h = if v = 0 then jv_ev d 157 19 lc st h else jv_ev d 157 10 lc st h := jq_if (jv_insR jm_157 dX0_wettest_7) rfl (by decide)
theorem e157_10 : jv_ev d 157 10 [x0, x1, some (.int v), x3, x4] st h = jv_ev d 157 11 [x0, x1, some (.int v), x3, x4] (.int v :: st) h := jq_nx (jv_insR jm_157 dX0_wettest_10) rfl
theorem e157_11 : jv_ev d 157 11 lc st h = jv_ev d 157 12 lc (.int 0 :: st) h := jq_iconst (jv_insR jm_157 dX0_wettest_11) (by decide)
theorem e157_12 : jv_ev d 157 12 lc st h = jv_ev d 157 13 lc (.int 2 :: st) h := jq_iconst (jv_insR jm_157 dX0_wettest_12) (by decide)
theorem e157_13 : jv_ev d 157 13 lc [z2, z1, z0] h = (jv_cd d 124 [z0, z1, z2] h).bind fun r => jv_on r (fun v h => jv_ev d 157 16 lc (v.toList ++ []) h) (fun q h => some (.inr q, h)) := jq_S (as := [z0, z1, z2]) (rest := []) (jv_insR jm_157 dX0_wettest_13) jo_157 jT_2_158 rfl rfl rfl rfl
theorem e157_16 : jv_ev d 157 16 lc (.int v :: st) h = if ¬ v = 0 then jv_ev d 157 21 lc st h else jv_ev d 157 19 lc st h := jq_if (jv_insR jm_157 dX0_wettest_16) rfl (by decide)
theorem e157_19 : jv_ev d 157 19 lc st h = jv_ev d 157 20 lc (.int (-1) :: st) h := jq_iconst (jv_insR jm_157 dX0_wettest_19) (by decide)
theorem e157_20 : jv_ev d 157 20 lc [.int v] h = some (.inl (some (.int v)), h) := jq_reti (jv_insR jm_157 dX0_wettest_20) jr_157
theorem e157_21 : jv_ev d 157 21 lc st h = jv_ev d 157 23 lc (.int (-2) :: st) h := jq_bipush (jv_insR jm_157 dX0_wettest_21) (by decide)
theorem e157_23 : jv_ev d 157 23 [x0, x1, x2, x3, x4] (.int v :: st) h = jv_ev d 157 24 [x0, x1, x2, some (.int v), x4] st h := jq_nx (jv_insR jm_157 dX0_wettest_23) rfl
theorem e157_24 : jv_ev d 157 24 [some (.ref a), x1, x2, x3, x4] st h = jv_ev d 157 25 [some (.ref a), x1, x2, x3, x4] (.ref a :: st) h := jq_nx (jv_insR jm_157 dX0_wettest_24) rfl
theorem e157_25 : jv_ev d 157 25 lc (.ref a :: st) h = (jv_gf h a [(1, 8, .object "RainLoom$Land")]).bind fun r => jv_ev d 157 28 lc (r :: st) h := jq_get (jv_insR jm_157 dX0_wettest_25) jo_157 jF_2_55
theorem e157_28 : jv_ev d 157 28 [some (.ref a), x1, x2, x3, x4] st h = jv_ev d 157 29 [some (.ref a), x1, x2, x3, x4] (.ref a :: st) h := jq_nx (jv_insR jm_157 dX0_wettest_28) rfl
theorem e157_29 : jv_ev d 157 29 lc (.ref a :: st) h = (jv_gf h a [(1, 7, .object "RainLoom$Land")]).bind fun r => jv_ev d 157 32 lc (r :: st) h := jq_get (jv_insR jm_157 dX0_wettest_29) jo_157 jF_2_51
theorem e157_32 : jv_ev d 157 32 lc [z0, .ref b] h = (jv_rc h b [(6, 223)]).bind fun y => (jv_cd d y [.ref b, z0] h).bind fun r => jv_on r (fun v h => jv_ev d 157 35 lc (v.toList ++ []) h) (fun q h => some (.inr q, h)) := jq_V (as := [z0]) (rest := []) (jv_insR jm_157 dX0_wettest_32) jo_157 jV_2_237 rfl rfl rfl rfl
theorem e157_35 : jv_ev d 157 35 [some (.ref a), x1, x2, x3, x4] st h = jv_ev d 157 36 [some (.ref a), x1, x2, x3, x4] (.ref a :: st) h := jq_nx (jv_insR jm_157 dX0_wettest_35) rfl
theorem e157_36 : jv_ev d 157 36 [some (.ref a), x1, x2, x3, x4] st h = jv_ev d 157 37 [some (.ref a), x1, x2, x3, x4] (.ref a :: st) h := jq_nx (jv_insR jm_157 dX0_wettest_36) rfl
theorem e157_37 : jv_ev d 157 37 lc (.ref a :: st) h = (jv_gf h a [(1, 8, .object "RainLoom$Land")]).bind fun r => jv_ev d 157 40 lc (r :: st) h := jq_get (jv_insR jm_157 dX0_wettest_37) jo_157 jF_2_55
theorem e157_40 : jv_ev d 157 40 [x0, some (.int v), x2, x3, x4] st h = jv_ev d 157 41 [x0, some (.int v), x2, x3, x4] (.int v :: st) h := jq_nx (jv_insR jm_157 dX0_wettest_40) rfl
theorem e157_41 : jv_ev d 157 41 lc [z1, z0, .ref b] h = (jv_rc h b [(1, 137)]).bind fun y => (jv_cd d y [.ref b, z0, z1] h).bind fun r => jv_on r (fun v h => jv_ev d 157 44 lc (v.toList ++ []) h) (fun q h => some (.inr q, h)) := jq_V (as := [z0, z1]) (rest := []) (jv_insR jm_157 dX0_wettest_41) jo_157 jV_2_266 rfl rfl rfl rfl
theorem e157_44 : jv_ev d 157 44 lc st h = jv_ev d 157 45 lc (.int 0 :: st) h := jq_iconst (jv_insR jm_157 dX0_wettest_44) (by decide)
theorem e157_45 : jv_ev d 157 45 [x0, x1, x2, x3, x4] (.int v :: st) h = jv_ev d 157 47 [x0, x1, x2, x3, some (.int v)] st h := jq_nx (jv_insR jm_157 dX0_wettest_45) rfl
theorem e157_47 : jv_ev d 157 47 [x0, x1, x2, x3, some (.int v)] st h = jv_ev d 157 49 [x0, x1, x2, x3, some (.int v)] (.int v :: st) h := jq_nx (jv_insR jm_157 dX0_wettest_47) rfl
theorem e157_49 : jv_ev d 157 49 lc st h = jv_ev d 157 51 lc (.int 48 :: st) h := jq_bipush (jv_insR jm_157 dX0_wettest_49) (by decide)
theorem e157_51 : jv_ev d 157 51 lc (.int w :: .int v :: st) h = if w ≤ v then jv_ev d 157 101 lc st h else jv_ev d 157 54 lc st h := jq_if (jv_insR jm_157 dX0_wettest_51) rfl (by decide)
theorem e157_54 : jv_ev d 157 54 [some (.ref a), x1, x2, x3, x4] st h = jv_ev d 157 55 [some (.ref a), x1, x2, x3, x4] (.ref a :: st) h := jq_nx (jv_insR jm_157 dX0_wettest_54) rfl
theorem e157_55 : jv_ev d 157 55 lc (.ref a :: st) h = (jv_gf h a [(1, 3, .object "RainLoom$Text")]).bind fun r => jv_ev d 157 58 lc (r :: st) h := jq_get (jv_insR jm_157 dX0_wettest_55) jo_157 jF_2_40
theorem e157_58 : jv_ev d 157 58 [x0, x1, x2, x3, some (.int v)] st h = jv_ev d 157 60 [x0, x1, x2, x3, some (.int v)] (.int v :: st) h := jq_nx (jv_insR jm_157 dX0_wettest_58) rfl
theorem e157_60 : jv_ev d 157 60 lc [z0, .ref b] h = (jv_rc h b [(5, 211)]).bind fun y => (jv_cd d y [.ref b, z0] h).bind fun r => jv_on r (fun v h => jv_ev d 157 63 lc (v.toList ++ []) h) (fun q h => some (.inr q, h)) := jq_V (as := [z0]) (rest := []) (jv_insR jm_157 dX0_wettest_60) jo_157 jV_2_198 rfl rfl rfl rfl
theorem e157_63 : jv_ev d 157 63 lc (.int v :: st) h = if v = 0 then jv_ev d 157 95 lc st h else jv_ev d 157 66 lc st h := jq_if (jv_insR jm_157 dX0_wettest_63) rfl (by decide)
theorem e157_66 : jv_ev d 157 66 [x0, x1, x2, some (.int v), x4] st h = jv_ev d 157 67 [x0, x1, x2, some (.int v), x4] (.int v :: st) h := jq_nx (jv_insR jm_157 dX0_wettest_66) rfl
theorem e157_67 : jv_ev d 157 67 lc (.int v :: st) h = if v < 0 then jv_ev d 157 92 lc st h else jv_ev d 157 70 lc st h := jq_if (jv_insR jm_157 dX0_wettest_67) rfl (by decide)
theorem e157_70 : jv_ev d 157 70 [some (.ref a), x1, x2, x3, x4] st h = jv_ev d 157 71 [some (.ref a), x1, x2, x3, x4] (.ref a :: st) h := jq_nx (jv_insR jm_157 dX0_wettest_70) rfl
theorem e157_71 : jv_ev d 157 71 lc (.ref a :: st) h = (jv_gf h a [(1, 8, .object "RainLoom$Land")]).bind fun r => jv_ev d 157 74 lc (r :: st) h := jq_get (jv_insR jm_157 dX0_wettest_71) jo_157 jF_2_55
theorem e157_74 : jv_ev d 157 74 lc (.ref a :: st) h = (jv_gf h a [(6, 0, .array .int)]).bind fun r => jv_ev d 157 77 lc (r :: st) h := jq_get (jv_insR jm_157 dX0_wettest_74) jo_157 jF_2_186
theorem e157_77 : jv_ev d 157 77 [x0, x1, x2, x3, some (.int v)] st h = jv_ev d 157 79 [x0, x1, x2, x3, some (.int v)] (.int v :: st) h := jq_nx (jv_insR jm_157 dX0_wettest_77) rfl
theorem e157_79 : jv_ev d 157 79 lc (.int v :: .ref a :: st) h = (jv_ig h a 0 0 v).bind fun w => jv_ev d 157 80 lc (.int w :: st) h := jq_iald (jv_insR jm_157 dX0_wettest_79)
theorem e157_80 : jv_ev d 157 80 [some (.ref a), x1, x2, x3, x4] st h = jv_ev d 157 81 [some (.ref a), x1, x2, x3, x4] (.ref a :: st) h := jq_nx (jv_insR jm_157 dX0_wettest_80) rfl
theorem e157_81 : jv_ev d 157 81 lc (.ref a :: st) h = (jv_gf h a [(1, 8, .object "RainLoom$Land")]).bind fun r => jv_ev d 157 84 lc (r :: st) h := jq_get (jv_insR jm_157 dX0_wettest_81) jo_157 jF_2_55
theorem e157_84 : jv_ev d 157 84 lc (.ref a :: st) h = (jv_gf h a [(6, 0, .array .int)]).bind fun r => jv_ev d 157 87 lc (r :: st) h := jq_get (jv_insR jm_157 dX0_wettest_84) jo_157 jF_2_186
theorem e157_87 : jv_ev d 157 87 [x0, x1, x2, some (.int v), x4] st h = jv_ev d 157 88 [x0, x1, x2, some (.int v), x4] (.int v :: st) h := jq_nx (jv_insR jm_157 dX0_wettest_87) rfl
theorem e157_88 : jv_ev d 157 88 lc (.int v :: .ref a :: st) h = (jv_ig h a 0 0 v).bind fun w => jv_ev d 157 89 lc (.int w :: st) h := jq_iald (jv_insR jm_157 dX0_wettest_88)
theorem e157_89 : jv_ev d 157 89 lc (.int w :: .int v :: st) h = if v ≤ w then jv_ev d 157 95 lc st h else jv_ev d 157 92 lc st h := jq_if (jv_insR jm_157 dX0_wettest_89) rfl (by decide)
theorem e157_92 : jv_ev d 157 92 [x0, x1, x2, x3, some (.int v)] st h = jv_ev d 157 94 [x0, x1, x2, x3, some (.int v)] (.int v :: st) h := jq_nx (jv_insR jm_157 dX0_wettest_92) rfl
theorem e157_94 : jv_ev d 157 94 [x0, x1, x2, x3, x4] (.int v :: st) h = jv_ev d 157 95 [x0, x1, x2, some (.int v), x4] st h := jq_nx (jv_insR jm_157 dX0_wettest_94) rfl
theorem e157_95 : jv_ev d 157 95 [x0, x1, x2, x3, some (.int v)] st h = jv_ev d 157 98 [x0, x1, x2, x3, some (.int (v + 1))] st h := jq_nx (jv_insR jm_157 dX0_wettest_95) rfl
theorem e157_98 : jv_ev d 157 98 lc st h = jv_ev d 157 47 lc st h := jq_go (jv_insR jm_157 dX0_wettest_98) (by decide)
theorem e157_101 : jv_ev d 157 101 [x0, x1, x2, some (.int v), x4] st h = jv_ev d 157 102 [x0, x1, x2, some (.int v), x4] (.int v :: st) h := jq_nx (jv_insR jm_157 dX0_wettest_101) rfl
theorem e157_102 : jv_ev d 157 102 lc (.int v :: st) h = if 0 ≤ v then jv_ev d 157 110 lc st h else jv_ev d 157 105 lc st h := jq_if (jv_insR jm_157 dX0_wettest_102) rfl (by decide)
theorem e157_105 : jv_ev d 157 105 lc st h = jv_ev d 157 107 lc (.int (-2) :: st) h := jq_bipush (jv_insR jm_157 dX0_wettest_105) (by decide)
theorem e157_107 : jv_ev d 157 107 lc st h = jv_ev d 157 142 lc st h := jq_go (jv_insR jm_157 dX0_wettest_107) (by decide)
theorem e157_110 : jv_ev d 157 110 [x0, x1, some (.int v), x3, x4] st h = jv_ev d 157 111 [x0, x1, some (.int v), x3, x4] (.int v :: st) h := jq_nx (jv_insR jm_157 dX0_wettest_110) rfl
theorem e157_111 : jv_ev d 157 111 lc (.int v :: st) h = if ¬ v = 0 then jv_ev d 157 126 lc st h else jv_ev d 157 114 lc st h := jq_if (jv_insR jm_157 dX0_wettest_111) rfl (by decide)
theorem e157_114 : jv_ev d 157 114 [some (.ref a), x1, x2, x3, x4] st h = jv_ev d 157 115 [some (.ref a), x1, x2, x3, x4] (.ref a :: st) h := jq_nx (jv_insR jm_157 dX0_wettest_114) rfl
theorem e157_115 : jv_ev d 157 115 lc (.ref a :: st) h = (jv_gf h a [(1, 8, .object "RainLoom$Land")]).bind fun r => jv_ev d 157 118 lc (r :: st) h := jq_get (jv_insR jm_157 dX0_wettest_115) jo_157 jF_2_55
theorem e157_118 : jv_ev d 157 118 lc (.ref a :: st) h = (jv_gf h a [(6, 0, .array .int)]).bind fun r => jv_ev d 157 121 lc (r :: st) h := jq_get (jv_insR jm_157 dX0_wettest_118) jo_157 jF_2_186
theorem e157_121 : jv_ev d 157 121 [x0, x1, x2, some (.int v), x4] st h = jv_ev d 157 122 [x0, x1, x2, some (.int v), x4] (.int v :: st) h := jq_nx (jv_insR jm_157 dX0_wettest_121) rfl
theorem e157_122 : jv_ev d 157 122 lc (.int v :: .ref a :: st) h = (jv_ig h a 0 0 v).bind fun w => jv_ev d 157 123 lc (.int w :: st) h := jq_iald (jv_insR jm_157 dX0_wettest_122)
theorem e157_123 : jv_ev d 157 123 lc st h = jv_ev d 157 142 lc st h := jq_go (jv_insR jm_157 dX0_wettest_123) (by decide)
theorem e157_126 : jv_ev d 157 126 [x0, x1, some (.int v), x3, x4] st h = jv_ev d 157 127 [x0, x1, some (.int v), x3, x4] (.int v :: st) h := jq_nx (jv_insR jm_157 dX0_wettest_126) rfl
theorem e157_127 : jv_ev d 157 127 lc st h = jv_ev d 157 128 lc (.int 1 :: st) h := jq_iconst (jv_insR jm_157 dX0_wettest_127) (by decide)
theorem e157_128 : jv_ev d 157 128 lc (.int w :: .int v :: st) h = if ¬ v = w then jv_ev d 157 138 lc st h else jv_ev d 157 131 lc st h := jq_if (jv_insR jm_157 dX0_wettest_128) rfl (by decide)
theorem e157_131 : jv_ev d 157 131 [x0, x1, x2, some (.int v), x4] st h = jv_ev d 157 132 [x0, x1, x2, some (.int v), x4] (.int v :: st) h := jq_nx (jv_insR jm_157 dX0_wettest_131) rfl
theorem e157_132 : jv_ev d 157 132 lc st h = jv_ev d 157 134 lc (.int 8 :: st) h := jq_bipush (jv_insR jm_157 dX0_wettest_132) (by decide)
theorem e157_134 : jv_ev d 157 134 lc (.int w :: .int v :: st) h = if w = 0 then none else jv_ev d 157 135 lc (.int (v - v / w * w) :: st) h := jq_irem (jv_insR jm_157 dX0_wettest_134)
theorem e157_135 : jv_ev d 157 135 lc st h = jv_ev d 157 142 lc st h := jq_go (jv_insR jm_157 dX0_wettest_135) (by decide)
theorem e157_138 : jv_ev d 157 138 [x0, x1, x2, some (.int v), x4] st h = jv_ev d 157 139 [x0, x1, x2, some (.int v), x4] (.int v :: st) h := jq_nx (jv_insR jm_157 dX0_wettest_138) rfl
theorem e157_139 : jv_ev d 157 139 lc st h = jv_ev d 157 141 lc (.int 8 :: st) h := jq_bipush (jv_insR jm_157 dX0_wettest_139) (by decide)
theorem e157_141 : jv_ev d 157 141 lc (.int w :: .int v :: st) h = if w = 0 then none else jv_ev d 157 142 lc (.int (v / w) :: st) h := jq_idiv (jv_insR jm_157 dX0_wettest_141)
theorem e157_142 : jv_ev d 157 142 lc [.int v] h = some (.inl (some (.int v)), h) := jq_reti (jv_insR jm_157 dX0_wettest_142) jr_157
/-! 158: RainLoom.dry(I)I -/
theorem n158 : jv_cd (d + 1) 158 [.ref a0, .int i1] h = jv_ev d 158 0 [some (.ref a0), some (.int i1), none, none] [] h := rfl
theorem e158_0 : jv_ev d 158 0 [x0, some (.int v), x2, x3] st h = jv_ev d 158 1 [x0, some (.int v), x2, x3] (.int v :: st) h := jq_nx (jv_insR jm_158 dX0_dry_0) rfl
theorem e158_1 : jv_ev d 158 1 lc st h = jv_ev d 158 2 lc (.int 0 :: st) h := jq_iconst (jv_insR jm_158 dX0_dry_1) (by decide)
theorem e158_2 : jv_ev d 158 2 lc st h = jv_ev d 158 4 lc (.int 60 :: st) h := jq_bipush (jv_insR jm_158 dX0_dry_2) (by decide)
theorem e158_4 : jv_ev d 158 4 lc [z2, z1, z0] h = (jv_cd d 124 [z0, z1, z2] h).bind fun r => jv_on r (fun v h => jv_ev d 158 7 lc (v.toList ++ []) h) (fun q h => some (.inr q, h)) := jq_S (as := [z0, z1, z2]) (rest := []) (jv_insR jm_158 dX0_dry_4) jo_158 jT_2_158 rfl rfl rfl rfl
theorem e158_7 : jv_ev d 158 7 lc (.int v :: st) h = if ¬ v = 0 then jv_ev d 158 12 lc st h else jv_ev d 158 10 lc st h := jq_if (jv_insR jm_158 dX0_dry_7) rfl (by decide)
theorem e158_10 : jv_ev d 158 10 lc st h = jv_ev d 158 11 lc (.int (-1) :: st) h := jq_iconst (jv_insR jm_158 dX0_dry_10) (by decide)
theorem e158_11 : jv_ev d 158 11 lc [.int v] h = some (.inl (some (.int v)), h) := jq_reti (jv_insR jm_158 dX0_dry_11) jr_158
theorem e158_12 : jv_ev d 158 12 lc st h = jv_ev d 158 13 lc (.int 0 :: st) h := jq_iconst (jv_insR jm_158 dX0_dry_12) (by decide)
theorem e158_13 : jv_ev d 158 13 [x0, x1, x2, x3] (.int v :: st) h = jv_ev d 158 14 [x0, x1, some (.int v), x3] st h := jq_nx (jv_insR jm_158 dX0_dry_13) rfl
theorem e158_14 : jv_ev d 158 14 [some (.ref a), x1, x2, x3] st h = jv_ev d 158 15 [some (.ref a), x1, x2, x3] (.ref a :: st) h := jq_nx (jv_insR jm_158 dX0_dry_14) rfl
theorem e158_15 : jv_ev d 158 15 lc (.ref a :: st) h = (jv_gf h a [(1, 8, .object "RainLoom$Land")]).bind fun r => jv_ev d 158 18 lc (r :: st) h := jq_get (jv_insR jm_158 dX0_dry_15) jo_158 jF_2_55
theorem e158_18 : jv_ev d 158 18 [some (.ref a), x1, x2, x3] st h = jv_ev d 158 19 [some (.ref a), x1, x2, x3] (.ref a :: st) h := jq_nx (jv_insR jm_158 dX0_dry_18) rfl
theorem e158_19 : jv_ev d 158 19 lc (.ref a :: st) h = (jv_gf h a [(1, 7, .object "RainLoom$Land")]).bind fun r => jv_ev d 158 22 lc (r :: st) h := jq_get (jv_insR jm_158 dX0_dry_19) jo_158 jF_2_51
theorem e158_22 : jv_ev d 158 22 lc [z0, .ref b] h = (jv_rc h b [(6, 223)]).bind fun y => (jv_cd d y [.ref b, z0] h).bind fun r => jv_on r (fun v h => jv_ev d 158 25 lc (v.toList ++ []) h) (fun q h => some (.inr q, h)) := jq_V (as := [z0]) (rest := []) (jv_insR jm_158 dX0_dry_22) jo_158 jV_2_237 rfl rfl rfl rfl
theorem e158_25 : jv_ev d 158 25 [some (.ref a), x1, x2, x3] st h = jv_ev d 158 26 [some (.ref a), x1, x2, x3] (.ref a :: st) h := jq_nx (jv_insR jm_158 dX0_dry_25) rfl
theorem e158_26 : jv_ev d 158 26 [some (.ref a), x1, x2, x3] st h = jv_ev d 158 27 [some (.ref a), x1, x2, x3] (.ref a :: st) h := jq_nx (jv_insR jm_158 dX0_dry_26) rfl
theorem e158_27 : jv_ev d 158 27 lc (.ref a :: st) h = (jv_gf h a [(1, 8, .object "RainLoom$Land")]).bind fun r => jv_ev d 158 30 lc (r :: st) h := jq_get (jv_insR jm_158 dX0_dry_27) jo_158 jF_2_55
theorem e158_30 : jv_ev d 158 30 [x0, some (.int v), x2, x3] st h = jv_ev d 158 31 [x0, some (.int v), x2, x3] (.int v :: st) h := jq_nx (jv_insR jm_158 dX0_dry_30) rfl
theorem e158_31 : jv_ev d 158 31 lc [z1, z0, .ref b] h = (jv_rc h b [(1, 137)]).bind fun y => (jv_cd d y [.ref b, z0, z1] h).bind fun r => jv_on r (fun v h => jv_ev d 158 34 lc (v.toList ++ []) h) (fun q h => some (.inr q, h)) := jq_V (as := [z0, z1]) (rest := []) (jv_insR jm_158 dX0_dry_31) jo_158 jV_2_266 rfl rfl rfl rfl
theorem e158_34 : jv_ev d 158 34 lc st h = jv_ev d 158 35 lc (.int 0 :: st) h := jq_iconst (jv_insR jm_158 dX0_dry_34) (by decide)
theorem e158_35 : jv_ev d 158 35 [x0, x1, x2, x3] (.int v :: st) h = jv_ev d 158 36 [x0, x1, x2, some (.int v)] st h := jq_nx (jv_insR jm_158 dX0_dry_35) rfl
theorem e158_36 : jv_ev d 158 36 [x0, x1, x2, some (.int v)] st h = jv_ev d 158 37 [x0, x1, x2, some (.int v)] (.int v :: st) h := jq_nx (jv_insR jm_158 dX0_dry_36) rfl
theorem e158_37 : jv_ev d 158 37 lc st h = jv_ev d 158 39 lc (.int 48 :: st) h := jq_bipush (jv_insR jm_158 dX0_dry_37) (by decide)
theorem e158_39 : jv_ev d 158 39 lc (.int w :: .int v :: st) h = if w ≤ v then jv_ev d 158 79 lc st h else jv_ev d 158 42 lc st h := jq_if (jv_insR jm_158 dX0_dry_39) rfl (by decide)
theorem e158_42 : jv_ev d 158 42 [x0, x1, some (.int v), x3] st h = jv_ev d 158 43 [x0, x1, some (.int v), x3] (.int v :: st) h := jq_nx (jv_insR jm_158 dX0_dry_42) rfl
theorem e158_43 : jv_ev d 158 43 [some (.ref a), x1, x2, x3] st h = jv_ev d 158 44 [some (.ref a), x1, x2, x3] (.ref a :: st) h := jq_nx (jv_insR jm_158 dX0_dry_43) rfl
theorem e158_44 : jv_ev d 158 44 lc (.ref a :: st) h = (jv_gf h a [(1, 3, .object "RainLoom$Text")]).bind fun r => jv_ev d 158 47 lc (r :: st) h := jq_get (jv_insR jm_158 dX0_dry_44) jo_158 jF_2_40
theorem e158_47 : jv_ev d 158 47 [x0, x1, x2, some (.int v)] st h = jv_ev d 158 48 [x0, x1, x2, some (.int v)] (.int v :: st) h := jq_nx (jv_insR jm_158 dX0_dry_47) rfl
theorem e158_48 : jv_ev d 158 48 lc [z0, .ref b, y0] h = (jv_rc h b [(5, 211)]).bind fun y => (jv_cd d y [.ref b, z0] h).bind fun r => jv_on r (fun v h => jv_ev d 158 51 lc (v.toList ++ [y0]) h) (fun q h => some (.inr q, h)) := jq_V (as := [z0]) (rest := [y0]) (jv_insR jm_158 dX0_dry_48) jo_158 jV_2_198 rfl rfl rfl rfl
theorem e158_51 : jv_ev d 158 51 lc (.int v :: st) h = if v = 0 then jv_ev d 158 70 lc st h else jv_ev d 158 54 lc st h := jq_if (jv_insR jm_158 dX0_dry_51) rfl (by decide)
theorem e158_54 : jv_ev d 158 54 [some (.ref a), x1, x2, x3] st h = jv_ev d 158 55 [some (.ref a), x1, x2, x3] (.ref a :: st) h := jq_nx (jv_insR jm_158 dX0_dry_54) rfl
theorem e158_55 : jv_ev d 158 55 lc (.ref a :: st) h = (jv_gf h a [(1, 8, .object "RainLoom$Land")]).bind fun r => jv_ev d 158 58 lc (r :: st) h := jq_get (jv_insR jm_158 dX0_dry_55) jo_158 jF_2_55
theorem e158_58 : jv_ev d 158 58 lc (.ref a :: st) h = (jv_gf h a [(6, 0, .array .int)]).bind fun r => jv_ev d 158 61 lc (r :: st) h := jq_get (jv_insR jm_158 dX0_dry_58) jo_158 jF_2_186
theorem e158_61 : jv_ev d 158 61 [x0, x1, x2, some (.int v)] st h = jv_ev d 158 62 [x0, x1, x2, some (.int v)] (.int v :: st) h := jq_nx (jv_insR jm_158 dX0_dry_61) rfl
theorem e158_62 : jv_ev d 158 62 lc (.int v :: .ref a :: st) h = (jv_ig h a 0 0 v).bind fun w => jv_ev d 158 63 lc (.int w :: st) h := jq_iald (jv_insR jm_158 dX0_dry_62)
theorem e158_63 : jv_ev d 158 63 lc (.int v :: st) h = if ¬ v = 0 then jv_ev d 158 70 lc st h else jv_ev d 158 66 lc st h := jq_if (jv_insR jm_158 dX0_dry_63) rfl (by decide)
theorem e158_66 : jv_ev d 158 66 lc st h = jv_ev d 158 67 lc (.int 1 :: st) h := jq_iconst (jv_insR jm_158 dX0_dry_66) (by decide)
theorem e158_67 : jv_ev d 158 67 lc st h = jv_ev d 158 71 lc st h := jq_go (jv_insR jm_158 dX0_dry_67) (by decide)
theorem e158_70 : jv_ev d 158 70 lc st h = jv_ev d 158 71 lc (.int 0 :: st) h := jq_iconst (jv_insR jm_158 dX0_dry_70) (by decide)
theorem e158_71 : jv_ev d 158 71 lc (.int w :: .int v :: st) h = jv_ev d 158 72 lc (.int (v + w) :: st) h := jq_nx (jv_insR jm_158 dX0_dry_71) rfl
theorem e158_72 : jv_ev d 158 72 [x0, x1, x2, x3] (.int v :: st) h = jv_ev d 158 73 [x0, x1, some (.int v), x3] st h := jq_nx (jv_insR jm_158 dX0_dry_72) rfl
theorem e158_73 : jv_ev d 158 73 [x0, x1, x2, some (.int v)] st h = jv_ev d 158 76 [x0, x1, x2, some (.int (v + 1))] st h := jq_nx (jv_insR jm_158 dX0_dry_73) rfl
theorem e158_76 : jv_ev d 158 76 lc st h = jv_ev d 158 36 lc st h := jq_go (jv_insR jm_158 dX0_dry_76) (by decide)
theorem e158_79 : jv_ev d 158 79 [x0, x1, some (.int v), x3] st h = jv_ev d 158 80 [x0, x1, some (.int v), x3] (.int v :: st) h := jq_nx (jv_insR jm_158 dX0_dry_79) rfl
theorem e158_80 : jv_ev d 158 80 lc [.int v] h = some (.inl (some (.int v)), h) := jq_reti (jv_insR jm_158 dX0_dry_80) jr_158
/-! 159: RainLoom.emptyBy()I -/
theorem n159 : jv_cd (d + 1) 159 [.ref a0] h = jv_ev d 159 0 [some (.ref a0), none] [] h := rfl
theorem e159_0 : jv_ev d 159 0 [some (.ref a), x1] st h = jv_ev d 159 1 [some (.ref a), x1] (.ref a :: st) h := jq_nx (jv_insR jm_159 dX0_emptyBy_0) rfl
theorem e159_1 : jv_ev d 159 1 lc (.ref a :: st) h = (jv_gf h a [(1, 8, .object "RainLoom$Land")]).bind fun r => jv_ev d 159 4 lc (r :: st) h := jq_get (jv_insR jm_159 dX0_emptyBy_1) jo_159 jF_2_55
theorem e159_4 : jv_ev d 159 4 [some (.ref a), x1] st h = jv_ev d 159 5 [some (.ref a), x1] (.ref a :: st) h := jq_nx (jv_insR jm_159 dX0_emptyBy_4) rfl
theorem e159_5 : jv_ev d 159 5 lc (.ref a :: st) h = (jv_gf h a [(1, 7, .object "RainLoom$Land")]).bind fun r => jv_ev d 159 8 lc (r :: st) h := jq_get (jv_insR jm_159 dX0_emptyBy_5) jo_159 jF_2_51
theorem e159_8 : jv_ev d 159 8 lc [z0, .ref b] h = (jv_rc h b [(6, 223)]).bind fun y => (jv_cd d y [.ref b, z0] h).bind fun r => jv_on r (fun v h => jv_ev d 159 11 lc (v.toList ++ []) h) (fun q h => some (.inr q, h)) := jq_V (as := [z0]) (rest := []) (jv_insR jm_159 dX0_emptyBy_8) jo_159 jV_2_237 rfl rfl rfl rfl
theorem e159_11 : jv_ev d 159 11 lc st h = jv_ev d 159 12 lc (.int 0 :: st) h := jq_iconst (jv_insR jm_159 dX0_emptyBy_11) (by decide)
theorem e159_12 : jv_ev d 159 12 [x0, x1] (.int v :: st) h = jv_ev d 159 13 [x0, some (.int v)] st h := jq_nx (jv_insR jm_159 dX0_emptyBy_12) rfl
theorem e159_13 : jv_ev d 159 13 [x0, some (.int v)] st h = jv_ev d 159 14 [x0, some (.int v)] (.int v :: st) h := jq_nx (jv_insR jm_159 dX0_emptyBy_13) rfl
theorem e159_14 : jv_ev d 159 14 lc st h = jv_ev d 159 17 lc (.int 200 :: st) h := jq_sipush (jv_insR jm_159 dX0_emptyBy_14) (by decide)
theorem e159_17 : jv_ev d 159 17 lc (.int w :: .int v :: st) h = if w < v then jv_ev d 159 46 lc st h else jv_ev d 159 20 lc st h := jq_if (jv_insR jm_159 dX0_emptyBy_17) rfl (by decide)
theorem e159_20 : jv_ev d 159 20 [some (.ref a), x1] st h = jv_ev d 159 21 [some (.ref a), x1] (.ref a :: st) h := jq_nx (jv_insR jm_159 dX0_emptyBy_20) rfl
theorem e159_21 : jv_ev d 159 21 lc (.ref a :: st) h = (jv_gf h a [(1, 8, .object "RainLoom$Land")]).bind fun r => jv_ev d 159 24 lc (r :: st) h := jq_get (jv_insR jm_159 dX0_emptyBy_21) jo_159 jF_2_55
theorem e159_24 : jv_ev d 159 24 lc (.ref a :: st) h = (jv_gf h a [(6, 10, .int)]).bind fun r => jv_ev d 159 27 lc (r :: st) h := jq_get (jv_insR jm_159 dX0_emptyBy_24) jo_159 jF_2_309
theorem e159_27 : jv_ev d 159 27 lc (.int v :: st) h = if ¬ v = 0 then jv_ev d 159 32 lc st h else jv_ev d 159 30 lc st h := jq_if (jv_insR jm_159 dX0_emptyBy_27) rfl (by decide)
theorem e159_30 : jv_ev d 159 30 [x0, some (.int v)] st h = jv_ev d 159 31 [x0, some (.int v)] (.int v :: st) h := jq_nx (jv_insR jm_159 dX0_emptyBy_30) rfl
theorem e159_31 : jv_ev d 159 31 lc [.int v] h = some (.inl (some (.int v)), h) := jq_reti (jv_insR jm_159 dX0_emptyBy_31) jr_159
theorem e159_32 : jv_ev d 159 32 [some (.ref a), x1] st h = jv_ev d 159 33 [some (.ref a), x1] (.ref a :: st) h := jq_nx (jv_insR jm_159 dX0_emptyBy_32) rfl
theorem e159_33 : jv_ev d 159 33 [some (.ref a), x1] st h = jv_ev d 159 34 [some (.ref a), x1] (.ref a :: st) h := jq_nx (jv_insR jm_159 dX0_emptyBy_33) rfl
theorem e159_34 : jv_ev d 159 34 lc (.ref a :: st) h = (jv_gf h a [(1, 8, .object "RainLoom$Land")]).bind fun r => jv_ev d 159 37 lc (r :: st) h := jq_get (jv_insR jm_159 dX0_emptyBy_34) jo_159 jF_2_55
theorem e159_37 : jv_ev d 159 37 lc [z0, .ref b] h = (jv_rc h b [(1, 138)]).bind fun y => (jv_cd d y [.ref b, z0] h).bind fun r => jv_on r (fun v h => jv_ev d 159 40 lc (v.toList ++ []) h) (fun q h => some (.inr q, h)) := jq_V (as := [z0]) (rest := []) (jv_insR jm_159 dX0_emptyBy_37) jo_159 jV_2_250 rfl rfl rfl rfl
theorem e159_40 : jv_ev d 159 40 [x0, some (.int v)] st h = jv_ev d 159 43 [x0, some (.int (v + 1))] st h := jq_nx (jv_insR jm_159 dX0_emptyBy_40) rfl
theorem e159_43 : jv_ev d 159 43 lc st h = jv_ev d 159 13 lc st h := jq_go (jv_insR jm_159 dX0_emptyBy_43) (by decide)
theorem e159_46 : jv_ev d 159 46 lc st h = jv_ev d 159 48 lc (.int (-2) :: st) h := jq_bipush (jv_insR jm_159 dX0_emptyBy_46) (by decide)
theorem e159_48 : jv_ev d 159 48 lc [.int v] h = some (.inl (some (.int v)), h) := jq_reti (jv_insR jm_159 dX0_emptyBy_48) jr_159
/-! 160: RainLoom.year(II)I -/
theorem n160 : jv_cd (d + 1) 160 [.ref a0, .int i1, .int i2] h = jv_ev d 160 0 [some (.ref a0), some (.int i1), some (.int i2), none, none] [] h := rfl
theorem e160_0 : jv_ev d 160 0 [x0, some (.int v), x2, x3, x4] st h = jv_ev d 160 1 [x0, some (.int v), x2, x3, x4] (.int v :: st) h := jq_nx (jv_insR jm_160 dX0_year_0) rfl
theorem e160_1 : jv_ev d 160 1 lc st h = jv_ev d 160 2 lc (.int 0 :: st) h := jq_iconst (jv_insR jm_160 dX0_year_1) (by decide)
theorem e160_2 : jv_ev d 160 2 lc st h = jv_ev d 160 4 lc (.int 60 :: st) h := jq_bipush (jv_insR jm_160 dX0_year_2) (by decide)
theorem e160_4 : jv_ev d 160 4 lc [z2, z1, z0] h = (jv_cd d 124 [z0, z1, z2] h).bind fun r => jv_on r (fun v h => jv_ev d 160 7 lc (v.toList ++ []) h) (fun q h => some (.inr q, h)) := jq_S (as := [z0, z1, z2]) (rest := []) (jv_insR jm_160 dX0_year_4) jo_160 jT_2_158 rfl rfl rfl rfl
theorem e160_7 : jv_ev d 160 7 lc (.int v :: st) h = if v = 0 then jv_ev d 160 20 lc st h else jv_ev d 160 10 lc st h := jq_if (jv_insR jm_160 dX0_year_7) rfl (by decide)
theorem e160_10 : jv_ev d 160 10 [x0, x1, some (.int v), x3, x4] st h = jv_ev d 160 11 [x0, x1, some (.int v), x3, x4] (.int v :: st) h := jq_nx (jv_insR jm_160 dX0_year_10) rfl
theorem e160_11 : jv_ev d 160 11 lc st h = jv_ev d 160 12 lc (.int 1 :: st) h := jq_iconst (jv_insR jm_160 dX0_year_11) (by decide)
theorem e160_12 : jv_ev d 160 12 lc st h = jv_ev d 160 14 lc (.int 20 :: st) h := jq_bipush (jv_insR jm_160 dX0_year_12) (by decide)
theorem e160_14 : jv_ev d 160 14 lc [z2, z1, z0] h = (jv_cd d 124 [z0, z1, z2] h).bind fun r => jv_on r (fun v h => jv_ev d 160 17 lc (v.toList ++ []) h) (fun q h => some (.inr q, h)) := jq_S (as := [z0, z1, z2]) (rest := []) (jv_insR jm_160 dX0_year_14) jo_160 jT_2_158 rfl rfl rfl rfl
theorem e160_17 : jv_ev d 160 17 lc (.int v :: st) h = if ¬ v = 0 then jv_ev d 160 22 lc st h else jv_ev d 160 20 lc st h := jq_if (jv_insR jm_160 dX0_year_17) rfl (by decide)
theorem e160_20 : jv_ev d 160 20 lc st h = jv_ev d 160 21 lc (.int (-1) :: st) h := jq_iconst (jv_insR jm_160 dX0_year_20) (by decide)
theorem e160_21 : jv_ev d 160 21 lc [.int v] h = some (.inl (some (.int v)), h) := jq_reti (jv_insR jm_160 dX0_year_21) jr_160
theorem e160_22 : jv_ev d 160 22 lc st h = jv_ev d 160 23 lc (.int 0 :: st) h := jq_iconst (jv_insR jm_160 dX0_year_22) (by decide)
theorem e160_23 : jv_ev d 160 23 [x0, x1, x2, x3, x4] (.int v :: st) h = jv_ev d 160 24 [x0, x1, x2, some (.int v), x4] st h := jq_nx (jv_insR jm_160 dX0_year_23) rfl
theorem e160_24 : jv_ev d 160 24 lc st h = jv_ev d 160 25 lc (.int 0 :: st) h := jq_iconst (jv_insR jm_160 dX0_year_24) (by decide)
theorem e160_25 : jv_ev d 160 25 [x0, x1, x2, x3, x4] (.int v :: st) h = jv_ev d 160 27 [x0, x1, x2, x3, some (.int v)] st h := jq_nx (jv_insR jm_160 dX0_year_25) rfl
theorem e160_27 : jv_ev d 160 27 [x0, x1, x2, x3, some (.int v)] st h = jv_ev d 160 29 [x0, x1, x2, x3, some (.int v)] (.int v :: st) h := jq_nx (jv_insR jm_160 dX0_year_27) rfl
theorem e160_29 : jv_ev d 160 29 [x0, x1, some (.int v), x3, x4] st h = jv_ev d 160 30 [x0, x1, some (.int v), x3, x4] (.int v :: st) h := jq_nx (jv_insR jm_160 dX0_year_29) rfl
theorem e160_30 : jv_ev d 160 30 lc (.int w :: .int v :: st) h = if w ≤ v then jv_ev d 160 100 lc st h else jv_ev d 160 33 lc st h := jq_if (jv_insR jm_160 dX0_year_30) rfl (by decide)
theorem e160_33 : jv_ev d 160 33 [some (.ref a), x1, x2, x3, x4] st h = jv_ev d 160 34 [some (.ref a), x1, x2, x3, x4] (.ref a :: st) h := jq_nx (jv_insR jm_160 dX0_year_33) rfl
theorem e160_34 : jv_ev d 160 34 lc (.ref a :: st) h = (jv_gf h a [(1, 8, .object "RainLoom$Land")]).bind fun r => jv_ev d 160 37 lc (r :: st) h := jq_get (jv_insR jm_160 dX0_year_34) jo_160 jF_2_55
theorem e160_37 : jv_ev d 160 37 [some (.ref a), x1, x2, x3, x4] st h = jv_ev d 160 38 [some (.ref a), x1, x2, x3, x4] (.ref a :: st) h := jq_nx (jv_insR jm_160 dX0_year_37) rfl
theorem e160_38 : jv_ev d 160 38 lc (.ref a :: st) h = (jv_gf h a [(1, 7, .object "RainLoom$Land")]).bind fun r => jv_ev d 160 41 lc (r :: st) h := jq_get (jv_insR jm_160 dX0_year_38) jo_160 jF_2_51
theorem e160_41 : jv_ev d 160 41 lc [z0, .ref b] h = (jv_rc h b [(6, 223)]).bind fun y => (jv_cd d y [.ref b, z0] h).bind fun r => jv_on r (fun v h => jv_ev d 160 44 lc (v.toList ++ []) h) (fun q h => some (.inr q, h)) := jq_V (as := [z0]) (rest := []) (jv_insR jm_160 dX0_year_41) jo_160 jV_2_237 rfl rfl rfl rfl
theorem e160_44 : jv_ev d 160 44 [some (.ref a), x1, x2, x3, x4] st h = jv_ev d 160 45 [some (.ref a), x1, x2, x3, x4] (.ref a :: st) h := jq_nx (jv_insR jm_160 dX0_year_44) rfl
theorem e160_45 : jv_ev d 160 45 lc (.ref a :: st) h = (jv_gf h a [(1, 8, .object "RainLoom$Land")]).bind fun r => jv_ev d 160 48 lc (r :: st) h := jq_get (jv_insR jm_160 dX0_year_45) jo_160 jF_2_55
theorem e160_48 : jv_ev d 160 48 [some (.ref a), x1, x2, x3, x4] st h = jv_ev d 160 49 [some (.ref a), x1, x2, x3, x4] (.ref a :: st) h := jq_nx (jv_insR jm_160 dX0_year_48) rfl
theorem e160_49 : jv_ev d 160 49 lc (.ref a :: st) h = (jv_gf h a [(1, 3, .object "RainLoom$Text")]).bind fun r => jv_ev d 160 52 lc (r :: st) h := jq_get (jv_insR jm_160 dX0_year_49) jo_160 jF_2_40
theorem e160_52 : jv_ev d 160 52 lc (.ref a :: st) h = (jv_gf h a [(5, 8, .int)]).bind fun r => jv_ev d 160 55 lc (r :: st) h := jq_get (jv_insR jm_160 dX0_year_52) jo_160 jF_2_316
theorem e160_55 : jv_ev d 160 55 [x0, x1, x2, x3, some (.int v)] st h = jv_ev d 160 57 [x0, x1, x2, x3, some (.int v)] (.int v :: st) h := jq_nx (jv_insR jm_160 dX0_year_55) rfl
theorem e160_57 : jv_ev d 160 57 lc (.int w :: .int v :: st) h = jv_ev d 160 58 lc (.int (v + w) :: st) h := jq_nx (jv_insR jm_160 dX0_year_57) rfl
theorem e160_58 : jv_ev d 160 58 lc (r :: .ref a :: st) h = (jv_pf h a [(6, 12, .int)] r).bind fun h => jv_ev d 160 61 lc st h := jq_put (jv_insR jm_160 dX0_year_58) jo_160 ji_160 jG_2_319
theorem e160_61 : jv_ev d 160 61 [some (.ref a), x1, x2, x3, x4] st h = jv_ev d 160 62 [some (.ref a), x1, x2, x3, x4] (.ref a :: st) h := jq_nx (jv_insR jm_160 dX0_year_61) rfl
theorem e160_62 : jv_ev d 160 62 [some (.ref a), x1, x2, x3, x4] st h = jv_ev d 160 63 [some (.ref a), x1, x2, x3, x4] (.ref a :: st) h := jq_nx (jv_insR jm_160 dX0_year_62) rfl
theorem e160_63 : jv_ev d 160 63 lc (.ref a :: st) h = (jv_gf h a [(1, 8, .object "RainLoom$Land")]).bind fun r => jv_ev d 160 66 lc (r :: st) h := jq_get (jv_insR jm_160 dX0_year_63) jo_160 jF_2_55
theorem e160_66 : jv_ev d 160 66 [x0, some (.int v), x2, x3, x4] st h = jv_ev d 160 67 [x0, some (.int v), x2, x3, x4] (.int v :: st) h := jq_nx (jv_insR jm_160 dX0_year_66) rfl
theorem e160_67 : jv_ev d 160 67 lc [z1, z0, .ref b] h = (jv_rc h b [(1, 137)]).bind fun y => (jv_cd d y [.ref b, z0, z1] h).bind fun r => jv_on r (fun v h => jv_ev d 160 70 lc (v.toList ++ []) h) (fun q h => some (.inr q, h)) := jq_V (as := [z0, z1]) (rest := []) (jv_insR jm_160 dX0_year_67) jo_160 jV_2_266 rfl rfl rfl rfl
theorem e160_70 : jv_ev d 160 70 [x0, x1, x2, some (.int v), x4] st h = jv_ev d 160 71 [x0, x1, x2, some (.int v), x4] (.int v :: st) h := jq_nx (jv_insR jm_160 dX0_year_70) rfl
theorem e160_71 : jv_ev d 160 71 [some (.ref a), x1, x2, x3, x4] st h = jv_ev d 160 72 [some (.ref a), x1, x2, x3, x4] (.ref a :: st) h := jq_nx (jv_insR jm_160 dX0_year_71) rfl
theorem e160_72 : jv_ev d 160 72 lc (.ref a :: st) h = (jv_gf h a [(1, 8, .object "RainLoom$Land")]).bind fun r => jv_ev d 160 75 lc (r :: st) h := jq_get (jv_insR jm_160 dX0_year_72) jo_160 jF_2_55
theorem e160_75 : jv_ev d 160 75 lc (.ref a :: st) h = (jv_gf h a [(6, 1, .array .int)]).bind fun r => jv_ev d 160 78 lc (r :: st) h := jq_get (jv_insR jm_160 dX0_year_75) jo_160 jF_2_201
theorem e160_78 : jv_ev d 160 78 lc [z0, y0] h = (jv_cd d 228 [z0] h).bind fun r => jv_on r (fun v h => jv_ev d 160 81 lc (v.toList ++ [y0]) h) (fun q h => some (.inr q, h)) := jq_S (as := [z0]) (rest := [y0]) (jv_insR jm_160 dX0_year_78) jo_160 jT_2_312 rfl rfl rfl rfl
theorem e160_81 : jv_ev d 160 81 [some (.ref a), x1, x2, x3, x4] st h = jv_ev d 160 82 [some (.ref a), x1, x2, x3, x4] (.ref a :: st) h := jq_nx (jv_insR jm_160 dX0_year_81) rfl
theorem e160_82 : jv_ev d 160 82 lc (.ref a :: st) h = (jv_gf h a [(1, 7, .object "RainLoom$Land")]).bind fun r => jv_ev d 160 85 lc (r :: st) h := jq_get (jv_insR jm_160 dX0_year_82) jo_160 jF_2_51
theorem e160_85 : jv_ev d 160 85 lc (.ref a :: st) h = (jv_gf h a [(6, 1, .array .int)]).bind fun r => jv_ev d 160 88 lc (r :: st) h := jq_get (jv_insR jm_160 dX0_year_85) jo_160 jF_2_201
theorem e160_88 : jv_ev d 160 88 lc [z0, y0, y1] h = (jv_cd d 228 [z0] h).bind fun r => jv_on r (fun v h => jv_ev d 160 91 lc (v.toList ++ [y0, y1]) h) (fun q h => some (.inr q, h)) := jq_S (as := [z0]) (rest := [y0, y1]) (jv_insR jm_160 dX0_year_88) jo_160 jT_2_312 rfl rfl rfl rfl
theorem e160_91 : jv_ev d 160 91 lc (.int w :: .int v :: st) h = jv_ev d 160 92 lc (.int (v - w) :: st) h := jq_nx (jv_insR jm_160 dX0_year_91) rfl
theorem e160_92 : jv_ev d 160 92 lc (.int w :: .int v :: st) h = jv_ev d 160 93 lc (.int (v + w) :: st) h := jq_nx (jv_insR jm_160 dX0_year_92) rfl
theorem e160_93 : jv_ev d 160 93 [x0, x1, x2, x3, x4] (.int v :: st) h = jv_ev d 160 94 [x0, x1, x2, some (.int v), x4] st h := jq_nx (jv_insR jm_160 dX0_year_93) rfl
theorem e160_94 : jv_ev d 160 94 [x0, x1, x2, x3, some (.int v)] st h = jv_ev d 160 97 [x0, x1, x2, x3, some (.int (v + 1))] st h := jq_nx (jv_insR jm_160 dX0_year_94) rfl
theorem e160_97 : jv_ev d 160 97 lc st h = jv_ev d 160 27 lc st h := jq_go (jv_insR jm_160 dX0_year_97) (by decide)
theorem e160_100 : jv_ev d 160 100 [x0, x1, x2, some (.int v), x4] st h = jv_ev d 160 101 [x0, x1, x2, some (.int v), x4] (.int v :: st) h := jq_nx (jv_insR jm_160 dX0_year_100) rfl
theorem e160_101 : jv_ev d 160 101 lc [.int v] h = some (.inl (some (.int v)), h) := jq_reti (jv_insR jm_160 dX0_year_101) jr_160
/-! 161: RainLoom.serve(III)I -/
theorem n161 : jv_cd (d + 1) 161 [.ref a0, .int i1, .int i2, .int i3] h = jv_ev d 161 0 [some (.ref a0), some (.int i1), some (.int i2), some (.int i3), none] [] h := rfl
theorem e161_0 : jv_ev d 161 0 [x0, some (.int v), x2, x3, x4] st h = jv_ev d 161 1 [x0, some (.int v), x2, x3, x4] (.int v :: st) h := jq_nx (jv_insR jm_161 dX0_serve_0) rfl
theorem e161_1 : jv_ev d 161 1 lc st h = jv_ev d 161 2 lc (.int 1 :: st) h := jq_iconst (jv_insR jm_161 dX0_serve_1) (by decide)
theorem e161_2 : jv_ev d 161 2 lc st h = jv_ev d 161 4 lc (.int 8 :: st) h := jq_bipush (jv_insR jm_161 dX0_serve_2) (by decide)
theorem e161_4 : jv_ev d 161 4 lc [z2, z1, z0] h = (jv_cd d 124 [z0, z1, z2] h).bind fun r => jv_on r (fun v h => jv_ev d 161 7 lc (v.toList ++ []) h) (fun q h => some (.inr q, h)) := jq_S (as := [z0, z1, z2]) (rest := []) (jv_insR jm_161 dX0_serve_4) jo_161 jT_2_158 rfl rfl rfl rfl
theorem e161_7 : jv_ev d 161 7 lc (.int v :: st) h = if v = 0 then jv_ev d 161 34 lc st h else jv_ev d 161 10 lc st h := jq_if (jv_insR jm_161 dX0_serve_7) rfl (by decide)
theorem e161_10 : jv_ev d 161 10 [x0, x1, some (.int v), x3, x4] st h = jv_ev d 161 11 [x0, x1, some (.int v), x3, x4] (.int v :: st) h := jq_nx (jv_insR jm_161 dX0_serve_10) rfl
theorem e161_11 : jv_ev d 161 11 lc st h = jv_ev d 161 12 lc (.int 1 :: st) h := jq_iconst (jv_insR jm_161 dX0_serve_11) (by decide)
theorem e161_12 : jv_ev d 161 12 lc st h = jv_ev d 161 14 lc (.int 6 :: st) h := jq_bipush (jv_insR jm_161 dX0_serve_12) (by decide)
theorem e161_14 : jv_ev d 161 14 lc [z2, z1, z0] h = (jv_cd d 124 [z0, z1, z2] h).bind fun r => jv_on r (fun v h => jv_ev d 161 17 lc (v.toList ++ []) h) (fun q h => some (.inr q, h)) := jq_S (as := [z0, z1, z2]) (rest := []) (jv_insR jm_161 dX0_serve_14) jo_161 jT_2_158 rfl rfl rfl rfl
theorem e161_17 : jv_ev d 161 17 lc (.int v :: st) h = if v = 0 then jv_ev d 161 34 lc st h else jv_ev d 161 20 lc st h := jq_if (jv_insR jm_161 dX0_serve_17) rfl (by decide)
theorem e161_20 : jv_ev d 161 20 [x0, x1, x2, some (.int v), x4] st h = jv_ev d 161 21 [x0, x1, x2, some (.int v), x4] (.int v :: st) h := jq_nx (jv_insR jm_161 dX0_serve_20) rfl
theorem e161_21 : jv_ev d 161 21 lc st h = jv_ev d 161 22 lc (.int (-1) :: st) h := jq_iconst (jv_insR jm_161 dX0_serve_21) (by decide)
theorem e161_22 : jv_ev d 161 22 [some (.ref a), x1, x2, x3, x4] st h = jv_ev d 161 23 [some (.ref a), x1, x2, x3, x4] (.ref a :: st) h := jq_nx (jv_insR jm_161 dX0_serve_22) rfl
theorem e161_23 : jv_ev d 161 23 lc [.ref b, y0, y1] h = (jv_rc h b [(1, 127)]).bind fun y => (jv_cd d y [.ref b] h).bind fun r => jv_on r (fun v h => jv_ev d 161 26 lc (v.toList ++ [y0, y1]) h) (fun q h => some (.inr q, h)) := jq_V (as := []) (rest := [y0, y1]) (jv_insR jm_161 dX0_serve_23) jo_161 jV_2_156 rfl rfl rfl rfl
theorem e161_26 : jv_ev d 161 26 lc st h = jv_ev d 161 27 lc (.int 1 :: st) h := jq_iconst (jv_insR jm_161 dX0_serve_26) (by decide)
theorem e161_27 : jv_ev d 161 27 lc (.int w :: .int v :: st) h = jv_ev d 161 28 lc (.int (v - w) :: st) h := jq_nx (jv_insR jm_161 dX0_serve_27) rfl
theorem e161_28 : jv_ev d 161 28 lc [z2, z1, z0] h = (jv_cd d 124 [z0, z1, z2] h).bind fun r => jv_on r (fun v h => jv_ev d 161 31 lc (v.toList ++ []) h) (fun q h => some (.inr q, h)) := jq_S (as := [z0, z1, z2]) (rest := []) (jv_insR jm_161 dX0_serve_28) jo_161 jT_2_158 rfl rfl rfl rfl
theorem e161_31 : jv_ev d 161 31 lc (.int v :: st) h = if ¬ v = 0 then jv_ev d 161 36 lc st h else jv_ev d 161 34 lc st h := jq_if (jv_insR jm_161 dX0_serve_31) rfl (by decide)
theorem e161_34 : jv_ev d 161 34 lc st h = jv_ev d 161 35 lc (.int (-1) :: st) h := jq_iconst (jv_insR jm_161 dX0_serve_34) (by decide)
theorem e161_35 : jv_ev d 161 35 lc [.int v] h = some (.inl (some (.int v)), h) := jq_reti (jv_insR jm_161 dX0_serve_35) jr_161
theorem e161_36 : jv_ev d 161 36 lc st h = jv_ev d 161 37 lc (.int 0 :: st) h := jq_iconst (jv_insR jm_161 dX0_serve_36) (by decide)
theorem e161_37 : jv_ev d 161 37 [x0, x1, x2, x3, x4] (.int v :: st) h = jv_ev d 161 39 [x0, x1, x2, x3, some (.int v)] st h := jq_nx (jv_insR jm_161 dX0_serve_37) rfl
theorem e161_39 : jv_ev d 161 39 [x0, x1, x2, x3, some (.int v)] st h = jv_ev d 161 41 [x0, x1, x2, x3, some (.int v)] (.int v :: st) h := jq_nx (jv_insR jm_161 dX0_serve_39) rfl
theorem e161_41 : jv_ev d 161 41 [some (.ref a), x1, x2, x3, x4] st h = jv_ev d 161 42 [some (.ref a), x1, x2, x3, x4] (.ref a :: st) h := jq_nx (jv_insR jm_161 dX0_serve_41) rfl
theorem e161_42 : jv_ev d 161 42 lc [.ref b, y0] h = (jv_rc h b [(1, 127)]).bind fun y => (jv_cd d y [.ref b] h).bind fun r => jv_on r (fun v h => jv_ev d 161 45 lc (v.toList ++ [y0]) h) (fun q h => some (.inr q, h)) := jq_V (as := []) (rest := [y0]) (jv_insR jm_161 dX0_serve_42) jo_161 jV_2_156 rfl rfl rfl rfl
theorem e161_45 : jv_ev d 161 45 lc (.int w :: .int v :: st) h = if w ≤ v then jv_ev d 161 66 lc st h else jv_ev d 161 48 lc st h := jq_if (jv_insR jm_161 dX0_serve_45) rfl (by decide)
theorem e161_48 : jv_ev d 161 48 [x0, some (.int v), x2, x3, x4] st h = jv_ev d 161 49 [x0, some (.int v), x2, x3, x4] (.int v :: st) h := jq_nx (jv_insR jm_161 dX0_serve_48) rfl
theorem e161_49 : jv_ev d 161 49 [some (.ref a), x1, x2, x3, x4] st h = jv_ev d 161 50 [some (.ref a), x1, x2, x3, x4] (.ref a :: st) h := jq_nx (jv_insR jm_161 dX0_serve_49) rfl
theorem e161_50 : jv_ev d 161 50 [x0, x1, x2, x3, some (.int v)] st h = jv_ev d 161 52 [x0, x1, x2, x3, some (.int v)] (.int v :: st) h := jq_nx (jv_insR jm_161 dX0_serve_50) rfl
theorem e161_52 : jv_ev d 161 52 lc [z0, .ref b, y0] h = (jv_rc h b [(1, 128)]).bind fun y => (jv_cd d y [.ref b, z0] h).bind fun r => jv_on r (fun v h => jv_ev d 161 55 lc (v.toList ++ [y0]) h) (fun q h => some (.inr q, h)) := jq_V (as := [z0]) (rest := [y0]) (jv_insR jm_161 dX0_serve_52) jo_161 jV_2_175 rfl rfl rfl rfl
theorem e161_55 : jv_ev d 161 55 lc (.int w :: .int v :: st) h = if v ≤ w then jv_ev d 161 60 lc st h else jv_ev d 161 58 lc st h := jq_if (jv_insR jm_161 dX0_serve_55) rfl (by decide)
theorem e161_58 : jv_ev d 161 58 lc st h = jv_ev d 161 59 lc (.int (-1) :: st) h := jq_iconst (jv_insR jm_161 dX0_serve_58) (by decide)
theorem e161_59 : jv_ev d 161 59 lc [.int v] h = some (.inl (some (.int v)), h) := jq_reti (jv_insR jm_161 dX0_serve_59) jr_161
theorem e161_60 : jv_ev d 161 60 [x0, x1, x2, x3, some (.int v)] st h = jv_ev d 161 63 [x0, x1, x2, x3, some (.int (v + 1))] st h := jq_nx (jv_insR jm_161 dX0_serve_60) rfl
theorem e161_63 : jv_ev d 161 63 lc st h = jv_ev d 161 39 lc st h := jq_go (jv_insR jm_161 dX0_serve_63) (by decide)
theorem e161_66 : jv_ev d 161 66 [some (.ref a), x1, x2, x3, x4] st h = jv_ev d 161 67 [some (.ref a), x1, x2, x3, x4] (.ref a :: st) h := jq_nx (jv_insR jm_161 dX0_serve_66) rfl
theorem e161_67 : jv_ev d 161 67 lc [.ref b] h = (jv_rc h b [(1, 127)]).bind fun y => (jv_cd d y [.ref b] h).bind fun r => jv_on r (fun v h => jv_ev d 161 70 lc (v.toList ++ []) h) (fun q h => some (.inr q, h)) := jq_V (as := []) (rest := []) (jv_insR jm_161 dX0_serve_67) jo_161 jV_2_156 rfl rfl rfl rfl
theorem e161_70 : jv_ev d 161 70 [some (.ref a), x1, x2, x3, x4] st h = jv_ev d 161 71 [some (.ref a), x1, x2, x3, x4] (.ref a :: st) h := jq_nx (jv_insR jm_161 dX0_serve_70) rfl
theorem e161_71 : jv_ev d 161 71 lc [.ref b, y0] h = (jv_rc h b [(1, 123)]).bind fun y => (jv_cd d y [.ref b] h).bind fun r => jv_on r (fun v h => jv_ev d 161 74 lc (v.toList ++ [y0]) h) (fun q h => some (.inr q, h)) := jq_V (as := []) (rest := [y0]) (jv_insR jm_161 dX0_serve_71) jo_161 jV_2_196 rfl rfl rfl rfl
theorem e161_74 : jv_ev d 161 74 lc (.int w :: .int v :: st) h = if v ≤ w then jv_ev d 161 80 lc st h else jv_ev d 161 77 lc st h := jq_if (jv_insR jm_161 dX0_serve_74) rfl (by decide)
theorem e161_77 : jv_ev d 161 77 lc st h = jv_ev d 161 79 lc (.int (-2) :: st) h := jq_bipush (jv_insR jm_161 dX0_serve_77) (by decide)
theorem e161_79 : jv_ev d 161 79 lc [.int v] h = some (.inl (some (.int v)), h) := jq_reti (jv_insR jm_161 dX0_serve_79) jr_161
theorem e161_80 : jv_ev d 161 80 [some (.ref a), x1, x2, x3, x4] st h = jv_ev d 161 81 [some (.ref a), x1, x2, x3, x4] (.ref a :: st) h := jq_nx (jv_insR jm_161 dX0_serve_80) rfl
theorem e161_81 : jv_ev d 161 81 lc st h = jv_ev d 161 84 lc (.int (1000000) :: st) h := jq_ldcw (jv_insR jm_161 dX0_serve_81) jo_161 jK_2_308
theorem e161_84 : jv_ev d 161 84 lc (r :: .ref a :: st) h = (jv_pf h a [(1, 20, .int)] r).bind fun h => jv_ev d 161 87 lc st h := jq_put (jv_insR jm_161 dX0_serve_84) jo_161 ji_161 jG_2_320
theorem e161_87 : jv_ev d 161 87 [some (.ref a), x1, x2, x3, x4] st h = jv_ev d 161 88 [some (.ref a), x1, x2, x3, x4] (.ref a :: st) h := jq_nx (jv_insR jm_161 dX0_serve_87) rfl
theorem e161_88 : jv_ev d 161 88 lc st h = jv_ev d 161 89 lc (.int 0 :: st) h := jq_iconst (jv_insR jm_161 dX0_serve_88) (by decide)
theorem e161_89 : jv_ev d 161 89 lc st h = jv_ev d 161 90 lc (.int 0 :: st) h := jq_iconst (jv_insR jm_161 dX0_serve_89) (by decide)
theorem e161_90 : jv_ev d 161 90 lc st h = jv_ev d 161 91 lc (.int 0 :: st) h := jq_iconst (jv_insR jm_161 dX0_serve_90) (by decide)
theorem e161_91 : jv_ev d 161 91 [x0, some (.int v), x2, x3, x4] st h = jv_ev d 161 92 [x0, some (.int v), x2, x3, x4] (.int v :: st) h := jq_nx (jv_insR jm_161 dX0_serve_91) rfl
theorem e161_92 : jv_ev d 161 92 [x0, x1, some (.int v), x3, x4] st h = jv_ev d 161 93 [x0, x1, some (.int v), x3, x4] (.int v :: st) h := jq_nx (jv_insR jm_161 dX0_serve_92) rfl
theorem e161_93 : jv_ev d 161 93 lc [z4, z3, z2, z1, z0, .ref b] h = (jv_rc h b [(1, 162)]).bind fun y => (jv_cd d y [.ref b, z0, z1, z2, z3, z4] h).bind fun r => jv_on r (fun v h => jv_ev d 161 96 lc (v.toList ++ []) h) (fun q h => some (.inr q, h)) := jq_V (as := [z0, z1, z2, z3, z4]) (rest := []) (jv_insR jm_161 dX0_serve_93) jo_161 jV_2_332 rfl rfl rfl rfl
theorem e161_96 : jv_ev d 161 96 [x0, x1, x2, some (.int v), x4] st h = jv_ev d 161 97 [x0, x1, x2, some (.int v), x4] (.int v :: st) h := jq_nx (jv_insR jm_161 dX0_serve_96) rfl
theorem e161_97 : jv_ev d 161 97 lc st h = jv_ev d 161 98 lc (.int (-1) :: st) h := jq_iconst (jv_insR jm_161 dX0_serve_97) (by decide)
theorem e161_98 : jv_ev d 161 98 lc (.int w :: .int v :: st) h = if ¬ v = w then jv_ev d 161 108 lc st h else jv_ev d 161 101 lc st h := jq_if (jv_insR jm_161 dX0_serve_98) rfl (by decide)
theorem e161_101 : jv_ev d 161 101 [some (.ref a), x1, x2, x3, x4] st h = jv_ev d 161 102 [some (.ref a), x1, x2, x3, x4] (.ref a :: st) h := jq_nx (jv_insR jm_161 dX0_serve_101) rfl
theorem e161_102 : jv_ev d 161 102 lc (.ref a :: st) h = (jv_gf h a [(1, 20, .int)]).bind fun r => jv_ev d 161 105 lc (r :: st) h := jq_get (jv_insR jm_161 dX0_serve_102) jo_161 jF_2_320
theorem e161_105 : jv_ev d 161 105 lc st h = jv_ev d 161 114 lc st h := jq_go (jv_insR jm_161 dX0_serve_105) (by decide)
theorem e161_108 : jv_ev d 161 108 [some (.ref a), x1, x2, x3, x4] st h = jv_ev d 161 109 [some (.ref a), x1, x2, x3, x4] (.ref a :: st) h := jq_nx (jv_insR jm_161 dX0_serve_108) rfl
theorem e161_109 : jv_ev d 161 109 lc (.ref a :: st) h = (jv_gf h a [(1, 19, .array .int)]).bind fun r => jv_ev d 161 112 lc (r :: st) h := jq_get (jv_insR jm_161 dX0_serve_109) jo_161 jF_2_102
theorem e161_112 : jv_ev d 161 112 [x0, x1, x2, some (.int v), x4] st h = jv_ev d 161 113 [x0, x1, x2, some (.int v), x4] (.int v :: st) h := jq_nx (jv_insR jm_161 dX0_serve_112) rfl
theorem e161_113 : jv_ev d 161 113 lc (.int v :: .ref a :: st) h = (jv_ig h a 0 0 v).bind fun w => jv_ev d 161 114 lc (.int w :: st) h := jq_iald (jv_insR jm_161 dX0_serve_113)
theorem e161_114 : jv_ev d 161 114 lc [.int v] h = some (.inl (some (.int v)), h) := jq_reti (jv_insR jm_161 dX0_serve_114) jr_161
/-! 162: RainLoom.laysServe(IIIII)V -/
theorem n162 : jv_cd (d + 1) 162 [.ref a0, .int i1, .int i2, .int i3, .int i4, .int i5] h = jv_ev d 162 0 [some (.ref a0), some (.int i1), some (.int i2), some (.int i3), some (.int i4), some (.int i5), none] [] h := rfl
theorem e162_0 : jv_ev d 162 0 [x0, x1, x2, some (.int v), x4, x5, x6] st h = jv_ev d 162 1 [x0, x1, x2, some (.int v), x4, x5, x6] (.int v :: st) h := jq_nx (jv_insR jm_162 dX0_laysServe_0) rfl
theorem e162_1 : jv_ev d 162 1 [some (.ref a), x1, x2, x3, x4, x5, x6] st h = jv_ev d 162 2 [some (.ref a), x1, x2, x3, x4, x5, x6] (.ref a :: st) h := jq_nx (jv_insR jm_162 dX0_laysServe_1) rfl
theorem e162_2 : jv_ev d 162 2 lc (.ref a :: st) h = (jv_gf h a [(1, 20, .int)]).bind fun r => jv_ev d 162 5 lc (r :: st) h := jq_get (jv_insR jm_162 dX0_laysServe_2) jo_162 jF_2_320
theorem e162_5 : jv_ev d 162 5 lc (.int w :: .int v :: st) h = if v < w then jv_ev d 162 9 lc st h else jv_ev d 162 8 lc st h := jq_if (jv_insR jm_162 dX0_laysServe_5) rfl (by decide)
theorem e162_8 : jv_ev d 162 8 lc [] h = some (.inl none, h) := jq_retv (jv_insR jm_162 dX0_laysServe_8) jr_162
theorem e162_9 : jv_ev d 162 9 [x0, some (.int v), x2, x3, x4, x5, x6] st h = jv_ev d 162 10 [x0, some (.int v), x2, x3, x4, x5, x6] (.int v :: st) h := jq_nx (jv_insR jm_162 dX0_laysServe_9) rfl
theorem e162_10 : jv_ev d 162 10 [some (.ref a), x1, x2, x3, x4, x5, x6] st h = jv_ev d 162 11 [some (.ref a), x1, x2, x3, x4, x5, x6] (.ref a :: st) h := jq_nx (jv_insR jm_162 dX0_laysServe_10) rfl
theorem e162_11 : jv_ev d 162 11 lc [.ref b, y0] h = (jv_rc h b [(1, 127)]).bind fun y => (jv_cd d y [.ref b] h).bind fun r => jv_on r (fun v h => jv_ev d 162 14 lc (v.toList ++ [y0]) h) (fun q h => some (.inr q, h)) := jq_V (as := []) (rest := [y0]) (jv_insR jm_162 dX0_laysServe_11) jo_162 jV_2_156 rfl rfl rfl rfl
theorem e162_14 : jv_ev d 162 14 lc (.int w :: .int v :: st) h = if ¬ v = w then jv_ev d 162 37 lc st h else jv_ev d 162 17 lc st h := jq_if (jv_insR jm_162 dX0_laysServe_14) rfl (by decide)
theorem e162_17 : jv_ev d 162 17 [some (.ref a), x1, x2, x3, x4, x5, x6] st h = jv_ev d 162 18 [some (.ref a), x1, x2, x3, x4, x5, x6] (.ref a :: st) h := jq_nx (jv_insR jm_162 dX0_laysServe_17) rfl
theorem e162_18 : jv_ev d 162 18 [x0, x1, x2, some (.int v), x4, x5, x6] st h = jv_ev d 162 19 [x0, x1, x2, some (.int v), x4, x5, x6] (.int v :: st) h := jq_nx (jv_insR jm_162 dX0_laysServe_18) rfl
theorem e162_19 : jv_ev d 162 19 lc (r :: .ref a :: st) h = (jv_pf h a [(1, 20, .int)] r).bind fun h => jv_ev d 162 22 lc st h := jq_put (jv_insR jm_162 dX0_laysServe_19) jo_162 ji_162 jG_2_320
theorem e162_22 : jv_ev d 162 22 [some (.ref a), x1, x2, x3, x4, x5, x6] st h = jv_ev d 162 23 [some (.ref a), x1, x2, x3, x4, x5, x6] (.ref a :: st) h := jq_nx (jv_insR jm_162 dX0_laysServe_22) rfl
theorem e162_23 : jv_ev d 162 23 lc (.ref a :: st) h = (jv_gf h a [(1, 18, .array .int)]).bind fun r => jv_ev d 162 26 lc (r :: st) h := jq_get (jv_insR jm_162 dX0_laysServe_23) jo_162 jF_2_99
theorem e162_26 : jv_ev d 162 26 lc st h = jv_ev d 162 27 lc (.int 0 :: st) h := jq_iconst (jv_insR jm_162 dX0_laysServe_26) (by decide)
theorem e162_27 : jv_ev d 162 27 [some (.ref a), x1, x2, x3, x4, x5, x6] st h = jv_ev d 162 28 [some (.ref a), x1, x2, x3, x4, x5, x6] (.ref a :: st) h := jq_nx (jv_insR jm_162 dX0_laysServe_27) rfl
theorem e162_28 : jv_ev d 162 28 lc (.ref a :: st) h = (jv_gf h a [(1, 19, .array .int)]).bind fun r => jv_ev d 162 31 lc (r :: st) h := jq_get (jv_insR jm_162 dX0_laysServe_28) jo_162 jF_2_102
theorem e162_31 : jv_ev d 162 31 lc st h = jv_ev d 162 32 lc (.int 0 :: st) h := jq_iconst (jv_insR jm_162 dX0_laysServe_31) (by decide)
theorem e162_32 : jv_ev d 162 32 lc st h = jv_ev d 162 33 lc (.int 4 :: st) h := jq_iconst (jv_insR jm_162 dX0_laysServe_32) (by decide)
theorem e162_33 : jv_ev d 162 33 lc [.int w, .int v, .ref b, .int u, .ref a] h = (jv_cp h a u b v w).bind fun h => jv_ev d 162 36 lc [] h := jq_cp (jv_insR jm_162 dX0_laysServe_33) jo_162 jT_2_323 (Nat.le_of_ble_eq_true rfl)
theorem e162_36 : jv_ev d 162 36 lc [] h = some (.inl none, h) := jq_retv (jv_insR jm_162 dX0_laysServe_36) jr_162
theorem e162_37 : jv_ev d 162 37 lc st h = jv_ev d 162 38 lc (.int 0 :: st) h := jq_iconst (jv_insR jm_162 dX0_laysServe_37) (by decide)
theorem e162_38 : jv_ev d 162 38 [x0, x1, x2, x3, x4, x5, x6] (.int v :: st) h = jv_ev d 162 40 [x0, x1, x2, x3, x4, x5, some (.int v)] st h := jq_nx (jv_insR jm_162 dX0_laysServe_38) rfl
theorem e162_40 : jv_ev d 162 40 [x0, x1, x2, x3, x4, x5, some (.int v)] st h = jv_ev d 162 42 [x0, x1, x2, x3, x4, x5, some (.int v)] (.int v :: st) h := jq_nx (jv_insR jm_162 dX0_laysServe_40) rfl
theorem e162_42 : jv_ev d 162 42 [some (.ref a), x1, x2, x3, x4, x5, x6] st h = jv_ev d 162 43 [some (.ref a), x1, x2, x3, x4, x5, x6] (.ref a :: st) h := jq_nx (jv_insR jm_162 dX0_laysServe_42) rfl
theorem e162_43 : jv_ev d 162 43 lc [.ref b, y0] h = (jv_rc h b [(1, 123)]).bind fun y => (jv_cd d y [.ref b] h).bind fun r => jv_on r (fun v h => jv_ev d 162 46 lc (v.toList ++ [y0]) h) (fun q h => some (.inr q, h)) := jq_V (as := []) (rest := [y0]) (jv_insR jm_162 dX0_laysServe_43) jo_162 jV_2_196 rfl rfl rfl rfl
theorem e162_46 : jv_ev d 162 46 lc (.int w :: .int v :: st) h = if w ≤ v then jv_ev d 162 118 lc st h else jv_ev d 162 49 lc st h := jq_if (jv_insR jm_162 dX0_laysServe_46) rfl (by decide)
theorem e162_49 : jv_ev d 162 49 [x0, x1, some (.int v), x3, x4, x5, x6] st h = jv_ev d 162 50 [x0, x1, some (.int v), x3, x4, x5, x6] (.int v :: st) h := jq_nx (jv_insR jm_162 dX0_laysServe_49) rfl
theorem e162_50 : jv_ev d 162 50 [x0, x1, x2, x3, x4, x5, some (.int v)] st h = jv_ev d 162 52 [x0, x1, x2, x3, x4, x5, some (.int v)] (.int v :: st) h := jq_nx (jv_insR jm_162 dX0_laysServe_50) rfl
theorem e162_52 : jv_ev d 162 52 lc (.int w :: .int v :: st) h = jv_ev d 162 53 lc (.int (v >>> (w &&& 31)) :: st) h := jq_nx (jv_insR jm_162 dX0_laysServe_52) rfl
theorem e162_53 : jv_ev d 162 53 lc st h = jv_ev d 162 54 lc (.int 1 :: st) h := jq_iconst (jv_insR jm_162 dX0_laysServe_53) (by decide)
theorem e162_54 : jv_ev d 162 54 lc (.int w :: .int v :: st) h = jv_ev d 162 55 lc (.int (v &&& w) :: st) h := jq_nx (jv_insR jm_162 dX0_laysServe_54) rfl
theorem e162_55 : jv_ev d 162 55 lc st h = jv_ev d 162 56 lc (.int 1 :: st) h := jq_iconst (jv_insR jm_162 dX0_laysServe_55) (by decide)
theorem e162_56 : jv_ev d 162 56 lc (.int w :: .int v :: st) h = if ¬ v = w then jv_ev d 162 62 lc st h else jv_ev d 162 59 lc st h := jq_if (jv_insR jm_162 dX0_laysServe_56) rfl (by decide)
theorem e162_59 : jv_ev d 162 59 lc st h = jv_ev d 162 112 lc st h := jq_go (jv_insR jm_162 dX0_laysServe_59) (by decide)
theorem e162_62 : jv_ev d 162 62 [some (.ref a), x1, x2, x3, x4, x5, x6] st h = jv_ev d 162 63 [some (.ref a), x1, x2, x3, x4, x5, x6] (.ref a :: st) h := jq_nx (jv_insR jm_162 dX0_laysServe_62) rfl
theorem e162_63 : jv_ev d 162 63 lc (.ref a :: st) h = (jv_gf h a [(1, 18, .array .int)]).bind fun r => jv_ev d 162 66 lc (r :: st) h := jq_get (jv_insR jm_162 dX0_laysServe_63) jo_162 jF_2_99
theorem e162_66 : jv_ev d 162 66 [x0, some (.int v), x2, x3, x4, x5, x6] st h = jv_ev d 162 67 [x0, some (.int v), x2, x3, x4, x5, x6] (.int v :: st) h := jq_nx (jv_insR jm_162 dX0_laysServe_66) rfl
theorem e162_67 : jv_ev d 162 67 [x0, x1, x2, x3, x4, x5, some (.int v)] st h = jv_ev d 162 69 [x0, x1, x2, x3, x4, x5, some (.int v)] (.int v :: st) h := jq_nx (jv_insR jm_162 dX0_laysServe_67) rfl
theorem e162_69 : jv_ev d 162 69 lc (.int w :: .int v :: .ref a :: st) h = (jv_ip h a 0 0 v w).bind fun h => jv_ev d 162 70 lc st h := jq_iast (jv_insR jm_162 dX0_laysServe_69)
theorem e162_70 : jv_ev d 162 70 [some (.ref a), x1, x2, x3, x4, x5, x6] st h = jv_ev d 162 71 [some (.ref a), x1, x2, x3, x4, x5, x6] (.ref a :: st) h := jq_nx (jv_insR jm_162 dX0_laysServe_70) rfl
theorem e162_71 : jv_ev d 162 71 [x0, some (.int v), x2, x3, x4, x5, x6] st h = jv_ev d 162 72 [x0, some (.int v), x2, x3, x4, x5, x6] (.int v :: st) h := jq_nx (jv_insR jm_162 dX0_laysServe_71) rfl
theorem e162_72 : jv_ev d 162 72 lc st h = jv_ev d 162 73 lc (.int 1 :: st) h := jq_iconst (jv_insR jm_162 dX0_laysServe_72) (by decide)
theorem e162_73 : jv_ev d 162 73 lc (.int w :: .int v :: st) h = jv_ev d 162 74 lc (.int (v + w) :: st) h := jq_nx (jv_insR jm_162 dX0_laysServe_73) rfl
theorem e162_74 : jv_ev d 162 74 [x0, x1, some (.int v), x3, x4, x5, x6] st h = jv_ev d 162 75 [x0, x1, some (.int v), x3, x4, x5, x6] (.int v :: st) h := jq_nx (jv_insR jm_162 dX0_laysServe_74) rfl
theorem e162_75 : jv_ev d 162 75 lc st h = jv_ev d 162 76 lc (.int 1 :: st) h := jq_iconst (jv_insR jm_162 dX0_laysServe_75) (by decide)
theorem e162_76 : jv_ev d 162 76 [x0, x1, x2, x3, x4, x5, some (.int v)] st h = jv_ev d 162 78 [x0, x1, x2, x3, x4, x5, some (.int v)] (.int v :: st) h := jq_nx (jv_insR jm_162 dX0_laysServe_76) rfl
theorem e162_78 : jv_ev d 162 78 lc (.int w :: .int v :: st) h = jv_ev d 162 79 lc (.int (v <<< (w &&& 31)) :: st) h := jq_nx (jv_insR jm_162 dX0_laysServe_78) rfl
theorem e162_79 : jv_ev d 162 79 lc (.int w :: .int v :: st) h = jv_ev d 162 80 lc (.int (v ||| w) :: st) h := jq_nx (jv_insR jm_162 dX0_laysServe_79) rfl
theorem e162_80 : jv_ev d 162 80 [x0, x1, x2, some (.int v), x4, x5, x6] st h = jv_ev d 162 81 [x0, x1, x2, some (.int v), x4, x5, x6] (.int v :: st) h := jq_nx (jv_insR jm_162 dX0_laysServe_80) rfl
theorem e162_81 : jv_ev d 162 81 [some (.ref a), x1, x2, x3, x4, x5, x6] st h = jv_ev d 162 82 [some (.ref a), x1, x2, x3, x4, x5, x6] (.ref a :: st) h := jq_nx (jv_insR jm_162 dX0_laysServe_81) rfl
theorem e162_82 : jv_ev d 162 82 [x0, some (.int v), x2, x3, x4, x5, x6] st h = jv_ev d 162 83 [x0, some (.int v), x2, x3, x4, x5, x6] (.int v :: st) h := jq_nx (jv_insR jm_162 dX0_laysServe_82) rfl
theorem e162_83 : jv_ev d 162 83 [x0, x1, x2, x3, some (.int v), x5, x6] st h = jv_ev d 162 85 [x0, x1, x2, x3, some (.int v), x5, x6] (.int v :: st) h := jq_nx (jv_insR jm_162 dX0_laysServe_83) rfl
theorem e162_85 : jv_ev d 162 85 [x0, x1, x2, x3, x4, some (.int v), x6] st h = jv_ev d 162 87 [x0, x1, x2, x3, x4, some (.int v), x6] (.int v :: st) h := jq_nx (jv_insR jm_162 dX0_laysServe_85) rfl
theorem e162_87 : jv_ev d 162 87 lc st h = jv_ev d 162 88 lc (.int 0 :: st) h := jq_iconst (jv_insR jm_162 dX0_laysServe_87) (by decide)
theorem e162_88 : jv_ev d 162 88 lc [z3, z2, z1, z0, .ref b, y0, y1, y2, y3] h = (jv_rc h b [(1, 143)]).bind fun y => (jv_cd d y [.ref b, z0, z1, z2, z3] h).bind fun r => jv_on r (fun v h => jv_ev d 162 91 lc (v.toList ++ [y0, y1, y2, y3]) h) (fun q h => some (.inr q, h)) := jq_V (as := [z0, z1, z2, z3]) (rest := [y0, y1, y2, y3]) (jv_insR jm_162 dX0_laysServe_88) jo_162 jV_2_272 rfl rfl rfl rfl
theorem e162_91 : jv_ev d 162 91 [some (.ref a), x1, x2, x3, x4, x5, x6] st h = jv_ev d 162 92 [some (.ref a), x1, x2, x3, x4, x5, x6] (.ref a :: st) h := jq_nx (jv_insR jm_162 dX0_laysServe_91) rfl
theorem e162_92 : jv_ev d 162 92 lc (.ref a :: st) h = (jv_gf h a [(1, 3, .object "RainLoom$Text")]).bind fun r => jv_ev d 162 95 lc (r :: st) h := jq_get (jv_insR jm_162 dX0_laysServe_92) jo_162 jF_2_40
theorem e162_95 : jv_ev d 162 95 [x0, x1, x2, x3, x4, x5, some (.int v)] st h = jv_ev d 162 97 [x0, x1, x2, x3, x4, x5, some (.int v)] (.int v :: st) h := jq_nx (jv_insR jm_162 dX0_laysServe_95) rfl
theorem e162_97 (hs : jv_sm [y0, y1, y2, y3, y4] = true) : jv_ev d 162 97 lc [z0, .ref b, y0, y1, y2, y3, y4] h = (jv_rc h b [(5, 215)]).bind fun y => (jv_cd d y [.ref b, z0] h).bind fun r => jv_on r (fun v h => jv_ev d 162 100 lc (v.toList ++ [y0, y1, y2, y3, y4]) h) (fun q h => some (.inr q, h)) := jq_V (as := [z0]) (rest := [y0, y1, y2, y3, y4]) (jv_insR jm_162 dX0_laysServe_97) jo_162 jV_2_207 rfl rfl hs rfl
theorem e162_100 : jv_ev d 162 100 lc (.int w :: .int v :: st) h = jv_ev d 162 101 lc (.int (v - w) :: st) h := jq_nx (jv_insR jm_162 dX0_laysServe_100) rfl
theorem e162_101 : jv_ev d 162 101 lc [z0, y0, y1, y2, y3] h = (jv_cd d 310 [z0] h).bind fun r => jv_on r (fun v h => jv_ev d 162 104 lc (v.toList ++ [y0, y1, y2, y3]) h) (fun q h => some (.inr q, h)) := jq_S (as := [z0]) (rest := [y0, y1, y2, y3]) (jv_insR jm_162 dX0_laysServe_101) jo_162 jT_2_329 rfl rfl rfl rfl
theorem e162_104 : jv_ev d 162 104 lc (.int w :: .int v :: st) h = jv_ev d 162 105 lc (.int (v + w) :: st) h := jq_nx (jv_insR jm_162 dX0_laysServe_104) rfl
theorem e162_105 : jv_ev d 162 105 [x0, x1, x2, x3, some (.int v), x5, x6] st h = jv_ev d 162 107 [x0, x1, x2, x3, some (.int v), x5, x6] (.int v :: st) h := jq_nx (jv_insR jm_162 dX0_laysServe_105) rfl
theorem e162_107 : jv_ev d 162 107 [x0, x1, x2, x3, x4, some (.int v), x6] st h = jv_ev d 162 109 [x0, x1, x2, x3, x4, some (.int v), x6] (.int v :: st) h := jq_nx (jv_insR jm_162 dX0_laysServe_107) rfl
theorem e162_109 : jv_ev d 162 109 lc [z4, z3, z2, z1, z0, .ref b] h = (jv_rc h b [(1, 162)]).bind fun y => (jv_cd d y [.ref b, z0, z1, z2, z3, z4] h).bind fun r => jv_on r (fun v h => jv_ev d 162 112 lc (v.toList ++ []) h) (fun q h => some (.inr q, h)) := jq_V (as := [z0, z1, z2, z3, z4]) (rest := []) (jv_insR jm_162 dX0_laysServe_109) jo_162 jV_2_332 rfl rfl rfl rfl
theorem e162_112 : jv_ev d 162 112 [x0, x1, x2, x3, x4, x5, some (.int v)] st h = jv_ev d 162 115 [x0, x1, x2, x3, x4, x5, some (.int (v + 1))] st h := jq_nx (jv_insR jm_162 dX0_laysServe_112) rfl
theorem e162_115 : jv_ev d 162 115 lc st h = jv_ev d 162 40 lc st h := jq_go (jv_insR jm_162 dX0_laysServe_115) (by decide)
theorem e162_118 : jv_ev d 162 118 lc [] h = some (.inl none, h) := jq_retv (jv_insR jm_162 dX0_laysServe_118) jr_162
/-! 163: RainLoom.suits(III)I -/
theorem n163 : jv_cd (d + 1) 163 [.ref a0, .int i1, .int i2, .int i3] h = jv_ev d 163 0 [some (.ref a0), some (.int i1), some (.int i2), some (.int i3), none, none, none, none] [] h := rfl
theorem e163_0 : jv_ev d 163 0 [x0, some (.int v), x2, x3, x4, x5, x6, x7] st h = jv_ev d 163 1 [x0, some (.int v), x2, x3, x4, x5, x6, x7] (.int v :: st) h := jq_nx (jv_insR jm_163 dX0_suits_0) rfl
theorem e163_1 : jv_ev d 163 1 lc st h = jv_ev d 163 2 lc (.int 0 :: st) h := jq_iconst (jv_insR jm_163 dX0_suits_1) (by decide)
theorem e163_2 : jv_ev d 163 2 [some (.ref a), x1, x2, x3, x4, x5, x6, x7] st h = jv_ev d 163 3 [some (.ref a), x1, x2, x3, x4, x5, x6, x7] (.ref a :: st) h := jq_nx (jv_insR jm_163 dX0_suits_2) rfl
theorem e163_3 : jv_ev d 163 3 lc [.ref b, y0, y1] h = (jv_rc h b [(1, 123)]).bind fun y => (jv_cd d y [.ref b] h).bind fun r => jv_on r (fun v h => jv_ev d 163 6 lc (v.toList ++ [y0, y1]) h) (fun q h => some (.inr q, h)) := jq_V (as := []) (rest := [y0, y1]) (jv_insR jm_163 dX0_suits_3) jo_163 jV_2_196 rfl rfl rfl rfl
theorem e163_6 : jv_ev d 163 6 lc st h = jv_ev d 163 7 lc (.int 1 :: st) h := jq_iconst (jv_insR jm_163 dX0_suits_6) (by decide)
theorem e163_7 : jv_ev d 163 7 lc (.int w :: .int v :: st) h = jv_ev d 163 8 lc (.int (v - w) :: st) h := jq_nx (jv_insR jm_163 dX0_suits_7) rfl
theorem e163_8 : jv_ev d 163 8 lc [z2, z1, z0] h = (jv_cd d 124 [z0, z1, z2] h).bind fun r => jv_on r (fun v h => jv_ev d 163 11 lc (v.toList ++ []) h) (fun q h => some (.inr q, h)) := jq_S (as := [z0, z1, z2]) (rest := []) (jv_insR jm_163 dX0_suits_8) jo_163 jT_2_158 rfl rfl rfl rfl
theorem e163_11 : jv_ev d 163 11 lc (.int v :: st) h = if v = 0 then jv_ev d 163 34 lc st h else jv_ev d 163 14 lc st h := jq_if (jv_insR jm_163 dX0_suits_11) rfl (by decide)
theorem e163_14 : jv_ev d 163 14 [x0, x1, some (.int v), x3, x4, x5, x6, x7] st h = jv_ev d 163 15 [x0, x1, some (.int v), x3, x4, x5, x6, x7] (.int v :: st) h := jq_nx (jv_insR jm_163 dX0_suits_14) rfl
theorem e163_15 : jv_ev d 163 15 lc st h = jv_ev d 163 16 lc (.int 1 :: st) h := jq_iconst (jv_insR jm_163 dX0_suits_15) (by decide)
theorem e163_16 : jv_ev d 163 16 lc st h = jv_ev d 163 18 lc (.int 8 :: st) h := jq_bipush (jv_insR jm_163 dX0_suits_16) (by decide)
theorem e163_18 : jv_ev d 163 18 lc [z2, z1, z0] h = (jv_cd d 124 [z0, z1, z2] h).bind fun r => jv_on r (fun v h => jv_ev d 163 21 lc (v.toList ++ []) h) (fun q h => some (.inr q, h)) := jq_S (as := [z0, z1, z2]) (rest := []) (jv_insR jm_163 dX0_suits_18) jo_163 jT_2_158 rfl rfl rfl rfl
theorem e163_21 : jv_ev d 163 21 lc (.int v :: st) h = if v = 0 then jv_ev d 163 34 lc st h else jv_ev d 163 24 lc st h := jq_if (jv_insR jm_163 dX0_suits_21) rfl (by decide)
theorem e163_24 : jv_ev d 163 24 [x0, x1, x2, some (.int v), x4, x5, x6, x7] st h = jv_ev d 163 25 [x0, x1, x2, some (.int v), x4, x5, x6, x7] (.int v :: st) h := jq_nx (jv_insR jm_163 dX0_suits_24) rfl
theorem e163_25 : jv_ev d 163 25 lc st h = jv_ev d 163 26 lc (.int 1 :: st) h := jq_iconst (jv_insR jm_163 dX0_suits_25) (by decide)
theorem e163_26 : jv_ev d 163 26 lc st h = jv_ev d 163 28 lc (.int 6 :: st) h := jq_bipush (jv_insR jm_163 dX0_suits_26) (by decide)
theorem e163_28 : jv_ev d 163 28 lc [z2, z1, z0] h = (jv_cd d 124 [z0, z1, z2] h).bind fun r => jv_on r (fun v h => jv_ev d 163 31 lc (v.toList ++ []) h) (fun q h => some (.inr q, h)) := jq_S (as := [z0, z1, z2]) (rest := []) (jv_insR jm_163 dX0_suits_28) jo_163 jT_2_158 rfl rfl rfl rfl
theorem e163_31 : jv_ev d 163 31 lc (.int v :: st) h = if ¬ v = 0 then jv_ev d 163 36 lc st h else jv_ev d 163 34 lc st h := jq_if (jv_insR jm_163 dX0_suits_31) rfl (by decide)
theorem e163_34 : jv_ev d 163 34 lc st h = jv_ev d 163 35 lc (.int (-1) :: st) h := jq_iconst (jv_insR jm_163 dX0_suits_34) (by decide)
theorem e163_35 : jv_ev d 163 35 lc [.int v] h = some (.inl (some (.int v)), h) := jq_reti (jv_insR jm_163 dX0_suits_35) jr_163
theorem e163_36 : jv_ev d 163 36 lc st h = jv_ev d 163 38 lc (.int (-2) :: st) h := jq_bipush (jv_insR jm_163 dX0_suits_36) (by decide)
theorem e163_38 : jv_ev d 163 38 [x0, x1, x2, x3, x4, x5, x6, x7] (.int v :: st) h = jv_ev d 163 40 [x0, x1, x2, x3, some (.int v), x5, x6, x7] st h := jq_nx (jv_insR jm_163 dX0_suits_38) rfl
theorem e163_40 : jv_ev d 163 40 lc st h = jv_ev d 163 43 lc (.int (1000000) :: st) h := jq_ldcw (jv_insR jm_163 dX0_suits_40) jo_163 jK_2_308
theorem e163_43 : jv_ev d 163 43 [x0, x1, x2, x3, x4, x5, x6, x7] (.int v :: st) h = jv_ev d 163 45 [x0, x1, x2, x3, x4, some (.int v), x6, x7] st h := jq_nx (jv_insR jm_163 dX0_suits_43) rfl
theorem e163_45 : jv_ev d 163 45 lc st h = jv_ev d 163 46 lc (.int 0 :: st) h := jq_iconst (jv_insR jm_163 dX0_suits_45) (by decide)
theorem e163_46 : jv_ev d 163 46 [x0, x1, x2, x3, x4, x5, x6, x7] (.int v :: st) h = jv_ev d 163 48 [x0, x1, x2, x3, x4, x5, some (.int v), x7] st h := jq_nx (jv_insR jm_163 dX0_suits_46) rfl
theorem e163_48 : jv_ev d 163 48 [x0, x1, x2, x3, x4, x5, some (.int v), x7] st h = jv_ev d 163 50 [x0, x1, x2, x3, x4, x5, some (.int v), x7] (.int v :: st) h := jq_nx (jv_insR jm_163 dX0_suits_48) rfl
theorem e163_50 : jv_ev d 163 50 [some (.ref a), x1, x2, x3, x4, x5, x6, x7] st h = jv_ev d 163 51 [some (.ref a), x1, x2, x3, x4, x5, x6, x7] (.ref a :: st) h := jq_nx (jv_insR jm_163 dX0_suits_50) rfl
theorem e163_51 : jv_ev d 163 51 lc [.ref b, y0] h = (jv_rc h b [(1, 127)]).bind fun y => (jv_cd d y [.ref b] h).bind fun r => jv_on r (fun v h => jv_ev d 163 54 lc (v.toList ++ [y0]) h) (fun q h => some (.inr q, h)) := jq_V (as := []) (rest := [y0]) (jv_insR jm_163 dX0_suits_51) jo_163 jV_2_156 rfl rfl rfl rfl
theorem e163_54 : jv_ev d 163 54 lc (.int w :: .int v :: st) h = if w ≤ v then jv_ev d 163 120 lc st h else jv_ev d 163 57 lc st h := jq_if (jv_insR jm_163 dX0_suits_54) rfl (by decide)
theorem e163_57 : jv_ev d 163 57 [x0, x1, some (.int v), x3, x4, x5, x6, x7] st h = jv_ev d 163 58 [x0, x1, some (.int v), x3, x4, x5, x6, x7] (.int v :: st) h := jq_nx (jv_insR jm_163 dX0_suits_57) rfl
theorem e163_58 : jv_ev d 163 58 [some (.ref a), x1, x2, x3, x4, x5, x6, x7] st h = jv_ev d 163 59 [some (.ref a), x1, x2, x3, x4, x5, x6, x7] (.ref a :: st) h := jq_nx (jv_insR jm_163 dX0_suits_58) rfl
theorem e163_59 : jv_ev d 163 59 [x0, x1, x2, x3, x4, x5, some (.int v), x7] st h = jv_ev d 163 61 [x0, x1, x2, x3, x4, x5, some (.int v), x7] (.int v :: st) h := jq_nx (jv_insR jm_163 dX0_suits_59) rfl
theorem e163_61 : jv_ev d 163 61 lc [z0, .ref b, y0] h = (jv_rc h b [(1, 128)]).bind fun y => (jv_cd d y [.ref b, z0] h).bind fun r => jv_on r (fun v h => jv_ev d 163 64 lc (v.toList ++ [y0]) h) (fun q h => some (.inr q, h)) := jq_V (as := [z0]) (rest := [y0]) (jv_insR jm_163 dX0_suits_61) jo_163 jV_2_175 rfl rfl rfl rfl
theorem e163_64 : jv_ev d 163 64 lc (.int w :: .int v :: st) h = if v ≤ w then jv_ev d 163 73 lc st h else jv_ev d 163 67 lc st h := jq_if (jv_insR jm_163 dX0_suits_64) rfl (by decide)
theorem e163_67 : jv_ev d 163 67 lc st h = jv_ev d 163 70 lc (.int (1000000) :: st) h := jq_ldcw (jv_insR jm_163 dX0_suits_67) jo_163 jK_2_308
theorem e163_70 : jv_ev d 163 70 lc st h = jv_ev d 163 94 lc st h := jq_go (jv_insR jm_163 dX0_suits_70) (by decide)
theorem e163_73 : jv_ev d 163 73 [some (.ref a), x1, x2, x3, x4, x5, x6, x7] st h = jv_ev d 163 74 [some (.ref a), x1, x2, x3, x4, x5, x6, x7] (.ref a :: st) h := jq_nx (jv_insR jm_163 dX0_suits_73) rfl
theorem e163_74 : jv_ev d 163 74 [x0, x1, x2, x3, x4, x5, some (.int v), x7] st h = jv_ev d 163 76 [x0, x1, x2, x3, x4, x5, some (.int v), x7] (.int v :: st) h := jq_nx (jv_insR jm_163 dX0_suits_74) rfl
theorem e163_76 : jv_ev d 163 76 [x0, x1, some (.int v), x3, x4, x5, x6, x7] st h = jv_ev d 163 77 [x0, x1, some (.int v), x3, x4, x5, x6, x7] (.int v :: st) h := jq_nx (jv_insR jm_163 dX0_suits_76) rfl
theorem e163_77 : jv_ev d 163 77 [x0, x1, x2, some (.int v), x4, x5, x6, x7] st h = jv_ev d 163 78 [x0, x1, x2, some (.int v), x4, x5, x6, x7] (.int v :: st) h := jq_nx (jv_insR jm_163 dX0_suits_77) rfl
theorem e163_78 : jv_ev d 163 78 lc st h = jv_ev d 163 79 lc (.int 0 :: st) h := jq_iconst (jv_insR jm_163 dX0_suits_78) (by decide)
theorem e163_79 : jv_ev d 163 79 lc [z3, z2, z1, z0, .ref b] h = (jv_rc h b [(1, 143)]).bind fun y => (jv_cd d y [.ref b, z0, z1, z2, z3] h).bind fun r => jv_on r (fun v h => jv_ev d 163 82 lc (v.toList ++ []) h) (fun q h => some (.inr q, h)) := jq_V (as := [z0, z1, z2, z3]) (rest := []) (jv_insR jm_163 dX0_suits_79) jo_163 jV_2_272 rfl rfl rfl rfl
theorem e163_82 : jv_ev d 163 82 [some (.ref a), x1, x2, x3, x4, x5, x6, x7] st h = jv_ev d 163 83 [some (.ref a), x1, x2, x3, x4, x5, x6, x7] (.ref a :: st) h := jq_nx (jv_insR jm_163 dX0_suits_82) rfl
theorem e163_83 : jv_ev d 163 83 lc (.ref a :: st) h = (jv_gf h a [(1, 3, .object "RainLoom$Text")]).bind fun r => jv_ev d 163 86 lc (r :: st) h := jq_get (jv_insR jm_163 dX0_suits_83) jo_163 jF_2_40
theorem e163_86 : jv_ev d 163 86 [x0, some (.int v), x2, x3, x4, x5, x6, x7] st h = jv_ev d 163 87 [x0, some (.int v), x2, x3, x4, x5, x6, x7] (.int v :: st) h := jq_nx (jv_insR jm_163 dX0_suits_86) rfl
theorem e163_87 : jv_ev d 163 87 lc [z0, .ref b, y0] h = (jv_rc h b [(5, 215)]).bind fun y => (jv_cd d y [.ref b, z0] h).bind fun r => jv_on r (fun v h => jv_ev d 163 90 lc (v.toList ++ [y0]) h) (fun q h => some (.inr q, h)) := jq_V (as := [z0]) (rest := [y0]) (jv_insR jm_163 dX0_suits_87) jo_163 jV_2_207 rfl rfl rfl rfl
theorem e163_90 : jv_ev d 163 90 lc (.int w :: .int v :: st) h = jv_ev d 163 91 lc (.int (v - w) :: st) h := jq_nx (jv_insR jm_163 dX0_suits_90) rfl
theorem e163_91 : jv_ev d 163 91 lc [z0] h = (jv_cd d 310 [z0] h).bind fun r => jv_on r (fun v h => jv_ev d 163 94 lc (v.toList ++ []) h) (fun q h => some (.inr q, h)) := jq_S (as := [z0]) (rest := []) (jv_insR jm_163 dX0_suits_91) jo_163 jT_2_329 rfl rfl rfl rfl
theorem e163_94 : jv_ev d 163 94 [x0, x1, x2, x3, x4, x5, x6, x7] (.int v :: st) h = jv_ev d 163 96 [x0, x1, x2, x3, x4, x5, x6, some (.int v)] st h := jq_nx (jv_insR jm_163 dX0_suits_94) rfl
theorem e163_96 : jv_ev d 163 96 [x0, x1, x2, x3, x4, x5, x6, some (.int v)] st h = jv_ev d 163 98 [x0, x1, x2, x3, x4, x5, x6, some (.int v)] (.int v :: st) h := jq_nx (jv_insR jm_163 dX0_suits_96) rfl
theorem e163_98 : jv_ev d 163 98 [x0, x1, x2, x3, x4, some (.int v), x6, x7] st h = jv_ev d 163 100 [x0, x1, x2, x3, x4, some (.int v), x6, x7] (.int v :: st) h := jq_nx (jv_insR jm_163 dX0_suits_98) rfl
theorem e163_100 : jv_ev d 163 100 lc (.int w :: .int v :: st) h = if v < w then jv_ev d 163 106 lc st h else jv_ev d 163 103 lc st h := jq_if (jv_insR jm_163 dX0_suits_100) rfl (by decide)
theorem e163_103 : jv_ev d 163 103 lc st h = jv_ev d 163 114 lc st h := jq_go (jv_insR jm_163 dX0_suits_103) (by decide)
theorem e163_106 : jv_ev d 163 106 [x0, x1, x2, x3, x4, x5, some (.int v), x7] st h = jv_ev d 163 108 [x0, x1, x2, x3, x4, x5, some (.int v), x7] (.int v :: st) h := jq_nx (jv_insR jm_163 dX0_suits_106) rfl
theorem e163_108 : jv_ev d 163 108 [x0, x1, x2, x3, x4, x5, x6, x7] (.int v :: st) h = jv_ev d 163 110 [x0, x1, x2, x3, some (.int v), x5, x6, x7] st h := jq_nx (jv_insR jm_163 dX0_suits_108) rfl
theorem e163_110 : jv_ev d 163 110 [x0, x1, x2, x3, x4, x5, x6, some (.int v)] st h = jv_ev d 163 112 [x0, x1, x2, x3, x4, x5, x6, some (.int v)] (.int v :: st) h := jq_nx (jv_insR jm_163 dX0_suits_110) rfl
theorem e163_112 : jv_ev d 163 112 [x0, x1, x2, x3, x4, x5, x6, x7] (.int v :: st) h = jv_ev d 163 114 [x0, x1, x2, x3, x4, some (.int v), x6, x7] st h := jq_nx (jv_insR jm_163 dX0_suits_112) rfl
theorem e163_114 : jv_ev d 163 114 [x0, x1, x2, x3, x4, x5, some (.int v), x7] st h = jv_ev d 163 117 [x0, x1, x2, x3, x4, x5, some (.int (v + 1)), x7] st h := jq_nx (jv_insR jm_163 dX0_suits_114) rfl
theorem e163_117 : jv_ev d 163 117 lc st h = jv_ev d 163 48 lc st h := jq_go (jv_insR jm_163 dX0_suits_117) (by decide)
theorem e163_120 : jv_ev d 163 120 [x0, x1, x2, x3, some (.int v), x5, x6, x7] st h = jv_ev d 163 122 [x0, x1, x2, x3, some (.int v), x5, x6, x7] (.int v :: st) h := jq_nx (jv_insR jm_163 dX0_suits_120) rfl
theorem e163_122 : jv_ev d 163 122 lc [.int v] h = some (.inl (some (.int v)), h) := jq_reti (jv_insR jm_163 dX0_suits_122) jr_163
/-! 164: RainLoom.now(IZ)I -/
theorem n164 : jv_cd (d + 1) 164 [.ref a0, .int i1, .int i2] h = jv_ev d 164 0 [some (.ref a0), some (.int i1), some (.int i2), none, none] [] h := rfl
theorem e164_0 : jv_ev d 164 0 [x0, some (.int v), x2, x3, x4] st h = jv_ev d 164 1 [x0, some (.int v), x2, x3, x4] (.int v :: st) h := jq_nx (jv_insR jm_164 dX0_now_0) rfl
theorem e164_1 : jv_ev d 164 1 lc st h = jv_ev d 164 2 lc (.int 0 :: st) h := jq_iconst (jv_insR jm_164 dX0_now_1) (by decide)
theorem e164_2 : jv_ev d 164 2 [some (.ref a), x1, x2, x3, x4] st h = jv_ev d 164 3 [some (.ref a), x1, x2, x3, x4] (.ref a :: st) h := jq_nx (jv_insR jm_164 dX0_now_2) rfl
theorem e164_3 : jv_ev d 164 3 lc [.ref b, y0, y1] h = (jv_rc h b [(1, 123)]).bind fun y => (jv_cd d y [.ref b] h).bind fun r => jv_on r (fun v h => jv_ev d 164 6 lc (v.toList ++ [y0, y1]) h) (fun q h => some (.inr q, h)) := jq_V (as := []) (rest := [y0, y1]) (jv_insR jm_164 dX0_now_3) jo_164 jV_2_196 rfl rfl rfl rfl
theorem e164_6 : jv_ev d 164 6 lc st h = jv_ev d 164 7 lc (.int 1 :: st) h := jq_iconst (jv_insR jm_164 dX0_now_6) (by decide)
theorem e164_7 : jv_ev d 164 7 lc (.int w :: .int v :: st) h = jv_ev d 164 8 lc (.int (v - w) :: st) h := jq_nx (jv_insR jm_164 dX0_now_7) rfl
theorem e164_8 : jv_ev d 164 8 lc [z2, z1, z0] h = (jv_cd d 124 [z0, z1, z2] h).bind fun r => jv_on r (fun v h => jv_ev d 164 11 lc (v.toList ++ []) h) (fun q h => some (.inr q, h)) := jq_S (as := [z0, z1, z2]) (rest := []) (jv_insR jm_164 dX0_now_8) jo_164 jT_2_158 rfl rfl rfl rfl
theorem e164_11 : jv_ev d 164 11 lc (.int v :: st) h = if ¬ v = 0 then jv_ev d 164 16 lc st h else jv_ev d 164 14 lc st h := jq_if (jv_insR jm_164 dX0_now_11) rfl (by decide)
theorem e164_14 : jv_ev d 164 14 lc st h = jv_ev d 164 15 lc (.int (-1) :: st) h := jq_iconst (jv_insR jm_164 dX0_now_14) (by decide)
theorem e164_15 : jv_ev d 164 15 lc [.int v] h = some (.inl (some (.int v)), h) := jq_reti (jv_insR jm_164 dX0_now_15) jr_164
theorem e164_16 : jv_ev d 164 16 lc st h = jv_ev d 164 17 lc (.int 0 :: st) h := jq_iconst (jv_insR jm_164 dX0_now_16) (by decide)
theorem e164_17 : jv_ev d 164 17 [x0, x1, x2, x3, x4] (.int v :: st) h = jv_ev d 164 18 [x0, x1, x2, some (.int v), x4] st h := jq_nx (jv_insR jm_164 dX0_now_17) rfl
theorem e164_18 : jv_ev d 164 18 lc st h = jv_ev d 164 19 lc (.int 0 :: st) h := jq_iconst (jv_insR jm_164 dX0_now_18) (by decide)
theorem e164_19 : jv_ev d 164 19 [x0, x1, x2, x3, x4] (.int v :: st) h = jv_ev d 164 21 [x0, x1, x2, x3, some (.int v)] st h := jq_nx (jv_insR jm_164 dX0_now_19) rfl
theorem e164_21 : jv_ev d 164 21 [x0, x1, x2, x3, some (.int v)] st h = jv_ev d 164 23 [x0, x1, x2, x3, some (.int v)] (.int v :: st) h := jq_nx (jv_insR jm_164 dX0_now_21) rfl
theorem e164_23 : jv_ev d 164 23 lc st h = jv_ev d 164 25 lc (.int 48 :: st) h := jq_bipush (jv_insR jm_164 dX0_now_23) (by decide)
theorem e164_25 : jv_ev d 164 25 lc (.int w :: .int v :: st) h = if w ≤ v then jv_ev d 164 107 lc st h else jv_ev d 164 28 lc st h := jq_if (jv_insR jm_164 dX0_now_25) rfl (by decide)
theorem e164_28 : jv_ev d 164 28 [x0, x1, x2, some (.int v), x4] st h = jv_ev d 164 29 [x0, x1, x2, some (.int v), x4] (.int v :: st) h := jq_nx (jv_insR jm_164 dX0_now_28) rfl
theorem e164_29 : jv_ev d 164 29 [some (.ref a), x1, x2, x3, x4] st h = jv_ev d 164 30 [some (.ref a), x1, x2, x3, x4] (.ref a :: st) h := jq_nx (jv_insR jm_164 dX0_now_29) rfl
theorem e164_30 : jv_ev d 164 30 lc (.ref a :: st) h = (jv_gf h a [(1, 3, .object "RainLoom$Text")]).bind fun r => jv_ev d 164 33 lc (r :: st) h := jq_get (jv_insR jm_164 dX0_now_30) jo_164 jF_2_40
theorem e164_33 : jv_ev d 164 33 [x0, x1, x2, x3, some (.int v)] st h = jv_ev d 164 35 [x0, x1, x2, x3, some (.int v)] (.int v :: st) h := jq_nx (jv_insR jm_164 dX0_now_33) rfl
theorem e164_35 : jv_ev d 164 35 lc [z0, .ref b, y0] h = (jv_rc h b [(5, 211)]).bind fun y => (jv_cd d y [.ref b, z0] h).bind fun r => jv_on r (fun v h => jv_ev d 164 38 lc (v.toList ++ [y0]) h) (fun q h => some (.inr q, h)) := jq_V (as := [z0]) (rest := [y0]) (jv_insR jm_164 dX0_now_35) jo_164 jV_2_198 rfl rfl rfl rfl
theorem e164_38 : jv_ev d 164 38 lc (.int v :: st) h = if v = 0 then jv_ev d 164 98 lc st h else jv_ev d 164 41 lc st h := jq_if (jv_insR jm_164 dX0_now_38) rfl (by decide)
theorem e164_41 : jv_ev d 164 41 [some (.ref a), x1, x2, x3, x4] st h = jv_ev d 164 42 [some (.ref a), x1, x2, x3, x4] (.ref a :: st) h := jq_nx (jv_insR jm_164 dX0_now_41) rfl
theorem e164_42 : jv_ev d 164 42 lc (.ref a :: st) h = (jv_gf h a [(1, 3, .object "RainLoom$Text")]).bind fun r => jv_ev d 164 45 lc (r :: st) h := jq_get (jv_insR jm_164 dX0_now_42) jo_164 jF_2_40
theorem e164_45 : jv_ev d 164 45 lc (.ref a :: st) h = (jv_gf h a [(5, 0, .array .int)]).bind fun r => jv_ev d 164 48 lc (r :: st) h := jq_get (jv_insR jm_164 dX0_now_45) jo_164 jF_2_183
theorem e164_48 : jv_ev d 164 48 [x0, x1, x2, x3, some (.int v)] st h = jv_ev d 164 50 [x0, x1, x2, x3, some (.int v)] (.int v :: st) h := jq_nx (jv_insR jm_164 dX0_now_48) rfl
theorem e164_50 : jv_ev d 164 50 lc (.int v :: .ref a :: st) h = (jv_ig h a 0 0 v).bind fun w => jv_ev d 164 51 lc (.int w :: st) h := jq_iald (jv_insR jm_164 dX0_now_50)
theorem e164_51 : jv_ev d 164 51 [x0, some (.int v), x2, x3, x4] st h = jv_ev d 164 52 [x0, some (.int v), x2, x3, x4] (.int v :: st) h := jq_nx (jv_insR jm_164 dX0_now_51) rfl
theorem e164_52 : jv_ev d 164 52 lc (.int w :: .int v :: st) h = if ¬ v = w then jv_ev d 164 98 lc st h else jv_ev d 164 55 lc st h := jq_if (jv_insR jm_164 dX0_now_52) rfl (by decide)
theorem e164_55 : jv_ev d 164 55 [x0, x1, some (.int v), x3, x4] st h = jv_ev d 164 56 [x0, x1, some (.int v), x3, x4] (.int v :: st) h := jq_nx (jv_insR jm_164 dX0_now_55) rfl
theorem e164_56 : jv_ev d 164 56 lc (.int v :: st) h = if v = 0 then jv_ev d 164 78 lc st h else jv_ev d 164 59 lc st h := jq_if (jv_insR jm_164 dX0_now_56) rfl (by decide)
theorem e164_59 : jv_ev d 164 59 [some (.ref a), x1, x2, x3, x4] st h = jv_ev d 164 60 [some (.ref a), x1, x2, x3, x4] (.ref a :: st) h := jq_nx (jv_insR jm_164 dX0_now_59) rfl
theorem e164_60 : jv_ev d 164 60 lc (.ref a :: st) h = (jv_gf h a [(1, 7, .object "RainLoom$Land")]).bind fun r => jv_ev d 164 63 lc (r :: st) h := jq_get (jv_insR jm_164 dX0_now_60) jo_164 jF_2_51
theorem e164_63 : jv_ev d 164 63 [some (.ref a), x1, x2, x3, x4] st h = jv_ev d 164 64 [some (.ref a), x1, x2, x3, x4] (.ref a :: st) h := jq_nx (jv_insR jm_164 dX0_now_63) rfl
theorem e164_64 : jv_ev d 164 64 lc (.ref a :: st) h = (jv_gf h a [(1, 3, .object "RainLoom$Text")]).bind fun r => jv_ev d 164 67 lc (r :: st) h := jq_get (jv_insR jm_164 dX0_now_64) jo_164 jF_2_40
theorem e164_67 : jv_ev d 164 67 [x0, x1, x2, x3, some (.int v)] st h = jv_ev d 164 69 [x0, x1, x2, x3, some (.int v)] (.int v :: st) h := jq_nx (jv_insR jm_164 dX0_now_67) rfl
theorem e164_69 : jv_ev d 164 69 lc [z1, z0, .ref b, y0] h = (jv_rc h b [(6, 220)]).bind fun y => (jv_cd d y [.ref b, z0, z1] h).bind fun r => jv_on r (fun v h => jv_ev d 164 72 lc (v.toList ++ [y0]) h) (fun q h => some (.inr q, h)) := jq_V (as := [z0, z1]) (rest := [y0]) (jv_insR jm_164 dX0_now_69) jo_164 jV_2_193 rfl rfl rfl rfl
theorem e164_72 : jv_ev d 164 72 lc (.int v :: st) h = if v = 0 then jv_ev d 164 98 lc st h else jv_ev d 164 75 lc st h := jq_if (jv_insR jm_164 dX0_now_72) rfl (by decide)
theorem e164_75 : jv_ev d 164 75 lc st h = jv_ev d 164 94 lc st h := jq_go (jv_insR jm_164 dX0_now_75) (by decide)
theorem e164_78 : jv_ev d 164 78 [some (.ref a), x1, x2, x3, x4] st h = jv_ev d 164 79 [some (.ref a), x1, x2, x3, x4] (.ref a :: st) h := jq_nx (jv_insR jm_164 dX0_now_78) rfl
theorem e164_79 : jv_ev d 164 79 lc (.ref a :: st) h = (jv_gf h a [(1, 7, .object "RainLoom$Land")]).bind fun r => jv_ev d 164 82 lc (r :: st) h := jq_get (jv_insR jm_164 dX0_now_79) jo_164 jF_2_51
theorem e164_82 : jv_ev d 164 82 [some (.ref a), x1, x2, x3, x4] st h = jv_ev d 164 83 [some (.ref a), x1, x2, x3, x4] (.ref a :: st) h := jq_nx (jv_insR jm_164 dX0_now_82) rfl
theorem e164_83 : jv_ev d 164 83 lc (.ref a :: st) h = (jv_gf h a [(1, 3, .object "RainLoom$Text")]).bind fun r => jv_ev d 164 86 lc (r :: st) h := jq_get (jv_insR jm_164 dX0_now_83) jo_164 jF_2_40
theorem e164_86 : jv_ev d 164 86 [x0, x1, x2, x3, some (.int v)] st h = jv_ev d 164 88 [x0, x1, x2, x3, some (.int v)] (.int v :: st) h := jq_nx (jv_insR jm_164 dX0_now_86) rfl
theorem e164_88 : jv_ev d 164 88 lc [z1, z0, .ref b, y0] h = (jv_rc h b [(6, 219)]).bind fun y => (jv_cd d y [.ref b, z0, z1] h).bind fun r => jv_on r (fun v h => jv_ev d 164 91 lc (v.toList ++ [y0]) h) (fun q h => some (.inr q, h)) := jq_V (as := [z0, z1]) (rest := [y0]) (jv_insR jm_164 dX0_now_88) jo_164 jV_2_189 rfl rfl rfl rfl
theorem e164_91 : jv_ev d 164 91 lc (.int v :: st) h = if v = 0 then jv_ev d 164 98 lc st h else jv_ev d 164 94 lc st h := jq_if (jv_insR jm_164 dX0_now_91) rfl (by decide)
theorem e164_94 : jv_ev d 164 94 lc st h = jv_ev d 164 95 lc (.int 1 :: st) h := jq_iconst (jv_insR jm_164 dX0_now_94) (by decide)
theorem e164_95 : jv_ev d 164 95 lc st h = jv_ev d 164 99 lc st h := jq_go (jv_insR jm_164 dX0_now_95) (by decide)
theorem e164_98 : jv_ev d 164 98 lc st h = jv_ev d 164 99 lc (.int 0 :: st) h := jq_iconst (jv_insR jm_164 dX0_now_98) (by decide)
theorem e164_99 : jv_ev d 164 99 lc (.int w :: .int v :: st) h = jv_ev d 164 100 lc (.int (v + w) :: st) h := jq_nx (jv_insR jm_164 dX0_now_99) rfl
theorem e164_100 : jv_ev d 164 100 [x0, x1, x2, x3, x4] (.int v :: st) h = jv_ev d 164 101 [x0, x1, x2, some (.int v), x4] st h := jq_nx (jv_insR jm_164 dX0_now_100) rfl
theorem e164_101 : jv_ev d 164 101 [x0, x1, x2, x3, some (.int v)] st h = jv_ev d 164 104 [x0, x1, x2, x3, some (.int (v + 1))] st h := jq_nx (jv_insR jm_164 dX0_now_101) rfl
theorem e164_104 : jv_ev d 164 104 lc st h = jv_ev d 164 21 lc st h := jq_go (jv_insR jm_164 dX0_now_104) (by decide)
theorem e164_107 : jv_ev d 164 107 [x0, x1, x2, some (.int v), x4] st h = jv_ev d 164 108 [x0, x1, x2, some (.int v), x4] (.int v :: st) h := jq_nx (jv_insR jm_164 dX0_now_107) rfl
theorem e164_108 : jv_ev d 164 108 lc [.int v] h = some (.inl (some (.int v)), h) := jq_reti (jv_insR jm_164 dX0_now_108) jr_164
/-! 165: RainLoom.tell(III)I -/
theorem n165 : jv_cd (d + 1) 165 [.ref a0, .int i1, .int i2, .int i3] h = jv_ev d 165 0 [some (.ref a0), some (.int i1), some (.int i2), some (.int i3)] [] h := rfl
theorem e165_0 : jv_ev d 165 0 [some (.ref a), x1, x2, x3] st h = jv_ev d 165 1 [some (.ref a), x1, x2, x3] (.ref a :: st) h := jq_nx (jv_insR jm_165 dX0_tell_0) rfl
theorem e165_1 : jv_ev d 165 1 lc (.ref a :: st) h = (jv_gf h a [(1, 3, .object "RainLoom$Text")]).bind fun r => jv_ev d 165 4 lc (r :: st) h := jq_get (jv_insR jm_165 dX0_tell_1) jo_165 jF_2_40
theorem e165_4 : jv_ev d 165 4 [x0, some (.int v), x2, x3] st h = jv_ev d 165 5 [x0, some (.int v), x2, x3] (.int v :: st) h := jq_nx (jv_insR jm_165 dX0_tell_4) rfl
theorem e165_5 : jv_ev d 165 5 [x0, x1, some (.int v), x3] st h = jv_ev d 165 6 [x0, x1, some (.int v), x3] (.int v :: st) h := jq_nx (jv_insR jm_165 dX0_tell_5) rfl
theorem e165_6 : jv_ev d 165 6 lc [z1, z0, .ref b] h = (jv_rc h b [(5, 212)]).bind fun y => (jv_cd d y [.ref b, z0, z1] h).bind fun r => jv_on r (fun v h => jv_ev d 165 9 lc (v.toList ++ []) h) (fun q h => some (.inr q, h)) := jq_V (as := [z0, z1]) (rest := []) (jv_insR jm_165 dX0_tell_6) jo_165 jV_2_179 rfl rfl rfl rfl
theorem e165_9 : jv_ev d 165 9 lc (.int v :: st) h = if v = 0 then jv_ev d 165 32 lc st h else jv_ev d 165 12 lc st h := jq_if (jv_insR jm_165 dX0_tell_9) rfl (by decide)
theorem e165_12 : jv_ev d 165 12 [x0, x1, x2, some (.int v)] st h = jv_ev d 165 13 [x0, x1, x2, some (.int v)] (.int v :: st) h := jq_nx (jv_insR jm_165 dX0_tell_12) rfl
theorem e165_13 : jv_ev d 165 13 lc st h = jv_ev d 165 14 lc (.int 0 :: st) h := jq_iconst (jv_insR jm_165 dX0_tell_13) (by decide)
theorem e165_14 : jv_ev d 165 14 lc st h = jv_ev d 165 17 lc (.int 999 :: st) h := jq_sipush (jv_insR jm_165 dX0_tell_14) (by decide)
theorem e165_17 : jv_ev d 165 17 lc [z2, z1, z0] h = (jv_cd d 124 [z0, z1, z2] h).bind fun r => jv_on r (fun v h => jv_ev d 165 20 lc (v.toList ++ []) h) (fun q h => some (.inr q, h)) := jq_S (as := [z0, z1, z2]) (rest := []) (jv_insR jm_165 dX0_tell_17) jo_165 jT_2_158 rfl rfl rfl rfl
theorem e165_20 : jv_ev d 165 20 lc (.int v :: st) h = if v = 0 then jv_ev d 165 32 lc st h else jv_ev d 165 23 lc st h := jq_if (jv_insR jm_165 dX0_tell_20) rfl (by decide)
theorem e165_23 : jv_ev d 165 23 [some (.ref a), x1, x2, x3] st h = jv_ev d 165 24 [some (.ref a), x1, x2, x3] (.ref a :: st) h := jq_nx (jv_insR jm_165 dX0_tell_23) rfl
theorem e165_24 : jv_ev d 165 24 lc (.ref a :: st) h = (jv_gf h a [(1, 21, .int)]).bind fun r => jv_ev d 165 27 lc (r :: st) h := jq_get (jv_insR jm_165 dX0_tell_24) jo_165 jF_2_136
theorem e165_27 : jv_ev d 165 27 lc st h = jv_ev d 165 29 lc (.int 20 :: st) h := jq_bipush (jv_insR jm_165 dX0_tell_27) (by decide)
theorem e165_29 : jv_ev d 165 29 lc (.int w :: .int v :: st) h = if ¬ v = w then jv_ev d 165 34 lc st h else jv_ev d 165 32 lc st h := jq_if (jv_insR jm_165 dX0_tell_29) rfl (by decide)
theorem e165_32 : jv_ev d 165 32 lc st h = jv_ev d 165 33 lc (.int (-1) :: st) h := jq_iconst (jv_insR jm_165 dX0_tell_32) (by decide)
theorem e165_33 : jv_ev d 165 33 lc [.int v] h = some (.inl (some (.int v)), h) := jq_reti (jv_insR jm_165 dX0_tell_33) jr_165
theorem e165_34 : jv_ev d 165 34 [some (.ref a), x1, x2, x3] st h = jv_ev d 165 35 [some (.ref a), x1, x2, x3] (.ref a :: st) h := jq_nx (jv_insR jm_165 dX0_tell_34) rfl
theorem e165_35 : jv_ev d 165 35 lc (.ref a :: st) h = (jv_gf h a [(1, 22, .array .int)]).bind fun r => jv_ev d 165 38 lc (r :: st) h := jq_get (jv_insR jm_165 dX0_tell_35) jo_165 jF_2_105
theorem e165_38 : jv_ev d 165 38 [some (.ref a), x1, x2, x3] st h = jv_ev d 165 39 [some (.ref a), x1, x2, x3] (.ref a :: st) h := jq_nx (jv_insR jm_165 dX0_tell_38) rfl
theorem e165_39 : jv_ev d 165 39 lc (.ref a :: st) h = (jv_gf h a [(1, 21, .int)]).bind fun r => jv_ev d 165 42 lc (r :: st) h := jq_get (jv_insR jm_165 dX0_tell_39) jo_165 jF_2_136
theorem e165_42 : jv_ev d 165 42 [x0, x1, some (.int v), x3] st h = jv_ev d 165 43 [x0, x1, some (.int v), x3] (.int v :: st) h := jq_nx (jv_insR jm_165 dX0_tell_42) rfl
theorem e165_43 : jv_ev d 165 43 lc st h = jv_ev d 165 45 lc (.int 8 :: st) h := jq_bipush (jv_insR jm_165 dX0_tell_43) (by decide)
theorem e165_45 : jv_ev d 165 45 lc (.int w :: .int v :: st) h = jv_ev d 165 46 lc (.int (v * w) :: st) h := jq_nx (jv_insR jm_165 dX0_tell_45) rfl
theorem e165_46 : jv_ev d 165 46 [x0, some (.int v), x2, x3] st h = jv_ev d 165 47 [x0, some (.int v), x2, x3] (.int v :: st) h := jq_nx (jv_insR jm_165 dX0_tell_46) rfl
theorem e165_47 : jv_ev d 165 47 lc (.int w :: .int v :: st) h = jv_ev d 165 48 lc (.int (v + w) :: st) h := jq_nx (jv_insR jm_165 dX0_tell_47) rfl
theorem e165_48 : jv_ev d 165 48 lc (.int w :: .int v :: .ref a :: st) h = (jv_ip h a 0 0 v w).bind fun h => jv_ev d 165 49 lc st h := jq_iast (jv_insR jm_165 dX0_tell_48)
theorem e165_49 : jv_ev d 165 49 [some (.ref a), x1, x2, x3] st h = jv_ev d 165 50 [some (.ref a), x1, x2, x3] (.ref a :: st) h := jq_nx (jv_insR jm_165 dX0_tell_49) rfl
theorem e165_50 : jv_ev d 165 50 lc (.ref a :: st) h = (jv_gf h a [(1, 23, .array .int)]).bind fun r => jv_ev d 165 53 lc (r :: st) h := jq_get (jv_insR jm_165 dX0_tell_50) jo_165 jF_2_108
theorem e165_53 : jv_ev d 165 53 [some (.ref a), x1, x2, x3] st h = jv_ev d 165 54 [some (.ref a), x1, x2, x3] (.ref a :: st) h := jq_nx (jv_insR jm_165 dX0_tell_53) rfl
theorem e165_54 : jv_ev d 165 54 lc (.ref a :: st) h = (jv_gf h a [(1, 21, .int)]).bind fun r => jv_ev d 165 57 lc (r :: st) h := jq_get (jv_insR jm_165 dX0_tell_54) jo_165 jF_2_136
theorem e165_57 : jv_ev d 165 57 [x0, x1, x2, some (.int v)] st h = jv_ev d 165 58 [x0, x1, x2, some (.int v)] (.int v :: st) h := jq_nx (jv_insR jm_165 dX0_tell_57) rfl
theorem e165_58 : jv_ev d 165 58 lc (.int w :: .int v :: .ref a :: st) h = (jv_ip h a 0 0 v w).bind fun h => jv_ev d 165 59 lc st h := jq_iast (jv_insR jm_165 dX0_tell_58)
theorem e165_59 : jv_ev d 165 59 [some (.ref a), x1, x2, x3] st h = jv_ev d 165 60 [some (.ref a), x1, x2, x3] (.ref a :: st) h := jq_nx (jv_insR jm_165 dX0_tell_59) rfl
theorem e165_60 : jv_ev d 165 60 lc (.ref a :: st) h = jv_ev d 165 61 lc (.ref a :: .ref a :: st) h := jq_nx (jv_insR jm_165 dX0_tell_60) rfl
theorem e165_61 : jv_ev d 165 61 lc (.ref a :: st) h = (jv_gf h a [(1, 21, .int)]).bind fun r => jv_ev d 165 64 lc (r :: st) h := jq_get (jv_insR jm_165 dX0_tell_61) jo_165 jF_2_136
theorem e165_64 : jv_ev d 165 64 lc st h = jv_ev d 165 65 lc (.int 1 :: st) h := jq_iconst (jv_insR jm_165 dX0_tell_64) (by decide)
theorem e165_65 : jv_ev d 165 65 lc (.int w :: .int v :: st) h = jv_ev d 165 66 lc (.int (v + w) :: st) h := jq_nx (jv_insR jm_165 dX0_tell_65) rfl
theorem e165_66 : jv_ev d 165 66 lc (r :: .ref a :: st) h = (jv_pf h a [(1, 21, .int)] r).bind fun h => jv_ev d 165 69 lc st h := jq_put (jv_insR jm_165 dX0_tell_66) jo_165 ji_165 jG_2_136
theorem e165_69 : jv_ev d 165 69 [some (.ref a), x1, x2, x3] st h = jv_ev d 165 70 [some (.ref a), x1, x2, x3] (.ref a :: st) h := jq_nx (jv_insR jm_165 dX0_tell_69) rfl
theorem e165_70 : jv_ev d 165 70 lc (.ref a :: st) h = (jv_gf h a [(1, 21, .int)]).bind fun r => jv_ev d 165 73 lc (r :: st) h := jq_get (jv_insR jm_165 dX0_tell_70) jo_165 jF_2_136
theorem e165_73 : jv_ev d 165 73 lc st h = jv_ev d 165 74 lc (.int 1 :: st) h := jq_iconst (jv_insR jm_165 dX0_tell_73) (by decide)
theorem e165_74 : jv_ev d 165 74 lc (.int w :: .int v :: st) h = jv_ev d 165 75 lc (.int (v - w) :: st) h := jq_nx (jv_insR jm_165 dX0_tell_74) rfl
theorem e165_75 : jv_ev d 165 75 lc [.int v] h = some (.inl (some (.int v)), h) := jq_reti (jv_insR jm_165 dX0_tell_75) jr_165
/-! 166: RainLoom.forget()I -/
theorem n166 : jv_cd (d + 1) 166 [.ref a0] h = jv_ev d 166 0 [some (.ref a0), none] [] h := rfl
theorem e166_0 : jv_ev d 166 0 [some (.ref a), x1] st h = jv_ev d 166 1 [some (.ref a), x1] (.ref a :: st) h := jq_nx (jv_insR jm_166 dX0_forget_0) rfl
theorem e166_1 : jv_ev d 166 1 lc (.ref a :: st) h = (jv_gf h a [(1, 21, .int)]).bind fun r => jv_ev d 166 4 lc (r :: st) h := jq_get (jv_insR jm_166 dX0_forget_1) jo_166 jF_2_136
theorem e166_4 : jv_ev d 166 4 [x0, x1] (.int v :: st) h = jv_ev d 166 5 [x0, some (.int v)] st h := jq_nx (jv_insR jm_166 dX0_forget_4) rfl
theorem e166_5 : jv_ev d 166 5 [some (.ref a), x1] st h = jv_ev d 166 6 [some (.ref a), x1] (.ref a :: st) h := jq_nx (jv_insR jm_166 dX0_forget_5) rfl
theorem e166_6 : jv_ev d 166 6 lc st h = jv_ev d 166 7 lc (.int 0 :: st) h := jq_iconst (jv_insR jm_166 dX0_forget_6) (by decide)
theorem e166_7 : jv_ev d 166 7 lc (r :: .ref a :: st) h = (jv_pf h a [(1, 21, .int)] r).bind fun h => jv_ev d 166 10 lc st h := jq_put (jv_insR jm_166 dX0_forget_7) jo_166 ji_166 jG_2_136
theorem e166_10 : jv_ev d 166 10 [x0, some (.int v)] st h = jv_ev d 166 11 [x0, some (.int v)] (.int v :: st) h := jq_nx (jv_insR jm_166 dX0_forget_10) rfl
theorem e166_11 : jv_ev d 166 11 lc [.int v] h = some (.inl (some (.int v)), h) := jq_reti (jv_insR jm_166 dX0_forget_11) jr_166
/-! 167: RainLoom.fell(IIII)I -/
theorem n167 : jv_cd (d + 1) 167 [.ref a0, .int i1, .int i2, .int i3, .int i4] h = jv_ev d 167 0 [some (.ref a0), some (.int i1), some (.int i2), some (.int i3), some (.int i4), none, none, none, none, none] [] h := rfl
theorem e167_0 : jv_ev d 167 0 [x0, some (.int v), x2, x3, x4, x5, x6, x7, x8, x9] st h = jv_ev d 167 1 [x0, some (.int v), x2, x3, x4, x5, x6, x7, x8, x9] (.int v :: st) h := jq_nx (jv_insR jm_167 dX0_fell_0) rfl
theorem e167_1 : jv_ev d 167 1 lc st h = jv_ev d 167 2 lc (.int 0 :: st) h := jq_iconst (jv_insR jm_167 dX0_fell_1) (by decide)
theorem e167_2 : jv_ev d 167 2 [some (.ref a), x1, x2, x3, x4, x5, x6, x7, x8, x9] st h = jv_ev d 167 3 [some (.ref a), x1, x2, x3, x4, x5, x6, x7, x8, x9] (.ref a :: st) h := jq_nx (jv_insR jm_167 dX0_fell_2) rfl
theorem e167_3 : jv_ev d 167 3 lc (.ref a :: st) h = (jv_gf h a [(1, 21, .int)]).bind fun r => jv_ev d 167 6 lc (r :: st) h := jq_get (jv_insR jm_167 dX0_fell_3) jo_167 jF_2_136
theorem e167_6 : jv_ev d 167 6 lc [z2, z1, z0] h = (jv_cd d 124 [z0, z1, z2] h).bind fun r => jv_on r (fun v h => jv_ev d 167 9 lc (v.toList ++ []) h) (fun q h => some (.inr q, h)) := jq_S (as := [z0, z1, z2]) (rest := []) (jv_insR jm_167 dX0_fell_6) jo_167 jT_2_158 rfl rfl rfl rfl
theorem e167_9 : jv_ev d 167 9 lc (.int v :: st) h = if v = 0 then jv_ev d 167 38 lc st h else jv_ev d 167 12 lc st h := jq_if (jv_insR jm_167 dX0_fell_9) rfl (by decide)
theorem e167_12 : jv_ev d 167 12 [x0, x1, some (.int v), x3, x4, x5, x6, x7, x8, x9] st h = jv_ev d 167 13 [x0, x1, some (.int v), x3, x4, x5, x6, x7, x8, x9] (.int v :: st) h := jq_nx (jv_insR jm_167 dX0_fell_12) rfl
theorem e167_13 : jv_ev d 167 13 lc st h = jv_ev d 167 14 lc (.int 1 :: st) h := jq_iconst (jv_insR jm_167 dX0_fell_13) (by decide)
theorem e167_14 : jv_ev d 167 14 lc st h = jv_ev d 167 16 lc (.int 8 :: st) h := jq_bipush (jv_insR jm_167 dX0_fell_14) (by decide)
theorem e167_16 : jv_ev d 167 16 lc [z2, z1, z0] h = (jv_cd d 124 [z0, z1, z2] h).bind fun r => jv_on r (fun v h => jv_ev d 167 19 lc (v.toList ++ []) h) (fun q h => some (.inr q, h)) := jq_S (as := [z0, z1, z2]) (rest := []) (jv_insR jm_167 dX0_fell_16) jo_167 jT_2_158 rfl rfl rfl rfl
theorem e167_19 : jv_ev d 167 19 lc (.int v :: st) h = if v = 0 then jv_ev d 167 38 lc st h else jv_ev d 167 22 lc st h := jq_if (jv_insR jm_167 dX0_fell_19) rfl (by decide)
theorem e167_22 : jv_ev d 167 22 [x0, x1, x2, some (.int v), x4, x5, x6, x7, x8, x9] st h = jv_ev d 167 23 [x0, x1, x2, some (.int v), x4, x5, x6, x7, x8, x9] (.int v :: st) h := jq_nx (jv_insR jm_167 dX0_fell_22) rfl
theorem e167_23 : jv_ev d 167 23 lc st h = jv_ev d 167 24 lc (.int 1 :: st) h := jq_iconst (jv_insR jm_167 dX0_fell_23) (by decide)
theorem e167_24 : jv_ev d 167 24 lc st h = jv_ev d 167 26 lc (.int 6 :: st) h := jq_bipush (jv_insR jm_167 dX0_fell_24) (by decide)
theorem e167_26 : jv_ev d 167 26 lc [z2, z1, z0] h = (jv_cd d 124 [z0, z1, z2] h).bind fun r => jv_on r (fun v h => jv_ev d 167 29 lc (v.toList ++ []) h) (fun q h => some (.inr q, h)) := jq_S (as := [z0, z1, z2]) (rest := []) (jv_insR jm_167 dX0_fell_26) jo_167 jT_2_158 rfl rfl rfl rfl
theorem e167_29 : jv_ev d 167 29 lc (.int v :: st) h = if v = 0 then jv_ev d 167 38 lc st h else jv_ev d 167 32 lc st h := jq_if (jv_insR jm_167 dX0_fell_29) rfl (by decide)
theorem e167_32 : jv_ev d 167 32 [x0, x1, x2, x3, some (.int v), x5, x6, x7, x8, x9] st h = jv_ev d 167 34 [x0, x1, x2, x3, some (.int v), x5, x6, x7, x8, x9] (.int v :: st) h := jq_nx (jv_insR jm_167 dX0_fell_32) rfl
theorem e167_34 : jv_ev d 167 34 lc st h = jv_ev d 167 35 lc (.int (-1) :: st) h := jq_iconst (jv_insR jm_167 dX0_fell_34) (by decide)
theorem e167_35 : jv_ev d 167 35 lc (.int w :: .int v :: st) h = if w ≤ v then jv_ev d 167 40 lc st h else jv_ev d 167 38 lc st h := jq_if (jv_insR jm_167 dX0_fell_35) rfl (by decide)
theorem e167_38 : jv_ev d 167 38 lc st h = jv_ev d 167 39 lc (.int (-1) :: st) h := jq_iconst (jv_insR jm_167 dX0_fell_38) (by decide)
theorem e167_39 : jv_ev d 167 39 lc [.int v] h = some (.inl (some (.int v)), h) := jq_reti (jv_insR jm_167 dX0_fell_39) jr_167
theorem e167_40 : jv_ev d 167 40 lc st h = jv_ev d 167 41 lc (.int 0 :: st) h := jq_iconst (jv_insR jm_167 dX0_fell_40) (by decide)
theorem e167_41 : jv_ev d 167 41 [x0, x1, x2, x3, x4, x5, x6, x7, x8, x9] (.int v :: st) h = jv_ev d 167 43 [x0, x1, x2, x3, x4, some (.int v), x6, x7, x8, x9] st h := jq_nx (jv_insR jm_167 dX0_fell_41) rfl
theorem e167_43 : jv_ev d 167 43 lc st h = jv_ev d 167 44 lc (.int 0 :: st) h := jq_iconst (jv_insR jm_167 dX0_fell_43) (by decide)
theorem e167_44 : jv_ev d 167 44 [x0, x1, x2, x3, x4, x5, x6, x7, x8, x9] (.int v :: st) h = jv_ev d 167 46 [x0, x1, x2, x3, x4, x5, some (.int v), x7, x8, x9] st h := jq_nx (jv_insR jm_167 dX0_fell_44) rfl
theorem e167_46 : jv_ev d 167 46 [x0, x1, x2, x3, x4, x5, some (.int v), x7, x8, x9] st h = jv_ev d 167 48 [x0, x1, x2, x3, x4, x5, some (.int v), x7, x8, x9] (.int v :: st) h := jq_nx (jv_insR jm_167 dX0_fell_46) rfl
theorem e167_48 : jv_ev d 167 48 [some (.ref a), x1, x2, x3, x4, x5, x6, x7, x8, x9] st h = jv_ev d 167 49 [some (.ref a), x1, x2, x3, x4, x5, x6, x7, x8, x9] (.ref a :: st) h := jq_nx (jv_insR jm_167 dX0_fell_48) rfl
theorem e167_49 : jv_ev d 167 49 lc [.ref b, y0] h = (jv_rc h b [(1, 127)]).bind fun y => (jv_cd d y [.ref b] h).bind fun r => jv_on r (fun v h => jv_ev d 167 52 lc (v.toList ++ [y0]) h) (fun q h => some (.inr q, h)) := jq_V (as := []) (rest := [y0]) (jv_insR jm_167 dX0_fell_49) jo_167 jV_2_156 rfl rfl rfl rfl
theorem e167_52 : jv_ev d 167 52 lc (.int w :: .int v :: st) h = if w ≤ v then jv_ev d 167 173 lc st h else jv_ev d 167 55 lc st h := jq_if (jv_insR jm_167 dX0_fell_52) rfl (by decide)
theorem e167_55 : jv_ev d 167 55 lc st h = jv_ev d 167 56 lc (.int 0 :: st) h := jq_iconst (jv_insR jm_167 dX0_fell_55) (by decide)
theorem e167_56 : jv_ev d 167 56 [x0, x1, x2, x3, x4, x5, x6, x7, x8, x9] (.int v :: st) h = jv_ev d 167 58 [x0, x1, x2, x3, x4, x5, x6, some (.int v), x8, x9] st h := jq_nx (jv_insR jm_167 dX0_fell_56) rfl
theorem e167_58 : jv_ev d 167 58 [x0, x1, x2, x3, x4, x5, x6, some (.int v), x8, x9] st h = jv_ev d 167 60 [x0, x1, x2, x3, x4, x5, x6, some (.int v), x8, x9] (.int v :: st) h := jq_nx (jv_insR jm_167 dX0_fell_58) rfl
theorem e167_60 : jv_ev d 167 60 lc st h = jv_ev d 167 62 lc (.int 48 :: st) h := jq_bipush (jv_insR jm_167 dX0_fell_60) (by decide)
theorem e167_62 : jv_ev d 167 62 lc (.int w :: .int v :: st) h = if w ≤ v then jv_ev d 167 167 lc st h else jv_ev d 167 65 lc st h := jq_if (jv_insR jm_167 dX0_fell_62) rfl (by decide)
theorem e167_65 : jv_ev d 167 65 [x0, x1, some (.int v), x3, x4, x5, x6, x7, x8, x9] st h = jv_ev d 167 66 [x0, x1, some (.int v), x3, x4, x5, x6, x7, x8, x9] (.int v :: st) h := jq_nx (jv_insR jm_167 dX0_fell_65) rfl
theorem e167_66 : jv_ev d 167 66 [some (.ref a), x1, x2, x3, x4, x5, x6, x7, x8, x9] st h = jv_ev d 167 67 [some (.ref a), x1, x2, x3, x4, x5, x6, x7, x8, x9] (.ref a :: st) h := jq_nx (jv_insR jm_167 dX0_fell_66) rfl
theorem e167_67 : jv_ev d 167 67 [x0, x1, x2, x3, x4, x5, some (.int v), x7, x8, x9] st h = jv_ev d 167 69 [x0, x1, x2, x3, x4, x5, some (.int v), x7, x8, x9] (.int v :: st) h := jq_nx (jv_insR jm_167 dX0_fell_67) rfl
theorem e167_69 : jv_ev d 167 69 lc [z0, .ref b, y0] h = (jv_rc h b [(1, 128)]).bind fun y => (jv_cd d y [.ref b, z0] h).bind fun r => jv_on r (fun v h => jv_ev d 167 72 lc (v.toList ++ [y0]) h) (fun q h => some (.inr q, h)) := jq_V (as := [z0]) (rest := [y0]) (jv_insR jm_167 dX0_fell_69) jo_167 jV_2_175 rfl rfl rfl rfl
theorem e167_72 : jv_ev d 167 72 lc (.int w :: .int v :: st) h = if w < v then jv_ev d 167 167 lc st h else jv_ev d 167 75 lc st h := jq_if (jv_insR jm_167 dX0_fell_72) rfl (by decide)
theorem e167_75 : jv_ev d 167 75 [x0, x1, x2, x3, x4, x5, x6, some (.int v), x8, x9] st h = jv_ev d 167 77 [x0, x1, x2, x3, x4, x5, x6, some (.int v), x8, x9] (.int v :: st) h := jq_nx (jv_insR jm_167 dX0_fell_75) rfl
theorem e167_77 : jv_ev d 167 77 lc st h = jv_ev d 167 79 lc (.int 8 :: st) h := jq_bipush (jv_insR jm_167 dX0_fell_77) (by decide)
theorem e167_79 : jv_ev d 167 79 lc (.int w :: .int v :: st) h = if w = 0 then none else jv_ev d 167 80 lc (.int (v - v / w * w) :: st) h := jq_irem (jv_insR jm_167 dX0_fell_79)
theorem e167_80 : jv_ev d 167 80 [x0, x1, x2, x3, x4, x5, x6, x7, x8, x9] (.int v :: st) h = jv_ev d 167 82 [x0, x1, x2, x3, x4, x5, x6, x7, some (.int v), x9] st h := jq_nx (jv_insR jm_167 dX0_fell_80) rfl
theorem e167_82 : jv_ev d 167 82 [x0, x1, x2, x3, x4, x5, x6, some (.int v), x8, x9] st h = jv_ev d 167 84 [x0, x1, x2, x3, x4, x5, x6, some (.int v), x8, x9] (.int v :: st) h := jq_nx (jv_insR jm_167 dX0_fell_82) rfl
theorem e167_84 : jv_ev d 167 84 lc st h = jv_ev d 167 86 lc (.int 8 :: st) h := jq_bipush (jv_insR jm_167 dX0_fell_84) (by decide)
theorem e167_86 : jv_ev d 167 86 lc (.int w :: .int v :: st) h = if w = 0 then none else jv_ev d 167 87 lc (.int (v / w) :: st) h := jq_idiv (jv_insR jm_167 dX0_fell_86)
theorem e167_87 : jv_ev d 167 87 [x0, x1, x2, x3, x4, x5, x6, x7, x8, x9] (.int v :: st) h = jv_ev d 167 89 [x0, x1, x2, x3, x4, x5, x6, x7, x8, some (.int v)] st h := jq_nx (jv_insR jm_167 dX0_fell_87) rfl
theorem e167_89 : jv_ev d 167 89 [x0, x1, x2, x3, x4, x5, x6, x7, some (.int v), x9] st h = jv_ev d 167 91 [x0, x1, x2, x3, x4, x5, x6, x7, some (.int v), x9] (.int v :: st) h := jq_nx (jv_insR jm_167 dX0_fell_89) rfl
theorem e167_91 : jv_ev d 167 91 [x0, x1, some (.int v), x3, x4, x5, x6, x7, x8, x9] st h = jv_ev d 167 92 [x0, x1, some (.int v), x3, x4, x5, x6, x7, x8, x9] (.int v :: st) h := jq_nx (jv_insR jm_167 dX0_fell_91) rfl
theorem e167_92 : jv_ev d 167 92 lc (.int w :: .int v :: st) h = jv_ev d 167 93 lc (.int (v + w) :: st) h := jq_nx (jv_insR jm_167 dX0_fell_92) rfl
theorem e167_93 : jv_ev d 167 93 [some (.ref a), x1, x2, x3, x4, x5, x6, x7, x8, x9] st h = jv_ev d 167 94 [some (.ref a), x1, x2, x3, x4, x5, x6, x7, x8, x9] (.ref a :: st) h := jq_nx (jv_insR jm_167 dX0_fell_93) rfl
theorem e167_94 : jv_ev d 167 94 lc (.ref a :: st) h = (jv_gf h a [(1, 3, .object "RainLoom$Text")]).bind fun r => jv_ev d 167 97 lc (r :: st) h := jq_get (jv_insR jm_167 dX0_fell_94) jo_167 jF_2_40
theorem e167_97 : jv_ev d 167 97 lc (.ref a :: st) h = (jv_gf h a [(5, 5, .int)]).bind fun r => jv_ev d 167 100 lc (r :: st) h := jq_get (jv_insR jm_167 dX0_fell_97) jo_167 jF_2_285
theorem e167_100 : jv_ev d 167 100 lc (.int w :: .int v :: st) h = if w < v then jv_ev d 167 161 lc st h else jv_ev d 167 103 lc st h := jq_if (jv_insR jm_167 dX0_fell_100) rfl (by decide)
theorem e167_103 : jv_ev d 167 103 [x0, x1, x2, x3, x4, x5, x6, x7, x8, some (.int v)] st h = jv_ev d 167 105 [x0, x1, x2, x3, x4, x5, x6, x7, x8, some (.int v)] (.int v :: st) h := jq_nx (jv_insR jm_167 dX0_fell_103) rfl
theorem e167_105 : jv_ev d 167 105 [x0, x1, x2, some (.int v), x4, x5, x6, x7, x8, x9] st h = jv_ev d 167 106 [x0, x1, x2, some (.int v), x4, x5, x6, x7, x8, x9] (.int v :: st) h := jq_nx (jv_insR jm_167 dX0_fell_105) rfl
theorem e167_106 : jv_ev d 167 106 lc (.int w :: .int v :: st) h = jv_ev d 167 107 lc (.int (v + w) :: st) h := jq_nx (jv_insR jm_167 dX0_fell_106) rfl
theorem e167_107 : jv_ev d 167 107 [some (.ref a), x1, x2, x3, x4, x5, x6, x7, x8, x9] st h = jv_ev d 167 108 [some (.ref a), x1, x2, x3, x4, x5, x6, x7, x8, x9] (.ref a :: st) h := jq_nx (jv_insR jm_167 dX0_fell_107) rfl
theorem e167_108 : jv_ev d 167 108 lc (.ref a :: st) h = (jv_gf h a [(1, 3, .object "RainLoom$Text")]).bind fun r => jv_ev d 167 111 lc (r :: st) h := jq_get (jv_insR jm_167 dX0_fell_108) jo_167 jF_2_40
theorem e167_111 : jv_ev d 167 111 lc (.ref a :: st) h = (jv_gf h a [(5, 4, .int)]).bind fun r => jv_ev d 167 114 lc (r :: st) h := jq_get (jv_insR jm_167 dX0_fell_111) jo_167 jF_2_282
theorem e167_114 : jv_ev d 167 114 lc (.int w :: .int v :: st) h = if w < v then jv_ev d 167 161 lc st h else jv_ev d 167 117 lc st h := jq_if (jv_insR jm_167 dX0_fell_114) rfl (by decide)
theorem e167_117 : jv_ev d 167 117 [some (.ref a), x1, x2, x3, x4, x5, x6, x7, x8, x9] st h = jv_ev d 167 118 [some (.ref a), x1, x2, x3, x4, x5, x6, x7, x8, x9] (.ref a :: st) h := jq_nx (jv_insR jm_167 dX0_fell_117) rfl
theorem e167_118 : jv_ev d 167 118 [x0, some (.int v), x2, x3, x4, x5, x6, x7, x8, x9] st h = jv_ev d 167 119 [x0, some (.int v), x2, x3, x4, x5, x6, x7, x8, x9] (.int v :: st) h := jq_nx (jv_insR jm_167 dX0_fell_118) rfl
theorem e167_119 : jv_ev d 167 119 [x0, x1, x2, x3, x4, x5, some (.int v), x7, x8, x9] st h = jv_ev d 167 121 [x0, x1, x2, x3, x4, x5, some (.int v), x7, x8, x9] (.int v :: st) h := jq_nx (jv_insR jm_167 dX0_fell_119) rfl
theorem e167_121 : jv_ev d 167 121 [x0, x1, some (.int v), x3, x4, x5, x6, x7, x8, x9] st h = jv_ev d 167 122 [x0, x1, some (.int v), x3, x4, x5, x6, x7, x8, x9] (.int v :: st) h := jq_nx (jv_insR jm_167 dX0_fell_121) rfl
theorem e167_122 : jv_ev d 167 122 [x0, x1, x2, some (.int v), x4, x5, x6, x7, x8, x9] st h = jv_ev d 167 123 [x0, x1, x2, some (.int v), x4, x5, x6, x7, x8, x9] (.int v :: st) h := jq_nx (jv_insR jm_167 dX0_fell_122) rfl
theorem e167_123 : jv_ev d 167 123 [x0, x1, x2, x3, x4, x5, x6, x7, some (.int v), x9] st h = jv_ev d 167 125 [x0, x1, x2, x3, x4, x5, x6, x7, some (.int v), x9] (.int v :: st) h := jq_nx (jv_insR jm_167 dX0_fell_123) rfl
theorem e167_125 : jv_ev d 167 125 [x0, x1, x2, x3, x4, x5, x6, x7, x8, some (.int v)] st h = jv_ev d 167 127 [x0, x1, x2, x3, x4, x5, x6, x7, x8, some (.int v)] (.int v :: st) h := jq_nx (jv_insR jm_167 dX0_fell_125) rfl
theorem e167_127 : jv_ev d 167 127 lc [z5, z4, z3, z2, z1, z0, .ref b] h = (jv_rc h b [(1, 168)]).bind fun y => (jv_cd d y [.ref b, z0, z1, z2, z3, z4, z5] h).bind fun r => jv_on r (fun v h => jv_ev d 167 130 lc (v.toList ++ []) h) (fun q h => some (.inr q, h)) := jq_V (as := [z0, z1, z2, z3, z4, z5]) (rest := []) (jv_insR jm_167 dX0_fell_127) jo_167 jV_2_336 rfl rfl rfl rfl
theorem e167_130 : jv_ev d 167 130 lc (.int v :: st) h = if ¬ v = 0 then jv_ev d 167 136 lc st h else jv_ev d 167 133 lc st h := jq_if (jv_insR jm_167 dX0_fell_130) rfl (by decide)
theorem e167_133 : jv_ev d 167 133 lc st h = jv_ev d 167 161 lc st h := jq_go (jv_insR jm_167 dX0_fell_133) (by decide)
theorem e167_136 : jv_ev d 167 136 [x0, x1, x2, x3, x4, some (.int v), x6, x7, x8, x9] st h = jv_ev d 167 138 [x0, x1, x2, x3, x4, some (.int v), x6, x7, x8, x9] (.int v :: st) h := jq_nx (jv_insR jm_167 dX0_fell_136) rfl
theorem e167_138 : jv_ev d 167 138 [x0, x1, x2, x3, some (.int v), x5, x6, x7, x8, x9] st h = jv_ev d 167 140 [x0, x1, x2, x3, some (.int v), x5, x6, x7, x8, x9] (.int v :: st) h := jq_nx (jv_insR jm_167 dX0_fell_138) rfl
theorem e167_140 : jv_ev d 167 140 lc (.int w :: .int v :: st) h = if ¬ v = w then jv_ev d 167 158 lc st h else jv_ev d 167 143 lc st h := jq_if (jv_insR jm_167 dX0_fell_140) rfl (by decide)
theorem e167_143 : jv_ev d 167 143 lc st h = jv_ev d 167 145 lc (.int 100 :: st) h := jq_bipush (jv_insR jm_167 dX0_fell_143) (by decide)
theorem e167_145 : jv_ev d 167 145 [x0, x1, x2, x3, x4, x5, some (.int v), x7, x8, x9] st h = jv_ev d 167 147 [x0, x1, x2, x3, x4, x5, some (.int v), x7, x8, x9] (.int v :: st) h := jq_nx (jv_insR jm_167 dX0_fell_145) rfl
theorem e167_147 : jv_ev d 167 147 lc (.int w :: .int v :: st) h = jv_ev d 167 148 lc (.int (v * w) :: st) h := jq_nx (jv_insR jm_167 dX0_fell_147) rfl
theorem e167_148 : jv_ev d 167 148 lc st h = jv_ev d 167 150 lc (.int 10 :: st) h := jq_bipush (jv_insR jm_167 dX0_fell_148) (by decide)
theorem e167_150 : jv_ev d 167 150 [x0, x1, x2, x3, x4, x5, x6, x7, x8, some (.int v)] st h = jv_ev d 167 152 [x0, x1, x2, x3, x4, x5, x6, x7, x8, some (.int v)] (.int v :: st) h := jq_nx (jv_insR jm_167 dX0_fell_150) rfl
theorem e167_152 : jv_ev d 167 152 lc (.int w :: .int v :: st) h = jv_ev d 167 153 lc (.int (v * w) :: st) h := jq_nx (jv_insR jm_167 dX0_fell_152) rfl
theorem e167_153 : jv_ev d 167 153 lc (.int w :: .int v :: st) h = jv_ev d 167 154 lc (.int (v + w) :: st) h := jq_nx (jv_insR jm_167 dX0_fell_153) rfl
theorem e167_154 : jv_ev d 167 154 [x0, x1, x2, x3, x4, x5, x6, x7, some (.int v), x9] st h = jv_ev d 167 156 [x0, x1, x2, x3, x4, x5, x6, x7, some (.int v), x9] (.int v :: st) h := jq_nx (jv_insR jm_167 dX0_fell_154) rfl
theorem e167_156 : jv_ev d 167 156 lc (.int w :: .int v :: st) h = jv_ev d 167 157 lc (.int (v + w) :: st) h := jq_nx (jv_insR jm_167 dX0_fell_156) rfl
theorem e167_157 : jv_ev d 167 157 lc [.int v] h = some (.inl (some (.int v)), h) := jq_reti (jv_insR jm_167 dX0_fell_157) jr_167
theorem e167_158 : jv_ev d 167 158 [x0, x1, x2, x3, x4, some (.int v), x6, x7, x8, x9] st h = jv_ev d 167 161 [x0, x1, x2, x3, x4, some (.int (v + 1)), x6, x7, x8, x9] st h := jq_nx (jv_insR jm_167 dX0_fell_158) rfl
theorem e167_161 : jv_ev d 167 161 [x0, x1, x2, x3, x4, x5, x6, some (.int v), x8, x9] st h = jv_ev d 167 164 [x0, x1, x2, x3, x4, x5, x6, some (.int (v + 1)), x8, x9] st h := jq_nx (jv_insR jm_167 dX0_fell_161) rfl
theorem e167_164 : jv_ev d 167 164 lc st h = jv_ev d 167 58 lc st h := jq_go (jv_insR jm_167 dX0_fell_164) (by decide)
theorem e167_167 : jv_ev d 167 167 [x0, x1, x2, x3, x4, x5, some (.int v), x7, x8, x9] st h = jv_ev d 167 170 [x0, x1, x2, x3, x4, x5, some (.int (v + 1)), x7, x8, x9] st h := jq_nx (jv_insR jm_167 dX0_fell_167) rfl
theorem e167_170 : jv_ev d 167 170 lc st h = jv_ev d 167 46 lc st h := jq_go (jv_insR jm_167 dX0_fell_170) (by decide)
theorem e167_173 : jv_ev d 167 173 [x0, x1, x2, x3, some (.int v), x5, x6, x7, x8, x9] st h = jv_ev d 167 175 [x0, x1, x2, x3, some (.int v), x5, x6, x7, x8, x9] (.int v :: st) h := jq_nx (jv_insR jm_167 dX0_fell_173) rfl
theorem e167_175 : jv_ev d 167 175 lc st h = jv_ev d 167 176 lc (.int (-1) :: st) h := jq_iconst (jv_insR jm_167 dX0_fell_175) (by decide)
theorem e167_176 : jv_ev d 167 176 lc (.int w :: .int v :: st) h = if ¬ v = w then jv_ev d 167 184 lc st h else jv_ev d 167 179 lc st h := jq_if (jv_insR jm_167 dX0_fell_176) rfl (by decide)
theorem e167_179 : jv_ev d 167 179 [x0, x1, x2, x3, x4, some (.int v), x6, x7, x8, x9] st h = jv_ev d 167 181 [x0, x1, x2, x3, x4, some (.int v), x6, x7, x8, x9] (.int v :: st) h := jq_nx (jv_insR jm_167 dX0_fell_179) rfl
theorem e167_181 : jv_ev d 167 181 lc st h = jv_ev d 167 185 lc st h := jq_go (jv_insR jm_167 dX0_fell_181) (by decide)
theorem e167_184 : jv_ev d 167 184 lc st h = jv_ev d 167 185 lc (.int (-1) :: st) h := jq_iconst (jv_insR jm_167 dX0_fell_184) (by decide)
theorem e167_185 : jv_ev d 167 185 lc [.int v] h = some (.inl (some (.int v)), h) := jq_reti (jv_insR jm_167 dX0_fell_185) jr_167
/-! 168: RainLoom.isSo(IIIIII)Z -/
theorem n168 : jv_cd (d + 1) 168 [.ref a0, .int i1, .int i2, .int i3, .int i4, .int i5, .int i6] h = jv_ev d 168 0 [some (.ref a0), some (.int i1), some (.int i2), some (.int i3), some (.int i4), some (.int i5), some (.int i6), none, none, none, none] [] h := rfl
theorem e168_0 : jv_ev d 168 0 lc st h = jv_ev d 168 1 lc (.int 0 :: st) h := jq_iconst (jv_insR jm_168 dX0_isSo_0) (by decide)
theorem e168_1 : jv_ev d 168 1 [x0, x1, x2, x3, x4, x5, x6, x7, x8, x9, x10] (.int v :: st) h = jv_ev d 168 3 [x0, x1, x2, x3, x4, x5, x6, some (.int v), x8, x9, x10] st h := jq_nx (jv_insR jm_168 dX0_isSo_1) rfl
theorem e168_3 : jv_ev d 168 3 [x0, x1, x2, x3, x4, x5, x6, some (.int v), x8, x9, x10] st h = jv_ev d 168 5 [x0, x1, x2, x3, x4, x5, x6, some (.int v), x8, x9, x10] (.int v :: st) h := jq_nx (jv_insR jm_168 dX0_isSo_3) rfl
theorem e168_5 : jv_ev d 168 5 [x0, some (.int v), x2, x3, x4, x5, x6, x7, x8, x9, x10] st h = jv_ev d 168 6 [x0, some (.int v), x2, x3, x4, x5, x6, x7, x8, x9, x10] (.int v :: st) h := jq_nx (jv_insR jm_168 dX0_isSo_5) rfl
theorem e168_6 : jv_ev d 168 6 lc (.int w :: .int v :: st) h = if w ≤ v then jv_ev d 168 124 lc st h else jv_ev d 168 9 lc st h := jq_if (jv_insR jm_168 dX0_isSo_6) rfl (by decide)
theorem e168_9 : jv_ev d 168 9 [some (.ref a), x1, x2, x3, x4, x5, x6, x7, x8, x9, x10] st h = jv_ev d 168 10 [some (.ref a), x1, x2, x3, x4, x5, x6, x7, x8, x9, x10] (.ref a :: st) h := jq_nx (jv_insR jm_168 dX0_isSo_9) rfl
theorem e168_10 : jv_ev d 168 10 lc (.ref a :: st) h = (jv_gf h a [(1, 22, .array .int)]).bind fun r => jv_ev d 168 13 lc (r :: st) h := jq_get (jv_insR jm_168 dX0_isSo_10) jo_168 jF_2_105
theorem e168_13 : jv_ev d 168 13 [x0, x1, x2, x3, x4, x5, x6, some (.int v), x8, x9, x10] st h = jv_ev d 168 15 [x0, x1, x2, x3, x4, x5, x6, some (.int v), x8, x9, x10] (.int v :: st) h := jq_nx (jv_insR jm_168 dX0_isSo_13) rfl
theorem e168_15 : jv_ev d 168 15 lc (.int v :: .ref a :: st) h = (jv_ig h a 0 0 v).bind fun w => jv_ev d 168 16 lc (.int w :: st) h := jq_iald (jv_insR jm_168 dX0_isSo_15)
theorem e168_16 : jv_ev d 168 16 lc st h = jv_ev d 168 18 lc (.int 8 :: st) h := jq_bipush (jv_insR jm_168 dX0_isSo_16) (by decide)
theorem e168_18 : jv_ev d 168 18 lc (.int w :: .int v :: st) h = if w = 0 then none else jv_ev d 168 19 lc (.int (v - v / w * w) :: st) h := jq_irem (jv_insR jm_168 dX0_isSo_18)
theorem e168_19 : jv_ev d 168 19 [x0, x1, x2, x3, x4, some (.int v), x6, x7, x8, x9, x10] st h = jv_ev d 168 21 [x0, x1, x2, x3, x4, some (.int v), x6, x7, x8, x9, x10] (.int v :: st) h := jq_nx (jv_insR jm_168 dX0_isSo_19) rfl
theorem e168_21 : jv_ev d 168 21 lc (.int w :: .int v :: st) h = jv_ev d 168 22 lc (.int (v - w) :: st) h := jq_nx (jv_insR jm_168 dX0_isSo_21) rfl
theorem e168_22 : jv_ev d 168 22 [x0, x1, x2, x3, x4, x5, x6, x7, x8, x9, x10] (.int v :: st) h = jv_ev d 168 24 [x0, x1, x2, x3, x4, x5, x6, x7, some (.int v), x9, x10] st h := jq_nx (jv_insR jm_168 dX0_isSo_22) rfl
theorem e168_24 : jv_ev d 168 24 [some (.ref a), x1, x2, x3, x4, x5, x6, x7, x8, x9, x10] st h = jv_ev d 168 25 [some (.ref a), x1, x2, x3, x4, x5, x6, x7, x8, x9, x10] (.ref a :: st) h := jq_nx (jv_insR jm_168 dX0_isSo_24) rfl
theorem e168_25 : jv_ev d 168 25 lc (.ref a :: st) h = (jv_gf h a [(1, 22, .array .int)]).bind fun r => jv_ev d 168 28 lc (r :: st) h := jq_get (jv_insR jm_168 dX0_isSo_25) jo_168 jF_2_105
theorem e168_28 : jv_ev d 168 28 [x0, x1, x2, x3, x4, x5, x6, some (.int v), x8, x9, x10] st h = jv_ev d 168 30 [x0, x1, x2, x3, x4, x5, x6, some (.int v), x8, x9, x10] (.int v :: st) h := jq_nx (jv_insR jm_168 dX0_isSo_28) rfl
theorem e168_30 : jv_ev d 168 30 lc (.int v :: .ref a :: st) h = (jv_ig h a 0 0 v).bind fun w => jv_ev d 168 31 lc (.int w :: st) h := jq_iald (jv_insR jm_168 dX0_isSo_30)
theorem e168_31 : jv_ev d 168 31 lc st h = jv_ev d 168 33 lc (.int 8 :: st) h := jq_bipush (jv_insR jm_168 dX0_isSo_31) (by decide)
theorem e168_33 : jv_ev d 168 33 lc (.int w :: .int v :: st) h = if w = 0 then none else jv_ev d 168 34 lc (.int (v / w) :: st) h := jq_idiv (jv_insR jm_168 dX0_isSo_33)
theorem e168_34 : jv_ev d 168 34 [x0, x1, x2, x3, x4, x5, some (.int v), x7, x8, x9, x10] st h = jv_ev d 168 36 [x0, x1, x2, x3, x4, x5, some (.int v), x7, x8, x9, x10] (.int v :: st) h := jq_nx (jv_insR jm_168 dX0_isSo_34) rfl
theorem e168_36 : jv_ev d 168 36 lc (.int w :: .int v :: st) h = jv_ev d 168 37 lc (.int (v - w) :: st) h := jq_nx (jv_insR jm_168 dX0_isSo_36) rfl
theorem e168_37 : jv_ev d 168 37 [x0, x1, x2, x3, x4, x5, x6, x7, x8, x9, x10] (.int v :: st) h = jv_ev d 168 39 [x0, x1, x2, x3, x4, x5, x6, x7, x8, some (.int v), x10] st h := jq_nx (jv_insR jm_168 dX0_isSo_37) rfl
theorem e168_39 : jv_ev d 168 39 [x0, x1, x2, x3, x4, x5, x6, x7, some (.int v), x9, x10] st h = jv_ev d 168 41 [x0, x1, x2, x3, x4, x5, x6, x7, some (.int v), x9, x10] (.int v :: st) h := jq_nx (jv_insR jm_168 dX0_isSo_39) rfl
theorem e168_41 : jv_ev d 168 41 lc st h = jv_ev d 168 42 lc (.int 0 :: st) h := jq_iconst (jv_insR jm_168 dX0_isSo_41) (by decide)
theorem e168_42 : jv_ev d 168 42 [x0, x1, x2, some (.int v), x4, x5, x6, x7, x8, x9, x10] st h = jv_ev d 168 43 [x0, x1, x2, some (.int v), x4, x5, x6, x7, x8, x9, x10] (.int v :: st) h := jq_nx (jv_insR jm_168 dX0_isSo_42) rfl
theorem e168_43 : jv_ev d 168 43 lc st h = jv_ev d 168 44 lc (.int 1 :: st) h := jq_iconst (jv_insR jm_168 dX0_isSo_43) (by decide)
theorem e168_44 : jv_ev d 168 44 lc (.int w :: .int v :: st) h = jv_ev d 168 45 lc (.int (v - w) :: st) h := jq_nx (jv_insR jm_168 dX0_isSo_44) rfl
theorem e168_45 : jv_ev d 168 45 lc [z2, z1, z0] h = (jv_cd d 124 [z0, z1, z2] h).bind fun r => jv_on r (fun v h => jv_ev d 168 48 lc (v.toList ++ []) h) (fun q h => some (.inr q, h)) := jq_S (as := [z0, z1, z2]) (rest := []) (jv_insR jm_168 dX0_isSo_45) jo_168 jT_2_158 rfl rfl rfl rfl
theorem e168_48 : jv_ev d 168 48 lc (.int v :: st) h = if v = 0 then jv_ev d 168 68 lc st h else jv_ev d 168 51 lc st h := jq_if (jv_insR jm_168 dX0_isSo_48) rfl (by decide)
theorem e168_51 : jv_ev d 168 51 [x0, x1, x2, x3, x4, x5, x6, x7, x8, some (.int v), x10] st h = jv_ev d 168 53 [x0, x1, x2, x3, x4, x5, x6, x7, x8, some (.int v), x10] (.int v :: st) h := jq_nx (jv_insR jm_168 dX0_isSo_51) rfl
theorem e168_53 : jv_ev d 168 53 lc st h = jv_ev d 168 54 lc (.int 0 :: st) h := jq_iconst (jv_insR jm_168 dX0_isSo_53) (by decide)
theorem e168_54 : jv_ev d 168 54 [x0, x1, x2, x3, some (.int v), x5, x6, x7, x8, x9, x10] st h = jv_ev d 168 56 [x0, x1, x2, x3, some (.int v), x5, x6, x7, x8, x9, x10] (.int v :: st) h := jq_nx (jv_insR jm_168 dX0_isSo_54) rfl
theorem e168_56 : jv_ev d 168 56 lc st h = jv_ev d 168 57 lc (.int 1 :: st) h := jq_iconst (jv_insR jm_168 dX0_isSo_56) (by decide)
theorem e168_57 : jv_ev d 168 57 lc (.int w :: .int v :: st) h = jv_ev d 168 58 lc (.int (v - w) :: st) h := jq_nx (jv_insR jm_168 dX0_isSo_57) rfl
theorem e168_58 : jv_ev d 168 58 lc [z2, z1, z0] h = (jv_cd d 124 [z0, z1, z2] h).bind fun r => jv_on r (fun v h => jv_ev d 168 61 lc (v.toList ++ []) h) (fun q h => some (.inr q, h)) := jq_S (as := [z0, z1, z2]) (rest := []) (jv_insR jm_168 dX0_isSo_58) jo_168 jT_2_158 rfl rfl rfl rfl
theorem e168_61 : jv_ev d 168 61 lc (.int v :: st) h = if v = 0 then jv_ev d 168 68 lc st h else jv_ev d 168 64 lc st h := jq_if (jv_insR jm_168 dX0_isSo_61) rfl (by decide)
theorem e168_64 : jv_ev d 168 64 lc st h = jv_ev d 168 65 lc (.int 1 :: st) h := jq_iconst (jv_insR jm_168 dX0_isSo_64) (by decide)
theorem e168_65 : jv_ev d 168 65 lc st h = jv_ev d 168 69 lc st h := jq_go (jv_insR jm_168 dX0_isSo_65) (by decide)
theorem e168_68 : jv_ev d 168 68 lc st h = jv_ev d 168 69 lc (.int 0 :: st) h := jq_iconst (jv_insR jm_168 dX0_isSo_68) (by decide)
theorem e168_69 : jv_ev d 168 69 [x0, x1, x2, x3, x4, x5, x6, x7, x8, x9, x10] (.int v :: st) h = jv_ev d 168 71 [x0, x1, x2, x3, x4, x5, x6, x7, x8, x9, some (.int v)] st h := jq_nx (jv_insR jm_168 dX0_isSo_69) rfl
theorem e168_71 : jv_ev d 168 71 [x0, x1, x2, x3, x4, x5, x6, x7, x8, x9, some (.int v)] st h = jv_ev d 168 73 [x0, x1, x2, x3, x4, x5, x6, x7, x8, x9, some (.int v)] (.int v :: st) h := jq_nx (jv_insR jm_168 dX0_isSo_71) rfl
theorem e168_73 : jv_ev d 168 73 lc (.int v :: st) h = if v = 0 then jv_ev d 168 105 lc st h else jv_ev d 168 76 lc st h := jq_if (jv_insR jm_168 dX0_isSo_73) rfl (by decide)
theorem e168_76 : jv_ev d 168 76 [some (.ref a), x1, x2, x3, x4, x5, x6, x7, x8, x9, x10] st h = jv_ev d 168 77 [some (.ref a), x1, x2, x3, x4, x5, x6, x7, x8, x9, x10] (.ref a :: st) h := jq_nx (jv_insR jm_168 dX0_isSo_76) rfl
theorem e168_77 : jv_ev d 168 77 lc (.ref a :: st) h = (jv_gf h a [(1, 7, .object "RainLoom$Land")]).bind fun r => jv_ev d 168 80 lc (r :: st) h := jq_get (jv_insR jm_168 dX0_isSo_77) jo_168 jF_2_51
theorem e168_80 : jv_ev d 168 80 [some (.ref a), x1, x2, x3, x4, x5, x6, x7, x8, x9, x10] st h = jv_ev d 168 81 [some (.ref a), x1, x2, x3, x4, x5, x6, x7, x8, x9, x10] (.ref a :: st) h := jq_nx (jv_insR jm_168 dX0_isSo_80) rfl
theorem e168_81 : jv_ev d 168 81 lc (.ref a :: st) h = (jv_gf h a [(1, 3, .object "RainLoom$Text")]).bind fun r => jv_ev d 168 84 lc (r :: st) h := jq_get (jv_insR jm_168 dX0_isSo_81) jo_168 jF_2_40
theorem e168_84 : jv_ev d 168 84 [x0, x1, some (.int v), x3, x4, x5, x6, x7, x8, x9, x10] st h = jv_ev d 168 85 [x0, x1, some (.int v), x3, x4, x5, x6, x7, x8, x9, x10] (.int v :: st) h := jq_nx (jv_insR jm_168 dX0_isSo_84) rfl
theorem e168_85 : jv_ev d 168 85 [x0, x1, x2, x3, x4, x5, x6, x7, some (.int v), x9, x10] st h = jv_ev d 168 87 [x0, x1, x2, x3, x4, x5, x6, x7, some (.int v), x9, x10] (.int v :: st) h := jq_nx (jv_insR jm_168 dX0_isSo_85) rfl
theorem e168_87 : jv_ev d 168 87 [some (.ref a), x1, x2, x3, x4, x5, x6, x7, x8, x9, x10] st h = jv_ev d 168 88 [some (.ref a), x1, x2, x3, x4, x5, x6, x7, x8, x9, x10] (.ref a :: st) h := jq_nx (jv_insR jm_168 dX0_isSo_87) rfl
theorem e168_88 : jv_ev d 168 88 lc (.ref a :: st) h = (jv_gf h a [(1, 7, .object "RainLoom$Land")]).bind fun r => jv_ev d 168 91 lc (r :: st) h := jq_get (jv_insR jm_168 dX0_isSo_88) jo_168 jF_2_51
theorem e168_91 : jv_ev d 168 91 lc (.ref a :: st) h = (jv_gf h a [(6, 3, .array .int)]).bind fun r => jv_ev d 168 94 lc (r :: st) h := jq_get (jv_insR jm_168 dX0_isSo_91) jo_168 jF_2_210
theorem e168_94 : jv_ev d 168 94 [x0, x1, some (.int v), x3, x4, x5, x6, x7, x8, x9, x10] st h = jv_ev d 168 95 [x0, x1, some (.int v), x3, x4, x5, x6, x7, x8, x9, x10] (.int v :: st) h := jq_nx (jv_insR jm_168 dX0_isSo_94) rfl
theorem e168_95 : jv_ev d 168 95 lc (.int v :: .ref a :: st) h = (jv_ig h a 0 0 v).bind fun w => jv_ev d 168 96 lc (.int w :: st) h := jq_iald (jv_insR jm_168 dX0_isSo_95)
theorem e168_96 : jv_ev d 168 96 [x0, x1, x2, x3, x4, x5, x6, x7, x8, some (.int v), x10] st h = jv_ev d 168 98 [x0, x1, x2, x3, x4, x5, x6, x7, x8, some (.int v), x10] (.int v :: st) h := jq_nx (jv_insR jm_168 dX0_isSo_96) rfl
theorem e168_98 : jv_ev d 168 98 lc (.int w :: .int v :: st) h = jv_ev d 168 99 lc (.int (v + w) :: st) h := jq_nx (jv_insR jm_168 dX0_isSo_98) rfl
theorem e168_99 : jv_ev d 168 99 lc [z3, z2, z1, z0, .ref b] h = (jv_rc h b [(6, 221)]).bind fun y => (jv_cd d y [.ref b, z0, z1, z2, z3] h).bind fun r => jv_on r (fun v h => jv_ev d 168 102 lc (v.toList ++ []) h) (fun q h => some (.inr q, h)) := jq_V (as := [z0, z1, z2, z3]) (rest := []) (jv_insR jm_168 dX0_isSo_99) jo_168 jV_2_230 rfl rfl rfl rfl
theorem e168_102 : jv_ev d 168 102 lc st h = jv_ev d 168 106 lc st h := jq_go (jv_insR jm_168 dX0_isSo_102) (by decide)
theorem e168_105 : jv_ev d 168 105 lc st h = jv_ev d 168 106 lc (.int 0 :: st) h := jq_iconst (jv_insR jm_168 dX0_isSo_105) (by decide)
theorem e168_106 : jv_ev d 168 106 [some (.ref a), x1, x2, x3, x4, x5, x6, x7, x8, x9, x10] st h = jv_ev d 168 107 [some (.ref a), x1, x2, x3, x4, x5, x6, x7, x8, x9, x10] (.ref a :: st) h := jq_nx (jv_insR jm_168 dX0_isSo_106) rfl
theorem e168_107 : jv_ev d 168 107 lc (.ref a :: st) h = (jv_gf h a [(1, 23, .array .int)]).bind fun r => jv_ev d 168 110 lc (r :: st) h := jq_get (jv_insR jm_168 dX0_isSo_107) jo_168 jF_2_108
theorem e168_110 : jv_ev d 168 110 [x0, x1, x2, x3, x4, x5, x6, some (.int v), x8, x9, x10] st h = jv_ev d 168 112 [x0, x1, x2, x3, x4, x5, x6, some (.int v), x8, x9, x10] (.int v :: st) h := jq_nx (jv_insR jm_168 dX0_isSo_110) rfl
theorem e168_112 : jv_ev d 168 112 lc (.int v :: .ref a :: st) h = (jv_ig h a 0 0 v).bind fun w => jv_ev d 168 113 lc (.int w :: st) h := jq_iald (jv_insR jm_168 dX0_isSo_112)
theorem e168_113 : jv_ev d 168 113 lc (.int w :: .int v :: st) h = if v = w then jv_ev d 168 118 lc st h else jv_ev d 168 116 lc st h := jq_if (jv_insR jm_168 dX0_isSo_113) rfl (by decide)
theorem e168_116 : jv_ev d 168 116 lc st h = jv_ev d 168 117 lc (.int 0 :: st) h := jq_iconst (jv_insR jm_168 dX0_isSo_116) (by decide)
theorem e168_117 : jv_ev d 168 117 lc [.int v] h = if narrow .boolean (.int v) = .int v then some (.inl (some (.int v)), h) else none := jq_ret (jv_insR jm_168 dX0_isSo_117) jr_168 (by decide)
theorem e168_118 : jv_ev d 168 118 [x0, x1, x2, x3, x4, x5, x6, some (.int v), x8, x9, x10] st h = jv_ev d 168 121 [x0, x1, x2, x3, x4, x5, x6, some (.int (v + 1)), x8, x9, x10] st h := jq_nx (jv_insR jm_168 dX0_isSo_118) rfl
theorem e168_121 : jv_ev d 168 121 lc st h = jv_ev d 168 3 lc st h := jq_go (jv_insR jm_168 dX0_isSo_121) (by decide)
theorem e168_124 : jv_ev d 168 124 lc st h = jv_ev d 168 125 lc (.int 1 :: st) h := jq_iconst (jv_insR jm_168 dX0_isSo_124) (by decide)
theorem e168_125 : jv_ev d 168 125 lc [.int v] h = if narrow .boolean (.int v) = .int v then some (.inl (some (.int v)), h) else none := jq_ret (jv_insR jm_168 dX0_isSo_125) jr_168 (by decide)
/-! 169: RainLoom.look(III)I -/
theorem n169 : jv_cd (d + 1) 169 [.ref a0, .int i1, .int i2, .int i3] h = jv_ev d 169 0 [some (.ref a0), some (.int i1), some (.int i2), some (.int i3), none, none, none, none, none] [] h := rfl
theorem e169_0 : jv_ev d 169 0 [x0, some (.int v), x2, x3, x4, x5, x6, x7, x8] st h = jv_ev d 169 1 [x0, some (.int v), x2, x3, x4, x5, x6, x7, x8] (.int v :: st) h := jq_nx (jv_insR jm_169 dX0_look_0) rfl
theorem e169_1 : jv_ev d 169 1 lc st h = jv_ev d 169 2 lc (.int 0 :: st) h := jq_iconst (jv_insR jm_169 dX0_look_1) (by decide)
theorem e169_2 : jv_ev d 169 2 [some (.ref a), x1, x2, x3, x4, x5, x6, x7, x8] st h = jv_ev d 169 3 [some (.ref a), x1, x2, x3, x4, x5, x6, x7, x8] (.ref a :: st) h := jq_nx (jv_insR jm_169 dX0_look_2) rfl
theorem e169_3 : jv_ev d 169 3 lc (.ref a :: st) h = (jv_gf h a [(1, 21, .int)]).bind fun r => jv_ev d 169 6 lc (r :: st) h := jq_get (jv_insR jm_169 dX0_look_3) jo_169 jF_2_136
theorem e169_6 : jv_ev d 169 6 lc [z2, z1, z0] h = (jv_cd d 124 [z0, z1, z2] h).bind fun r => jv_on r (fun v h => jv_ev d 169 9 lc (v.toList ++ []) h) (fun q h => some (.inr q, h)) := jq_S (as := [z0, z1, z2]) (rest := []) (jv_insR jm_169 dX0_look_6) jo_169 jT_2_158 rfl rfl rfl rfl
theorem e169_9 : jv_ev d 169 9 lc (.int v :: st) h = if v = 0 then jv_ev d 169 32 lc st h else jv_ev d 169 12 lc st h := jq_if (jv_insR jm_169 dX0_look_9) rfl (by decide)
theorem e169_12 : jv_ev d 169 12 [x0, x1, some (.int v), x3, x4, x5, x6, x7, x8] st h = jv_ev d 169 13 [x0, x1, some (.int v), x3, x4, x5, x6, x7, x8] (.int v :: st) h := jq_nx (jv_insR jm_169 dX0_look_12) rfl
theorem e169_13 : jv_ev d 169 13 lc st h = jv_ev d 169 14 lc (.int 1 :: st) h := jq_iconst (jv_insR jm_169 dX0_look_13) (by decide)
theorem e169_14 : jv_ev d 169 14 lc st h = jv_ev d 169 16 lc (.int 8 :: st) h := jq_bipush (jv_insR jm_169 dX0_look_14) (by decide)
theorem e169_16 : jv_ev d 169 16 lc [z2, z1, z0] h = (jv_cd d 124 [z0, z1, z2] h).bind fun r => jv_on r (fun v h => jv_ev d 169 19 lc (v.toList ++ []) h) (fun q h => some (.inr q, h)) := jq_S (as := [z0, z1, z2]) (rest := []) (jv_insR jm_169 dX0_look_16) jo_169 jT_2_158 rfl rfl rfl rfl
theorem e169_19 : jv_ev d 169 19 lc (.int v :: st) h = if v = 0 then jv_ev d 169 32 lc st h else jv_ev d 169 22 lc st h := jq_if (jv_insR jm_169 dX0_look_19) rfl (by decide)
theorem e169_22 : jv_ev d 169 22 [x0, x1, x2, some (.int v), x4, x5, x6, x7, x8] st h = jv_ev d 169 23 [x0, x1, x2, some (.int v), x4, x5, x6, x7, x8] (.int v :: st) h := jq_nx (jv_insR jm_169 dX0_look_22) rfl
theorem e169_23 : jv_ev d 169 23 lc st h = jv_ev d 169 24 lc (.int 1 :: st) h := jq_iconst (jv_insR jm_169 dX0_look_23) (by decide)
theorem e169_24 : jv_ev d 169 24 lc st h = jv_ev d 169 26 lc (.int 6 :: st) h := jq_bipush (jv_insR jm_169 dX0_look_24) (by decide)
theorem e169_26 : jv_ev d 169 26 lc [z2, z1, z0] h = (jv_cd d 124 [z0, z1, z2] h).bind fun r => jv_on r (fun v h => jv_ev d 169 29 lc (v.toList ++ []) h) (fun q h => some (.inr q, h)) := jq_S (as := [z0, z1, z2]) (rest := []) (jv_insR jm_169 dX0_look_26) jo_169 jT_2_158 rfl rfl rfl rfl
theorem e169_29 : jv_ev d 169 29 lc (.int v :: st) h = if ¬ v = 0 then jv_ev d 169 34 lc st h else jv_ev d 169 32 lc st h := jq_if (jv_insR jm_169 dX0_look_29) rfl (by decide)
theorem e169_32 : jv_ev d 169 32 lc st h = jv_ev d 169 33 lc (.int (-1) :: st) h := jq_iconst (jv_insR jm_169 dX0_look_32) (by decide)
theorem e169_33 : jv_ev d 169 33 lc [.int v] h = some (.inl (some (.int v)), h) := jq_reti (jv_insR jm_169 dX0_look_33) jr_169
theorem e169_34 : jv_ev d 169 34 lc st h = jv_ev d 169 36 lc (.int (-2) :: st) h := jq_bipush (jv_insR jm_169 dX0_look_34) (by decide)
theorem e169_36 : jv_ev d 169 36 [x0, x1, x2, x3, x4, x5, x6, x7, x8] (.int v :: st) h = jv_ev d 169 38 [x0, x1, x2, x3, some (.int v), x5, x6, x7, x8] st h := jq_nx (jv_insR jm_169 dX0_look_36) rfl
theorem e169_38 : jv_ev d 169 38 lc st h = jv_ev d 169 41 lc (.int (1000000) :: st) h := jq_ldcw (jv_insR jm_169 dX0_look_38) jo_169 jK_2_308
theorem e169_41 : jv_ev d 169 41 [x0, x1, x2, x3, x4, x5, x6, x7, x8] (.int v :: st) h = jv_ev d 169 43 [x0, x1, x2, x3, x4, some (.int v), x6, x7, x8] st h := jq_nx (jv_insR jm_169 dX0_look_41) rfl
theorem e169_43 : jv_ev d 169 43 lc st h = jv_ev d 169 44 lc (.int 0 :: st) h := jq_iconst (jv_insR jm_169 dX0_look_43) (by decide)
theorem e169_44 : jv_ev d 169 44 [x0, x1, x2, x3, x4, x5, x6, x7, x8] (.int v :: st) h = jv_ev d 169 46 [x0, x1, x2, x3, x4, x5, some (.int v), x7, x8] st h := jq_nx (jv_insR jm_169 dX0_look_44) rfl
theorem e169_46 : jv_ev d 169 46 [x0, x1, x2, x3, x4, x5, some (.int v), x7, x8] st h = jv_ev d 169 48 [x0, x1, x2, x3, x4, x5, some (.int v), x7, x8] (.int v :: st) h := jq_nx (jv_insR jm_169 dX0_look_46) rfl
theorem e169_48 : jv_ev d 169 48 lc st h = jv_ev d 169 50 lc (.int 48 :: st) h := jq_bipush (jv_insR jm_169 dX0_look_48) (by decide)
theorem e169_50 : jv_ev d 169 50 lc (.int w :: .int v :: st) h = if w ≤ v then jv_ev d 169 86 lc st h else jv_ev d 169 53 lc st h := jq_if (jv_insR jm_169 dX0_look_50) rfl (by decide)
theorem e169_53 : jv_ev d 169 53 lc st h = jv_ev d 169 54 lc (.int 0 :: st) h := jq_iconst (jv_insR jm_169 dX0_look_53) (by decide)
theorem e169_54 : jv_ev d 169 54 [x0, x1, x2, x3, x4, x5, x6, x7, x8] (.int v :: st) h = jv_ev d 169 56 [x0, x1, x2, x3, x4, x5, x6, some (.int v), x8] st h := jq_nx (jv_insR jm_169 dX0_look_54) rfl
theorem e169_56 : jv_ev d 169 56 [x0, x1, x2, x3, x4, x5, x6, some (.int v), x8] st h = jv_ev d 169 58 [x0, x1, x2, x3, x4, x5, x6, some (.int v), x8] (.int v :: st) h := jq_nx (jv_insR jm_169 dX0_look_56) rfl
theorem e169_58 : jv_ev d 169 58 lc st h = jv_ev d 169 60 lc (.int 9 :: st) h := jq_bipush (jv_insR jm_169 dX0_look_58) (by decide)
theorem e169_60 : jv_ev d 169 60 lc (.int w :: .int v :: st) h = if w < v then jv_ev d 169 80 lc st h else jv_ev d 169 63 lc st h := jq_if (jv_insR jm_169 dX0_look_60) rfl (by decide)
theorem e169_63 : jv_ev d 169 63 [some (.ref a), x1, x2, x3, x4, x5, x6, x7, x8] st h = jv_ev d 169 64 [some (.ref a), x1, x2, x3, x4, x5, x6, x7, x8] (.ref a :: st) h := jq_nx (jv_insR jm_169 dX0_look_63) rfl
theorem e169_64 : jv_ev d 169 64 lc (.ref a :: st) h = (jv_gf h a [(1, 24, .array (.array .int))]).bind fun r => jv_ev d 169 67 lc (r :: st) h := jq_get (jv_insR jm_169 dX0_look_64) jo_169 jF_2_111
theorem e169_67 : jv_ev d 169 67 [x0, x1, x2, x3, x4, x5, some (.int v), x7, x8] st h = jv_ev d 169 69 [x0, x1, x2, x3, x4, x5, some (.int v), x7, x8] (.int v :: st) h := jq_nx (jv_insR jm_169 dX0_look_67) rfl
theorem e169_69 : jv_ev d 169 69 lc (.int v :: .ref a :: st) h = (jv_rg h a v).bind fun w => jv_ev d 169 70 lc (w :: st) h := jq_aald (jv_insR jm_169 dX0_look_69)
theorem e169_70 : jv_ev d 169 70 [x0, x1, x2, x3, x4, x5, x6, some (.int v), x8] st h = jv_ev d 169 72 [x0, x1, x2, x3, x4, x5, x6, some (.int v), x8] (.int v :: st) h := jq_nx (jv_insR jm_169 dX0_look_70) rfl
theorem e169_72 : jv_ev d 169 72 lc st h = jv_ev d 169 73 lc (.int 0 :: st) h := jq_iconst (jv_insR jm_169 dX0_look_72) (by decide)
theorem e169_73 : jv_ev d 169 73 lc (.int w :: .int v :: .ref a :: st) h = (jv_ip h a 0 0 v w).bind fun h => jv_ev d 169 74 lc st h := jq_iast (jv_insR jm_169 dX0_look_73)
theorem e169_74 : jv_ev d 169 74 [x0, x1, x2, x3, x4, x5, x6, some (.int v), x8] st h = jv_ev d 169 77 [x0, x1, x2, x3, x4, x5, x6, some (.int (v + 1)), x8] st h := jq_nx (jv_insR jm_169 dX0_look_74) rfl
theorem e169_77 : jv_ev d 169 77 lc st h = jv_ev d 169 56 lc st h := jq_go (jv_insR jm_169 dX0_look_77) (by decide)
theorem e169_80 : jv_ev d 169 80 [x0, x1, x2, x3, x4, x5, some (.int v), x7, x8] st h = jv_ev d 169 83 [x0, x1, x2, x3, x4, x5, some (.int (v + 1)), x7, x8] st h := jq_nx (jv_insR jm_169 dX0_look_80) rfl
theorem e169_83 : jv_ev d 169 83 lc st h = jv_ev d 169 46 lc st h := jq_go (jv_insR jm_169 dX0_look_83) (by decide)
theorem e169_86 : jv_ev d 169 86 lc st h = jv_ev d 169 87 lc (.int 0 :: st) h := jq_iconst (jv_insR jm_169 dX0_look_86) (by decide)
theorem e169_87 : jv_ev d 169 87 [x0, x1, x2, x3, x4, x5, x6, x7, x8] (.int v :: st) h = jv_ev d 169 89 [x0, x1, x2, x3, x4, x5, some (.int v), x7, x8] st h := jq_nx (jv_insR jm_169 dX0_look_87) rfl
theorem e169_89 : jv_ev d 169 89 [some (.ref a), x1, x2, x3, x4, x5, x6, x7, x8] st h = jv_ev d 169 90 [some (.ref a), x1, x2, x3, x4, x5, x6, x7, x8] (.ref a :: st) h := jq_nx (jv_insR jm_169 dX0_look_89) rfl
theorem e169_90 : jv_ev d 169 90 [x0, some (.int v), x2, x3, x4, x5, x6, x7, x8] st h = jv_ev d 169 91 [x0, some (.int v), x2, x3, x4, x5, x6, x7, x8] (.int v :: st) h := jq_nx (jv_insR jm_169 dX0_look_90) rfl
theorem e169_91 : jv_ev d 169 91 [x0, x1, some (.int v), x3, x4, x5, x6, x7, x8] st h = jv_ev d 169 92 [x0, x1, some (.int v), x3, x4, x5, x6, x7, x8] (.int v :: st) h := jq_nx (jv_insR jm_169 dX0_look_91) rfl
theorem e169_92 : jv_ev d 169 92 [x0, x1, x2, some (.int v), x4, x5, x6, x7, x8] st h = jv_ev d 169 93 [x0, x1, x2, some (.int v), x4, x5, x6, x7, x8] (.int v :: st) h := jq_nx (jv_insR jm_169 dX0_look_92) rfl
theorem e169_93 : jv_ev d 169 93 lc st h = jv_ev d 169 94 lc (.int (-1) :: st) h := jq_iconst (jv_insR jm_169 dX0_look_93) (by decide)
theorem e169_94 : jv_ev d 169 94 lc [z3, z2, z1, z0, .ref b] h = (jv_rc h b [(1, 167)]).bind fun y => (jv_cd d y [.ref b, z0, z1, z2, z3] h).bind fun r => jv_on r (fun v h => jv_ev d 169 97 lc (v.toList ++ []) h) (fun q h => some (.inr q, h)) := jq_V (as := [z0, z1, z2, z3]) (rest := []) (jv_insR jm_169 dX0_look_94) jo_169 jV_2_340 rfl rfl rfl rfl
theorem e169_97 : jv_ev d 169 97 [x0, x1, x2, x3, x4, x5, x6, x7, x8] (.int v :: st) h = jv_ev d 169 99 [x0, x1, x2, x3, x4, x5, x6, some (.int v), x8] st h := jq_nx (jv_insR jm_169 dX0_look_97) rfl
theorem e169_99 : jv_ev d 169 99 [x0, x1, x2, x3, x4, x5, some (.int v), x7, x8] st h = jv_ev d 169 101 [x0, x1, x2, x3, x4, x5, some (.int v), x7, x8] (.int v :: st) h := jq_nx (jv_insR jm_169 dX0_look_99) rfl
theorem e169_101 : jv_ev d 169 101 [x0, x1, x2, x3, x4, x5, x6, some (.int v), x8] st h = jv_ev d 169 103 [x0, x1, x2, x3, x4, x5, x6, some (.int v), x8] (.int v :: st) h := jq_nx (jv_insR jm_169 dX0_look_101) rfl
theorem e169_103 : jv_ev d 169 103 lc (.int w :: .int v :: st) h = if w ≤ v then jv_ev d 169 147 lc st h else jv_ev d 169 106 lc st h := jq_if (jv_insR jm_169 dX0_look_103) rfl (by decide)
theorem e169_106 : jv_ev d 169 106 [some (.ref a), x1, x2, x3, x4, x5, x6, x7, x8] st h = jv_ev d 169 107 [some (.ref a), x1, x2, x3, x4, x5, x6, x7, x8] (.ref a :: st) h := jq_nx (jv_insR jm_169 dX0_look_106) rfl
theorem e169_107 : jv_ev d 169 107 [x0, some (.int v), x2, x3, x4, x5, x6, x7, x8] st h = jv_ev d 169 108 [x0, some (.int v), x2, x3, x4, x5, x6, x7, x8] (.int v :: st) h := jq_nx (jv_insR jm_169 dX0_look_107) rfl
theorem e169_108 : jv_ev d 169 108 [x0, x1, some (.int v), x3, x4, x5, x6, x7, x8] st h = jv_ev d 169 109 [x0, x1, some (.int v), x3, x4, x5, x6, x7, x8] (.int v :: st) h := jq_nx (jv_insR jm_169 dX0_look_108) rfl
theorem e169_109 : jv_ev d 169 109 [x0, x1, x2, some (.int v), x4, x5, x6, x7, x8] st h = jv_ev d 169 110 [x0, x1, x2, some (.int v), x4, x5, x6, x7, x8] (.int v :: st) h := jq_nx (jv_insR jm_169 dX0_look_109) rfl
theorem e169_110 : jv_ev d 169 110 [x0, x1, x2, x3, x4, x5, some (.int v), x7, x8] st h = jv_ev d 169 112 [x0, x1, x2, x3, x4, x5, some (.int v), x7, x8] (.int v :: st) h := jq_nx (jv_insR jm_169 dX0_look_110) rfl
theorem e169_112 : jv_ev d 169 112 lc [z3, z2, z1, z0, .ref b] h = (jv_rc h b [(1, 167)]).bind fun y => (jv_cd d y [.ref b, z0, z1, z2, z3] h).bind fun r => jv_on r (fun v h => jv_ev d 169 115 lc (v.toList ++ []) h) (fun q h => some (.inr q, h)) := jq_V (as := [z0, z1, z2, z3]) (rest := []) (jv_insR jm_169 dX0_look_112) jo_169 jV_2_340 rfl rfl rfl rfl
theorem e169_115 : jv_ev d 169 115 [x0, x1, x2, x3, x4, x5, x6, x7, x8] (.int v :: st) h = jv_ev d 169 117 [x0, x1, x2, x3, x4, x5, x6, x7, some (.int v)] st h := jq_nx (jv_insR jm_169 dX0_look_115) rfl
theorem e169_117 : jv_ev d 169 117 [some (.ref a), x1, x2, x3, x4, x5, x6, x7, x8] st h = jv_ev d 169 118 [some (.ref a), x1, x2, x3, x4, x5, x6, x7, x8] (.ref a :: st) h := jq_nx (jv_insR jm_169 dX0_look_117) rfl
theorem e169_118 : jv_ev d 169 118 [x0, x1, x2, x3, x4, x5, x6, x7, some (.int v)] st h = jv_ev d 169 120 [x0, x1, x2, x3, x4, x5, x6, x7, some (.int v)] (.int v :: st) h := jq_nx (jv_insR jm_169 dX0_look_118) rfl
theorem e169_120 : jv_ev d 169 120 lc st h = jv_ev d 169 122 lc (.int 100 :: st) h := jq_bipush (jv_insR jm_169 dX0_look_120) (by decide)
theorem e169_122 : jv_ev d 169 122 lc (.int w :: .int v :: st) h = if w = 0 then none else jv_ev d 169 123 lc (.int (v / w) :: st) h := jq_idiv (jv_insR jm_169 dX0_look_122)
theorem e169_123 : jv_ev d 169 123 [x0, x1, some (.int v), x3, x4, x5, x6, x7, x8] st h = jv_ev d 169 124 [x0, x1, some (.int v), x3, x4, x5, x6, x7, x8] (.int v :: st) h := jq_nx (jv_insR jm_169 dX0_look_123) rfl
theorem e169_124 : jv_ev d 169 124 [x0, x1, x2, some (.int v), x4, x5, x6, x7, x8] st h = jv_ev d 169 125 [x0, x1, x2, some (.int v), x4, x5, x6, x7, x8] (.int v :: st) h := jq_nx (jv_insR jm_169 dX0_look_124) rfl
theorem e169_125 : jv_ev d 169 125 [x0, x1, x2, x3, x4, x5, x6, x7, some (.int v)] st h = jv_ev d 169 127 [x0, x1, x2, x3, x4, x5, x6, x7, some (.int v)] (.int v :: st) h := jq_nx (jv_insR jm_169 dX0_look_125) rfl
theorem e169_127 : jv_ev d 169 127 lc st h = jv_ev d 169 129 lc (.int 10 :: st) h := jq_bipush (jv_insR jm_169 dX0_look_127) (by decide)
theorem e169_129 : jv_ev d 169 129 lc (.int w :: .int v :: st) h = if w = 0 then none else jv_ev d 169 130 lc (.int (v - v / w * w) :: st) h := jq_irem (jv_insR jm_169 dX0_look_129)
theorem e169_130 : jv_ev d 169 130 [x0, x1, x2, x3, x4, x5, x6, x7, some (.int v)] st h = jv_ev d 169 132 [x0, x1, x2, x3, x4, x5, x6, x7, some (.int v)] (.int v :: st) h := jq_nx (jv_insR jm_169 dX0_look_130) rfl
theorem e169_132 : jv_ev d 169 132 lc st h = jv_ev d 169 134 lc (.int 10 :: st) h := jq_bipush (jv_insR jm_169 dX0_look_132) (by decide)
theorem e169_134 : jv_ev d 169 134 lc (.int w :: .int v :: st) h = if w = 0 then none else jv_ev d 169 135 lc (.int (v / w) :: st) h := jq_idiv (jv_insR jm_169 dX0_look_134)
theorem e169_135 : jv_ev d 169 135 lc st h = jv_ev d 169 137 lc (.int 10 :: st) h := jq_bipush (jv_insR jm_169 dX0_look_135) (by decide)
theorem e169_137 : jv_ev d 169 137 lc (.int w :: .int v :: st) h = if w = 0 then none else jv_ev d 169 138 lc (.int (v - v / w * w) :: st) h := jq_irem (jv_insR jm_169 dX0_look_137)
theorem e169_138 : jv_ev d 169 138 lc [z4, z3, z2, z1, z0, .ref b] h = (jv_rc h b [(1, 170)]).bind fun y => (jv_cd d y [.ref b, z0, z1, z2, z3, z4] h).bind fun r => jv_on r (fun v h => jv_ev d 169 141 lc (v.toList ++ []) h) (fun q h => some (.inr q, h)) := jq_V (as := [z0, z1, z2, z3, z4]) (rest := []) (jv_insR jm_169 dX0_look_138) jo_169 jV_2_344 rfl rfl rfl rfl
theorem e169_141 : jv_ev d 169 141 [x0, x1, x2, x3, x4, x5, some (.int v), x7, x8] st h = jv_ev d 169 144 [x0, x1, x2, x3, x4, x5, some (.int (v + 1)), x7, x8] st h := jq_nx (jv_insR jm_169 dX0_look_141) rfl
theorem e169_144 : jv_ev d 169 144 lc st h = jv_ev d 169 99 lc st h := jq_go (jv_insR jm_169 dX0_look_144) (by decide)
theorem e169_147 : jv_ev d 169 147 lc st h = jv_ev d 169 148 lc (.int 0 :: st) h := jq_iconst (jv_insR jm_169 dX0_look_147) (by decide)
theorem e169_148 : jv_ev d 169 148 [x0, x1, x2, x3, x4, x5, x6, x7, x8] (.int v :: st) h = jv_ev d 169 150 [x0, x1, x2, x3, x4, x5, some (.int v), x7, x8] st h := jq_nx (jv_insR jm_169 dX0_look_148) rfl
theorem e169_150 : jv_ev d 169 150 [x0, x1, x2, x3, x4, x5, some (.int v), x7, x8] st h = jv_ev d 169 152 [x0, x1, x2, x3, x4, x5, some (.int v), x7, x8] (.int v :: st) h := jq_nx (jv_insR jm_169 dX0_look_150) rfl
theorem e169_152 : jv_ev d 169 152 lc st h = jv_ev d 169 154 lc (.int 48 :: st) h := jq_bipush (jv_insR jm_169 dX0_look_152) (by decide)
theorem e169_154 : jv_ev d 169 154 lc (.int w :: .int v :: st) h = if w ≤ v then jv_ev d 169 229 lc st h else jv_ev d 169 157 lc st h := jq_if (jv_insR jm_169 dX0_look_154) rfl (by decide)
theorem e169_157 : jv_ev d 169 157 lc st h = jv_ev d 169 158 lc (.int 0 :: st) h := jq_iconst (jv_insR jm_169 dX0_look_157) (by decide)
theorem e169_158 : jv_ev d 169 158 [x0, x1, x2, x3, x4, x5, x6, x7, x8] (.int v :: st) h = jv_ev d 169 160 [x0, x1, x2, x3, x4, x5, x6, some (.int v), x8] st h := jq_nx (jv_insR jm_169 dX0_look_158) rfl
theorem e169_160 : jv_ev d 169 160 lc st h = jv_ev d 169 161 lc (.int 0 :: st) h := jq_iconst (jv_insR jm_169 dX0_look_160) (by decide)
theorem e169_161 : jv_ev d 169 161 [x0, x1, x2, x3, x4, x5, x6, x7, x8] (.int v :: st) h = jv_ev d 169 163 [x0, x1, x2, x3, x4, x5, x6, x7, some (.int v)] st h := jq_nx (jv_insR jm_169 dX0_look_161) rfl
theorem e169_163 : jv_ev d 169 163 [x0, x1, x2, x3, x4, x5, x6, x7, some (.int v)] st h = jv_ev d 169 165 [x0, x1, x2, x3, x4, x5, x6, x7, some (.int v)] (.int v :: st) h := jq_nx (jv_insR jm_169 dX0_look_163) rfl
theorem e169_165 : jv_ev d 169 165 lc st h = jv_ev d 169 167 lc (.int 9 :: st) h := jq_bipush (jv_insR jm_169 dX0_look_165) (by decide)
theorem e169_167 : jv_ev d 169 167 lc (.int w :: .int v :: st) h = if w < v then jv_ev d 169 193 lc st h else jv_ev d 169 170 lc st h := jq_if (jv_insR jm_169 dX0_look_167) rfl (by decide)
theorem e169_170 : jv_ev d 169 170 [x0, x1, x2, x3, x4, x5, x6, some (.int v), x8] st h = jv_ev d 169 172 [x0, x1, x2, x3, x4, x5, x6, some (.int v), x8] (.int v :: st) h := jq_nx (jv_insR jm_169 dX0_look_170) rfl
theorem e169_172 : jv_ev d 169 172 [some (.ref a), x1, x2, x3, x4, x5, x6, x7, x8] st h = jv_ev d 169 173 [some (.ref a), x1, x2, x3, x4, x5, x6, x7, x8] (.ref a :: st) h := jq_nx (jv_insR jm_169 dX0_look_172) rfl
theorem e169_173 : jv_ev d 169 173 lc (.ref a :: st) h = (jv_gf h a [(1, 24, .array (.array .int))]).bind fun r => jv_ev d 169 176 lc (r :: st) h := jq_get (jv_insR jm_169 dX0_look_173) jo_169 jF_2_111
theorem e169_176 : jv_ev d 169 176 [x0, x1, x2, x3, x4, x5, some (.int v), x7, x8] st h = jv_ev d 169 178 [x0, x1, x2, x3, x4, x5, some (.int v), x7, x8] (.int v :: st) h := jq_nx (jv_insR jm_169 dX0_look_176) rfl
theorem e169_178 : jv_ev d 169 178 lc (.int v :: .ref a :: st) h = (jv_rg h a v).bind fun w => jv_ev d 169 179 lc (w :: st) h := jq_aald (jv_insR jm_169 dX0_look_178)
theorem e169_179 : jv_ev d 169 179 [x0, x1, x2, x3, x4, x5, x6, x7, some (.int v)] st h = jv_ev d 169 181 [x0, x1, x2, x3, x4, x5, x6, x7, some (.int v)] (.int v :: st) h := jq_nx (jv_insR jm_169 dX0_look_179) rfl
theorem e169_181 : jv_ev d 169 181 lc (.int v :: .ref a :: st) h = (jv_ig h a 0 0 v).bind fun w => jv_ev d 169 182 lc (.int w :: st) h := jq_iald (jv_insR jm_169 dX0_look_181)
theorem e169_182 : jv_ev d 169 182 lc [z1, z0] h = (jv_cd d 308 [z0, z1] h).bind fun r => jv_on r (fun v h => jv_ev d 169 185 lc (v.toList ++ []) h) (fun q h => some (.inr q, h)) := jq_S (as := [z0, z1]) (rest := []) (jv_insR jm_169 dX0_look_182) jo_169 jT_2_295 rfl rfl rfl rfl
theorem e169_185 : jv_ev d 169 185 [x0, x1, x2, x3, x4, x5, x6, x7, x8] (.int v :: st) h = jv_ev d 169 187 [x0, x1, x2, x3, x4, x5, x6, some (.int v), x8] st h := jq_nx (jv_insR jm_169 dX0_look_185) rfl
theorem e169_187 : jv_ev d 169 187 [x0, x1, x2, x3, x4, x5, x6, x7, some (.int v)] st h = jv_ev d 169 190 [x0, x1, x2, x3, x4, x5, x6, x7, some (.int (v + 1))] st h := jq_nx (jv_insR jm_169 dX0_look_187) rfl
theorem e169_190 : jv_ev d 169 190 lc st h = jv_ev d 169 163 lc st h := jq_go (jv_insR jm_169 dX0_look_190) (by decide)
theorem e169_193 : jv_ev d 169 193 [some (.ref a), x1, x2, x3, x4, x5, x6, x7, x8] st h = jv_ev d 169 194 [some (.ref a), x1, x2, x3, x4, x5, x6, x7, x8] (.ref a :: st) h := jq_nx (jv_insR jm_169 dX0_look_193) rfl
theorem e169_194 : jv_ev d 169 194 lc (.ref a :: st) h = (jv_gf h a [(1, 3, .object "RainLoom$Text")]).bind fun r => jv_ev d 169 197 lc (r :: st) h := jq_get (jv_insR jm_169 dX0_look_194) jo_169 jF_2_40
theorem e169_197 : jv_ev d 169 197 [x0, x1, x2, x3, x4, x5, some (.int v), x7, x8] st h = jv_ev d 169 199 [x0, x1, x2, x3, x4, x5, some (.int v), x7, x8] (.int v :: st) h := jq_nx (jv_insR jm_169 dX0_look_197) rfl
theorem e169_199 : jv_ev d 169 199 lc [z0, .ref b] h = (jv_rc h b [(5, 211)]).bind fun y => (jv_cd d y [.ref b, z0] h).bind fun r => jv_on r (fun v h => jv_ev d 169 202 lc (v.toList ++ []) h) (fun q h => some (.inr q, h)) := jq_V (as := [z0]) (rest := []) (jv_insR jm_169 dX0_look_199) jo_169 jV_2_198 rfl rfl rfl rfl
theorem e169_202 : jv_ev d 169 202 lc (.int v :: st) h = if v = 0 then jv_ev d 169 223 lc st h else jv_ev d 169 205 lc st h := jq_if (jv_insR jm_169 dX0_look_202) rfl (by decide)
theorem e169_205 : jv_ev d 169 205 [x0, x1, x2, x3, x4, x5, x6, some (.int v), x8] st h = jv_ev d 169 207 [x0, x1, x2, x3, x4, x5, x6, some (.int v), x8] (.int v :: st) h := jq_nx (jv_insR jm_169 dX0_look_205) rfl
theorem e169_207 : jv_ev d 169 207 [x0, x1, x2, x3, x4, some (.int v), x6, x7, x8] st h = jv_ev d 169 209 [x0, x1, x2, x3, x4, some (.int v), x6, x7, x8] (.int v :: st) h := jq_nx (jv_insR jm_169 dX0_look_207) rfl
theorem e169_209 : jv_ev d 169 209 lc (.int w :: .int v :: st) h = if v < w then jv_ev d 169 215 lc st h else jv_ev d 169 212 lc st h := jq_if (jv_insR jm_169 dX0_look_209) rfl (by decide)
theorem e169_212 : jv_ev d 169 212 lc st h = jv_ev d 169 223 lc st h := jq_go (jv_insR jm_169 dX0_look_212) (by decide)
theorem e169_215 : jv_ev d 169 215 [x0, x1, x2, x3, x4, x5, some (.int v), x7, x8] st h = jv_ev d 169 217 [x0, x1, x2, x3, x4, x5, some (.int v), x7, x8] (.int v :: st) h := jq_nx (jv_insR jm_169 dX0_look_215) rfl
theorem e169_217 : jv_ev d 169 217 [x0, x1, x2, x3, x4, x5, x6, x7, x8] (.int v :: st) h = jv_ev d 169 219 [x0, x1, x2, x3, some (.int v), x5, x6, x7, x8] st h := jq_nx (jv_insR jm_169 dX0_look_217) rfl
theorem e169_219 : jv_ev d 169 219 [x0, x1, x2, x3, x4, x5, x6, some (.int v), x8] st h = jv_ev d 169 221 [x0, x1, x2, x3, x4, x5, x6, some (.int v), x8] (.int v :: st) h := jq_nx (jv_insR jm_169 dX0_look_219) rfl
theorem e169_221 : jv_ev d 169 221 [x0, x1, x2, x3, x4, x5, x6, x7, x8] (.int v :: st) h = jv_ev d 169 223 [x0, x1, x2, x3, x4, some (.int v), x6, x7, x8] st h := jq_nx (jv_insR jm_169 dX0_look_221) rfl
theorem e169_223 : jv_ev d 169 223 [x0, x1, x2, x3, x4, x5, some (.int v), x7, x8] st h = jv_ev d 169 226 [x0, x1, x2, x3, x4, x5, some (.int (v + 1)), x7, x8] st h := jq_nx (jv_insR jm_169 dX0_look_223) rfl
theorem e169_226 : jv_ev d 169 226 lc st h = jv_ev d 169 150 lc st h := jq_go (jv_insR jm_169 dX0_look_226) (by decide)
theorem e169_229 : jv_ev d 169 229 [x0, x1, x2, x3, some (.int v), x5, x6, x7, x8] st h = jv_ev d 169 231 [x0, x1, x2, x3, some (.int v), x5, x6, x7, x8] (.int v :: st) h := jq_nx (jv_insR jm_169 dX0_look_229) rfl
theorem e169_231 : jv_ev d 169 231 lc (.int v :: st) h = if 0 ≤ v then jv_ev d 169 239 lc st h else jv_ev d 169 234 lc st h := jq_if (jv_insR jm_169 dX0_look_231) rfl (by decide)
theorem e169_234 : jv_ev d 169 234 lc st h = jv_ev d 169 236 lc (.int (-2) :: st) h := jq_bipush (jv_insR jm_169 dX0_look_234) (by decide)
theorem e169_236 : jv_ev d 169 236 lc st h = jv_ev d 169 253 lc st h := jq_go (jv_insR jm_169 dX0_look_236) (by decide)
theorem e169_239 : jv_ev d 169 239 lc st h = jv_ev d 169 241 lc (.int 10 :: st) h := jq_bipush (jv_insR jm_169 dX0_look_239) (by decide)
theorem e169_241 : jv_ev d 169 241 [x0, x1, x2, x3, some (.int v), x5, x6, x7, x8] st h = jv_ev d 169 243 [x0, x1, x2, x3, some (.int v), x5, x6, x7, x8] (.int v :: st) h := jq_nx (jv_insR jm_169 dX0_look_241) rfl
theorem e169_243 : jv_ev d 169 243 lc st h = jv_ev d 169 245 lc (.int 8 :: st) h := jq_bipush (jv_insR jm_169 dX0_look_243) (by decide)
theorem e169_245 : jv_ev d 169 245 lc (.int w :: .int v :: st) h = if w = 0 then none else jv_ev d 169 246 lc (.int (v / w) :: st) h := jq_idiv (jv_insR jm_169 dX0_look_245)
theorem e169_246 : jv_ev d 169 246 lc (.int w :: .int v :: st) h = jv_ev d 169 247 lc (.int (v * w) :: st) h := jq_nx (jv_insR jm_169 dX0_look_246) rfl
theorem e169_247 : jv_ev d 169 247 [x0, x1, x2, x3, some (.int v), x5, x6, x7, x8] st h = jv_ev d 169 249 [x0, x1, x2, x3, some (.int v), x5, x6, x7, x8] (.int v :: st) h := jq_nx (jv_insR jm_169 dX0_look_247) rfl
theorem e169_249 : jv_ev d 169 249 lc st h = jv_ev d 169 251 lc (.int 8 :: st) h := jq_bipush (jv_insR jm_169 dX0_look_249) (by decide)
theorem e169_251 : jv_ev d 169 251 lc (.int w :: .int v :: st) h = if w = 0 then none else jv_ev d 169 252 lc (.int (v - v / w * w) :: st) h := jq_irem (jv_insR jm_169 dX0_look_251)
theorem e169_252 : jv_ev d 169 252 lc (.int w :: .int v :: st) h = jv_ev d 169 253 lc (.int (v + w) :: st) h := jq_nx (jv_insR jm_169 dX0_look_252) rfl
theorem e169_253 : jv_ev d 169 253 lc [.int v] h = some (.inl (some (.int v)), h) := jq_reti (jv_insR jm_169 dX0_look_253) jr_169
/-! 170: RainLoom.counts(IIIII)V -/
theorem n170 : jv_cd (d + 1) 170 [.ref a0, .int i1, .int i2, .int i3, .int i4, .int i5] h = jv_ev d 170 0 [some (.ref a0), some (.int i1), some (.int i2), some (.int i3), some (.int i4), some (.int i5), none, none, none, none] [] h := rfl
theorem e170_0 : jv_ev d 170 0 lc st h = jv_ev d 170 1 lc (.int 0 :: st) h := jq_iconst (jv_insR jm_170 dX0_counts_0) (by decide)
theorem e170_1 : jv_ev d 170 1 [x0, x1, x2, x3, x4, x5, x6, x7, x8, x9] (.int v :: st) h = jv_ev d 170 3 [x0, x1, x2, x3, x4, x5, some (.int v), x7, x8, x9] st h := jq_nx (jv_insR jm_170 dX0_counts_1) rfl
theorem e170_3 : jv_ev d 170 3 [x0, x1, x2, x3, x4, x5, some (.int v), x7, x8, x9] st h = jv_ev d 170 5 [x0, x1, x2, x3, x4, x5, some (.int v), x7, x8, x9] (.int v :: st) h := jq_nx (jv_insR jm_170 dX0_counts_3) rfl
theorem e170_5 : jv_ev d 170 5 lc st h = jv_ev d 170 7 lc (.int 48 :: st) h := jq_bipush (jv_insR jm_170 dX0_counts_5) (by decide)
theorem e170_7 : jv_ev d 170 7 lc (.int w :: .int v :: st) h = if w ≤ v then jv_ev d 170 114 lc st h else jv_ev d 170 10 lc st h := jq_if (jv_insR jm_170 dX0_counts_7) rfl (by decide)
theorem e170_10 : jv_ev d 170 10 [x0, x1, x2, x3, x4, x5, some (.int v), x7, x8, x9] st h = jv_ev d 170 12 [x0, x1, x2, x3, x4, x5, some (.int v), x7, x8, x9] (.int v :: st) h := jq_nx (jv_insR jm_170 dX0_counts_10) rfl
theorem e170_12 : jv_ev d 170 12 lc st h = jv_ev d 170 14 lc (.int 8 :: st) h := jq_bipush (jv_insR jm_170 dX0_counts_12) (by decide)
theorem e170_14 : jv_ev d 170 14 lc (.int w :: .int v :: st) h = if w = 0 then none else jv_ev d 170 15 lc (.int (v - v / w * w) :: st) h := jq_irem (jv_insR jm_170 dX0_counts_14)
theorem e170_15 : jv_ev d 170 15 [x0, x1, x2, x3, some (.int v), x5, x6, x7, x8, x9] st h = jv_ev d 170 17 [x0, x1, x2, x3, some (.int v), x5, x6, x7, x8, x9] (.int v :: st) h := jq_nx (jv_insR jm_170 dX0_counts_15) rfl
theorem e170_17 : jv_ev d 170 17 lc (.int w :: .int v :: st) h = jv_ev d 170 18 lc (.int (v - w) :: st) h := jq_nx (jv_insR jm_170 dX0_counts_17) rfl
theorem e170_18 : jv_ev d 170 18 [x0, x1, x2, x3, x4, x5, x6, x7, x8, x9] (.int v :: st) h = jv_ev d 170 20 [x0, x1, x2, x3, x4, x5, x6, some (.int v), x8, x9] st h := jq_nx (jv_insR jm_170 dX0_counts_18) rfl
theorem e170_20 : jv_ev d 170 20 [x0, x1, x2, x3, x4, x5, some (.int v), x7, x8, x9] st h = jv_ev d 170 22 [x0, x1, x2, x3, x4, x5, some (.int v), x7, x8, x9] (.int v :: st) h := jq_nx (jv_insR jm_170 dX0_counts_20) rfl
theorem e170_22 : jv_ev d 170 22 lc st h = jv_ev d 170 24 lc (.int 8 :: st) h := jq_bipush (jv_insR jm_170 dX0_counts_22) (by decide)
theorem e170_24 : jv_ev d 170 24 lc (.int w :: .int v :: st) h = if w = 0 then none else jv_ev d 170 25 lc (.int (v / w) :: st) h := jq_idiv (jv_insR jm_170 dX0_counts_24)
theorem e170_25 : jv_ev d 170 25 [x0, x1, x2, x3, x4, some (.int v), x6, x7, x8, x9] st h = jv_ev d 170 27 [x0, x1, x2, x3, x4, some (.int v), x6, x7, x8, x9] (.int v :: st) h := jq_nx (jv_insR jm_170 dX0_counts_25) rfl
theorem e170_27 : jv_ev d 170 27 lc (.int w :: .int v :: st) h = jv_ev d 170 28 lc (.int (v - w) :: st) h := jq_nx (jv_insR jm_170 dX0_counts_27) rfl
theorem e170_28 : jv_ev d 170 28 [x0, x1, x2, x3, x4, x5, x6, x7, x8, x9] (.int v :: st) h = jv_ev d 170 30 [x0, x1, x2, x3, x4, x5, x6, x7, some (.int v), x9] st h := jq_nx (jv_insR jm_170 dX0_counts_28) rfl
theorem e170_30 : jv_ev d 170 30 [x0, x1, x2, x3, x4, x5, x6, some (.int v), x8, x9] st h = jv_ev d 170 32 [x0, x1, x2, x3, x4, x5, x6, some (.int v), x8, x9] (.int v :: st) h := jq_nx (jv_insR jm_170 dX0_counts_30) rfl
theorem e170_32 : jv_ev d 170 32 lc st h = jv_ev d 170 33 lc (.int 0 :: st) h := jq_iconst (jv_insR jm_170 dX0_counts_32) (by decide)
theorem e170_33 : jv_ev d 170 33 [x0, x1, some (.int v), x3, x4, x5, x6, x7, x8, x9] st h = jv_ev d 170 34 [x0, x1, some (.int v), x3, x4, x5, x6, x7, x8, x9] (.int v :: st) h := jq_nx (jv_insR jm_170 dX0_counts_33) rfl
theorem e170_34 : jv_ev d 170 34 lc st h = jv_ev d 170 35 lc (.int 1 :: st) h := jq_iconst (jv_insR jm_170 dX0_counts_34) (by decide)
theorem e170_35 : jv_ev d 170 35 lc (.int w :: .int v :: st) h = jv_ev d 170 36 lc (.int (v - w) :: st) h := jq_nx (jv_insR jm_170 dX0_counts_35) rfl
theorem e170_36 : jv_ev d 170 36 lc [z2, z1, z0] h = (jv_cd d 124 [z0, z1, z2] h).bind fun r => jv_on r (fun v h => jv_ev d 170 39 lc (v.toList ++ []) h) (fun q h => some (.inr q, h)) := jq_S (as := [z0, z1, z2]) (rest := []) (jv_insR jm_170 dX0_counts_36) jo_170 jT_2_158 rfl rfl rfl rfl
theorem e170_39 : jv_ev d 170 39 lc (.int v :: st) h = if v = 0 then jv_ev d 170 58 lc st h else jv_ev d 170 42 lc st h := jq_if (jv_insR jm_170 dX0_counts_39) rfl (by decide)
theorem e170_42 : jv_ev d 170 42 [x0, x1, x2, x3, x4, x5, x6, x7, some (.int v), x9] st h = jv_ev d 170 44 [x0, x1, x2, x3, x4, x5, x6, x7, some (.int v), x9] (.int v :: st) h := jq_nx (jv_insR jm_170 dX0_counts_42) rfl
theorem e170_44 : jv_ev d 170 44 lc st h = jv_ev d 170 45 lc (.int 0 :: st) h := jq_iconst (jv_insR jm_170 dX0_counts_44) (by decide)
theorem e170_45 : jv_ev d 170 45 [x0, x1, x2, some (.int v), x4, x5, x6, x7, x8, x9] st h = jv_ev d 170 46 [x0, x1, x2, some (.int v), x4, x5, x6, x7, x8, x9] (.int v :: st) h := jq_nx (jv_insR jm_170 dX0_counts_45) rfl
theorem e170_46 : jv_ev d 170 46 lc st h = jv_ev d 170 47 lc (.int 1 :: st) h := jq_iconst (jv_insR jm_170 dX0_counts_46) (by decide)
theorem e170_47 : jv_ev d 170 47 lc (.int w :: .int v :: st) h = jv_ev d 170 48 lc (.int (v - w) :: st) h := jq_nx (jv_insR jm_170 dX0_counts_47) rfl
theorem e170_48 : jv_ev d 170 48 lc [z2, z1, z0] h = (jv_cd d 124 [z0, z1, z2] h).bind fun r => jv_on r (fun v h => jv_ev d 170 51 lc (v.toList ++ []) h) (fun q h => some (.inr q, h)) := jq_S (as := [z0, z1, z2]) (rest := []) (jv_insR jm_170 dX0_counts_48) jo_170 jT_2_158 rfl rfl rfl rfl
theorem e170_51 : jv_ev d 170 51 lc (.int v :: st) h = if v = 0 then jv_ev d 170 58 lc st h else jv_ev d 170 54 lc st h := jq_if (jv_insR jm_170 dX0_counts_51) rfl (by decide)
theorem e170_54 : jv_ev d 170 54 lc st h = jv_ev d 170 55 lc (.int 1 :: st) h := jq_iconst (jv_insR jm_170 dX0_counts_54) (by decide)
theorem e170_55 : jv_ev d 170 55 lc st h = jv_ev d 170 59 lc st h := jq_go (jv_insR jm_170 dX0_counts_55) (by decide)
theorem e170_58 : jv_ev d 170 58 lc st h = jv_ev d 170 59 lc (.int 0 :: st) h := jq_iconst (jv_insR jm_170 dX0_counts_58) (by decide)
theorem e170_59 : jv_ev d 170 59 [x0, x1, x2, x3, x4, x5, x6, x7, x8, x9] (.int v :: st) h = jv_ev d 170 61 [x0, x1, x2, x3, x4, x5, x6, x7, x8, some (.int v)] st h := jq_nx (jv_insR jm_170 dX0_counts_59) rfl
theorem e170_61 : jv_ev d 170 61 [some (.ref a), x1, x2, x3, x4, x5, x6, x7, x8, x9] st h = jv_ev d 170 62 [some (.ref a), x1, x2, x3, x4, x5, x6, x7, x8, x9] (.ref a :: st) h := jq_nx (jv_insR jm_170 dX0_counts_61) rfl
theorem e170_62 : jv_ev d 170 62 lc (.ref a :: st) h = (jv_gf h a [(1, 24, .array (.array .int))]).bind fun r => jv_ev d 170 65 lc (r :: st) h := jq_get (jv_insR jm_170 dX0_counts_62) jo_170 jF_2_111
theorem e170_65 : jv_ev d 170 65 [x0, x1, x2, x3, x4, x5, some (.int v), x7, x8, x9] st h = jv_ev d 170 67 [x0, x1, x2, x3, x4, x5, some (.int v), x7, x8, x9] (.int v :: st) h := jq_nx (jv_insR jm_170 dX0_counts_65) rfl
theorem e170_67 : jv_ev d 170 67 lc (.int v :: .ref a :: st) h = (jv_rg h a v).bind fun w => jv_ev d 170 68 lc (w :: st) h := jq_aald (jv_insR jm_170 dX0_counts_67)
theorem e170_68 : jv_ev d 170 68 [x0, x1, x2, x3, x4, x5, x6, x7, x8, some (.int v)] st h = jv_ev d 170 70 [x0, x1, x2, x3, x4, x5, x6, x7, x8, some (.int v)] (.int v :: st) h := jq_nx (jv_insR jm_170 dX0_counts_68) rfl
theorem e170_70 : jv_ev d 170 70 lc (.int v :: st) h = if v = 0 then jv_ev d 170 102 lc st h else jv_ev d 170 73 lc st h := jq_if (jv_insR jm_170 dX0_counts_70) rfl (by decide)
theorem e170_73 : jv_ev d 170 73 [some (.ref a), x1, x2, x3, x4, x5, x6, x7, x8, x9] st h = jv_ev d 170 74 [some (.ref a), x1, x2, x3, x4, x5, x6, x7, x8, x9] (.ref a :: st) h := jq_nx (jv_insR jm_170 dX0_counts_73) rfl
theorem e170_74 : jv_ev d 170 74 lc (.ref a :: st) h = (jv_gf h a [(1, 7, .object "RainLoom$Land")]).bind fun r => jv_ev d 170 77 lc (r :: st) h := jq_get (jv_insR jm_170 dX0_counts_74) jo_170 jF_2_51
theorem e170_77 : jv_ev d 170 77 [some (.ref a), x1, x2, x3, x4, x5, x6, x7, x8, x9] st h = jv_ev d 170 78 [some (.ref a), x1, x2, x3, x4, x5, x6, x7, x8, x9] (.ref a :: st) h := jq_nx (jv_insR jm_170 dX0_counts_77) rfl
theorem e170_78 : jv_ev d 170 78 lc (.ref a :: st) h = (jv_gf h a [(1, 3, .object "RainLoom$Text")]).bind fun r => jv_ev d 170 81 lc (r :: st) h := jq_get (jv_insR jm_170 dX0_counts_78) jo_170 jF_2_40
theorem e170_81 : jv_ev d 170 81 [x0, some (.int v), x2, x3, x4, x5, x6, x7, x8, x9] st h = jv_ev d 170 82 [x0, some (.int v), x2, x3, x4, x5, x6, x7, x8, x9] (.int v :: st) h := jq_nx (jv_insR jm_170 dX0_counts_81) rfl
theorem e170_82 : jv_ev d 170 82 [x0, x1, x2, x3, x4, x5, x6, some (.int v), x8, x9] st h = jv_ev d 170 84 [x0, x1, x2, x3, x4, x5, x6, some (.int v), x8, x9] (.int v :: st) h := jq_nx (jv_insR jm_170 dX0_counts_82) rfl
theorem e170_84 : jv_ev d 170 84 [some (.ref a), x1, x2, x3, x4, x5, x6, x7, x8, x9] st h = jv_ev d 170 85 [some (.ref a), x1, x2, x3, x4, x5, x6, x7, x8, x9] (.ref a :: st) h := jq_nx (jv_insR jm_170 dX0_counts_84) rfl
theorem e170_85 : jv_ev d 170 85 lc (.ref a :: st) h = (jv_gf h a [(1, 7, .object "RainLoom$Land")]).bind fun r => jv_ev d 170 88 lc (r :: st) h := jq_get (jv_insR jm_170 dX0_counts_85) jo_170 jF_2_51
theorem e170_88 : jv_ev d 170 88 lc (.ref a :: st) h = (jv_gf h a [(6, 3, .array .int)]).bind fun r => jv_ev d 170 91 lc (r :: st) h := jq_get (jv_insR jm_170 dX0_counts_88) jo_170 jF_2_210
theorem e170_91 : jv_ev d 170 91 [x0, some (.int v), x2, x3, x4, x5, x6, x7, x8, x9] st h = jv_ev d 170 92 [x0, some (.int v), x2, x3, x4, x5, x6, x7, x8, x9] (.int v :: st) h := jq_nx (jv_insR jm_170 dX0_counts_91) rfl
theorem e170_92 : jv_ev d 170 92 lc (.int v :: .ref a :: st) h = (jv_ig h a 0 0 v).bind fun w => jv_ev d 170 93 lc (.int w :: st) h := jq_iald (jv_insR jm_170 dX0_counts_92)
theorem e170_93 : jv_ev d 170 93 [x0, x1, x2, x3, x4, x5, x6, x7, some (.int v), x9] st h = jv_ev d 170 95 [x0, x1, x2, x3, x4, x5, x6, x7, some (.int v), x9] (.int v :: st) h := jq_nx (jv_insR jm_170 dX0_counts_93) rfl
theorem e170_95 : jv_ev d 170 95 lc (.int w :: .int v :: st) h = jv_ev d 170 96 lc (.int (v + w) :: st) h := jq_nx (jv_insR jm_170 dX0_counts_95) rfl
theorem e170_96 : jv_ev d 170 96 lc [z3, z2, z1, z0, .ref b, y0] h = (jv_rc h b [(6, 221)]).bind fun y => (jv_cd d y [.ref b, z0, z1, z2, z3] h).bind fun r => jv_on r (fun v h => jv_ev d 170 99 lc (v.toList ++ [y0]) h) (fun q h => some (.inr q, h)) := jq_V (as := [z0, z1, z2, z3]) (rest := [y0]) (jv_insR jm_170 dX0_counts_96) jo_170 jV_2_230 rfl rfl rfl rfl
theorem e170_99 : jv_ev d 170 99 lc st h = jv_ev d 170 103 lc st h := jq_go (jv_insR jm_170 dX0_counts_99) (by decide)
theorem e170_102 : jv_ev d 170 102 lc st h = jv_ev d 170 103 lc (.int 0 :: st) h := jq_iconst (jv_insR jm_170 dX0_counts_102) (by decide)
theorem e170_103 : jv_ev d 170 103 lc (.int v :: .ref b :: st) h = jv_ev d 170 104 lc (.int v :: .ref b :: .int v :: .ref b :: st) h := jq_nx (jv_insR jm_170 dX0_counts_103) rfl
theorem e170_104 : jv_ev d 170 104 lc (.int v :: .ref a :: st) h = (jv_ig h a 0 0 v).bind fun w => jv_ev d 170 105 lc (.int w :: st) h := jq_iald (jv_insR jm_170 dX0_counts_104)
theorem e170_105 : jv_ev d 170 105 lc st h = jv_ev d 170 106 lc (.int 1 :: st) h := jq_iconst (jv_insR jm_170 dX0_counts_105) (by decide)
theorem e170_106 : jv_ev d 170 106 lc (.int w :: .int v :: st) h = jv_ev d 170 107 lc (.int (v + w) :: st) h := jq_nx (jv_insR jm_170 dX0_counts_106) rfl
theorem e170_107 : jv_ev d 170 107 lc (.int w :: .int v :: .ref a :: st) h = (jv_ip h a 0 0 v w).bind fun h => jv_ev d 170 108 lc st h := jq_iast (jv_insR jm_170 dX0_counts_107)
theorem e170_108 : jv_ev d 170 108 [x0, x1, x2, x3, x4, x5, some (.int v), x7, x8, x9] st h = jv_ev d 170 111 [x0, x1, x2, x3, x4, x5, some (.int (v + 1)), x7, x8, x9] st h := jq_nx (jv_insR jm_170 dX0_counts_108) rfl
theorem e170_111 : jv_ev d 170 111 lc st h = jv_ev d 170 3 lc st h := jq_go (jv_insR jm_170 dX0_counts_111) (by decide)
theorem e170_114 : jv_ev d 170 114 lc [] h = some (.inl none, h) := jq_retv (jv_insR jm_170 dX0_counts_114) jr_170
/-! 171: RainLoom.hold(I)Z -/
theorem n171 : jv_cd (d + 1) 171 [.ref a0, .int i1] h = jv_ev d 171 0 [some (.ref a0), some (.int i1)] [] h := rfl
theorem e171_0 : jv_ev d 171 0 [x0, some (.int v)] st h = jv_ev d 171 1 [x0, some (.int v)] (.int v :: st) h := jq_nx (jv_insR jm_171 dX0_hold_0) rfl
theorem e171_1 : jv_ev d 171 1 lc st h = jv_ev d 171 2 lc (.int 0 :: st) h := jq_iconst (jv_insR jm_171 dX0_hold_1) (by decide)
theorem e171_2 : jv_ev d 171 2 lc st h = jv_ev d 171 3 lc (.int 2 :: st) h := jq_iconst (jv_insR jm_171 dX0_hold_2) (by decide)
theorem e171_3 : jv_ev d 171 3 lc [z2, z1, z0] h = (jv_cd d 124 [z0, z1, z2] h).bind fun r => jv_on r (fun v h => jv_ev d 171 6 lc (v.toList ++ []) h) (fun q h => some (.inr q, h)) := jq_S (as := [z0, z1, z2]) (rest := []) (jv_insR jm_171 dX0_hold_3) jo_171 jT_2_158 rfl rfl rfl rfl
theorem e171_6 : jv_ev d 171 6 lc (.int v :: st) h = if ¬ v = 0 then jv_ev d 171 11 lc st h else jv_ev d 171 9 lc st h := jq_if (jv_insR jm_171 dX0_hold_6) rfl (by decide)
theorem e171_9 : jv_ev d 171 9 lc st h = jv_ev d 171 10 lc (.int 0 :: st) h := jq_iconst (jv_insR jm_171 dX0_hold_9) (by decide)
theorem e171_10 : jv_ev d 171 10 lc [.int v] h = if narrow .boolean (.int v) = .int v then some (.inl (some (.int v)), h) else none := jq_ret (jv_insR jm_171 dX0_hold_10) jr_171 (by decide)
theorem e171_11 : jv_ev d 171 11 [some (.ref a), x1] st h = jv_ev d 171 12 [some (.ref a), x1] (.ref a :: st) h := jq_nx (jv_insR jm_171 dX0_hold_11) rfl
theorem e171_12 : jv_ev d 171 12 lc (.ref a :: st) h = (jv_gf h a [(1, 10, .array (.object "RainLoom$Land"))]).bind fun r => jv_ev d 171 15 lc (r :: st) h := jq_get (jv_insR jm_171 dX0_hold_12) jo_171 jF_2_62
theorem e171_15 : jv_ev d 171 15 [x0, some (.int v)] st h = jv_ev d 171 16 [x0, some (.int v)] (.int v :: st) h := jq_nx (jv_insR jm_171 dX0_hold_15) rfl
theorem e171_16 : jv_ev d 171 16 lc (.int v :: .ref a :: st) h = (jv_rg h a v).bind fun w => jv_ev d 171 17 lc (w :: st) h := jq_aald (jv_insR jm_171 dX0_hold_16)
theorem e171_17 : jv_ev d 171 17 [some (.ref a), x1] st h = jv_ev d 171 18 [some (.ref a), x1] (.ref a :: st) h := jq_nx (jv_insR jm_171 dX0_hold_17) rfl
theorem e171_18 : jv_ev d 171 18 lc (.ref a :: st) h = (jv_gf h a [(1, 7, .object "RainLoom$Land")]).bind fun r => jv_ev d 171 21 lc (r :: st) h := jq_get (jv_insR jm_171 dX0_hold_18) jo_171 jF_2_51
theorem e171_21 : jv_ev d 171 21 lc [z0, .ref b] h = (jv_rc h b [(6, 223)]).bind fun y => (jv_cd d y [.ref b, z0] h).bind fun r => jv_on r (fun v h => jv_ev d 171 24 lc (v.toList ++ []) h) (fun q h => some (.inr q, h)) := jq_V (as := [z0]) (rest := []) (jv_insR jm_171 dX0_hold_21) jo_171 jV_2_237 rfl rfl rfl rfl
theorem e171_24 : jv_ev d 171 24 [some (.ref a), x1] st h = jv_ev d 171 25 [some (.ref a), x1] (.ref a :: st) h := jq_nx (jv_insR jm_171 dX0_hold_24) rfl
theorem e171_25 : jv_ev d 171 25 lc (.ref a :: st) h = (jv_gf h a [(1, 12, .array .boolean)]).bind fun r => jv_ev d 171 28 lc (r :: st) h := jq_get (jv_insR jm_171 dX0_hold_25) jo_171 jF_2_83
theorem e171_28 : jv_ev d 171 28 [x0, some (.int v)] st h = jv_ev d 171 29 [x0, some (.int v)] (.int v :: st) h := jq_nx (jv_insR jm_171 dX0_hold_28) rfl
theorem e171_29 : jv_ev d 171 29 lc st h = jv_ev d 171 30 lc (.int 1 :: st) h := jq_iconst (jv_insR jm_171 dX0_hold_29) (by decide)
theorem e171_30 : jv_ev d 171 30 lc (.int w :: .int v :: .ref a :: st) h = (jv_ip h a 1 2 v w).bind fun h => jv_ev d 171 31 lc st h := jq_bast (jv_insR jm_171 dX0_hold_30)
theorem e171_31 : jv_ev d 171 31 lc st h = jv_ev d 171 32 lc (.int 1 :: st) h := jq_iconst (jv_insR jm_171 dX0_hold_31) (by decide)
theorem e171_32 : jv_ev d 171 32 lc [.int v] h = if narrow .boolean (.int v) = .int v then some (.inl (some (.int v)), h) else none := jq_ret (jv_insR jm_171 dX0_hold_32) jr_171 (by decide)
/-! 172: RainLoom.restore(I)Z -/
theorem n172 : jv_cd (d + 1) 172 [.ref a0, .int i1] h = jv_ev d 172 0 [some (.ref a0), some (.int i1)] [] h := rfl
theorem e172_0 : jv_ev d 172 0 [x0, some (.int v)] st h = jv_ev d 172 1 [x0, some (.int v)] (.int v :: st) h := jq_nx (jv_insR jm_172 dX0_restore_0) rfl
theorem e172_1 : jv_ev d 172 1 lc st h = jv_ev d 172 2 lc (.int 0 :: st) h := jq_iconst (jv_insR jm_172 dX0_restore_1) (by decide)
theorem e172_2 : jv_ev d 172 2 lc st h = jv_ev d 172 3 lc (.int 2 :: st) h := jq_iconst (jv_insR jm_172 dX0_restore_2) (by decide)
theorem e172_3 : jv_ev d 172 3 lc [z2, z1, z0] h = (jv_cd d 124 [z0, z1, z2] h).bind fun r => jv_on r (fun v h => jv_ev d 172 6 lc (v.toList ++ []) h) (fun q h => some (.inr q, h)) := jq_S (as := [z0, z1, z2]) (rest := []) (jv_insR jm_172 dX0_restore_3) jo_172 jT_2_158 rfl rfl rfl rfl
theorem e172_6 : jv_ev d 172 6 lc (.int v :: st) h = if v = 0 then jv_ev d 172 18 lc st h else jv_ev d 172 9 lc st h := jq_if (jv_insR jm_172 dX0_restore_6) rfl (by decide)
theorem e172_9 : jv_ev d 172 9 [some (.ref a), x1] st h = jv_ev d 172 10 [some (.ref a), x1] (.ref a :: st) h := jq_nx (jv_insR jm_172 dX0_restore_9) rfl
theorem e172_10 : jv_ev d 172 10 lc (.ref a :: st) h = (jv_gf h a [(1, 12, .array .boolean)]).bind fun r => jv_ev d 172 13 lc (r :: st) h := jq_get (jv_insR jm_172 dX0_restore_10) jo_172 jF_2_83
theorem e172_13 : jv_ev d 172 13 [x0, some (.int v)] st h = jv_ev d 172 14 [x0, some (.int v)] (.int v :: st) h := jq_nx (jv_insR jm_172 dX0_restore_13) rfl
theorem e172_14 : jv_ev d 172 14 lc (.int v :: .ref a :: st) h = (jv_ig h a 1 2 v).bind fun w => jv_ev d 172 15 lc (.int w :: st) h := jq_bald (jv_insR jm_172 dX0_restore_14)
theorem e172_15 : jv_ev d 172 15 lc (.int v :: st) h = if ¬ v = 0 then jv_ev d 172 20 lc st h else jv_ev d 172 18 lc st h := jq_if (jv_insR jm_172 dX0_restore_15) rfl (by decide)
theorem e172_18 : jv_ev d 172 18 lc st h = jv_ev d 172 19 lc (.int 0 :: st) h := jq_iconst (jv_insR jm_172 dX0_restore_18) (by decide)
theorem e172_19 : jv_ev d 172 19 lc [.int v] h = if narrow .boolean (.int v) = .int v then some (.inl (some (.int v)), h) else none := jq_ret (jv_insR jm_172 dX0_restore_19) jr_172 (by decide)
theorem e172_20 : jv_ev d 172 20 [some (.ref a), x1] st h = jv_ev d 172 21 [some (.ref a), x1] (.ref a :: st) h := jq_nx (jv_insR jm_172 dX0_restore_20) rfl
theorem e172_21 : jv_ev d 172 21 lc (.ref a :: st) h = (jv_gf h a [(1, 7, .object "RainLoom$Land")]).bind fun r => jv_ev d 172 24 lc (r :: st) h := jq_get (jv_insR jm_172 dX0_restore_21) jo_172 jF_2_51
theorem e172_24 : jv_ev d 172 24 [some (.ref a), x1] st h = jv_ev d 172 25 [some (.ref a), x1] (.ref a :: st) h := jq_nx (jv_insR jm_172 dX0_restore_24) rfl
theorem e172_25 : jv_ev d 172 25 lc (.ref a :: st) h = (jv_gf h a [(1, 10, .array (.object "RainLoom$Land"))]).bind fun r => jv_ev d 172 28 lc (r :: st) h := jq_get (jv_insR jm_172 dX0_restore_25) jo_172 jF_2_62
theorem e172_28 : jv_ev d 172 28 [x0, some (.int v)] st h = jv_ev d 172 29 [x0, some (.int v)] (.int v :: st) h := jq_nx (jv_insR jm_172 dX0_restore_28) rfl
theorem e172_29 : jv_ev d 172 29 lc (.int v :: .ref a :: st) h = (jv_rg h a v).bind fun w => jv_ev d 172 30 lc (w :: st) h := jq_aald (jv_insR jm_172 dX0_restore_29)
theorem e172_30 : jv_ev d 172 30 lc [z0, .ref b] h = (jv_rc h b [(6, 223)]).bind fun y => (jv_cd d y [.ref b, z0] h).bind fun r => jv_on r (fun v h => jv_ev d 172 33 lc (v.toList ++ []) h) (fun q h => some (.inr q, h)) := jq_V (as := [z0]) (rest := []) (jv_insR jm_172 dX0_restore_30) jo_172 jV_2_237 rfl rfl rfl rfl
theorem e172_33 : jv_ev d 172 33 [some (.ref a), x1] st h = jv_ev d 172 34 [some (.ref a), x1] (.ref a :: st) h := jq_nx (jv_insR jm_172 dX0_restore_33) rfl
theorem e172_34 : jv_ev d 172 34 lc st h = jv_ev d 172 35 lc (.int 0 :: st) h := jq_iconst (jv_insR jm_172 dX0_restore_34) (by decide)
theorem e172_35 : jv_ev d 172 35 lc (r :: .ref a :: st) h = (jv_pf h a [(1, 5, .int)] r).bind fun h => jv_ev d 172 38 lc st h := jq_put (jv_insR jm_172 dX0_restore_35) jo_172 ji_172 jG_2_133
theorem e172_38 : jv_ev d 172 38 lc st h = jv_ev d 172 39 lc (.int 1 :: st) h := jq_iconst (jv_insR jm_172 dX0_restore_38) (by decide)
theorem e172_39 : jv_ev d 172 39 lc [.int v] h = if narrow .boolean (.int v) = .int v then some (.inl (some (.int v)), h) else none := jq_ret (jv_insR jm_172 dX0_restore_39) jr_172 (by decide)
/-! 173: RainLoom.count(I)I -/
theorem n173 : jv_cd (d + 1) 173 [.ref a0, .int i1] h = jv_ev d 173 0 [some (.ref a0), some (.int i1)] [] h := rfl
theorem e173_0 : jv_ev d 173 0 [x0, some (.int v)] st h = jv_ev d 173 1 [x0, some (.int v)] (.int v :: st) h := jq_nx (jv_insR jm_173 dX0_count_0) rfl
theorem e173_1 : jv_ev d 173 1 lc (.int v :: st) h = jv_tsl (fun t => jv_ev d 173 t lc st h) v [(0, 72), (1, 80), (2, 88), (3, 93), (4, 98), (5, 106), (6, 114), (7, 125), (8, 136), (9, 144), (10, 149), (11, 154), (12, 199), (13, 210)] 221 := jq_ts (jv_insR jm_173 dX0_count_1) [(0, 72), (1, 80), (2, 88), (3, 93), (4, 98), (5, 106), (6, 114), (7, 125), (8, 136), (9, 144), (10, 149), (11, 154), (12, 199), (13, 210)] 221 (by decide) (by decide) (by decide) (by decide)
theorem e173_72 : jv_ev d 173 72 [some (.ref a), x1] st h = jv_ev d 173 73 [some (.ref a), x1] (.ref a :: st) h := jq_nx (jv_insR jm_173 dX0_count_72) rfl
theorem e173_73 : jv_ev d 173 73 lc (.ref a :: st) h = (jv_gf h a [(1, 3, .object "RainLoom$Text")]).bind fun r => jv_ev d 173 76 lc (r :: st) h := jq_get (jv_insR jm_173 dX0_count_73) jo_173 jF_2_40
theorem e173_76 : jv_ev d 173 76 lc (.ref a :: st) h = (jv_gf h a [(5, 5, .int)]).bind fun r => jv_ev d 173 79 lc (r :: st) h := jq_get (jv_insR jm_173 dX0_count_76) jo_173 jF_2_285
theorem e173_79 : jv_ev d 173 79 lc [.int v] h = some (.inl (some (.int v)), h) := jq_reti (jv_insR jm_173 dX0_count_79) jr_173
theorem e173_80 : jv_ev d 173 80 [some (.ref a), x1] st h = jv_ev d 173 81 [some (.ref a), x1] (.ref a :: st) h := jq_nx (jv_insR jm_173 dX0_count_80) rfl
theorem e173_81 : jv_ev d 173 81 lc (.ref a :: st) h = (jv_gf h a [(1, 3, .object "RainLoom$Text")]).bind fun r => jv_ev d 173 84 lc (r :: st) h := jq_get (jv_insR jm_173 dX0_count_81) jo_173 jF_2_40
theorem e173_84 : jv_ev d 173 84 lc (.ref a :: st) h = (jv_gf h a [(5, 4, .int)]).bind fun r => jv_ev d 173 87 lc (r :: st) h := jq_get (jv_insR jm_173 dX0_count_84) jo_173 jF_2_282
theorem e173_87 : jv_ev d 173 87 lc [.int v] h = some (.inl (some (.int v)), h) := jq_reti (jv_insR jm_173 dX0_count_87) jr_173
theorem e173_88 : jv_ev d 173 88 [some (.ref a), x1] st h = jv_ev d 173 89 [some (.ref a), x1] (.ref a :: st) h := jq_nx (jv_insR jm_173 dX0_count_88) rfl
theorem e173_89 : jv_ev d 173 89 lc [.ref b] h = (jv_rc h b [(1, 123)]).bind fun y => (jv_cd d y [.ref b] h).bind fun r => jv_on r (fun v h => jv_ev d 173 92 lc (v.toList ++ []) h) (fun q h => some (.inr q, h)) := jq_V (as := []) (rest := []) (jv_insR jm_173 dX0_count_89) jo_173 jV_2_196 rfl rfl rfl rfl
theorem e173_92 : jv_ev d 173 92 lc [.int v] h = some (.inl (some (.int v)), h) := jq_reti (jv_insR jm_173 dX0_count_92) jr_173
theorem e173_93 : jv_ev d 173 93 [some (.ref a), x1] st h = jv_ev d 173 94 [some (.ref a), x1] (.ref a :: st) h := jq_nx (jv_insR jm_173 dX0_count_93) rfl
theorem e173_94 : jv_ev d 173 94 lc [.ref b] h = (jv_rc h b [(1, 127)]).bind fun y => (jv_cd d y [.ref b] h).bind fun r => jv_on r (fun v h => jv_ev d 173 97 lc (v.toList ++ []) h) (fun q h => some (.inr q, h)) := jq_V (as := []) (rest := []) (jv_insR jm_173 dX0_count_94) jo_173 jV_2_156 rfl rfl rfl rfl
theorem e173_97 : jv_ev d 173 97 lc [.int v] h = some (.inl (some (.int v)), h) := jq_reti (jv_insR jm_173 dX0_count_97) jr_173
theorem e173_98 : jv_ev d 173 98 [some (.ref a), x1] st h = jv_ev d 173 99 [some (.ref a), x1] (.ref a :: st) h := jq_nx (jv_insR jm_173 dX0_count_98) rfl
theorem e173_99 : jv_ev d 173 99 lc (.ref a :: st) h = (jv_gf h a [(1, 7, .object "RainLoom$Land")]).bind fun r => jv_ev d 173 102 lc (r :: st) h := jq_get (jv_insR jm_173 dX0_count_99) jo_173 jF_2_51
theorem e173_102 : jv_ev d 173 102 lc (.ref a :: st) h = (jv_gf h a [(6, 11, .int)]).bind fun r => jv_ev d 173 105 lc (r :: st) h := jq_get (jv_insR jm_173 dX0_count_102) jo_173 jF_2_270
theorem e173_105 : jv_ev d 173 105 lc [.int v] h = some (.inl (some (.int v)), h) := jq_reti (jv_insR jm_173 dX0_count_105) jr_173
theorem e173_106 : jv_ev d 173 106 [some (.ref a), x1] st h = jv_ev d 173 107 [some (.ref a), x1] (.ref a :: st) h := jq_nx (jv_insR jm_173 dX0_count_106) rfl
theorem e173_107 : jv_ev d 173 107 lc (.ref a :: st) h = (jv_gf h a [(1, 7, .object "RainLoom$Land")]).bind fun r => jv_ev d 173 110 lc (r :: st) h := jq_get (jv_insR jm_173 dX0_count_107) jo_173 jF_2_51
theorem e173_110 : jv_ev d 173 110 lc (.ref a :: st) h = (jv_gf h a [(6, 10, .int)]).bind fun r => jv_ev d 173 113 lc (r :: st) h := jq_get (jv_insR jm_173 dX0_count_110) jo_173 jF_2_309
theorem e173_113 : jv_ev d 173 113 lc [.int v] h = some (.inl (some (.int v)), h) := jq_reti (jv_insR jm_173 dX0_count_113) jr_173
theorem e173_114 : jv_ev d 173 114 [some (.ref a), x1] st h = jv_ev d 173 115 [some (.ref a), x1] (.ref a :: st) h := jq_nx (jv_insR jm_173 dX0_count_114) rfl
theorem e173_115 : jv_ev d 173 115 lc (.ref a :: st) h = (jv_gf h a [(1, 7, .object "RainLoom$Land")]).bind fun r => jv_ev d 173 118 lc (r :: st) h := jq_get (jv_insR jm_173 dX0_count_115) jo_173 jF_2_51
theorem e173_118 : jv_ev d 173 118 lc (.ref a :: st) h = (jv_gf h a [(6, 0, .array .int)]).bind fun r => jv_ev d 173 121 lc (r :: st) h := jq_get (jv_insR jm_173 dX0_count_118) jo_173 jF_2_186
theorem e173_121 : jv_ev d 173 121 lc [z0] h = (jv_cd d 228 [z0] h).bind fun r => jv_on r (fun v h => jv_ev d 173 124 lc (v.toList ++ []) h) (fun q h => some (.inr q, h)) := jq_S (as := [z0]) (rest := []) (jv_insR jm_173 dX0_count_121) jo_173 jT_2_312 rfl rfl rfl rfl
theorem e173_124 : jv_ev d 173 124 lc [.int v] h = some (.inl (some (.int v)), h) := jq_reti (jv_insR jm_173 dX0_count_124) jr_173
theorem e173_125 : jv_ev d 173 125 [some (.ref a), x1] st h = jv_ev d 173 126 [some (.ref a), x1] (.ref a :: st) h := jq_nx (jv_insR jm_173 dX0_count_125) rfl
theorem e173_126 : jv_ev d 173 126 lc (.ref a :: st) h = (jv_gf h a [(1, 7, .object "RainLoom$Land")]).bind fun r => jv_ev d 173 129 lc (r :: st) h := jq_get (jv_insR jm_173 dX0_count_126) jo_173 jF_2_51
theorem e173_129 : jv_ev d 173 129 lc (.ref a :: st) h = (jv_gf h a [(6, 4, .array .int)]).bind fun r => jv_ev d 173 132 lc (r :: st) h := jq_get (jv_insR jm_173 dX0_count_129) jo_173 jF_2_224
theorem e173_132 : jv_ev d 173 132 lc [z0] h = (jv_cd d 228 [z0] h).bind fun r => jv_on r (fun v h => jv_ev d 173 135 lc (v.toList ++ []) h) (fun q h => some (.inr q, h)) := jq_S (as := [z0]) (rest := []) (jv_insR jm_173 dX0_count_132) jo_173 jT_2_312 rfl rfl rfl rfl
theorem e173_135 : jv_ev d 173 135 lc [.int v] h = some (.inl (some (.int v)), h) := jq_reti (jv_insR jm_173 dX0_count_135) jr_173
theorem e173_136 : jv_ev d 173 136 [some (.ref a), x1] st h = jv_ev d 173 137 [some (.ref a), x1] (.ref a :: st) h := jq_nx (jv_insR jm_173 dX0_count_136) rfl
theorem e173_137 : jv_ev d 173 137 lc (.ref a :: st) h = (jv_gf h a [(1, 1, .object "RainLoom$Tokens")]).bind fun r => jv_ev d 173 140 lc (r :: st) h := jq_get (jv_insR jm_173 dX0_count_137) jo_173 jF_2_24
theorem e173_140 : jv_ev d 173 140 lc (.ref a :: st) h = (jv_gf h a [(3, 2, .int)]).bind fun r => jv_ev d 173 143 lc (r :: st) h := jq_get (jv_insR jm_173 dX0_count_140) jo_173 jF_2_118
theorem e173_143 : jv_ev d 173 143 lc [.int v] h = some (.inl (some (.int v)), h) := jq_reti (jv_insR jm_173 dX0_count_143) jr_173
theorem e173_144 : jv_ev d 173 144 [some (.ref a), x1] st h = jv_ev d 173 145 [some (.ref a), x1] (.ref a :: st) h := jq_nx (jv_insR jm_173 dX0_count_144) rfl
theorem e173_145 : jv_ev d 173 145 lc (.ref a :: st) h = (jv_gf h a [(1, 5, .int)]).bind fun r => jv_ev d 173 148 lc (r :: st) h := jq_get (jv_insR jm_173 dX0_count_145) jo_173 jF_2_133
theorem e173_148 : jv_ev d 173 148 lc [.int v] h = some (.inl (some (.int v)), h) := jq_reti (jv_insR jm_173 dX0_count_148) jr_173
theorem e173_149 : jv_ev d 173 149 [some (.ref a), x1] st h = jv_ev d 173 150 [some (.ref a), x1] (.ref a :: st) h := jq_nx (jv_insR jm_173 dX0_count_149) rfl
theorem e173_150 : jv_ev d 173 150 lc (.ref a :: st) h = (jv_gf h a [(1, 21, .int)]).bind fun r => jv_ev d 173 153 lc (r :: st) h := jq_get (jv_insR jm_173 dX0_count_150) jo_173 jF_2_136
theorem e173_153 : jv_ev d 173 153 lc [.int v] h = some (.inl (some (.int v)), h) := jq_reti (jv_insR jm_173 dX0_count_153) jr_173
theorem e173_154 : jv_ev d 173 154 [some (.ref a), x1] st h = jv_ev d 173 155 [some (.ref a), x1] (.ref a :: st) h := jq_nx (jv_insR jm_173 dX0_count_154) rfl
theorem e173_155 : jv_ev d 173 155 lc (.ref a :: st) h = (jv_gf h a [(1, 12, .array .boolean)]).bind fun r => jv_ev d 173 158 lc (r :: st) h := jq_get (jv_insR jm_173 dX0_count_155) jo_173 jF_2_83
theorem e173_158 : jv_ev d 173 158 lc st h = jv_ev d 173 159 lc (.int 0 :: st) h := jq_iconst (jv_insR jm_173 dX0_count_158) (by decide)
theorem e173_159 : jv_ev d 173 159 lc (.int v :: .ref a :: st) h = (jv_ig h a 1 2 v).bind fun w => jv_ev d 173 160 lc (.int w :: st) h := jq_bald (jv_insR jm_173 dX0_count_159)
theorem e173_160 : jv_ev d 173 160 lc (.int v :: st) h = if v = 0 then jv_ev d 173 167 lc st h else jv_ev d 173 163 lc st h := jq_if (jv_insR jm_173 dX0_count_160) rfl (by decide)
theorem e173_163 : jv_ev d 173 163 lc st h = jv_ev d 173 164 lc (.int 1 :: st) h := jq_iconst (jv_insR jm_173 dX0_count_163) (by decide)
theorem e173_164 : jv_ev d 173 164 lc st h = jv_ev d 173 168 lc st h := jq_go (jv_insR jm_173 dX0_count_164) (by decide)
theorem e173_167 : jv_ev d 173 167 lc st h = jv_ev d 173 168 lc (.int 0 :: st) h := jq_iconst (jv_insR jm_173 dX0_count_167) (by decide)
theorem e173_168 : jv_ev d 173 168 [some (.ref a), x1] st h = jv_ev d 173 169 [some (.ref a), x1] (.ref a :: st) h := jq_nx (jv_insR jm_173 dX0_count_168) rfl
theorem e173_169 : jv_ev d 173 169 lc (.ref a :: st) h = (jv_gf h a [(1, 12, .array .boolean)]).bind fun r => jv_ev d 173 172 lc (r :: st) h := jq_get (jv_insR jm_173 dX0_count_169) jo_173 jF_2_83
theorem e173_172 : jv_ev d 173 172 lc st h = jv_ev d 173 173 lc (.int 1 :: st) h := jq_iconst (jv_insR jm_173 dX0_count_172) (by decide)
theorem e173_173 : jv_ev d 173 173 lc (.int v :: .ref a :: st) h = (jv_ig h a 1 2 v).bind fun w => jv_ev d 173 174 lc (.int w :: st) h := jq_bald (jv_insR jm_173 dX0_count_173)
theorem e173_174 : jv_ev d 173 174 lc (.int v :: st) h = if v = 0 then jv_ev d 173 181 lc st h else jv_ev d 173 177 lc st h := jq_if (jv_insR jm_173 dX0_count_174) rfl (by decide)
theorem e173_177 : jv_ev d 173 177 lc st h = jv_ev d 173 178 lc (.int 1 :: st) h := jq_iconst (jv_insR jm_173 dX0_count_177) (by decide)
theorem e173_178 : jv_ev d 173 178 lc st h = jv_ev d 173 182 lc st h := jq_go (jv_insR jm_173 dX0_count_178) (by decide)
theorem e173_181 : jv_ev d 173 181 lc st h = jv_ev d 173 182 lc (.int 0 :: st) h := jq_iconst (jv_insR jm_173 dX0_count_181) (by decide)
theorem e173_182 : jv_ev d 173 182 lc (.int w :: .int v :: st) h = jv_ev d 173 183 lc (.int (v + w) :: st) h := jq_nx (jv_insR jm_173 dX0_count_182) rfl
theorem e173_183 : jv_ev d 173 183 [some (.ref a), x1] st h = jv_ev d 173 184 [some (.ref a), x1] (.ref a :: st) h := jq_nx (jv_insR jm_173 dX0_count_183) rfl
theorem e173_184 : jv_ev d 173 184 lc (.ref a :: st) h = (jv_gf h a [(1, 12, .array .boolean)]).bind fun r => jv_ev d 173 187 lc (r :: st) h := jq_get (jv_insR jm_173 dX0_count_184) jo_173 jF_2_83
theorem e173_187 : jv_ev d 173 187 lc st h = jv_ev d 173 188 lc (.int 2 :: st) h := jq_iconst (jv_insR jm_173 dX0_count_187) (by decide)
theorem e173_188 : jv_ev d 173 188 lc (.int v :: .ref a :: st) h = (jv_ig h a 1 2 v).bind fun w => jv_ev d 173 189 lc (.int w :: st) h := jq_bald (jv_insR jm_173 dX0_count_188)
theorem e173_189 : jv_ev d 173 189 lc (.int v :: st) h = if v = 0 then jv_ev d 173 196 lc st h else jv_ev d 173 192 lc st h := jq_if (jv_insR jm_173 dX0_count_189) rfl (by decide)
theorem e173_192 : jv_ev d 173 192 lc st h = jv_ev d 173 193 lc (.int 1 :: st) h := jq_iconst (jv_insR jm_173 dX0_count_192) (by decide)
theorem e173_193 : jv_ev d 173 193 lc st h = jv_ev d 173 197 lc st h := jq_go (jv_insR jm_173 dX0_count_193) (by decide)
theorem e173_196 : jv_ev d 173 196 lc st h = jv_ev d 173 197 lc (.int 0 :: st) h := jq_iconst (jv_insR jm_173 dX0_count_196) (by decide)
theorem e173_197 : jv_ev d 173 197 lc (.int w :: .int v :: st) h = jv_ev d 173 198 lc (.int (v + w) :: st) h := jq_nx (jv_insR jm_173 dX0_count_197) rfl
theorem e173_198 : jv_ev d 173 198 lc [.int v] h = some (.inl (some (.int v)), h) := jq_reti (jv_insR jm_173 dX0_count_198) jr_173
theorem e173_199 : jv_ev d 173 199 [some (.ref a), x1] st h = jv_ev d 173 200 [some (.ref a), x1] (.ref a :: st) h := jq_nx (jv_insR jm_173 dX0_count_199) rfl
theorem e173_200 : jv_ev d 173 200 lc (.ref a :: st) h = (jv_gf h a [(1, 7, .object "RainLoom$Land")]).bind fun r => jv_ev d 173 203 lc (r :: st) h := jq_get (jv_insR jm_173 dX0_count_200) jo_173 jF_2_51
theorem e173_203 : jv_ev d 173 203 lc (.ref a :: st) h = (jv_gf h a [(6, 1, .array .int)]).bind fun r => jv_ev d 173 206 lc (r :: st) h := jq_get (jv_insR jm_173 dX0_count_203) jo_173 jF_2_201
theorem e173_206 : jv_ev d 173 206 lc [z0] h = (jv_cd d 228 [z0] h).bind fun r => jv_on r (fun v h => jv_ev d 173 209 lc (v.toList ++ []) h) (fun q h => some (.inr q, h)) := jq_S (as := [z0]) (rest := []) (jv_insR jm_173 dX0_count_206) jo_173 jT_2_312 rfl rfl rfl rfl
theorem e173_209 : jv_ev d 173 209 lc [.int v] h = some (.inl (some (.int v)), h) := jq_reti (jv_insR jm_173 dX0_count_209) jr_173
theorem e173_210 : jv_ev d 173 210 [some (.ref a), x1] st h = jv_ev d 173 211 [some (.ref a), x1] (.ref a :: st) h := jq_nx (jv_insR jm_173 dX0_count_210) rfl
theorem e173_211 : jv_ev d 173 211 lc (.ref a :: st) h = (jv_gf h a [(1, 7, .object "RainLoom$Land")]).bind fun r => jv_ev d 173 214 lc (r :: st) h := jq_get (jv_insR jm_173 dX0_count_211) jo_173 jF_2_51
theorem e173_214 : jv_ev d 173 214 lc (.ref a :: st) h = (jv_gf h a [(6, 2, .array .int)]).bind fun r => jv_ev d 173 217 lc (r :: st) h := jq_get (jv_insR jm_173 dX0_count_214) jo_173 jF_2_204
theorem e173_217 : jv_ev d 173 217 lc [z0] h = (jv_cd d 228 [z0] h).bind fun r => jv_on r (fun v h => jv_ev d 173 220 lc (v.toList ++ []) h) (fun q h => some (.inr q, h)) := jq_S (as := [z0]) (rest := []) (jv_insR jm_173 dX0_count_217) jo_173 jT_2_312 rfl rfl rfl rfl
theorem e173_220 : jv_ev d 173 220 lc [.int v] h = some (.inl (some (.int v)), h) := jq_reti (jv_insR jm_173 dX0_count_220) jr_173
theorem e173_221 : jv_ev d 173 221 lc st h = jv_ev d 173 222 lc (.int (-1) :: st) h := jq_iconst (jv_insR jm_173 dX0_count_221) (by decide)
theorem e173_222 : jv_ev d 173 222 lc [.int v] h = some (.inl (some (.int v)), h) := jq_reti (jv_insR jm_173 dX0_count_222) jr_173
end
