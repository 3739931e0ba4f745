/-! equations, an instruction a row: printed by gen_eq.py -/
set_option maxRecDepth 100000
section
variable {d : Nat} {h : jv_H} {lc : jv_L} {st : List Value} {u v w : Int32} {lv lw : Int64} {a b : Nat} {r : Value} {x0 x1 x2 x3 x4 x5 x6 x7 x8 x9 x10 x11 x12 x13 x14 x15 x16 x17 x18 x19 x20 x21 x22 x23 x24 x25 x26 x27 x28 x29 : Option Value} {y0 y1 y2 y3 y4 y5 y6 y7 z0 z1 z2 z3 z4 z5 z6 z7 z8 : Value} {a0 a1 a2 a3 a4 a5 a6 a7 a8 : Nat} {i0 i1 i2 i3 i4 i5 i6 i7 i8 : Int32} {l0 l1 l2 l3 l4 l5 l6 l7 l8 : Int64}
theorem jm_0 : jt_M[0]? = some (0, x, cL_law, 4, (some .boolean), []) := rfl
theorem jo_0 : jv_own 0 = 0 := rfl
theorem ji_0 : jv_init 0 = false := rfl
theorem jr_0 : jv_ret 0 = (some .boolean) := rfl
theorem jN_0_10 : jv_find jt_N 0 10 = some (0) := rfl
theorem jN_0_7 : jv_find jt_N 0 7 = some (1) := rfl
theorem jP_0_12 : jv_find jt_P 0 12 = some ((0, some 1)) := rfl
theorem jP_0_9 : jv_find jt_P 0 9 = some ((0, some 115)) := rfl
theorem jV_0_102 : jv_find jt_V 0 102 = some ((4, [(0, 82)])) := rfl
theorem jV_0_103 : jv_find jt_V 0 103 = some ((3, [(1, 155)])) := rfl
theorem jV_0_106 : jv_find jt_V 0 106 = some ((3, [(0, 88)])) := rfl
theorem jV_0_107 : jv_find jt_V 0 107 = some ((2, [(1, 156)])) := rfl
theorem jV_0_110 : jv_find jt_V 0 110 = some ((2, [(0, 90)])) := rfl
theorem jV_0_111 : jv_find jt_V 0 111 = some ((2, [(1, 157)])) := rfl
theorem jV_0_114 : jv_find jt_V 0 114 = some ((2, [(0, 92)])) := rfl
theorem jV_0_115 : jv_find jt_V 0 115 = some ((1, [(1, 158)])) := rfl
theorem jV_0_118 : jv_find jt_V 0 118 = some ((1, [(0, 93)])) := rfl
theorem jV_0_119 : jv_find jt_V 0 119 = some ((0, [(1, 159)])) := rfl
theorem jV_0_122 : jv_find jt_V 0 122 = some ((0, [(0, 94)])) := rfl
theorem jV_0_123 : jv_find jt_V 0 123 = some ((3, [(1, 161)])) := rfl
theorem jV_0_126 : jv_find jt_V 0 126 = some ((3, [(0, 95)])) := rfl
theorem jV_0_127 : jv_find jt_V 0 127 = some ((3, [(1, 163)])) := rfl
theorem jV_0_13 : jv_find jt_V 0 13 = some ((5, [(1, 116)])) := rfl
theorem jV_0_130 : jv_find jt_V 0 130 = some ((3, [(0, 100)])) := rfl
theorem jV_0_131 : jv_find jt_V 0 131 = some ((2, [(1, 164)])) := rfl
theorem jV_0_135 : jv_find jt_V 0 135 = some ((2, [(0, 101)])) := rfl
theorem jV_0_136 : jv_find jt_V 0 136 = some ((2, [(1, 160)])) := rfl
theorem jV_0_139 : jv_find jt_V 0 139 = some ((2, [(0, 102)])) := rfl
theorem jV_0_140 : jv_find jt_V 0 140 = some ((3, [(1, 165)])) := rfl
theorem jV_0_143 : jv_find jt_V 0 143 = some ((3, [(0, 103)])) := rfl
theorem jV_0_144 : jv_find jt_V 0 144 = some ((0, [(1, 166)])) := rfl
theorem jV_0_147 : jv_find jt_V 0 147 = some ((0, [(0, 104)])) := rfl
theorem jV_0_148 : jv_find jt_V 0 148 = some ((4, [(1, 167)])) := rfl
theorem jV_0_151 : jv_find jt_V 0 151 = some ((4, [(0, 105)])) := rfl
theorem jV_0_152 : jv_find jt_V 0 152 = some ((3, [(1, 169)])) := rfl
theorem jV_0_155 : jv_find jt_V 0 155 = some ((3, [(0, 109)])) := rfl
theorem jV_0_156 : jv_find jt_V 0 156 = some ((1, [(1, 171)])) := rfl
theorem jV_0_159 : jv_find jt_V 0 159 = some ((1, [(0, 111)])) := rfl
theorem jV_0_160 : jv_find jt_V 0 160 = some ((1, [(1, 172)])) := rfl
theorem jV_0_163 : jv_find jt_V 0 163 = some ((1, [(0, 112)])) := rfl
theorem jV_0_164 : jv_find jt_V 0 164 = some ((1, [(1, 173)])) := rfl
theorem jV_0_167 : jv_find jt_V 0 167 = some ((1, [(0, 113)])) := rfl
theorem jV_0_17 : jv_find jt_V 0 17 = some ((5, [(0, 7)])) := rfl
theorem jV_0_18 : jv_find jt_V 0 18 = some ((1, [(1, 118)])) := rfl
theorem jV_0_22 : jv_find jt_V 0 22 = some ((1, [(0, 9)])) := rfl
theorem jV_0_23 : jv_find jt_V 0 23 = some ((0, [(1, 119)])) := rfl
theorem jV_0_27 : jv_find jt_V 0 27 = some ((0, [(0, 10)])) := rfl
theorem jV_0_28 : jv_find jt_V 0 28 = some ((0, [(1, 120)])) := rfl
theorem jV_0_31 : jv_find jt_V 0 31 = some ((0, [(0, 37)])) := rfl
theorem jV_0_32 : jv_find jt_V 0 32 = some ((3, [(1, 121)])) := rfl
theorem jV_0_36 : jv_find jt_V 0 36 = some ((3, [(0, 38)])) := rfl
theorem jV_0_37 : jv_find jt_V 0 37 = some ((2, [(1, 122)])) := rfl
theorem jV_0_41 : jv_find jt_V 0 41 = some ((2, [(0, 47)])) := rfl
theorem jV_0_42 : jv_find jt_V 0 42 = some ((2, [(1, 125)])) := rfl
theorem jV_0_45 : jv_find jt_V 0 45 = some ((2, [(0, 52)])) := rfl
theorem jV_0_46 : jv_find jt_V 0 46 = some ((3, [(1, 129)])) := rfl
theorem jV_0_49 : jv_find jt_V 0 49 = some ((3, [(0, 54)])) := rfl
theorem jV_0_50 : jv_find jt_V 0 50 = some ((5, [(1, 130)])) := rfl
theorem jV_0_54 : jv_find jt_V 0 54 = some ((5, [(0, 59)])) := rfl
theorem jV_0_55 : jv_find jt_V 0 55 = some ((1, [(1, 133)])) := rfl
theorem jV_0_59 : jv_find jt_V 0 59 = some ((1, [(0, 62)])) := rfl
theorem jV_0_60 : jv_find jt_V 0 60 = some ((5, [(1, 134)])) := rfl
theorem jV_0_63 : jv_find jt_V 0 63 = some ((5, [(0, 63)])) := rfl
theorem jV_0_64 : jv_find jt_V 0 64 = some ((2, [(1, 135)])) := rfl
theorem jV_0_67 : jv_find jt_V 0 67 = some ((2, [(0, 65)])) := rfl
theorem jV_0_68 : jv_find jt_V 0 68 = some ((1, [(1, 136)])) := rfl
theorem jV_0_71 : jv_find jt_V 0 71 = some ((1, [(0, 66)])) := rfl
theorem jV_0_72 : jv_find jt_V 0 72 = some ((0, [(1, 141)])) := rfl
theorem jV_0_76 : jv_find jt_V 0 76 = some ((0, [(0, 72)])) := rfl
theorem jV_0_77 : jv_find jt_V 0 77 = some ((4, [(1, 142)])) := rfl
theorem jV_0_81 : jv_find jt_V 0 81 = some ((4, [(0, 73)])) := rfl
theorem jV_0_82 : jv_find jt_V 0 82 = some ((3, [(1, 144)])) := rfl
theorem jV_0_85 : jv_find jt_V 0 85 = some ((3, [(0, 75)])) := rfl
theorem jV_0_86 : jv_find jt_V 0 86 = some ((1, [(1, 147)])) := rfl
theorem jV_0_89 : jv_find jt_V 0 89 = some ((1, [(0, 76)])) := rfl
theorem jV_0_90 : jv_find jt_V 0 90 = some ((2, [(1, 145)])) := rfl
theorem jV_0_93 : jv_find jt_V 0 93 = some ((2, [(0, 78)])) := rfl
theorem jV_0_94 : jv_find jt_V 0 94 = some ((4, [(1, 149)])) := rfl
theorem jV_0_98 : jv_find jt_V 0 98 = some ((4, [(0, 79)])) := rfl
theorem jV_0_99 : jv_find jt_V 0 99 = some ((4, [(1, 151)])) := rfl
/-! 0: RainLoomLaw.law([I)Z -/
theorem n0 : jv_cd (d + 1) 0 [.ref a0] h = jv_ev d 0 0 [some (.ref a0), none, none, none] [] h := rfl
theorem e0_0 : jv_ev d 0 0 lc st h = jv_ev d 0 3 lc (.ref h.length :: st) (h ++ [.inr (1, [.null, .null, .null, .null, .int 0, .int 0, .int 0, .null, .null, .null, .null, .null, .null, .null, .null, .null, .int 0, .int 0, .null, .null, .int 0, .int 0, .null, .null, .null])]) := jq_new (jv_insR jm_0 dL_law_0) jo_0 jN_0_7 rfl
theorem e0_3 : jv_ev d 0 3 lc (.ref a :: st) h = jv_ev d 0 4 lc (.ref a :: .ref a :: st) h := jq_nx (jv_insR jm_0 dL_law_3) rfl
theorem e0_4 : jv_ev d 0 4 lc [.ref b, y0] h = if jt_off ≤ b ∧ (jt_SU.contains 115 = false ∨ jv_cls h b = some 20) then ((jv_cd d 115 [.ref b] h).bind fun r => jv_on r (fun v h => jv_ev d 0 7 lc (v.toList ++ [y0]) h) (fun q h => some (.inr q, h))) else none := jq_P (as := []) (rest := [y0]) (jv_insR jm_0 dL_law_4) jo_0 jP_0_9 rfl rfl rfl rfl
theorem e0_7 : jv_ev d 0 7 [x0, x1, x2, x3] (.ref a :: st) h = jv_ev d 0 8 [x0, some (.ref a), x2, x3] st h := jq_nx (jv_insR jm_0 dL_law_7) rfl
theorem e0_8 : jv_ev d 0 8 lc st h = jv_ev d 0 11 lc (.ref h.length :: st) (h ++ [.inr (0, [.int 0, .null, .int 0, .null, .int 0, .null, .null, .null, .null, .null, .int 0, .int 0, .int 0, .int 0, .int 0, .int 0, .int 0, .int 0, .int 0, .int 0, .int 0, .null, .null, .null, .null, .null, .null, .null, .null, .null, .null, .null, .null, .null, .null, .null, .int 0, .null, .null, .null, .null, .null, .int 0, .null, .null, .null, .int 0, .null, .null, .int 0, .null, .null, .int 0, .int 0, .null, .int 0, .int 0, .null, .null, .null, .null, .int 0, .int 0, .int 0, .null, .int 0, .null, .null, .null, .null, .null, .null])]) := jq_new (jv_insR jm_0 dL_law_8) jo_0 jN_0_10 rfl
theorem e0_11 : jv_ev d 0 11 lc (.ref a :: st) h = jv_ev d 0 12 lc (.ref a :: .ref a :: st) h := jq_nx (jv_insR jm_0 dL_law_11) rfl
theorem e0_12 : jv_ev d 0 12 lc [.ref b, y0] h = if jt_off ≤ b ∧ (jt_SU.contains 1 = false ∨ jv_cls h b = some 20) then ((jv_cd d 1 [.ref b] h).bind fun r => jv_on r (fun v h => jv_ev d 0 15 lc (v.toList ++ [y0]) h) (fun q h => some (.inr q, h))) else none := jq_P (as := []) (rest := [y0]) (jv_insR jm_0 dL_law_12) jo_0 jP_0_12 rfl rfl rfl rfl
theorem e0_15 : jv_ev d 0 15 [x0, x1, x2, x3] (.ref a :: st) h = jv_ev d 0 16 [x0, x1, some (.ref a), x3] st h := jq_nx (jv_insR jm_0 dL_law_15) rfl
theorem e0_16 : jv_ev d 0 16 lc st h = jv_ev d 0 17 lc (.int 0 :: st) h := jq_iconst (jv_insR jm_0 dL_law_16) (by decide)
theorem e0_17 : jv_ev d 0 17 [x0, x1, x2, x3] (.int v :: st) h = jv_ev d 0 18 [x0, x1, x2, some (.int v)] st h := jq_nx (jv_insR jm_0 dL_law_17) rfl
theorem e0_18 : jv_ev d 0 18 [x0, x1, x2, some (.int v)] st h = jv_ev d 0 19 [x0, x1, x2, some (.int v)] (.int v :: st) h := jq_nx (jv_insR jm_0 dL_law_18) rfl
theorem e0_19 : jv_ev d 0 19 [some (.ref a), x1, x2, x3] st h = jv_ev d 0 20 [some (.ref a), x1, x2, x3] (.ref a :: st) h := jq_nx (jv_insR jm_0 dL_law_19) rfl
theorem e0_20 : jv_ev d 0 20 lc (.ref a :: st) h = (jv_al h a).bind fun v => jv_ev d 0 21 lc (.int v :: st) h := jq_alen (jv_insR jm_0 dL_law_20)
theorem e0_21 : jv_ev d 0 21 lc st h = jv_ev d 0 23 lc (.int 6 :: st) h := jq_bipush (jv_insR jm_0 dL_law_21) (by decide)
theorem e0_23 : jv_ev d 0 23 lc (.int w :: .int v :: st) h = jv_ev d 0 24 lc (.int (v - w) :: st) h := jq_nx (jv_insR jm_0 dL_law_23) rfl
theorem e0_24 : jv_ev d 0 24 lc (.int w :: .int v :: st) h = if w < v then jv_ev d 0 1488 lc st h else jv_ev d 0 27 lc st h := jq_if (jv_insR jm_0 dL_law_24) rfl (by decide)
theorem e0_27 : jv_ev d 0 27 [some (.ref a), x1, x2, x3] st h = jv_ev d 0 28 [some (.ref a), x1, x2, x3] (.ref a :: st) h := jq_nx (jv_insR jm_0 dL_law_27) rfl
theorem e0_28 : jv_ev d 0 28 [x0, x1, x2, some (.int v)] st h = jv_ev d 0 29 [x0, x1, x2, some (.int v)] (.int v :: st) h := jq_nx (jv_insR jm_0 dL_law_28) rfl
theorem e0_29 : jv_ev d 0 29 lc (.int v :: .ref a :: st) h = (jv_ig h a 0 0 v).bind fun w => jv_ev d 0 30 lc (.int w :: st) h := jq_iald (jv_insR jm_0 dL_law_29)
theorem e0_30 : jv_ev d 0 30 lc st h = jv_ev d 0 32 lc (.int 63 :: st) h := jq_bipush (jv_insR jm_0 dL_law_30) (by decide)
theorem e0_32 : jv_ev d 0 32 lc (.int w :: .int v :: st) h = jv_ev d 0 33 lc (.int (v &&& w) :: st) h := jq_nx (jv_insR jm_0 dL_law_32) rfl
theorem e0_33 : jv_ev d 0 33 lc (.int v :: st) h = jv_tsl (fun t => jv_ev d 0 t lc st h) v [(0, 192), (1, 255), (2, 278), (3, 291), (4, 304), (5, 347), (6, 380), (7, 413), (8, 456), (9, 519), (10, 542), (11, 605), (12, 638), (13, 661), (14, 674), (15, 743), (16, 786), (17, 809), (18, 842), (19, 895), (20, 948), (21, 991), (22, 1024), (23, 1057), (24, 1080), (25, 1093), (26, 1136), (27, 1179), (28, 1228), (29, 1261), (30, 1304), (31, 1317), (32, 1370), (33, 1413), (34, 1436), (35, 1459)] 1482 := jq_ts (jv_insR jm_0 dL_law_33) [(0, 192), (1, 255), (2, 278), (3, 291), (4, 304), (5, 347), (6, 380), (7, 413), (8, 456), (9, 519), (10, 542), (11, 605), (12, 638), (13, 661), (14, 674), (15, 743), (16, 786), (17, 809), (18, 842), (19, 895), (20, 948), (21, 991), (22, 1024), (23, 1057), (24, 1080), (25, 1093), (26, 1136), (27, 1179), (28, 1228), (29, 1261), (30, 1304), (31, 1317), (32, 1370), (33, 1413), (34, 1436), (35, 1459)] 1482 (by decide) (by decide) (by decide) (by decide)
theorem e0_192 : jv_ev d 0 192 [x0, some (.ref a), x2, x3] st h = jv_ev d 0 193 [x0, some (.ref a), x2, x3] (.ref a :: st) h := jq_nx (jv_insR jm_0 dL_law_192) rfl
theorem e0_193 : jv_ev d 0 193 [some (.ref a), x1, x2, x3] st h = jv_ev d 0 194 [some (.ref a), x1, x2, x3] (.ref a :: st) h := jq_nx (jv_insR jm_0 dL_law_193) rfl
theorem e0_194 : jv_ev d 0 194 [x0, x1, x2, some (.int v)] st h = jv_ev d 0 195 [x0, x1, x2, some (.int v)] (.int v :: st) h := jq_nx (jv_insR jm_0 dL_law_194) rfl
theorem e0_195 : jv_ev d 0 195 lc st h = jv_ev d 0 196 lc (.int 1 :: st) h := jq_iconst (jv_insR jm_0 dL_law_195) (by decide)
theorem e0_196 : jv_ev d 0 196 lc (.int w :: .int v :: st) h = jv_ev d 0 197 lc (.int (v + w) :: st) h := jq_nx (jv_insR jm_0 dL_law_196) rfl
theorem e0_197 : jv_ev d 0 197 lc (.int v :: .ref a :: st) h = (jv_ig h a 0 0 v).bind fun w => jv_ev d 0 198 lc (.int w :: st) h := jq_iald (jv_insR jm_0 dL_law_197)
theorem e0_198 : jv_ev d 0 198 [some (.ref a), x1, x2, x3] st h = jv_ev d 0 199 [some (.ref a), x1, x2, x3] (.ref a :: st) h := jq_nx (jv_insR jm_0 dL_law_198) rfl
theorem e0_199 : jv_ev d 0 199 [x0, x1, x2, some (.int v)] st h = jv_ev d 0 200 [x0, x1, x2, some (.int v)] (.int v :: st) h := jq_nx (jv_insR jm_0 dL_law_199) rfl
theorem e0_200 : jv_ev d 0 200 lc st h = jv_ev d 0 201 lc (.int 2 :: st) h := jq_iconst (jv_insR jm_0 dL_law_200) (by decide)
theorem e0_201 : jv_ev d 0 201 lc (.int w :: .int v :: st) h = jv_ev d 0 202 lc (.int (v + w) :: st) h := jq_nx (jv_insR jm_0 dL_law_201) rfl
theorem e0_202 : jv_ev d 0 202 lc (.int v :: .ref a :: st) h = (jv_ig h a 0 0 v).bind fun w => jv_ev d 0 203 lc (.int w :: st) h := jq_iald (jv_insR jm_0 dL_law_202)
theorem e0_203 : jv_ev d 0 203 [some (.ref a), x1, x2, x3] st h = jv_ev d 0 204 [some (.ref a), x1, x2, x3] (.ref a :: st) h := jq_nx (jv_insR jm_0 dL_law_203) rfl
theorem e0_204 : jv_ev d 0 204 [x0, x1, x2, some (.int v)] st h = jv_ev d 0 205 [x0, x1, x2, some (.int v)] (.int v :: st) h := jq_nx (jv_insR jm_0 dL_law_204) rfl
theorem e0_205 : jv_ev d 0 205 lc st h = jv_ev d 0 206 lc (.int 3 :: st) h := jq_iconst (jv_insR jm_0 dL_law_205) (by decide)
theorem e0_206 : jv_ev d 0 206 lc (.int w :: .int v :: st) h = jv_ev d 0 207 lc (.int (v + w) :: st) h := jq_nx (jv_insR jm_0 dL_law_206) rfl
theorem e0_207 : jv_ev d 0 207 lc (.int v :: .ref a :: st) h = (jv_ig h a 0 0 v).bind fun w => jv_ev d 0 208 lc (.int w :: st) h := jq_iald (jv_insR jm_0 dL_law_207)
theorem e0_208 : jv_ev d 0 208 [some (.ref a), x1, x2, x3] st h = jv_ev d 0 209 [some (.ref a), x1, x2, x3] (.ref a :: st) h := jq_nx (jv_insR jm_0 dL_law_208) rfl
theorem e0_209 : jv_ev d 0 209 [x0, x1, x2, some (.int v)] st h = jv_ev d 0 210 [x0, x1, x2, some (.int v)] (.int v :: st) h := jq_nx (jv_insR jm_0 dL_law_209) rfl
theorem e0_210 : jv_ev d 0 210 lc st h = jv_ev d 0 211 lc (.int 4 :: st) h := jq_iconst (jv_insR jm_0 dL_law_210) (by decide)
theorem e0_211 : jv_ev d 0 211 lc (.int w :: .int v :: st) h = jv_ev d 0 212 lc (.int (v + w) :: st) h := jq_nx (jv_insR jm_0 dL_law_211) rfl
theorem e0_212 : jv_ev d 0 212 lc (.int v :: .ref a :: st) h = (jv_ig h a 0 0 v).bind fun w => jv_ev d 0 213 lc (.int w :: st) h := jq_iald (jv_insR jm_0 dL_law_212)
theorem e0_213 : jv_ev d 0 213 [some (.ref a), x1, x2, x3] st h = jv_ev d 0 214 [some (.ref a), x1, x2, x3] (.ref a :: st) h := jq_nx (jv_insR jm_0 dL_law_213) rfl
theorem e0_214 : jv_ev d 0 214 [x0, x1, x2, some (.int v)] st h = jv_ev d 0 215 [x0, x1, x2, some (.int v)] (.int v :: st) h := jq_nx (jv_insR jm_0 dL_law_214) rfl
theorem e0_215 : jv_ev d 0 215 lc st h = jv_ev d 0 216 lc (.int 5 :: st) h := jq_iconst (jv_insR jm_0 dL_law_215) (by decide)
theorem e0_216 : jv_ev d 0 216 lc (.int w :: .int v :: st) h = jv_ev d 0 217 lc (.int (v + w) :: st) h := jq_nx (jv_insR jm_0 dL_law_216) rfl
theorem e0_217 : jv_ev d 0 217 lc (.int v :: .ref a :: st) h = (jv_ig h a 0 0 v).bind fun w => jv_ev d 0 218 lc (.int w :: st) h := jq_iald (jv_insR jm_0 dL_law_217)
theorem e0_218 : jv_ev d 0 218 lc [z4, z3, z2, z1, z0, .ref b] h = (jv_rc h b [(1, 116)]).bind fun y => (jv_cd d y [.ref b, z0, z1, z2, z3, z4] h).bind fun r => jv_on r (fun v h => jv_ev d 0 221 lc (v.toList ++ []) h) (fun q h => some (.inr q, h)) := jq_V (as := [z0, z1, z2, z3, z4]) (rest := []) (jv_insR jm_0 dL_law_218) jo_0 jV_0_13 rfl rfl rfl rfl
theorem e0_221 : jv_ev d 0 221 [x0, x1, some (.ref a), x3] st h = jv_ev d 0 222 [x0, x1, some (.ref a), x3] (.ref a :: st) h := jq_nx (jv_insR jm_0 dL_law_221) rfl
theorem e0_222 : jv_ev d 0 222 [some (.ref a), x1, x2, x3] st h = jv_ev d 0 223 [some (.ref a), x1, x2, x3] (.ref a :: st) h := jq_nx (jv_insR jm_0 dL_law_222) rfl
theorem e0_223 : jv_ev d 0 223 [x0, x1, x2, some (.int v)] st h = jv_ev d 0 224 [x0, x1, x2, some (.int v)] (.int v :: st) h := jq_nx (jv_insR jm_0 dL_law_223) rfl
theorem e0_224 : jv_ev d 0 224 lc st h = jv_ev d 0 225 lc (.int 1 :: st) h := jq_iconst (jv_insR jm_0 dL_law_224) (by decide)
theorem e0_225 : jv_ev d 0 225 lc (.int w :: .int v :: st) h = jv_ev d 0 226 lc (.int (v + w) :: st) h := jq_nx (jv_insR jm_0 dL_law_225) rfl
theorem e0_226 : jv_ev d 0 226 lc (.int v :: .ref a :: st) h = (jv_ig h a 0 0 v).bind fun w => jv_ev d 0 227 lc (.int w :: st) h := jq_iald (jv_insR jm_0 dL_law_226)
theorem e0_227 : jv_ev d 0 227 [some (.ref a), x1, x2, x3] st h = jv_ev d 0 228 [some (.ref a), x1, x2, x3] (.ref a :: st) h := jq_nx (jv_insR jm_0 dL_law_227) rfl
theorem e0_228 : jv_ev d 0 228 [x0, x1, x2, some (.int v)] st h = jv_ev d 0 229 [x0, x1, x2, some (.int v)] (.int v :: st) h := jq_nx (jv_insR jm_0 dL_law_228) rfl
theorem e0_229 : jv_ev d 0 229 lc st h = jv_ev d 0 230 lc (.int 2 :: st) h := jq_iconst (jv_insR jm_0 dL_law_229) (by decide)
theorem e0_230 : jv_ev d 0 230 lc (.int w :: .int v :: st) h = jv_ev d 0 231 lc (.int (v + w) :: st) h := jq_nx (jv_insR jm_0 dL_law_230) rfl
theorem e0_231 : jv_ev d 0 231 lc (.int v :: .ref a :: st) h = (jv_ig h a 0 0 v).bind fun w => jv_ev d 0 232 lc (.int w :: st) h := jq_iald (jv_insR jm_0 dL_law_231)
theorem e0_232 : jv_ev d 0 232 [some (.ref a), x1, x2, x3] st h = jv_ev d 0 233 [some (.ref a), x1, x2, x3] (.ref a :: st) h := jq_nx (jv_insR jm_0 dL_law_232) rfl
theorem e0_233 : jv_ev d 0 233 [x0, x1, x2, some (.int v)] st h = jv_ev d 0 234 [x0, x1, x2, some (.int v)] (.int v :: st) h := jq_nx (jv_insR jm_0 dL_law_233) rfl
theorem e0_234 : jv_ev d 0 234 lc st h = jv_ev d 0 235 lc (.int 3 :: st) h := jq_iconst (jv_insR jm_0 dL_law_234) (by decide)
theorem e0_235 : jv_ev d 0 235 lc (.int w :: .int v :: st) h = jv_ev d 0 236 lc (.int (v + w) :: st) h := jq_nx (jv_insR jm_0 dL_law_235) rfl
theorem e0_236 : jv_ev d 0 236 lc (.int v :: .ref a :: st) h = (jv_ig h a 0 0 v).bind fun w => jv_ev d 0 237 lc (.int w :: st) h := jq_iald (jv_insR jm_0 dL_law_236)
theorem e0_237 : jv_ev d 0 237 [some (.ref a), x1, x2, x3] st h = jv_ev d 0 238 [some (.ref a), x1, x2, x3] (.ref a :: st) h := jq_nx (jv_insR jm_0 dL_law_237) rfl
theorem e0_238 : jv_ev d 0 238 [x0, x1, x2, some (.int v)] st h = jv_ev d 0 239 [x0, x1, x2, some (.int v)] (.int v :: st) h := jq_nx (jv_insR jm_0 dL_law_238) rfl
theorem e0_239 : jv_ev d 0 239 lc st h = jv_ev d 0 240 lc (.int 4 :: st) h := jq_iconst (jv_insR jm_0 dL_law_239) (by decide)
theorem e0_240 : jv_ev d 0 240 lc (.int w :: .int v :: st) h = jv_ev d 0 241 lc (.int (v + w) :: st) h := jq_nx (jv_insR jm_0 dL_law_240) rfl
theorem e0_241 : jv_ev d 0 241 lc (.int v :: .ref a :: st) h = (jv_ig h a 0 0 v).bind fun w => jv_ev d 0 242 lc (.int w :: st) h := jq_iald (jv_insR jm_0 dL_law_241)
theorem e0_242 : jv_ev d 0 242 [some (.ref a), x1, x2, x3] st h = jv_ev d 0 243 [some (.ref a), x1, x2, x3] (.ref a :: st) h := jq_nx (jv_insR jm_0 dL_law_242) rfl
theorem e0_243 : jv_ev d 0 243 [x0, x1, x2, some (.int v)] st h = jv_ev d 0 244 [x0, x1, x2, some (.int v)] (.int v :: st) h := jq_nx (jv_insR jm_0 dL_law_243) rfl
theorem e0_244 : jv_ev d 0 244 lc st h = jv_ev d 0 245 lc (.int 5 :: st) h := jq_iconst (jv_insR jm_0 dL_law_244) (by decide)
theorem e0_245 : jv_ev d 0 245 lc (.int w :: .int v :: st) h = jv_ev d 0 246 lc (.int (v + w) :: st) h := jq_nx (jv_insR jm_0 dL_law_245) rfl
theorem e0_246 : jv_ev d 0 246 lc (.int v :: .ref a :: st) h = (jv_ig h a 0 0 v).bind fun w => jv_ev d 0 247 lc (.int w :: st) h := jq_iald (jv_insR jm_0 dL_law_246)
theorem e0_247 : jv_ev d 0 247 lc [z4, z3, z2, z1, z0, .ref b, y0] h = (jv_rc h b [(0, 7)]).bind fun y => (jv_cd d y [.ref b, z0, z1, z2, z3, z4] h).bind fun r => jv_on r (fun v h => jv_ev d 0 250 lc (v.toList ++ [y0]) h) (fun q h => some (.inr q, h)) := jq_V (as := [z0, z1, z2, z3, z4]) (rest := [y0]) (jv_insR jm_0 dL_law_247) jo_0 jV_0_17 rfl rfl rfl rfl
theorem e0_250 : jv_ev d 0 250 lc (.int w :: .int v :: st) h = if v = w then jv_ev d 0 1482 lc st h else jv_ev d 0 253 lc st h := jq_if (jv_insR jm_0 dL_law_250) rfl (by decide)
theorem e0_253 : jv_ev d 0 253 lc st h = jv_ev d 0 254 lc (.int 0 :: st) h := jq_iconst (jv_insR jm_0 dL_law_253) (by decide)
theorem e0_254 : jv_ev d 0 254 lc [.int v] h = if narrow .boolean (.int v) = .int v then some (.inl (some (.int v)), h) else none := jq_ret (jv_insR jm_0 dL_law_254) jr_0 (by decide)
theorem e0_255 : jv_ev d 0 255 [x0, some (.ref a), x2, x3] st h = jv_ev d 0 256 [x0, some (.ref a), x2, x3] (.ref a :: st) h := jq_nx (jv_insR jm_0 dL_law_255) rfl
theorem e0_256 : jv_ev d 0 256 [some (.ref a), x1, x2, x3] st h = jv_ev d 0 257 [some (.ref a), x1, x2, x3] (.ref a :: st) h := jq_nx (jv_insR jm_0 dL_law_256) rfl
theorem e0_257 : jv_ev d 0 257 [x0, x1, x2, some (.int v)] st h = jv_ev d 0 258 [x0, x1, x2, some (.int v)] (.int v :: st) h := jq_nx (jv_insR jm_0 dL_law_257) rfl
theorem e0_258 : jv_ev d 0 258 lc st h = jv_ev d 0 259 lc (.int 1 :: st) h := jq_iconst (jv_insR jm_0 dL_law_258) (by decide)
theorem e0_259 : jv_ev d 0 259 lc (.int w :: .int v :: st) h = jv_ev d 0 260 lc (.int (v + w) :: st) h := jq_nx (jv_insR jm_0 dL_law_259) rfl
theorem e0_260 : jv_ev d 0 260 lc (.int v :: .ref a :: st) h = (jv_ig h a 0 0 v).bind fun w => jv_ev d 0 261 lc (.int w :: st) h := jq_iald (jv_insR jm_0 dL_law_260)
theorem e0_261 : jv_ev d 0 261 lc [z0, .ref b] h = (jv_rc h b [(1, 118)]).bind fun y => (jv_cd d y [.ref b, z0] h).bind fun r => jv_on r (fun v h => jv_ev d 0 264 lc (v.toList ++ []) h) (fun q h => some (.inr q, h)) := jq_V (as := [z0]) (rest := []) (jv_insR jm_0 dL_law_261) jo_0 jV_0_18 rfl rfl rfl rfl
theorem e0_264 : jv_ev d 0 264 [x0, x1, some (.ref a), x3] st h = jv_ev d 0 265 [x0, x1, some (.ref a), x3] (.ref a :: st) h := jq_nx (jv_insR jm_0 dL_law_264) rfl
theorem e0_265 : jv_ev d 0 265 [some (.ref a), x1, x2, x3] st h = jv_ev d 0 266 [some (.ref a), x1, x2, x3] (.ref a :: st) h := jq_nx (jv_insR jm_0 dL_law_265) rfl
theorem e0_266 : jv_ev d 0 266 [x0, x1, x2, some (.int v)] st h = jv_ev d 0 267 [x0, x1, x2, some (.int v)] (.int v :: st) h := jq_nx (jv_insR jm_0 dL_law_266) rfl
theorem e0_267 : jv_ev d 0 267 lc st h = jv_ev d 0 268 lc (.int 1 :: st) h := jq_iconst (jv_insR jm_0 dL_law_267) (by decide)
theorem e0_268 : jv_ev d 0 268 lc (.int w :: .int v :: st) h = jv_ev d 0 269 lc (.int (v + w) :: st) h := jq_nx (jv_insR jm_0 dL_law_268) rfl
theorem e0_269 : jv_ev d 0 269 lc (.int v :: .ref a :: st) h = (jv_ig h a 0 0 v).bind fun w => jv_ev d 0 270 lc (.int w :: st) h := jq_iald (jv_insR jm_0 dL_law_269)
theorem e0_270 : jv_ev d 0 270 lc [z0, .ref b, y0] h = (jv_rc h b [(0, 9)]).bind fun y => (jv_cd d y [.ref b, z0] h).bind fun r => jv_on r (fun v h => jv_ev d 0 273 lc (v.toList ++ [y0]) h) (fun q h => some (.inr q, h)) := jq_V (as := [z0]) (rest := [y0]) (jv_insR jm_0 dL_law_270) jo_0 jV_0_22 rfl rfl rfl rfl
theorem e0_273 : jv_ev d 0 273 lc (.int w :: .int v :: st) h = if v = w then jv_ev d 0 1482 lc st h else jv_ev d 0 276 lc st h := jq_if (jv_insR jm_0 dL_law_273) rfl (by decide)
theorem e0_276 : jv_ev d 0 276 lc st h = jv_ev d 0 277 lc (.int 0 :: st) h := jq_iconst (jv_insR jm_0 dL_law_276) (by decide)
theorem e0_277 : jv_ev d 0 277 lc [.int v] h = if narrow .boolean (.int v) = .int v then some (.inl (some (.int v)), h) else none := jq_ret (jv_insR jm_0 dL_law_277) jr_0 (by decide)
theorem e0_278 : jv_ev d 0 278 [x0, some (.ref a), x2, x3] st h = jv_ev d 0 279 [x0, some (.ref a), x2, x3] (.ref a :: st) h := jq_nx (jv_insR jm_0 dL_law_278) rfl
theorem e0_279 : jv_ev d 0 279 lc [.ref b] h = (jv_rc h b [(1, 119)]).bind fun y => (jv_cd d y [.ref b] h).bind fun r => jv_on r (fun v h => jv_ev d 0 282 lc (v.toList ++ []) h) (fun q h => some (.inr q, h)) := jq_V (as := []) (rest := []) (jv_insR jm_0 dL_law_279) jo_0 jV_0_23 rfl rfl rfl rfl
theorem e0_282 : jv_ev d 0 282 [x0, x1, some (.ref a), x3] st h = jv_ev d 0 283 [x0, x1, some (.ref a), x3] (.ref a :: st) h := jq_nx (jv_insR jm_0 dL_law_282) rfl
theorem e0_283 : jv_ev d 0 283 lc [.ref b, y0] h = (jv_rc h b [(0, 10)]).bind fun y => (jv_cd d y [.ref b] h).bind fun r => jv_on r (fun v h => jv_ev d 0 286 lc (v.toList ++ [y0]) h) (fun q h => some (.inr q, h)) := jq_V (as := []) (rest := [y0]) (jv_insR jm_0 dL_law_283) jo_0 jV_0_27 rfl rfl rfl rfl
theorem e0_286 : jv_ev d 0 286 lc (.int w :: .int v :: st) h = if v = w then jv_ev d 0 1482 lc st h else jv_ev d 0 289 lc st h := jq_if (jv_insR jm_0 dL_law_286) rfl (by decide)
theorem e0_289 : jv_ev d 0 289 lc st h = jv_ev d 0 290 lc (.int 0 :: st) h := jq_iconst (jv_insR jm_0 dL_law_289) (by decide)
theorem e0_290 : jv_ev d 0 290 lc [.int v] h = if narrow .boolean (.int v) = .int v then some (.inl (some (.int v)), h) else none := jq_ret (jv_insR jm_0 dL_law_290) jr_0 (by decide)
theorem e0_291 : jv_ev d 0 291 [x0, some (.ref a), x2, x3] st h = jv_ev d 0 292 [x0, some (.ref a), x2, x3] (.ref a :: st) h := jq_nx (jv_insR jm_0 dL_law_291) rfl
theorem e0_292 : jv_ev d 0 292 lc [.ref b] h = (jv_rc h b [(1, 120)]).bind fun y => (jv_cd d y [.ref b] h).bind fun r => jv_on r (fun v h => jv_ev d 0 295 lc (v.toList ++ []) h) (fun q h => some (.inr q, h)) := jq_V (as := []) (rest := []) (jv_insR jm_0 dL_law_292) jo_0 jV_0_28 rfl rfl rfl rfl
theorem e0_295 : jv_ev d 0 295 [x0, x1, some (.ref a), x3] st h = jv_ev d 0 296 [x0, x1, some (.ref a), x3] (.ref a :: st) h := jq_nx (jv_insR jm_0 dL_law_295) rfl
theorem e0_296 : jv_ev d 0 296 lc [.ref b, y0] h = (jv_rc h b [(0, 37)]).bind fun y => (jv_cd d y [.ref b] h).bind fun r => jv_on r (fun v h => jv_ev d 0 299 lc (v.toList ++ [y0]) h) (fun q h => some (.inr q, h)) := jq_V (as := []) (rest := [y0]) (jv_insR jm_0 dL_law_296) jo_0 jV_0_31 rfl rfl rfl rfl
theorem e0_299 : jv_ev d 0 299 lc (.int w :: .int v :: st) h = if v = w then jv_ev d 0 1482 lc st h else jv_ev d 0 302 lc st h := jq_if (jv_insR jm_0 dL_law_299) rfl (by decide)
theorem e0_302 : jv_ev d 0 302 lc st h = jv_ev d 0 303 lc (.int 0 :: st) h := jq_iconst (jv_insR jm_0 dL_law_302) (by decide)
theorem e0_303 : jv_ev d 0 303 lc [.int v] h = if narrow .boolean (.int v) = .int v then some (.inl (some (.int v)), h) else none := jq_ret (jv_insR jm_0 dL_law_303) jr_0 (by decide)
theorem e0_304 : jv_ev d 0 304 [x0, some (.ref a), x2, x3] st h = jv_ev d 0 305 [x0, some (.ref a), x2, x3] (.ref a :: st) h := jq_nx (jv_insR jm_0 dL_law_304) rfl
theorem e0_305 : jv_ev d 0 305 [some (.ref a), x1, x2, x3] st h = jv_ev d 0 306 [some (.ref a), x1, x2, x3] (.ref a :: st) h := jq_nx (jv_insR jm_0 dL_law_305) rfl
theorem e0_306 : jv_ev d 0 306 [x0, x1, x2, some (.int v)] st h = jv_ev d 0 307 [x0, x1, x2, some (.int v)] (.int v :: st) h := jq_nx (jv_insR jm_0 dL_law_306) rfl
theorem e0_307 : jv_ev d 0 307 lc st h = jv_ev d 0 308 lc (.int 1 :: st) h := jq_iconst (jv_insR jm_0 dL_law_307) (by decide)
theorem e0_308 : jv_ev d 0 308 lc (.int w :: .int v :: st) h = jv_ev d 0 309 lc (.int (v + w) :: st) h := jq_nx (jv_insR jm_0 dL_law_308) rfl
theorem e0_309 : jv_ev d 0 309 lc (.int v :: .ref a :: st) h = (jv_ig h a 0 0 v).bind fun w => jv_ev d 0 310 lc (.int w :: st) h := jq_iald (jv_insR jm_0 dL_law_309)
theorem e0_310 : jv_ev d 0 310 [some (.ref a), x1, x2, x3] st h = jv_ev d 0 311 [some (.ref a), x1, x2, x3] (.ref a :: st) h := jq_nx (jv_insR jm_0 dL_law_310) rfl
theorem e0_311 : jv_ev d 0 311 [x0, x1, x2, some (.int v)] st h = jv_ev d 0 312 [x0, x1, x2, some (.int v)] (.int v :: st) h := jq_nx (jv_insR jm_0 dL_law_311) rfl
theorem e0_312 : jv_ev d 0 312 lc st h = jv_ev d 0 313 lc (.int 2 :: st) h := jq_iconst (jv_insR jm_0 dL_law_312) (by decide)
theorem e0_313 : jv_ev d 0 313 lc (.int w :: .int v :: st) h = jv_ev d 0 314 lc (.int (v + w) :: st) h := jq_nx (jv_insR jm_0 dL_law_313) rfl
theorem e0_314 : jv_ev d 0 314 lc (.int v :: .ref a :: st) h = (jv_ig h a 0 0 v).bind fun w => jv_ev d 0 315 lc (.int w :: st) h := jq_iald (jv_insR jm_0 dL_law_314)
theorem e0_315 : jv_ev d 0 315 [some (.ref a), x1, x2, x3] st h = jv_ev d 0 316 [some (.ref a), x1, x2, x3] (.ref a :: st) h := jq_nx (jv_insR jm_0 dL_law_315) rfl
theorem e0_316 : jv_ev d 0 316 [x0, x1, x2, some (.int v)] st h = jv_ev d 0 317 [x0, x1, x2, some (.int v)] (.int v :: st) h := jq_nx (jv_insR jm_0 dL_law_316) rfl
theorem e0_317 : jv_ev d 0 317 lc st h = jv_ev d 0 318 lc (.int 3 :: st) h := jq_iconst (jv_insR jm_0 dL_law_317) (by decide)
theorem e0_318 : jv_ev d 0 318 lc (.int w :: .int v :: st) h = jv_ev d 0 319 lc (.int (v + w) :: st) h := jq_nx (jv_insR jm_0 dL_law_318) rfl
theorem e0_319 : jv_ev d 0 319 lc (.int v :: .ref a :: st) h = (jv_ig h a 0 0 v).bind fun w => jv_ev d 0 320 lc (.int w :: st) h := jq_iald (jv_insR jm_0 dL_law_319)
theorem e0_320 : jv_ev d 0 320 lc [z2, z1, z0, .ref b] h = (jv_rc h b [(1, 121)]).bind fun y => (jv_cd d y [.ref b, z0, z1, z2] h).bind fun r => jv_on r (fun v h => jv_ev d 0 323 lc (v.toList ++ []) h) (fun q h => some (.inr q, h)) := jq_V (as := [z0, z1, z2]) (rest := []) (jv_insR jm_0 dL_law_320) jo_0 jV_0_32 rfl rfl rfl rfl
theorem e0_323 : jv_ev d 0 323 [x0, x1, some (.ref a), x3] st h = jv_ev d 0 324 [x0, x1, some (.ref a), x3] (.ref a :: st) h := jq_nx (jv_insR jm_0 dL_law_323) rfl
theorem e0_324 : jv_ev d 0 324 [some (.ref a), x1, x2, x3] st h = jv_ev d 0 325 [some (.ref a), x1, x2, x3] (.ref a :: st) h := jq_nx (jv_insR jm_0 dL_law_324) rfl
theorem e0_325 : jv_ev d 0 325 [x0, x1, x2, some (.int v)] st h = jv_ev d 0 326 [x0, x1, x2, some (.int v)] (.int v :: st) h := jq_nx (jv_insR jm_0 dL_law_325) rfl
theorem e0_326 : jv_ev d 0 326 lc st h = jv_ev d 0 327 lc (.int 1 :: st) h := jq_iconst (jv_insR jm_0 dL_law_326) (by decide)
theorem e0_327 : jv_ev d 0 327 lc (.int w :: .int v :: st) h = jv_ev d 0 328 lc (.int (v + w) :: st) h := jq_nx (jv_insR jm_0 dL_law_327) rfl
theorem e0_328 : jv_ev d 0 328 lc (.int v :: .ref a :: st) h = (jv_ig h a 0 0 v).bind fun w => jv_ev d 0 329 lc (.int w :: st) h := jq_iald (jv_insR jm_0 dL_law_328)
theorem e0_329 : jv_ev d 0 329 [some (.ref a), x1, x2, x3] st h = jv_ev d 0 330 [some (.ref a), x1, x2, x3] (.ref a :: st) h := jq_nx (jv_insR jm_0 dL_law_329) rfl
theorem e0_330 : jv_ev d 0 330 [x0, x1, x2, some (.int v)] st h = jv_ev d 0 331 [x0, x1, x2, some (.int v)] (.int v :: st) h := jq_nx (jv_insR jm_0 dL_law_330) rfl
theorem e0_331 : jv_ev d 0 331 lc st h = jv_ev d 0 332 lc (.int 2 :: st) h := jq_iconst (jv_insR jm_0 dL_law_331) (by decide)
theorem e0_332 : jv_ev d 0 332 lc (.int w :: .int v :: st) h = jv_ev d 0 333 lc (.int (v + w) :: st) h := jq_nx (jv_insR jm_0 dL_law_332) rfl
theorem e0_333 : jv_ev d 0 333 lc (.int v :: .ref a :: st) h = (jv_ig h a 0 0 v).bind fun w => jv_ev d 0 334 lc (.int w :: st) h := jq_iald (jv_insR jm_0 dL_law_333)
theorem e0_334 : jv_ev d 0 334 [some (.ref a), x1, x2, x3] st h = jv_ev d 0 335 [some (.ref a), x1, x2, x3] (.ref a :: st) h := jq_nx (jv_insR jm_0 dL_law_334) rfl
theorem e0_335 : jv_ev d 0 335 [x0, x1, x2, some (.int v)] st h = jv_ev d 0 336 [x0, x1, x2, some (.int v)] (.int v :: st) h := jq_nx (jv_insR jm_0 dL_law_335) rfl
theorem e0_336 : jv_ev d 0 336 lc st h = jv_ev d 0 337 lc (.int 3 :: st) h := jq_iconst (jv_insR jm_0 dL_law_336) (by decide)
theorem e0_337 : jv_ev d 0 337 lc (.int w :: .int v :: st) h = jv_ev d 0 338 lc (.int (v + w) :: st) h := jq_nx (jv_insR jm_0 dL_law_337) rfl
theorem e0_338 : jv_ev d 0 338 lc (.int v :: .ref a :: st) h = (jv_ig h a 0 0 v).bind fun w => jv_ev d 0 339 lc (.int w :: st) h := jq_iald (jv_insR jm_0 dL_law_338)
theorem e0_339 : jv_ev d 0 339 lc [z2, z1, z0, .ref b, y0] h = (jv_rc h b [(0, 38)]).bind fun y => (jv_cd d y [.ref b, z0, z1, z2] h).bind fun r => jv_on r (fun v h => jv_ev d 0 342 lc (v.toList ++ [y0]) h) (fun q h => some (.inr q, h)) := jq_V (as := [z0, z1, z2]) (rest := [y0]) (jv_insR jm_0 dL_law_339) jo_0 jV_0_36 rfl rfl rfl rfl
theorem e0_342 : jv_ev d 0 342 lc (.int w :: .int v :: st) h = if v = w then jv_ev d 0 1482 lc st h else jv_ev d 0 345 lc st h := jq_if (jv_insR jm_0 dL_law_342) rfl (by decide)
theorem e0_345 : jv_ev d 0 345 lc st h = jv_ev d 0 346 lc (.int 0 :: st) h := jq_iconst (jv_insR jm_0 dL_law_345) (by decide)
theorem e0_346 : jv_ev d 0 346 lc [.int v] h = if narrow .boolean (.int v) = .int v then some (.inl (some (.int v)), h) else none := jq_ret (jv_insR jm_0 dL_law_346) jr_0 (by decide)
theorem e0_347 : jv_ev d 0 347 [x0, some (.ref a), x2, x3] st h = jv_ev d 0 348 [x0, some (.ref a), x2, x3] (.ref a :: st) h := jq_nx (jv_insR jm_0 dL_law_347) rfl
theorem e0_348 : jv_ev d 0 348 [some (.ref a), x1, x2, x3] st h = jv_ev d 0 349 [some (.ref a), x1, x2, x3] (.ref a :: st) h := jq_nx (jv_insR jm_0 dL_law_348) rfl
theorem e0_349 : jv_ev d 0 349 [x0, x1, x2, some (.int v)] st h = jv_ev d 0 350 [x0, x1, x2, some (.int v)] (.int v :: st) h := jq_nx (jv_insR jm_0 dL_law_349) rfl
theorem e0_350 : jv_ev d 0 350 lc st h = jv_ev d 0 351 lc (.int 1 :: st) h := jq_iconst (jv_insR jm_0 dL_law_350) (by decide)
theorem e0_351 : jv_ev d 0 351 lc (.int w :: .int v :: st) h = jv_ev d 0 352 lc (.int (v + w) :: st) h := jq_nx (jv_insR jm_0 dL_law_351) rfl
theorem e0_352 : jv_ev d 0 352 lc (.int v :: .ref a :: st) h = (jv_ig h a 0 0 v).bind fun w => jv_ev d 0 353 lc (.int w :: st) h := jq_iald (jv_insR jm_0 dL_law_352)
theorem e0_353 : jv_ev d 0 353 [some (.ref a), x1, x2, x3] st h = jv_ev d 0 354 [some (.ref a), x1, x2, x3] (.ref a :: st) h := jq_nx (jv_insR jm_0 dL_law_353) rfl
theorem e0_354 : jv_ev d 0 354 [x0, x1, x2, some (.int v)] st h = jv_ev d 0 355 [x0, x1, x2, some (.int v)] (.int v :: st) h := jq_nx (jv_insR jm_0 dL_law_354) rfl
theorem e0_355 : jv_ev d 0 355 lc st h = jv_ev d 0 356 lc (.int 2 :: st) h := jq_iconst (jv_insR jm_0 dL_law_355) (by decide)
theorem e0_356 : jv_ev d 0 356 lc (.int w :: .int v :: st) h = jv_ev d 0 357 lc (.int (v + w) :: st) h := jq_nx (jv_insR jm_0 dL_law_356) rfl
theorem e0_357 : jv_ev d 0 357 lc (.int v :: .ref a :: st) h = (jv_ig h a 0 0 v).bind fun w => jv_ev d 0 358 lc (.int w :: st) h := jq_iald (jv_insR jm_0 dL_law_357)
theorem e0_358 : jv_ev d 0 358 lc [z1, z0, .ref b] h = (jv_rc h b [(1, 122)]).bind fun y => (jv_cd d y [.ref b, z0, z1] h).bind fun r => jv_on r (fun v h => jv_ev d 0 361 lc (v.toList ++ []) h) (fun q h => some (.inr q, h)) := jq_V (as := [z0, z1]) (rest := []) (jv_insR jm_0 dL_law_358) jo_0 jV_0_37 rfl rfl rfl rfl
theorem e0_361 : jv_ev d 0 361 [x0, x1, some (.ref a), x3] st h = jv_ev d 0 362 [x0, x1, some (.ref a), x3] (.ref a :: st) h := jq_nx (jv_insR jm_0 dL_law_361) rfl
theorem e0_362 : jv_ev d 0 362 [some (.ref a), x1, x2, x3] st h = jv_ev d 0 363 [some (.ref a), x1, x2, x3] (.ref a :: st) h := jq_nx (jv_insR jm_0 dL_law_362) rfl
theorem e0_363 : jv_ev d 0 363 [x0, x1, x2, some (.int v)] st h = jv_ev d 0 364 [x0, x1, x2, some (.int v)] (.int v :: st) h := jq_nx (jv_insR jm_0 dL_law_363) rfl
theorem e0_364 : jv_ev d 0 364 lc st h = jv_ev d 0 365 lc (.int 1 :: st) h := jq_iconst (jv_insR jm_0 dL_law_364) (by decide)
theorem e0_365 : jv_ev d 0 365 lc (.int w :: .int v :: st) h = jv_ev d 0 366 lc (.int (v + w) :: st) h := jq_nx (jv_insR jm_0 dL_law_365) rfl
theorem e0_366 : jv_ev d 0 366 lc (.int v :: .ref a :: st) h = (jv_ig h a 0 0 v).bind fun w => jv_ev d 0 367 lc (.int w :: st) h := jq_iald (jv_insR jm_0 dL_law_366)
theorem e0_367 : jv_ev d 0 367 [some (.ref a), x1, x2, x3] st h = jv_ev d 0 368 [some (.ref a), x1, x2, x3] (.ref a :: st) h := jq_nx (jv_insR jm_0 dL_law_367) rfl
theorem e0_368 : jv_ev d 0 368 [x0, x1, x2, some (.int v)] st h = jv_ev d 0 369 [x0, x1, x2, some (.int v)] (.int v :: st) h := jq_nx (jv_insR jm_0 dL_law_368) rfl
theorem e0_369 : jv_ev d 0 369 lc st h = jv_ev d 0 370 lc (.int 2 :: st) h := jq_iconst (jv_insR jm_0 dL_law_369) (by decide)
theorem e0_370 : jv_ev d 0 370 lc (.int w :: .int v :: st) h = jv_ev d 0 371 lc (.int (v + w) :: st) h := jq_nx (jv_insR jm_0 dL_law_370) rfl
theorem e0_371 : jv_ev d 0 371 lc (.int v :: .ref a :: st) h = (jv_ig h a 0 0 v).bind fun w => jv_ev d 0 372 lc (.int w :: st) h := jq_iald (jv_insR jm_0 dL_law_371)
theorem e0_372 : jv_ev d 0 372 lc [z1, z0, .ref b, y0] h = (jv_rc h b [(0, 47)]).bind fun y => (jv_cd d y [.ref b, z0, z1] h).bind fun r => jv_on r (fun v h => jv_ev d 0 375 lc (v.toList ++ [y0]) h) (fun q h => some (.inr q, h)) := jq_V (as := [z0, z1]) (rest := [y0]) (jv_insR jm_0 dL_law_372) jo_0 jV_0_41 rfl rfl rfl rfl
theorem e0_375 : jv_ev d 0 375 lc (.int w :: .int v :: st) h = if v = w then jv_ev d 0 1482 lc st h else jv_ev d 0 378 lc st h := jq_if (jv_insR jm_0 dL_law_375) rfl (by decide)
theorem e0_378 : jv_ev d 0 378 lc st h = jv_ev d 0 379 lc (.int 0 :: st) h := jq_iconst (jv_insR jm_0 dL_law_378) (by decide)
theorem e0_379 : jv_ev d 0 379 lc [.int v] h = if narrow .boolean (.int v) = .int v then some (.inl (some (.int v)), h) else none := jq_ret (jv_insR jm_0 dL_law_379) jr_0 (by decide)
theorem e0_380 : jv_ev d 0 380 [x0, some (.ref a), x2, x3] st h = jv_ev d 0 381 [x0, some (.ref a), x2, x3] (.ref a :: st) h := jq_nx (jv_insR jm_0 dL_law_380) rfl
theorem e0_381 : jv_ev d 0 381 [some (.ref a), x1, x2, x3] st h = jv_ev d 0 382 [some (.ref a), x1, x2, x3] (.ref a :: st) h := jq_nx (jv_insR jm_0 dL_law_381) rfl
theorem e0_382 : jv_ev d 0 382 [x0, x1, x2, some (.int v)] st h = jv_ev d 0 383 [x0, x1, x2, some (.int v)] (.int v :: st) h := jq_nx (jv_insR jm_0 dL_law_382) rfl
theorem e0_383 : jv_ev d 0 383 lc st h = jv_ev d 0 384 lc (.int 1 :: st) h := jq_iconst (jv_insR jm_0 dL_law_383) (by decide)
theorem e0_384 : jv_ev d 0 384 lc (.int w :: .int v :: st) h = jv_ev d 0 385 lc (.int (v + w) :: st) h := jq_nx (jv_insR jm_0 dL_law_384) rfl
theorem e0_385 : jv_ev d 0 385 lc (.int v :: .ref a :: st) h = (jv_ig h a 0 0 v).bind fun w => jv_ev d 0 386 lc (.int w :: st) h := jq_iald (jv_insR jm_0 dL_law_385)
theorem e0_386 : jv_ev d 0 386 [some (.ref a), x1, x2, x3] st h = jv_ev d 0 387 [some (.ref a), x1, x2, x3] (.ref a :: st) h := jq_nx (jv_insR jm_0 dL_law_386) rfl
theorem e0_387 : jv_ev d 0 387 [x0, x1, x2, some (.int v)] st h = jv_ev d 0 388 [x0, x1, x2, some (.int v)] (.int v :: st) h := jq_nx (jv_insR jm_0 dL_law_387) rfl
theorem e0_388 : jv_ev d 0 388 lc st h = jv_ev d 0 389 lc (.int 2 :: st) h := jq_iconst (jv_insR jm_0 dL_law_388) (by decide)
theorem e0_389 : jv_ev d 0 389 lc (.int w :: .int v :: st) h = jv_ev d 0 390 lc (.int (v + w) :: st) h := jq_nx (jv_insR jm_0 dL_law_389) rfl
theorem e0_390 : jv_ev d 0 390 lc (.int v :: .ref a :: st) h = (jv_ig h a 0 0 v).bind fun w => jv_ev d 0 391 lc (.int w :: st) h := jq_iald (jv_insR jm_0 dL_law_390)
theorem e0_391 : jv_ev d 0 391 lc [z1, z0, .ref b] h = (jv_rc h b [(1, 125)]).bind fun y => (jv_cd d y [.ref b, z0, z1] h).bind fun r => jv_on r (fun v h => jv_ev d 0 394 lc (v.toList ++ []) h) (fun q h => some (.inr q, h)) := jq_V (as := [z0, z1]) (rest := []) (jv_insR jm_0 dL_law_391) jo_0 jV_0_42 rfl rfl rfl rfl
theorem e0_394 : jv_ev d 0 394 [x0, x1, some (.ref a), x3] st h = jv_ev d 0 395 [x0, x1, some (.ref a), x3] (.ref a :: st) h := jq_nx (jv_insR jm_0 dL_law_394) rfl
theorem e0_395 : jv_ev d 0 395 [some (.ref a), x1, x2, x3] st h = jv_ev d 0 396 [some (.ref a), x1, x2, x3] (.ref a :: st) h := jq_nx (jv_insR jm_0 dL_law_395) rfl
theorem e0_396 : jv_ev d 0 396 [x0, x1, x2, some (.int v)] st h = jv_ev d 0 397 [x0, x1, x2, some (.int v)] (.int v :: st) h := jq_nx (jv_insR jm_0 dL_law_396) rfl
theorem e0_397 : jv_ev d 0 397 lc st h = jv_ev d 0 398 lc (.int 1 :: st) h := jq_iconst (jv_insR jm_0 dL_law_397) (by decide)
theorem e0_398 : jv_ev d 0 398 lc (.int w :: .int v :: st) h = jv_ev d 0 399 lc (.int (v + w) :: st) h := jq_nx (jv_insR jm_0 dL_law_398) rfl
theorem e0_399 : jv_ev d 0 399 lc (.int v :: .ref a :: st) h = (jv_ig h a 0 0 v).bind fun w => jv_ev d 0 400 lc (.int w :: st) h := jq_iald (jv_insR jm_0 dL_law_399)
theorem e0_400 : jv_ev d 0 400 [some (.ref a), x1, x2, x3] st h = jv_ev d 0 401 [some (.ref a), x1, x2, x3] (.ref a :: st) h := jq_nx (jv_insR jm_0 dL_law_400) rfl
theorem e0_401 : jv_ev d 0 401 [x0, x1, x2, some (.int v)] st h = jv_ev d 0 402 [x0, x1, x2, some (.int v)] (.int v :: st) h := jq_nx (jv_insR jm_0 dL_law_401) rfl
theorem e0_402 : jv_ev d 0 402 lc st h = jv_ev d 0 403 lc (.int 2 :: st) h := jq_iconst (jv_insR jm_0 dL_law_402) (by decide)
theorem e0_403 : jv_ev d 0 403 lc (.int w :: .int v :: st) h = jv_ev d 0 404 lc (.int (v + w) :: st) h := jq_nx (jv_insR jm_0 dL_law_403) rfl
theorem e0_404 : jv_ev d 0 404 lc (.int v :: .ref a :: st) h = (jv_ig h a 0 0 v).bind fun w => jv_ev d 0 405 lc (.int w :: st) h := jq_iald (jv_insR jm_0 dL_law_404)
theorem e0_405 : jv_ev d 0 405 lc [z1, z0, .ref b, y0] h = (jv_rc h b [(0, 52)]).bind fun y => (jv_cd d y [.ref b, z0, z1] h).bind fun r => jv_on r (fun v h => jv_ev d 0 408 lc (v.toList ++ [y0]) h) (fun q h => some (.inr q, h)) := jq_V (as := [z0, z1]) (rest := [y0]) (jv_insR jm_0 dL_law_405) jo_0 jV_0_45 rfl rfl rfl rfl
theorem e0_408 : jv_ev d 0 408 lc (.int w :: .int v :: st) h = if v = w then jv_ev d 0 1482 lc st h else jv_ev d 0 411 lc st h := jq_if (jv_insR jm_0 dL_law_408) rfl (by decide)
theorem e0_411 : jv_ev d 0 411 lc st h = jv_ev d 0 412 lc (.int 0 :: st) h := jq_iconst (jv_insR jm_0 dL_law_411) (by decide)
theorem e0_412 : jv_ev d 0 412 lc [.int v] h = if narrow .boolean (.int v) = .int v then some (.inl (some (.int v)), h) else none := jq_ret (jv_insR jm_0 dL_law_412) jr_0 (by decide)
theorem e0_413 : jv_ev d 0 413 [x0, some (.ref a), x2, x3] st h = jv_ev d 0 414 [x0, some (.ref a), x2, x3] (.ref a :: st) h := jq_nx (jv_insR jm_0 dL_law_413) rfl
theorem e0_414 : jv_ev d 0 414 [some (.ref a), x1, x2, x3] st h = jv_ev d 0 415 [some (.ref a), x1, x2, x3] (.ref a :: st) h := jq_nx (jv_insR jm_0 dL_law_414) rfl
theorem e0_415 : jv_ev d 0 415 [x0, x1, x2, some (.int v)] st h = jv_ev d 0 416 [x0, x1, x2, some (.int v)] (.int v :: st) h := jq_nx (jv_insR jm_0 dL_law_415) rfl
theorem e0_416 : jv_ev d 0 416 lc st h = jv_ev d 0 417 lc (.int 1 :: st) h := jq_iconst (jv_insR jm_0 dL_law_416) (by decide)
theorem e0_417 : jv_ev d 0 417 lc (.int w :: .int v :: st) h = jv_ev d 0 418 lc (.int (v + w) :: st) h := jq_nx (jv_insR jm_0 dL_law_417) rfl
theorem e0_418 : jv_ev d 0 418 lc (.int v :: .ref a :: st) h = (jv_ig h a 0 0 v).bind fun w => jv_ev d 0 419 lc (.int w :: st) h := jq_iald (jv_insR jm_0 dL_law_418)
theorem e0_419 : jv_ev d 0 419 [some (.ref a), x1, x2, x3] st h = jv_ev d 0 420 [some (.ref a), x1, x2, x3] (.ref a :: st) h := jq_nx (jv_insR jm_0 dL_law_419) rfl
theorem e0_420 : jv_ev d 0 420 [x0, x1, x2, some (.int v)] st h = jv_ev d 0 421 [x0, x1, x2, some (.int v)] (.int v :: st) h := jq_nx (jv_insR jm_0 dL_law_420) rfl
theorem e0_421 : jv_ev d 0 421 lc st h = jv_ev d 0 422 lc (.int 2 :: st) h := jq_iconst (jv_insR jm_0 dL_law_421) (by decide)
theorem e0_422 : jv_ev d 0 422 lc (.int w :: .int v :: st) h = jv_ev d 0 423 lc (.int (v + w) :: st) h := jq_nx (jv_insR jm_0 dL_law_422) rfl
theorem e0_423 : jv_ev d 0 423 lc (.int v :: .ref a :: st) h = (jv_ig h a 0 0 v).bind fun w => jv_ev d 0 424 lc (.int w :: st) h := jq_iald (jv_insR jm_0 dL_law_423)
theorem e0_424 : jv_ev d 0 424 [some (.ref a), x1, x2, x3] st h = jv_ev d 0 425 [some (.ref a), x1, x2, x3] (.ref a :: st) h := jq_nx (jv_insR jm_0 dL_law_424) rfl
theorem e0_425 : jv_ev d 0 425 [x0, x1, x2, some (.int v)] st h = jv_ev d 0 426 [x0, x1, x2, some (.int v)] (.int v :: st) h := jq_nx (jv_insR jm_0 dL_law_425) rfl
theorem e0_426 : jv_ev d 0 426 lc st h = jv_ev d 0 427 lc (.int 3 :: st) h := jq_iconst (jv_insR jm_0 dL_law_426) (by decide)
theorem e0_427 : jv_ev d 0 427 lc (.int w :: .int v :: st) h = jv_ev d 0 428 lc (.int (v + w) :: st) h := jq_nx (jv_insR jm_0 dL_law_427) rfl
theorem e0_428 : jv_ev d 0 428 lc (.int v :: .ref a :: st) h = (jv_ig h a 0 0 v).bind fun w => jv_ev d 0 429 lc (.int w :: st) h := jq_iald (jv_insR jm_0 dL_law_428)
theorem e0_429 : jv_ev d 0 429 lc [z2, z1, z0, .ref b] h = (jv_rc h b [(1, 129)]).bind fun y => (jv_cd d y [.ref b, z0, z1, z2] h).bind fun r => jv_on r (fun v h => jv_ev d 0 432 lc (v.toList ++ []) h) (fun q h => some (.inr q, h)) := jq_V (as := [z0, z1, z2]) (rest := []) (jv_insR jm_0 dL_law_429) jo_0 jV_0_46 rfl rfl rfl rfl
theorem e0_432 : jv_ev d 0 432 [x0, x1, some (.ref a), x3] st h = jv_ev d 0 433 [x0, x1, some (.ref a), x3] (.ref a :: st) h := jq_nx (jv_insR jm_0 dL_law_432) rfl
theorem e0_433 : jv_ev d 0 433 [some (.ref a), x1, x2, x3] st h = jv_ev d 0 434 [some (.ref a), x1, x2, x3] (.ref a :: st) h := jq_nx (jv_insR jm_0 dL_law_433) rfl
theorem e0_434 : jv_ev d 0 434 [x0, x1, x2, some (.int v)] st h = jv_ev d 0 435 [x0, x1, x2, some (.int v)] (.int v :: st) h := jq_nx (jv_insR jm_0 dL_law_434) rfl
theorem e0_435 : jv_ev d 0 435 lc st h = jv_ev d 0 436 lc (.int 1 :: st) h := jq_iconst (jv_insR jm_0 dL_law_435) (by decide)
theorem e0_436 : jv_ev d 0 436 lc (.int w :: .int v :: st) h = jv_ev d 0 437 lc (.int (v + w) :: st) h := jq_nx (jv_insR jm_0 dL_law_436) rfl
theorem e0_437 : jv_ev d 0 437 lc (.int v :: .ref a :: st) h = (jv_ig h a 0 0 v).bind fun w => jv_ev d 0 438 lc (.int w :: st) h := jq_iald (jv_insR jm_0 dL_law_437)
theorem e0_438 : jv_ev d 0 438 [some (.ref a), x1, x2, x3] st h = jv_ev d 0 439 [some (.ref a), x1, x2, x3] (.ref a :: st) h := jq_nx (jv_insR jm_0 dL_law_438) rfl
theorem e0_439 : jv_ev d 0 439 [x0, x1, x2, some (.int v)] st h = jv_ev d 0 440 [x0, x1, x2, some (.int v)] (.int v :: st) h := jq_nx (jv_insR jm_0 dL_law_439) rfl
theorem e0_440 : jv_ev d 0 440 lc st h = jv_ev d 0 441 lc (.int 2 :: st) h := jq_iconst (jv_insR jm_0 dL_law_440) (by decide)
theorem e0_441 : jv_ev d 0 441 lc (.int w :: .int v :: st) h = jv_ev d 0 442 lc (.int (v + w) :: st) h := jq_nx (jv_insR jm_0 dL_law_441) rfl
theorem e0_442 : jv_ev d 0 442 lc (.int v :: .ref a :: st) h = (jv_ig h a 0 0 v).bind fun w => jv_ev d 0 443 lc (.int w :: st) h := jq_iald (jv_insR jm_0 dL_law_442)
theorem e0_443 : jv_ev d 0 443 [some (.ref a), x1, x2, x3] st h = jv_ev d 0 444 [some (.ref a), x1, x2, x3] (.ref a :: st) h := jq_nx (jv_insR jm_0 dL_law_443) rfl
theorem e0_444 : jv_ev d 0 444 [x0, x1, x2, some (.int v)] st h = jv_ev d 0 445 [x0, x1, x2, some (.int v)] (.int v :: st) h := jq_nx (jv_insR jm_0 dL_law_444) rfl
theorem e0_445 : jv_ev d 0 445 lc st h = jv_ev d 0 446 lc (.int 3 :: st) h := jq_iconst (jv_insR jm_0 dL_law_445) (by decide)
theorem e0_446 : jv_ev d 0 446 lc (.int w :: .int v :: st) h = jv_ev d 0 447 lc (.int (v + w) :: st) h := jq_nx (jv_insR jm_0 dL_law_446) rfl
theorem e0_447 : jv_ev d 0 447 lc (.int v :: .ref a :: st) h = (jv_ig h a 0 0 v).bind fun w => jv_ev d 0 448 lc (.int w :: st) h := jq_iald (jv_insR jm_0 dL_law_447)
theorem e0_448 : jv_ev d 0 448 lc [z2, z1, z0, .ref b, y0] h = (jv_rc h b [(0, 54)]).bind fun y => (jv_cd d y [.ref b, z0, z1, z2] h).bind fun r => jv_on r (fun v h => jv_ev d 0 451 lc (v.toList ++ [y0]) h) (fun q h => some (.inr q, h)) := jq_V (as := [z0, z1, z2]) (rest := [y0]) (jv_insR jm_0 dL_law_448) jo_0 jV_0_49 rfl rfl rfl rfl
theorem e0_451 : jv_ev d 0 451 lc (.int w :: .int v :: st) h = if v = w then jv_ev d 0 1482 lc st h else jv_ev d 0 454 lc st h := jq_if (jv_insR jm_0 dL_law_451) rfl (by decide)
theorem e0_454 : jv_ev d 0 454 lc st h = jv_ev d 0 455 lc (.int 0 :: st) h := jq_iconst (jv_insR jm_0 dL_law_454) (by decide)
theorem e0_455 : jv_ev d 0 455 lc [.int v] h = if narrow .boolean (.int v) = .int v then some (.inl (some (.int v)), h) else none := jq_ret (jv_insR jm_0 dL_law_455) jr_0 (by decide)
theorem e0_456 : jv_ev d 0 456 [x0, some (.ref a), x2, x3] st h = jv_ev d 0 457 [x0, some (.ref a), x2, x3] (.ref a :: st) h := jq_nx (jv_insR jm_0 dL_law_456) rfl
theorem e0_457 : jv_ev d 0 457 [some (.ref a), x1, x2, x3] st h = jv_ev d 0 458 [some (.ref a), x1, x2, x3] (.ref a :: st) h := jq_nx (jv_insR jm_0 dL_law_457) rfl
theorem e0_458 : jv_ev d 0 458 [x0, x1, x2, some (.int v)] st h = jv_ev d 0 459 [x0, x1, x2, some (.int v)] (.int v :: st) h := jq_nx (jv_insR jm_0 dL_law_458) rfl
theorem e0_459 : jv_ev d 0 459 lc st h = jv_ev d 0 460 lc (.int 1 :: st) h := jq_iconst (jv_insR jm_0 dL_law_459) (by decide)
theorem e0_460 : jv_ev d 0 460 lc (.int w :: .int v :: st) h = jv_ev d 0 461 lc (.int (v + w) :: st) h := jq_nx (jv_insR jm_0 dL_law_460) rfl
theorem e0_461 : jv_ev d 0 461 lc (.int v :: .ref a :: st) h = (jv_ig h a 0 0 v).bind fun w => jv_ev d 0 462 lc (.int w :: st) h := jq_iald (jv_insR jm_0 dL_law_461)
theorem e0_462 : jv_ev d 0 462 [some (.ref a), x1, x2, x3] st h = jv_ev d 0 463 [some (.ref a), x1, x2, x3] (.ref a :: st) h := jq_nx (jv_insR jm_0 dL_law_462) rfl
theorem e0_463 : jv_ev d 0 463 [x0, x1, x2, some (.int v)] st h = jv_ev d 0 464 [x0, x1, x2, some (.int v)] (.int v :: st) h := jq_nx (jv_insR jm_0 dL_law_463) rfl
theorem e0_464 : jv_ev d 0 464 lc st h = jv_ev d 0 465 lc (.int 2 :: st) h := jq_iconst (jv_insR jm_0 dL_law_464) (by decide)
theorem e0_465 : jv_ev d 0 465 lc (.int w :: .int v :: st) h = jv_ev d 0 466 lc (.int (v + w) :: st) h := jq_nx (jv_insR jm_0 dL_law_465) rfl
theorem e0_466 : jv_ev d 0 466 lc (.int v :: .ref a :: st) h = (jv_ig h a 0 0 v).bind fun w => jv_ev d 0 467 lc (.int w :: st) h := jq_iald (jv_insR jm_0 dL_law_466)
theorem e0_467 : jv_ev d 0 467 [some (.ref a), x1, x2, x3] st h = jv_ev d 0 468 [some (.ref a), x1, x2, x3] (.ref a :: st) h := jq_nx (jv_insR jm_0 dL_law_467) rfl
theorem e0_468 : jv_ev d 0 468 [x0, x1, x2, some (.int v)] st h = jv_ev d 0 469 [x0, x1, x2, some (.int v)] (.int v :: st) h := jq_nx (jv_insR jm_0 dL_law_468) rfl
theorem e0_469 : jv_ev d 0 469 lc st h = jv_ev d 0 470 lc (.int 3 :: st) h := jq_iconst (jv_insR jm_0 dL_law_469) (by decide)
theorem e0_470 : jv_ev d 0 470 lc (.int w :: .int v :: st) h = jv_ev d 0 471 lc (.int (v + w) :: st) h := jq_nx (jv_insR jm_0 dL_law_470) rfl
theorem e0_471 : jv_ev d 0 471 lc (.int v :: .ref a :: st) h = (jv_ig h a 0 0 v).bind fun w => jv_ev d 0 472 lc (.int w :: st) h := jq_iald (jv_insR jm_0 dL_law_471)
theorem e0_472 : jv_ev d 0 472 [some (.ref a), x1, x2, x3] st h = jv_ev d 0 473 [some (.ref a), x1, x2, x3] (.ref a :: st) h := jq_nx (jv_insR jm_0 dL_law_472) rfl
theorem e0_473 : jv_ev d 0 473 [x0, x1, x2, some (.int v)] st h = jv_ev d 0 474 [x0, x1, x2, some (.int v)] (.int v :: st) h := jq_nx (jv_insR jm_0 dL_law_473) rfl
theorem e0_474 : jv_ev d 0 474 lc st h = jv_ev d 0 475 lc (.int 4 :: st) h := jq_iconst (jv_insR jm_0 dL_law_474) (by decide)
theorem e0_475 : jv_ev d 0 475 lc (.int w :: .int v :: st) h = jv_ev d 0 476 lc (.int (v + w) :: st) h := jq_nx (jv_insR jm_0 dL_law_475) rfl
theorem e0_476 : jv_ev d 0 476 lc (.int v :: .ref a :: st) h = (jv_ig h a 0 0 v).bind fun w => jv_ev d 0 477 lc (.int w :: st) h := jq_iald (jv_insR jm_0 dL_law_476)
theorem e0_477 : jv_ev d 0 477 [some (.ref a), x1, x2, x3] st h = jv_ev d 0 478 [some (.ref a), x1, x2, x3] (.ref a :: st) h := jq_nx (jv_insR jm_0 dL_law_477) rfl
theorem e0_478 : jv_ev d 0 478 [x0, x1, x2, some (.int v)] st h = jv_ev d 0 479 [x0, x1, x2, some (.int v)] (.int v :: st) h := jq_nx (jv_insR jm_0 dL_law_478) rfl
theorem e0_479 : jv_ev d 0 479 lc st h = jv_ev d 0 480 lc (.int 5 :: st) h := jq_iconst (jv_insR jm_0 dL_law_479) (by decide)
theorem e0_480 : jv_ev d 0 480 lc (.int w :: .int v :: st) h = jv_ev d 0 481 lc (.int (v + w) :: st) h := jq_nx (jv_insR jm_0 dL_law_480) rfl
theorem e0_481 : jv_ev d 0 481 lc (.int v :: .ref a :: st) h = (jv_ig h a 0 0 v).bind fun w => jv_ev d 0 482 lc (.int w :: st) h := jq_iald (jv_insR jm_0 dL_law_481)
theorem e0_482 : jv_ev d 0 482 lc [z4, z3, z2, z1, z0, .ref b] h = (jv_rc h b [(1, 130)]).bind fun y => (jv_cd d y [.ref b, z0, z1, z2, z3, z4] h).bind fun r => jv_on r (fun v h => jv_ev d 0 485 lc (v.toList ++ []) h) (fun q h => some (.inr q, h)) := jq_V (as := [z0, z1, z2, z3, z4]) (rest := []) (jv_insR jm_0 dL_law_482) jo_0 jV_0_50 rfl rfl rfl rfl
theorem e0_485 : jv_ev d 0 485 [x0, x1, some (.ref a), x3] st h = jv_ev d 0 486 [x0, x1, some (.ref a), x3] (.ref a :: st) h := jq_nx (jv_insR jm_0 dL_law_485) rfl
theorem e0_486 : jv_ev d 0 486 [some (.ref a), x1, x2, x3] st h = jv_ev d 0 487 [some (.ref a), x1, x2, x3] (.ref a :: st) h := jq_nx (jv_insR jm_0 dL_law_486) rfl
theorem e0_487 : jv_ev d 0 487 [x0, x1, x2, some (.int v)] st h = jv_ev d 0 488 [x0, x1, x2, some (.int v)] (.int v :: st) h := jq_nx (jv_insR jm_0 dL_law_487) rfl
theorem e0_488 : jv_ev d 0 488 lc st h = jv_ev d 0 489 lc (.int 1 :: st) h := jq_iconst (jv_insR jm_0 dL_law_488) (by decide)
theorem e0_489 : jv_ev d 0 489 lc (.int w :: .int v :: st) h = jv_ev d 0 490 lc (.int (v + w) :: st) h := jq_nx (jv_insR jm_0 dL_law_489) rfl
theorem e0_490 : jv_ev d 0 490 lc (.int v :: .ref a :: st) h = (jv_ig h a 0 0 v).bind fun w => jv_ev d 0 491 lc (.int w :: st) h := jq_iald (jv_insR jm_0 dL_law_490)
theorem e0_491 : jv_ev d 0 491 [some (.ref a), x1, x2, x3] st h = jv_ev d 0 492 [some (.ref a), x1, x2, x3] (.ref a :: st) h := jq_nx (jv_insR jm_0 dL_law_491) rfl
theorem e0_492 : jv_ev d 0 492 [x0, x1, x2, some (.int v)] st h = jv_ev d 0 493 [x0, x1, x2, some (.int v)] (.int v :: st) h := jq_nx (jv_insR jm_0 dL_law_492) rfl
theorem e0_493 : jv_ev d 0 493 lc st h = jv_ev d 0 494 lc (.int 2 :: st) h := jq_iconst (jv_insR jm_0 dL_law_493) (by decide)
theorem e0_494 : jv_ev d 0 494 lc (.int w :: .int v :: st) h = jv_ev d 0 495 lc (.int (v + w) :: st) h := jq_nx (jv_insR jm_0 dL_law_494) rfl
theorem e0_495 : jv_ev d 0 495 lc (.int v :: .ref a :: st) h = (jv_ig h a 0 0 v).bind fun w => jv_ev d 0 496 lc (.int w :: st) h := jq_iald (jv_insR jm_0 dL_law_495)
theorem e0_496 : jv_ev d 0 496 [some (.ref a), x1, x2, x3] st h = jv_ev d 0 497 [some (.ref a), x1, x2, x3] (.ref a :: st) h := jq_nx (jv_insR jm_0 dL_law_496) rfl
theorem e0_497 : jv_ev d 0 497 [x0, x1, x2, some (.int v)] st h = jv_ev d 0 498 [x0, x1, x2, some (.int v)] (.int v :: st) h := jq_nx (jv_insR jm_0 dL_law_497) rfl
theorem e0_498 : jv_ev d 0 498 lc st h = jv_ev d 0 499 lc (.int 3 :: st) h := jq_iconst (jv_insR jm_0 dL_law_498) (by decide)
theorem e0_499 : jv_ev d 0 499 lc (.int w :: .int v :: st) h = jv_ev d 0 500 lc (.int (v + w) :: st) h := jq_nx (jv_insR jm_0 dL_law_499) rfl
theorem e0_500 : jv_ev d 0 500 lc (.int v :: .ref a :: st) h = (jv_ig h a 0 0 v).bind fun w => jv_ev d 0 501 lc (.int w :: st) h := jq_iald (jv_insR jm_0 dL_law_500)
theorem e0_501 : jv_ev d 0 501 [some (.ref a), x1, x2, x3] st h = jv_ev d 0 502 [some (.ref a), x1, x2, x3] (.ref a :: st) h := jq_nx (jv_insR jm_0 dL_law_501) rfl
theorem e0_502 : jv_ev d 0 502 [x0, x1, x2, some (.int v)] st h = jv_ev d 0 503 [x0, x1, x2, some (.int v)] (.int v :: st) h := jq_nx (jv_insR jm_0 dL_law_502) rfl
theorem e0_503 : jv_ev d 0 503 lc st h = jv_ev d 0 504 lc (.int 4 :: st) h := jq_iconst (jv_insR jm_0 dL_law_503) (by decide)
theorem e0_504 : jv_ev d 0 504 lc (.int w :: .int v :: st) h = jv_ev d 0 505 lc (.int (v + w) :: st) h := jq_nx (jv_insR jm_0 dL_law_504) rfl
theorem e0_505 : jv_ev d 0 505 lc (.int v :: .ref a :: st) h = (jv_ig h a 0 0 v).bind fun w => jv_ev d 0 506 lc (.int w :: st) h := jq_iald (jv_insR jm_0 dL_law_505)
theorem e0_506 : jv_ev d 0 506 [some (.ref a), x1, x2, x3] st h = jv_ev d 0 507 [some (.ref a), x1, x2, x3] (.ref a :: st) h := jq_nx (jv_insR jm_0 dL_law_506) rfl
theorem e0_507 : jv_ev d 0 507 [x0, x1, x2, some (.int v)] st h = jv_ev d 0 508 [x0, x1, x2, some (.int v)] (.int v :: st) h := jq_nx (jv_insR jm_0 dL_law_507) rfl
theorem e0_508 : jv_ev d 0 508 lc st h = jv_ev d 0 509 lc (.int 5 :: st) h := jq_iconst (jv_insR jm_0 dL_law_508) (by decide)
theorem e0_509 : jv_ev d 0 509 lc (.int w :: .int v :: st) h = jv_ev d 0 510 lc (.int (v + w) :: st) h := jq_nx (jv_insR jm_0 dL_law_509) rfl
theorem e0_510 : jv_ev d 0 510 lc (.int v :: .ref a :: st) h = (jv_ig h a 0 0 v).bind fun w => jv_ev d 0 511 lc (.int w :: st) h := jq_iald (jv_insR jm_0 dL_law_510)
theorem e0_511 : jv_ev d 0 511 lc [z4, z3, z2, z1, z0, .ref b, y0] h = (jv_rc h b [(0, 59)]).bind fun y => (jv_cd d y [.ref b, z0, z1, z2, z3, z4] h).bind fun r => jv_on r (fun v h => jv_ev d 0 514 lc (v.toList ++ [y0]) h) (fun q h => some (.inr q, h)) := jq_V (as := [z0, z1, z2, z3, z4]) (rest := [y0]) (jv_insR jm_0 dL_law_511) jo_0 jV_0_54 rfl rfl rfl rfl
theorem e0_514 : jv_ev d 0 514 lc (.int w :: .int v :: st) h = if v = w then jv_ev d 0 1482 lc st h else jv_ev d 0 517 lc st h := jq_if (jv_insR jm_0 dL_law_514) rfl (by decide)
theorem e0_517 : jv_ev d 0 517 lc st h = jv_ev d 0 518 lc (.int 0 :: st) h := jq_iconst (jv_insR jm_0 dL_law_517) (by decide)
theorem e0_518 : jv_ev d 0 518 lc [.int v] h = if narrow .boolean (.int v) = .int v then some (.inl (some (.int v)), h) else none := jq_ret (jv_insR jm_0 dL_law_518) jr_0 (by decide)
theorem e0_519 : jv_ev d 0 519 [x0, some (.ref a), x2, x3] st h = jv_ev d 0 520 [x0, some (.ref a), x2, x3] (.ref a :: st) h := jq_nx (jv_insR jm_0 dL_law_519) rfl
theorem e0_520 : jv_ev d 0 520 [some (.ref a), x1, x2, x3] st h = jv_ev d 0 521 [some (.ref a), x1, x2, x3] (.ref a :: st) h := jq_nx (jv_insR jm_0 dL_law_520) rfl
theorem e0_521 : jv_ev d 0 521 [x0, x1, x2, some (.int v)] st h = jv_ev d 0 522 [x0, x1, x2, some (.int v)] (.int v :: st) h := jq_nx (jv_insR jm_0 dL_law_521) rfl
theorem e0_522 : jv_ev d 0 522 lc st h = jv_ev d 0 523 lc (.int 1 :: st) h := jq_iconst (jv_insR jm_0 dL_law_522) (by decide)
theorem e0_523 : jv_ev d 0 523 lc (.int w :: .int v :: st) h = jv_ev d 0 524 lc (.int (v + w) :: st) h := jq_nx (jv_insR jm_0 dL_law_523) rfl
theorem e0_524 : jv_ev d 0 524 lc (.int v :: .ref a :: st) h = (jv_ig h a 0 0 v).bind fun w => jv_ev d 0 525 lc (.int w :: st) h := jq_iald (jv_insR jm_0 dL_law_524)
theorem e0_525 : jv_ev d 0 525 lc [z0, .ref b] h = (jv_rc h b [(1, 133)]).bind fun y => (jv_cd d y [.ref b, z0] h).bind fun r => jv_on r (fun v h => jv_ev d 0 528 lc (v.toList ++ []) h) (fun q h => some (.inr q, h)) := jq_V (as := [z0]) (rest := []) (jv_insR jm_0 dL_law_525) jo_0 jV_0_55 rfl rfl rfl rfl
theorem e0_528 : jv_ev d 0 528 [x0, x1, some (.ref a), x3] st h = jv_ev d 0 529 [x0, x1, some (.ref a), x3] (.ref a :: st) h := jq_nx (jv_insR jm_0 dL_law_528) rfl
theorem e0_529 : jv_ev d 0 529 [some (.ref a), x1, x2, x3] st h = jv_ev d 0 530 [some (.ref a), x1, x2, x3] (.ref a :: st) h := jq_nx (jv_insR jm_0 dL_law_529) rfl
theorem e0_530 : jv_ev d 0 530 [x0, x1, x2, some (.int v)] st h = jv_ev d 0 531 [x0, x1, x2, some (.int v)] (.int v :: st) h := jq_nx (jv_insR jm_0 dL_law_530) rfl
theorem e0_531 : jv_ev d 0 531 lc st h = jv_ev d 0 532 lc (.int 1 :: st) h := jq_iconst (jv_insR jm_0 dL_law_531) (by decide)
theorem e0_532 : jv_ev d 0 532 lc (.int w :: .int v :: st) h = jv_ev d 0 533 lc (.int (v + w) :: st) h := jq_nx (jv_insR jm_0 dL_law_532) rfl
theorem e0_533 : jv_ev d 0 533 lc (.int v :: .ref a :: st) h = (jv_ig h a 0 0 v).bind fun w => jv_ev d 0 534 lc (.int w :: st) h := jq_iald (jv_insR jm_0 dL_law_533)
theorem e0_534 : jv_ev d 0 534 lc [z0, .ref b, y0] h = (jv_rc h b [(0, 62)]).bind fun y => (jv_cd d y [.ref b, z0] h).bind fun r => jv_on r (fun v h => jv_ev d 0 537 lc (v.toList ++ [y0]) h) (fun q h => some (.inr q, h)) := jq_V (as := [z0]) (rest := [y0]) (jv_insR jm_0 dL_law_534) jo_0 jV_0_59 rfl rfl rfl rfl
theorem e0_537 : jv_ev d 0 537 lc (.int w :: .int v :: st) h = if v = w then jv_ev d 0 1482 lc st h else jv_ev d 0 540 lc st h := jq_if (jv_insR jm_0 dL_law_537) rfl (by decide)
theorem e0_540 : jv_ev d 0 540 lc st h = jv_ev d 0 541 lc (.int 0 :: st) h := jq_iconst (jv_insR jm_0 dL_law_540) (by decide)
theorem e0_541 : jv_ev d 0 541 lc [.int v] h = if narrow .boolean (.int v) = .int v then some (.inl (some (.int v)), h) else none := jq_ret (jv_insR jm_0 dL_law_541) jr_0 (by decide)
theorem e0_542 : jv_ev d 0 542 [x0, some (.ref a), x2, x3] st h = jv_ev d 0 543 [x0, some (.ref a), x2, x3] (.ref a :: st) h := jq_nx (jv_insR jm_0 dL_law_542) rfl
theorem e0_543 : jv_ev d 0 543 [some (.ref a), x1, x2, x3] st h = jv_ev d 0 544 [some (.ref a), x1, x2, x3] (.ref a :: st) h := jq_nx (jv_insR jm_0 dL_law_543) rfl
theorem e0_544 : jv_ev d 0 544 [x0, x1, x2, some (.int v)] st h = jv_ev d 0 545 [x0, x1, x2, some (.int v)] (.int v :: st) h := jq_nx (jv_insR jm_0 dL_law_544) rfl
theorem e0_545 : jv_ev d 0 545 lc st h = jv_ev d 0 546 lc (.int 1 :: st) h := jq_iconst (jv_insR jm_0 dL_law_545) (by decide)
theorem e0_546 : jv_ev d 0 546 lc (.int w :: .int v :: st) h = jv_ev d 0 547 lc (.int (v + w) :: st) h := jq_nx (jv_insR jm_0 dL_law_546) rfl
theorem e0_547 : jv_ev d 0 547 lc (.int v :: .ref a :: st) h = (jv_ig h a 0 0 v).bind fun w => jv_ev d 0 548 lc (.int w :: st) h := jq_iald (jv_insR jm_0 dL_law_547)
theorem e0_548 : jv_ev d 0 548 [some (.ref a), x1, x2, x3] st h = jv_ev d 0 549 [some (.ref a), x1, x2, x3] (.ref a :: st) h := jq_nx (jv_insR jm_0 dL_law_548) rfl
theorem e0_549 : jv_ev d 0 549 [x0, x1, x2, some (.int v)] st h = jv_ev d 0 550 [x0, x1, x2, some (.int v)] (.int v :: st) h := jq_nx (jv_insR jm_0 dL_law_549) rfl
theorem e0_550 : jv_ev d 0 550 lc st h = jv_ev d 0 551 lc (.int 2 :: st) h := jq_iconst (jv_insR jm_0 dL_law_550) (by decide)
theorem e0_551 : jv_ev d 0 551 lc (.int w :: .int v :: st) h = jv_ev d 0 552 lc (.int (v + w) :: st) h := jq_nx (jv_insR jm_0 dL_law_551) rfl
theorem e0_552 : jv_ev d 0 552 lc (.int v :: .ref a :: st) h = (jv_ig h a 0 0 v).bind fun w => jv_ev d 0 553 lc (.int w :: st) h := jq_iald (jv_insR jm_0 dL_law_552)
theorem e0_553 : jv_ev d 0 553 [some (.ref a), x1, x2, x3] st h = jv_ev d 0 554 [some (.ref a), x1, x2, x3] (.ref a :: st) h := jq_nx (jv_insR jm_0 dL_law_553) rfl
theorem e0_554 : jv_ev d 0 554 [x0, x1, x2, some (.int v)] st h = jv_ev d 0 555 [x0, x1, x2, some (.int v)] (.int v :: st) h := jq_nx (jv_insR jm_0 dL_law_554) rfl
theorem e0_555 : jv_ev d 0 555 lc st h = jv_ev d 0 556 lc (.int 3 :: st) h := jq_iconst (jv_insR jm_0 dL_law_555) (by decide)
theorem e0_556 : jv_ev d 0 556 lc (.int w :: .int v :: st) h = jv_ev d 0 557 lc (.int (v + w) :: st) h := jq_nx (jv_insR jm_0 dL_law_556) rfl
theorem e0_557 : jv_ev d 0 557 lc (.int v :: .ref a :: st) h = (jv_ig h a 0 0 v).bind fun w => jv_ev d 0 558 lc (.int w :: st) h := jq_iald (jv_insR jm_0 dL_law_557)
theorem e0_558 : jv_ev d 0 558 [some (.ref a), x1, x2, x3] st h = jv_ev d 0 559 [some (.ref a), x1, x2, x3] (.ref a :: st) h := jq_nx (jv_insR jm_0 dL_law_558) rfl
theorem e0_559 : jv_ev d 0 559 [x0, x1, x2, some (.int v)] st h = jv_ev d 0 560 [x0, x1, x2, some (.int v)] (.int v :: st) h := jq_nx (jv_insR jm_0 dL_law_559) rfl
theorem e0_560 : jv_ev d 0 560 lc st h = jv_ev d 0 561 lc (.int 4 :: st) h := jq_iconst (jv_insR jm_0 dL_law_560) (by decide)
theorem e0_561 : jv_ev d 0 561 lc (.int w :: .int v :: st) h = jv_ev d 0 562 lc (.int (v + w) :: st) h := jq_nx (jv_insR jm_0 dL_law_561) rfl
theorem e0_562 : jv_ev d 0 562 lc (.int v :: .ref a :: st) h = (jv_ig h a 0 0 v).bind fun w => jv_ev d 0 563 lc (.int w :: st) h := jq_iald (jv_insR jm_0 dL_law_562)
theorem e0_563 : jv_ev d 0 563 [some (.ref a), x1, x2, x3] st h = jv_ev d 0 564 [some (.ref a), x1, x2, x3] (.ref a :: st) h := jq_nx (jv_insR jm_0 dL_law_563) rfl
theorem e0_564 : jv_ev d 0 564 [x0, x1, x2, some (.int v)] st h = jv_ev d 0 565 [x0, x1, x2, some (.int v)] (.int v :: st) h := jq_nx (jv_insR jm_0 dL_law_564) rfl
theorem e0_565 : jv_ev d 0 565 lc st h = jv_ev d 0 566 lc (.int 5 :: st) h := jq_iconst (jv_insR jm_0 dL_law_565) (by decide)
theorem e0_566 : jv_ev d 0 566 lc (.int w :: .int v :: st) h = jv_ev d 0 567 lc (.int (v + w) :: st) h := jq_nx (jv_insR jm_0 dL_law_566) rfl
theorem e0_567 : jv_ev d 0 567 lc (.int v :: .ref a :: st) h = (jv_ig h a 0 0 v).bind fun w => jv_ev d 0 568 lc (.int w :: st) h := jq_iald (jv_insR jm_0 dL_law_567)
theorem e0_568 : jv_ev d 0 568 lc [z4, z3, z2, z1, z0, .ref b] h = (jv_rc h b [(1, 134)]).bind fun y => (jv_cd d y [.ref b, z0, z1, z2, z3, z4] h).bind fun r => jv_on r (fun v h => jv_ev d 0 571 lc (v.toList ++ []) h) (fun q h => some (.inr q, h)) := jq_V (as := [z0, z1, z2, z3, z4]) (rest := []) (jv_insR jm_0 dL_law_568) jo_0 jV_0_60 rfl rfl rfl rfl
theorem e0_571 : jv_ev d 0 571 [x0, x1, some (.ref a), x3] st h = jv_ev d 0 572 [x0, x1, some (.ref a), x3] (.ref a :: st) h := jq_nx (jv_insR jm_0 dL_law_571) rfl
theorem e0_572 : jv_ev d 0 572 [some (.ref a), x1, x2, x3] st h = jv_ev d 0 573 [some (.ref a), x1, x2, x3] (.ref a :: st) h := jq_nx (jv_insR jm_0 dL_law_572) rfl
theorem e0_573 : jv_ev d 0 573 [x0, x1, x2, some (.int v)] st h = jv_ev d 0 574 [x0, x1, x2, some (.int v)] (.int v :: st) h := jq_nx (jv_insR jm_0 dL_law_573) rfl
theorem e0_574 : jv_ev d 0 574 lc st h = jv_ev d 0 575 lc (.int 1 :: st) h := jq_iconst (jv_insR jm_0 dL_law_574) (by decide)
theorem e0_575 : jv_ev d 0 575 lc (.int w :: .int v :: st) h = jv_ev d 0 576 lc (.int (v + w) :: st) h := jq_nx (jv_insR jm_0 dL_law_575) rfl
theorem e0_576 : jv_ev d 0 576 lc (.int v :: .ref a :: st) h = (jv_ig h a 0 0 v).bind fun w => jv_ev d 0 577 lc (.int w :: st) h := jq_iald (jv_insR jm_0 dL_law_576)
theorem e0_577 : jv_ev d 0 577 [some (.ref a), x1, x2, x3] st h = jv_ev d 0 578 [some (.ref a), x1, x2, x3] (.ref a :: st) h := jq_nx (jv_insR jm_0 dL_law_577) rfl
theorem e0_578 : jv_ev d 0 578 [x0, x1, x2, some (.int v)] st h = jv_ev d 0 579 [x0, x1, x2, some (.int v)] (.int v :: st) h := jq_nx (jv_insR jm_0 dL_law_578) rfl
theorem e0_579 : jv_ev d 0 579 lc st h = jv_ev d 0 580 lc (.int 2 :: st) h := jq_iconst (jv_insR jm_0 dL_law_579) (by decide)
theorem e0_580 : jv_ev d 0 580 lc (.int w :: .int v :: st) h = jv_ev d 0 581 lc (.int (v + w) :: st) h := jq_nx (jv_insR jm_0 dL_law_580) rfl
theorem e0_581 : jv_ev d 0 581 lc (.int v :: .ref a :: st) h = (jv_ig h a 0 0 v).bind fun w => jv_ev d 0 582 lc (.int w :: st) h := jq_iald (jv_insR jm_0 dL_law_581)
theorem e0_582 : jv_ev d 0 582 [some (.ref a), x1, x2, x3] st h = jv_ev d 0 583 [some (.ref a), x1, x2, x3] (.ref a :: st) h := jq_nx (jv_insR jm_0 dL_law_582) rfl
theorem e0_583 : jv_ev d 0 583 [x0, x1, x2, some (.int v)] st h = jv_ev d 0 584 [x0, x1, x2, some (.int v)] (.int v :: st) h := jq_nx (jv_insR jm_0 dL_law_583) rfl
theorem e0_584 : jv_ev d 0 584 lc st h = jv_ev d 0 585 lc (.int 3 :: st) h := jq_iconst (jv_insR jm_0 dL_law_584) (by decide)
theorem e0_585 : jv_ev d 0 585 lc (.int w :: .int v :: st) h = jv_ev d 0 586 lc (.int (v + w) :: st) h := jq_nx (jv_insR jm_0 dL_law_585) rfl
theorem e0_586 : jv_ev d 0 586 lc (.int v :: .ref a :: st) h = (jv_ig h a 0 0 v).bind fun w => jv_ev d 0 587 lc (.int w :: st) h := jq_iald (jv_insR jm_0 dL_law_586)
theorem e0_587 : jv_ev d 0 587 [some (.ref a), x1, x2, x3] st h = jv_ev d 0 588 [some (.ref a), x1, x2, x3] (.ref a :: st) h := jq_nx (jv_insR jm_0 dL_law_587) rfl
theorem e0_588 : jv_ev d 0 588 [x0, x1, x2, some (.int v)] st h = jv_ev d 0 589 [x0, x1, x2, some (.int v)] (.int v :: st) h := jq_nx (jv_insR jm_0 dL_law_588) rfl
theorem e0_589 : jv_ev d 0 589 lc st h = jv_ev d 0 590 lc (.int 4 :: st) h := jq_iconst (jv_insR jm_0 dL_law_589) (by decide)
theorem e0_590 : jv_ev d 0 590 lc (.int w :: .int v :: st) h = jv_ev d 0 591 lc (.int (v + w) :: st) h := jq_nx (jv_insR jm_0 dL_law_590) rfl
theorem e0_591 : jv_ev d 0 591 lc (.int v :: .ref a :: st) h = (jv_ig h a 0 0 v).bind fun w => jv_ev d 0 592 lc (.int w :: st) h := jq_iald (jv_insR jm_0 dL_law_591)
theorem e0_592 : jv_ev d 0 592 [some (.ref a), x1, x2, x3] st h = jv_ev d 0 593 [some (.ref a), x1, x2, x3] (.ref a :: st) h := jq_nx (jv_insR jm_0 dL_law_592) rfl
theorem e0_593 : jv_ev d 0 593 [x0, x1, x2, some (.int v)] st h = jv_ev d 0 594 [x0, x1, x2, some (.int v)] (.int v :: st) h := jq_nx (jv_insR jm_0 dL_law_593) rfl
theorem e0_594 : jv_ev d 0 594 lc st h = jv_ev d 0 595 lc (.int 5 :: st) h := jq_iconst (jv_insR jm_0 dL_law_594) (by decide)
theorem e0_595 : jv_ev d 0 595 lc (.int w :: .int v :: st) h = jv_ev d 0 596 lc (.int (v + w) :: st) h := jq_nx (jv_insR jm_0 dL_law_595) rfl
theorem e0_596 : jv_ev d 0 596 lc (.int v :: .ref a :: st) h = (jv_ig h a 0 0 v).bind fun w => jv_ev d 0 597 lc (.int w :: st) h := jq_iald (jv_insR jm_0 dL_law_596)
theorem e0_597 : jv_ev d 0 597 lc [z4, z3, z2, z1, z0, .ref b, y0] h = (jv_rc h b [(0, 63)]).bind fun y => (jv_cd d y [.ref b, z0, z1, z2, z3, z4] h).bind fun r => jv_on r (fun v h => jv_ev d 0 600 lc (v.toList ++ [y0]) h) (fun q h => some (.inr q, h)) := jq_V (as := [z0, z1, z2, z3, z4]) (rest := [y0]) (jv_insR jm_0 dL_law_597) jo_0 jV_0_63 rfl rfl rfl rfl
theorem e0_600 : jv_ev d 0 600 lc (.int w :: .int v :: st) h = if v = w then jv_ev d 0 1482 lc st h else jv_ev d 0 603 lc st h := jq_if (jv_insR jm_0 dL_law_600) rfl (by decide)
theorem e0_603 : jv_ev d 0 603 lc st h = jv_ev d 0 604 lc (.int 0 :: st) h := jq_iconst (jv_insR jm_0 dL_law_603) (by decide)
theorem e0_604 : jv_ev d 0 604 lc [.int v] h = if narrow .boolean (.int v) = .int v then some (.inl (some (.int v)), h) else none := jq_ret (jv_insR jm_0 dL_law_604) jr_0 (by decide)
theorem e0_605 : jv_ev d 0 605 [x0, some (.ref a), x2, x3] st h = jv_ev d 0 606 [x0, some (.ref a), x2, x3] (.ref a :: st) h := jq_nx (jv_insR jm_0 dL_law_605) rfl
theorem e0_606 : jv_ev d 0 606 [some (.ref a), x1, x2, x3] st h = jv_ev d 0 607 [some (.ref a), x1, x2, x3] (.ref a :: st) h := jq_nx (jv_insR jm_0 dL_law_606) rfl
theorem e0_607 : jv_ev d 0 607 [x0, x1, x2, some (.int v)] st h = jv_ev d 0 608 [x0, x1, x2, some (.int v)] (.int v :: st) h := jq_nx (jv_insR jm_0 dL_law_607) rfl
theorem e0_608 : jv_ev d 0 608 lc st h = jv_ev d 0 609 lc (.int 1 :: st) h := jq_iconst (jv_insR jm_0 dL_law_608) (by decide)
theorem e0_609 : jv_ev d 0 609 lc (.int w :: .int v :: st) h = jv_ev d 0 610 lc (.int (v + w) :: st) h := jq_nx (jv_insR jm_0 dL_law_609) rfl
theorem e0_610 : jv_ev d 0 610 lc (.int v :: .ref a :: st) h = (jv_ig h a 0 0 v).bind fun w => jv_ev d 0 611 lc (.int w :: st) h := jq_iald (jv_insR jm_0 dL_law_610)
theorem e0_611 : jv_ev d 0 611 [some (.ref a), x1, x2, x3] st h = jv_ev d 0 612 [some (.ref a), x1, x2, x3] (.ref a :: st) h := jq_nx (jv_insR jm_0 dL_law_611) rfl
theorem e0_612 : jv_ev d 0 612 [x0, x1, x2, some (.int v)] st h = jv_ev d 0 613 [x0, x1, x2, some (.int v)] (.int v :: st) h := jq_nx (jv_insR jm_0 dL_law_612) rfl
theorem e0_613 : jv_ev d 0 613 lc st h = jv_ev d 0 614 lc (.int 2 :: st) h := jq_iconst (jv_insR jm_0 dL_law_613) (by decide)
theorem e0_614 : jv_ev d 0 614 lc (.int w :: .int v :: st) h = jv_ev d 0 615 lc (.int (v + w) :: st) h := jq_nx (jv_insR jm_0 dL_law_614) rfl
theorem e0_615 : jv_ev d 0 615 lc (.int v :: .ref a :: st) h = (jv_ig h a 0 0 v).bind fun w => jv_ev d 0 616 lc (.int w :: st) h := jq_iald (jv_insR jm_0 dL_law_615)
theorem e0_616 : jv_ev d 0 616 lc [z1, z0, .ref b] h = (jv_rc h b [(1, 135)]).bind fun y => (jv_cd d y [.ref b, z0, z1] h).bind fun r => jv_on r (fun v h => jv_ev d 0 619 lc (v.toList ++ []) h) (fun q h => some (.inr q, h)) := jq_V (as := [z0, z1]) (rest := []) (jv_insR jm_0 dL_law_616) jo_0 jV_0_64 rfl rfl rfl rfl
theorem e0_619 : jv_ev d 0 619 [x0, x1, some (.ref a), x3] st h = jv_ev d 0 620 [x0, x1, some (.ref a), x3] (.ref a :: st) h := jq_nx (jv_insR jm_0 dL_law_619) rfl
theorem e0_620 : jv_ev d 0 620 [some (.ref a), x1, x2, x3] st h = jv_ev d 0 621 [some (.ref a), x1, x2, x3] (.ref a :: st) h := jq_nx (jv_insR jm_0 dL_law_620) rfl
theorem e0_621 : jv_ev d 0 621 [x0, x1, x2, some (.int v)] st h = jv_ev d 0 622 [x0, x1, x2, some (.int v)] (.int v :: st) h := jq_nx (jv_insR jm_0 dL_law_621) rfl
theorem e0_622 : jv_ev d 0 622 lc st h = jv_ev d 0 623 lc (.int 1 :: st) h := jq_iconst (jv_insR jm_0 dL_law_622) (by decide)
theorem e0_623 : jv_ev d 0 623 lc (.int w :: .int v :: st) h = jv_ev d 0 624 lc (.int (v + w) :: st) h := jq_nx (jv_insR jm_0 dL_law_623) rfl
theorem e0_624 : jv_ev d 0 624 lc (.int v :: .ref a :: st) h = (jv_ig h a 0 0 v).bind fun w => jv_ev d 0 625 lc (.int w :: st) h := jq_iald (jv_insR jm_0 dL_law_624)
theorem e0_625 : jv_ev d 0 625 [some (.ref a), x1, x2, x3] st h = jv_ev d 0 626 [some (.ref a), x1, x2, x3] (.ref a :: st) h := jq_nx (jv_insR jm_0 dL_law_625) rfl
theorem e0_626 : jv_ev d 0 626 [x0, x1, x2, some (.int v)] st h = jv_ev d 0 627 [x0, x1, x2, some (.int v)] (.int v :: st) h := jq_nx (jv_insR jm_0 dL_law_626) rfl
theorem e0_627 : jv_ev d 0 627 lc st h = jv_ev d 0 628 lc (.int 2 :: st) h := jq_iconst (jv_insR jm_0 dL_law_627) (by decide)
theorem e0_628 : jv_ev d 0 628 lc (.int w :: .int v :: st) h = jv_ev d 0 629 lc (.int (v + w) :: st) h := jq_nx (jv_insR jm_0 dL_law_628) rfl
theorem e0_629 : jv_ev d 0 629 lc (.int v :: .ref a :: st) h = (jv_ig h a 0 0 v).bind fun w => jv_ev d 0 630 lc (.int w :: st) h := jq_iald (jv_insR jm_0 dL_law_629)
theorem e0_630 : jv_ev d 0 630 lc [z1, z0, .ref b, y0] h = (jv_rc h b [(0, 65)]).bind fun y => (jv_cd d y [.ref b, z0, z1] h).bind fun r => jv_on r (fun v h => jv_ev d 0 633 lc (v.toList ++ [y0]) h) (fun q h => some (.inr q, h)) := jq_V (as := [z0, z1]) (rest := [y0]) (jv_insR jm_0 dL_law_630) jo_0 jV_0_67 rfl rfl rfl rfl
theorem e0_633 : jv_ev d 0 633 lc (.int w :: .int v :: st) h = if v = w then jv_ev d 0 1482 lc st h else jv_ev d 0 636 lc st h := jq_if (jv_insR jm_0 dL_law_633) rfl (by decide)
theorem e0_636 : jv_ev d 0 636 lc st h = jv_ev d 0 637 lc (.int 0 :: st) h := jq_iconst (jv_insR jm_0 dL_law_636) (by decide)
theorem e0_637 : jv_ev d 0 637 lc [.int v] h = if narrow .boolean (.int v) = .int v then some (.inl (some (.int v)), h) else none := jq_ret (jv_insR jm_0 dL_law_637) jr_0 (by decide)
theorem e0_638 : jv_ev d 0 638 [x0, some (.ref a), x2, x3] st h = jv_ev d 0 639 [x0, some (.ref a), x2, x3] (.ref a :: st) h := jq_nx (jv_insR jm_0 dL_law_638) rfl
theorem e0_639 : jv_ev d 0 639 [some (.ref a), x1, x2, x3] st h = jv_ev d 0 640 [some (.ref a), x1, x2, x3] (.ref a :: st) h := jq_nx (jv_insR jm_0 dL_law_639) rfl
theorem e0_640 : jv_ev d 0 640 [x0, x1, x2, some (.int v)] st h = jv_ev d 0 641 [x0, x1, x2, some (.int v)] (.int v :: st) h := jq_nx (jv_insR jm_0 dL_law_640) rfl
theorem e0_641 : jv_ev d 0 641 lc st h = jv_ev d 0 642 lc (.int 1 :: st) h := jq_iconst (jv_insR jm_0 dL_law_641) (by decide)
theorem e0_642 : jv_ev d 0 642 lc (.int w :: .int v :: st) h = jv_ev d 0 643 lc (.int (v + w) :: st) h := jq_nx (jv_insR jm_0 dL_law_642) rfl
theorem e0_643 : jv_ev d 0 643 lc (.int v :: .ref a :: st) h = (jv_ig h a 0 0 v).bind fun w => jv_ev d 0 644 lc (.int w :: st) h := jq_iald (jv_insR jm_0 dL_law_643)
theorem e0_644 : jv_ev d 0 644 lc [z0, .ref b] h = (jv_rc h b [(1, 136)]).bind fun y => (jv_cd d y [.ref b, z0] h).bind fun r => jv_on r (fun v h => jv_ev d 0 647 lc (v.toList ++ []) h) (fun q h => some (.inr q, h)) := jq_V (as := [z0]) (rest := []) (jv_insR jm_0 dL_law_644) jo_0 jV_0_68 rfl rfl rfl rfl
theorem e0_647 : jv_ev d 0 647 [x0, x1, some (.ref a), x3] st h = jv_ev d 0 648 [x0, x1, some (.ref a), x3] (.ref a :: st) h := jq_nx (jv_insR jm_0 dL_law_647) rfl
theorem e0_648 : jv_ev d 0 648 [some (.ref a), x1, x2, x3] st h = jv_ev d 0 649 [some (.ref a), x1, x2, x3] (.ref a :: st) h := jq_nx (jv_insR jm_0 dL_law_648) rfl
theorem e0_649 : jv_ev d 0 649 [x0, x1, x2, some (.int v)] st h = jv_ev d 0 650 [x0, x1, x2, some (.int v)] (.int v :: st) h := jq_nx (jv_insR jm_0 dL_law_649) rfl
theorem e0_650 : jv_ev d 0 650 lc st h = jv_ev d 0 651 lc (.int 1 :: st) h := jq_iconst (jv_insR jm_0 dL_law_650) (by decide)
theorem e0_651 : jv_ev d 0 651 lc (.int w :: .int v :: st) h = jv_ev d 0 652 lc (.int (v + w) :: st) h := jq_nx (jv_insR jm_0 dL_law_651) rfl
theorem e0_652 : jv_ev d 0 652 lc (.int v :: .ref a :: st) h = (jv_ig h a 0 0 v).bind fun w => jv_ev d 0 653 lc (.int w :: st) h := jq_iald (jv_insR jm_0 dL_law_652)
theorem e0_653 : jv_ev d 0 653 lc [z0, .ref b, y0] h = (jv_rc h b [(0, 66)]).bind fun y => (jv_cd d y [.ref b, z0] h).bind fun r => jv_on r (fun v h => jv_ev d 0 656 lc (v.toList ++ [y0]) h) (fun q h => some (.inr q, h)) := jq_V (as := [z0]) (rest := [y0]) (jv_insR jm_0 dL_law_653) jo_0 jV_0_71 rfl rfl rfl rfl
theorem e0_656 : jv_ev d 0 656 lc (.int w :: .int v :: st) h = if v = w then jv_ev d 0 1482 lc st h else jv_ev d 0 659 lc st h := jq_if (jv_insR jm_0 dL_law_656) rfl (by decide)
theorem e0_659 : jv_ev d 0 659 lc st h = jv_ev d 0 660 lc (.int 0 :: st) h := jq_iconst (jv_insR jm_0 dL_law_659) (by decide)
theorem e0_660 : jv_ev d 0 660 lc [.int v] h = if narrow .boolean (.int v) = .int v then some (.inl (some (.int v)), h) else none := jq_ret (jv_insR jm_0 dL_law_660) jr_0 (by decide)
theorem e0_661 : jv_ev d 0 661 [x0, some (.ref a), x2, x3] st h = jv_ev d 0 662 [x0, some (.ref a), x2, x3] (.ref a :: st) h := jq_nx (jv_insR jm_0 dL_law_661) rfl
theorem e0_662 : jv_ev d 0 662 lc [.ref b] h = (jv_rc h b [(1, 141)]).bind fun y => (jv_cd d y [.ref b] h).bind fun r => jv_on r (fun v h => jv_ev d 0 665 lc (v.toList ++ []) h) (fun q h => some (.inr q, h)) := jq_V (as := []) (rest := []) (jv_insR jm_0 dL_law_662) jo_0 jV_0_72 rfl rfl rfl rfl
theorem e0_665 : jv_ev d 0 665 [x0, x1, some (.ref a), x3] st h = jv_ev d 0 666 [x0, x1, some (.ref a), x3] (.ref a :: st) h := jq_nx (jv_insR jm_0 dL_law_665) rfl
theorem e0_666 : jv_ev d 0 666 lc [.ref b, y0] h = (jv_rc h b [(0, 72)]).bind fun y => (jv_cd d y [.ref b] h).bind fun r => jv_on r (fun v h => jv_ev d 0 669 lc (v.toList ++ [y0]) h) (fun q h => some (.inr q, h)) := jq_V (as := []) (rest := [y0]) (jv_insR jm_0 dL_law_666) jo_0 jV_0_76 rfl rfl rfl rfl
theorem e0_669 : jv_ev d 0 669 lc (.int w :: .int v :: st) h = if v = w then jv_ev d 0 1482 lc st h else jv_ev d 0 672 lc st h := jq_if (jv_insR jm_0 dL_law_669) rfl (by decide)
theorem e0_672 : jv_ev d 0 672 lc st h = jv_ev d 0 673 lc (.int 0 :: st) h := jq_iconst (jv_insR jm_0 dL_law_672) (by decide)
theorem e0_673 : jv_ev d 0 673 lc [.int v] h = if narrow .boolean (.int v) = .int v then some (.inl (some (.int v)), h) else none := jq_ret (jv_insR jm_0 dL_law_673) jr_0 (by decide)
theorem e0_674 : jv_ev d 0 674 [x0, some (.ref a), x2, x3] st h = jv_ev d 0 675 [x0, some (.ref a), x2, x3] (.ref a :: st) h := jq_nx (jv_insR jm_0 dL_law_674) rfl
theorem e0_675 : jv_ev d 0 675 [some (.ref a), x1, x2, x3] st h = jv_ev d 0 676 [some (.ref a), x1, x2, x3] (.ref a :: st) h := jq_nx (jv_insR jm_0 dL_law_675) rfl
theorem e0_676 : jv_ev d 0 676 [x0, x1, x2, some (.int v)] st h = jv_ev d 0 677 [x0, x1, x2, some (.int v)] (.int v :: st) h := jq_nx (jv_insR jm_0 dL_law_676) rfl
theorem e0_677 : jv_ev d 0 677 lc st h = jv_ev d 0 678 lc (.int 1 :: st) h := jq_iconst (jv_insR jm_0 dL_law_677) (by decide)
theorem e0_678 : jv_ev d 0 678 lc (.int w :: .int v :: st) h = jv_ev d 0 679 lc (.int (v + w) :: st) h := jq_nx (jv_insR jm_0 dL_law_678) rfl
theorem e0_679 : jv_ev d 0 679 lc (.int v :: .ref a :: st) h = (jv_ig h a 0 0 v).bind fun w => jv_ev d 0 680 lc (.int w :: st) h := jq_iald (jv_insR jm_0 dL_law_679)
theorem e0_680 : jv_ev d 0 680 [some (.ref a), x1, x2, x3] st h = jv_ev d 0 681 [some (.ref a), x1, x2, x3] (.ref a :: st) h := jq_nx (jv_insR jm_0 dL_law_680) rfl
theorem e0_681 : jv_ev d 0 681 [x0, x1, x2, some (.int v)] st h = jv_ev d 0 682 [x0, x1, x2, some (.int v)] (.int v :: st) h := jq_nx (jv_insR jm_0 dL_law_681) rfl
theorem e0_682 : jv_ev d 0 682 lc st h = jv_ev d 0 683 lc (.int 2 :: st) h := jq_iconst (jv_insR jm_0 dL_law_682) (by decide)
theorem e0_683 : jv_ev d 0 683 lc (.int w :: .int v :: st) h = jv_ev d 0 684 lc (.int (v + w) :: st) h := jq_nx (jv_insR jm_0 dL_law_683) rfl
theorem e0_684 : jv_ev d 0 684 lc (.int v :: .ref a :: st) h = (jv_ig h a 0 0 v).bind fun w => jv_ev d 0 685 lc (.int w :: st) h := jq_iald (jv_insR jm_0 dL_law_684)
theorem e0_685 : jv_ev d 0 685 [some (.ref a), x1, x2, x3] st h = jv_ev d 0 686 [some (.ref a), x1, x2, x3] (.ref a :: st) h := jq_nx (jv_insR jm_0 dL_law_685) rfl
theorem e0_686 : jv_ev d 0 686 [x0, x1, x2, some (.int v)] st h = jv_ev d 0 687 [x0, x1, x2, some (.int v)] (.int v :: st) h := jq_nx (jv_insR jm_0 dL_law_686) rfl
theorem e0_687 : jv_ev d 0 687 lc st h = jv_ev d 0 688 lc (.int 3 :: st) h := jq_iconst (jv_insR jm_0 dL_law_687) (by decide)
theorem e0_688 : jv_ev d 0 688 lc (.int w :: .int v :: st) h = jv_ev d 0 689 lc (.int (v + w) :: st) h := jq_nx (jv_insR jm_0 dL_law_688) rfl
theorem e0_689 : jv_ev d 0 689 lc (.int v :: .ref a :: st) h = (jv_ig h a 0 0 v).bind fun w => jv_ev d 0 690 lc (.int w :: st) h := jq_iald (jv_insR jm_0 dL_law_689)
theorem e0_690 : jv_ev d 0 690 [some (.ref a), x1, x2, x3] st h = jv_ev d 0 691 [some (.ref a), x1, x2, x3] (.ref a :: st) h := jq_nx (jv_insR jm_0 dL_law_690) rfl
theorem e0_691 : jv_ev d 0 691 [x0, x1, x2, some (.int v)] st h = jv_ev d 0 692 [x0, x1, x2, some (.int v)] (.int v :: st) h := jq_nx (jv_insR jm_0 dL_law_691) rfl
theorem e0_692 : jv_ev d 0 692 lc st h = jv_ev d 0 693 lc (.int 4 :: st) h := jq_iconst (jv_insR jm_0 dL_law_692) (by decide)
theorem e0_693 : jv_ev d 0 693 lc (.int w :: .int v :: st) h = jv_ev d 0 694 lc (.int (v + w) :: st) h := jq_nx (jv_insR jm_0 dL_law_693) rfl
theorem e0_694 : jv_ev d 0 694 lc (.int v :: .ref a :: st) h = (jv_ig h a 0 0 v).bind fun w => jv_ev d 0 695 lc (.int w :: st) h := jq_iald (jv_insR jm_0 dL_law_694)
theorem e0_695 : jv_ev d 0 695 lc (.int v :: st) h = if v = 0 then jv_ev d 0 702 lc st h else jv_ev d 0 698 lc st h := jq_if (jv_insR jm_0 dL_law_695) rfl (by decide)
theorem e0_698 : jv_ev d 0 698 lc st h = jv_ev d 0 699 lc (.int 1 :: st) h := jq_iconst (jv_insR jm_0 dL_law_698) (by decide)
theorem e0_699 : jv_ev d 0 699 lc st h = jv_ev d 0 703 lc st h := jq_go (jv_insR jm_0 dL_law_699) (by decide)
theorem e0_702 : jv_ev d 0 702 lc st h = jv_ev d 0 703 lc (.int 0 :: st) h := jq_iconst (jv_insR jm_0 dL_law_702) (by decide)
theorem e0_703 : jv_ev d 0 703 lc [z3, z2, z1, z0, .ref b] h = (jv_rc h b [(1, 142)]).bind fun y => (jv_cd d y [.ref b, z0, z1, z2, z3] h).bind fun r => jv_on r (fun v h => jv_ev d 0 706 lc (v.toList ++ []) h) (fun q h => some (.inr q, h)) := jq_V (as := [z0, z1, z2, z3]) (rest := []) (jv_insR jm_0 dL_law_703) jo_0 jV_0_77 rfl rfl rfl rfl
theorem e0_706 : jv_ev d 0 706 [x0, x1, some (.ref a), x3] st h = jv_ev d 0 707 [x0, x1, some (.ref a), x3] (.ref a :: st) h := jq_nx (jv_insR jm_0 dL_law_706) rfl
theorem e0_707 : jv_ev d 0 707 [some (.ref a), x1, x2, x3] st h = jv_ev d 0 708 [some (.ref a), x1, x2, x3] (.ref a :: st) h := jq_nx (jv_insR jm_0 dL_law_707) rfl
theorem e0_708 : jv_ev d 0 708 [x0, x1, x2, some (.int v)] st h = jv_ev d 0 709 [x0, x1, x2, some (.int v)] (.int v :: st) h := jq_nx (jv_insR jm_0 dL_law_708) rfl
theorem e0_709 : jv_ev d 0 709 lc st h = jv_ev d 0 710 lc (.int 1 :: st) h := jq_iconst (jv_insR jm_0 dL_law_709) (by decide)
theorem e0_710 : jv_ev d 0 710 lc (.int w :: .int v :: st) h = jv_ev d 0 711 lc (.int (v + w) :: st) h := jq_nx (jv_insR jm_0 dL_law_710) rfl
theorem e0_711 : jv_ev d 0 711 lc (.int v :: .ref a :: st) h = (jv_ig h a 0 0 v).bind fun w => jv_ev d 0 712 lc (.int w :: st) h := jq_iald (jv_insR jm_0 dL_law_711)
theorem e0_712 : jv_ev d 0 712 [some (.ref a), x1, x2, x3] st h = jv_ev d 0 713 [some (.ref a), x1, x2, x3] (.ref a :: st) h := jq_nx (jv_insR jm_0 dL_law_712) rfl
theorem e0_713 : jv_ev d 0 713 [x0, x1, x2, some (.int v)] st h = jv_ev d 0 714 [x0, x1, x2, some (.int v)] (.int v :: st) h := jq_nx (jv_insR jm_0 dL_law_713) rfl
theorem e0_714 : jv_ev d 0 714 lc st h = jv_ev d 0 715 lc (.int 2 :: st) h := jq_iconst (jv_insR jm_0 dL_law_714) (by decide)
theorem e0_715 : jv_ev d 0 715 lc (.int w :: .int v :: st) h = jv_ev d 0 716 lc (.int (v + w) :: st) h := jq_nx (jv_insR jm_0 dL_law_715) rfl
theorem e0_716 : jv_ev d 0 716 lc (.int v :: .ref a :: st) h = (jv_ig h a 0 0 v).bind fun w => jv_ev d 0 717 lc (.int w :: st) h := jq_iald (jv_insR jm_0 dL_law_716)
theorem e0_717 : jv_ev d 0 717 [some (.ref a), x1, x2, x3] st h = jv_ev d 0 718 [some (.ref a), x1, x2, x3] (.ref a :: st) h := jq_nx (jv_insR jm_0 dL_law_717) rfl
theorem e0_718 : jv_ev d 0 718 [x0, x1, x2, some (.int v)] st h = jv_ev d 0 719 [x0, x1, x2, some (.int v)] (.int v :: st) h := jq_nx (jv_insR jm_0 dL_law_718) rfl
theorem e0_719 : jv_ev d 0 719 lc st h = jv_ev d 0 720 lc (.int 3 :: st) h := jq_iconst (jv_insR jm_0 dL_law_719) (by decide)
theorem e0_720 : jv_ev d 0 720 lc (.int w :: .int v :: st) h = jv_ev d 0 721 lc (.int (v + w) :: st) h := jq_nx (jv_insR jm_0 dL_law_720) rfl
theorem e0_721 : jv_ev d 0 721 lc (.int v :: .ref a :: st) h = (jv_ig h a 0 0 v).bind fun w => jv_ev d 0 722 lc (.int w :: st) h := jq_iald (jv_insR jm_0 dL_law_721)
theorem e0_722 : jv_ev d 0 722 [some (.ref a), x1, x2, x3] st h = jv_ev d 0 723 [some (.ref a), x1, x2, x3] (.ref a :: st) h := jq_nx (jv_insR jm_0 dL_law_722) rfl
theorem e0_723 : jv_ev d 0 723 [x0, x1, x2, some (.int v)] st h = jv_ev d 0 724 [x0, x1, x2, some (.int v)] (.int v :: st) h := jq_nx (jv_insR jm_0 dL_law_723) rfl
theorem e0_724 : jv_ev d 0 724 lc st h = jv_ev d 0 725 lc (.int 4 :: st) h := jq_iconst (jv_insR jm_0 dL_law_724) (by decide)
theorem e0_725 : jv_ev d 0 725 lc (.int w :: .int v :: st) h = jv_ev d 0 726 lc (.int (v + w) :: st) h := jq_nx (jv_insR jm_0 dL_law_725) rfl
theorem e0_726 : jv_ev d 0 726 lc (.int v :: .ref a :: st) h = (jv_ig h a 0 0 v).bind fun w => jv_ev d 0 727 lc (.int w :: st) h := jq_iald (jv_insR jm_0 dL_law_726)
theorem e0_727 : jv_ev d 0 727 lc (.int v :: st) h = if v = 0 then jv_ev d 0 734 lc st h else jv_ev d 0 730 lc st h := jq_if (jv_insR jm_0 dL_law_727) rfl (by decide)
theorem e0_730 : jv_ev d 0 730 lc st h = jv_ev d 0 731 lc (.int 1 :: st) h := jq_iconst (jv_insR jm_0 dL_law_730) (by decide)
theorem e0_731 : jv_ev d 0 731 lc st h = jv_ev d 0 735 lc st h := jq_go (jv_insR jm_0 dL_law_731) (by decide)
theorem e0_734 : jv_ev d 0 734 lc st h = jv_ev d 0 735 lc (.int 0 :: st) h := jq_iconst (jv_insR jm_0 dL_law_734) (by decide)
theorem e0_735 : jv_ev d 0 735 lc [z3, z2, z1, z0, .ref b, y0] h = (jv_rc h b [(0, 73)]).bind fun y => (jv_cd d y [.ref b, z0, z1, z2, z3] h).bind fun r => jv_on r (fun v h => jv_ev d 0 738 lc (v.toList ++ [y0]) h) (fun q h => some (.inr q, h)) := jq_V (as := [z0, z1, z2, z3]) (rest := [y0]) (jv_insR jm_0 dL_law_735) jo_0 jV_0_81 rfl rfl rfl rfl
theorem e0_738 : jv_ev d 0 738 lc (.int w :: .int v :: st) h = if v = w then jv_ev d 0 1482 lc st h else jv_ev d 0 741 lc st h := jq_if (jv_insR jm_0 dL_law_738) rfl (by decide)
theorem e0_741 : jv_ev d 0 741 lc st h = jv_ev d 0 742 lc (.int 0 :: st) h := jq_iconst (jv_insR jm_0 dL_law_741) (by decide)
theorem e0_742 : jv_ev d 0 742 lc [.int v] h = if narrow .boolean (.int v) = .int v then some (.inl (some (.int v)), h) else none := jq_ret (jv_insR jm_0 dL_law_742) jr_0 (by decide)
theorem e0_743 : jv_ev d 0 743 [x0, some (.ref a), x2, x3] st h = jv_ev d 0 744 [x0, some (.ref a), x2, x3] (.ref a :: st) h := jq_nx (jv_insR jm_0 dL_law_743) rfl
theorem e0_744 : jv_ev d 0 744 [some (.ref a), x1, x2, x3] st h = jv_ev d 0 745 [some (.ref a), x1, x2, x3] (.ref a :: st) h := jq_nx (jv_insR jm_0 dL_law_744) rfl
theorem e0_745 : jv_ev d 0 745 [x0, x1, x2, some (.int v)] st h = jv_ev d 0 746 [x0, x1, x2, some (.int v)] (.int v :: st) h := jq_nx (jv_insR jm_0 dL_law_745) rfl
theorem e0_746 : jv_ev d 0 746 lc st h = jv_ev d 0 747 lc (.int 1 :: st) h := jq_iconst (jv_insR jm_0 dL_law_746) (by decide)
theorem e0_747 : jv_ev d 0 747 lc (.int w :: .int v :: st) h = jv_ev d 0 748 lc (.int (v + w) :: st) h := jq_nx (jv_insR jm_0 dL_law_747) rfl
theorem e0_748 : jv_ev d 0 748 lc (.int v :: .ref a :: st) h = (jv_ig h a 0 0 v).bind fun w => jv_ev d 0 749 lc (.int w :: st) h := jq_iald (jv_insR jm_0 dL_law_748)
theorem e0_749 : jv_ev d 0 749 [some (.ref a), x1, x2, x3] st h = jv_ev d 0 750 [some (.ref a), x1, x2, x3] (.ref a :: st) h := jq_nx (jv_insR jm_0 dL_law_749) rfl
theorem e0_750 : jv_ev d 0 750 [x0, x1, x2, some (.int v)] st h = jv_ev d 0 751 [x0, x1, x2, some (.int v)] (.int v :: st) h := jq_nx (jv_insR jm_0 dL_law_750) rfl
theorem e0_751 : jv_ev d 0 751 lc st h = jv_ev d 0 752 lc (.int 2 :: st) h := jq_iconst (jv_insR jm_0 dL_law_751) (by decide)
theorem e0_752 : jv_ev d 0 752 lc (.int w :: .int v :: st) h = jv_ev d 0 753 lc (.int (v + w) :: st) h := jq_nx (jv_insR jm_0 dL_law_752) rfl
theorem e0_753 : jv_ev d 0 753 lc (.int v :: .ref a :: st) h = (jv_ig h a 0 0 v).bind fun w => jv_ev d 0 754 lc (.int w :: st) h := jq_iald (jv_insR jm_0 dL_law_753)
theorem e0_754 : jv_ev d 0 754 [some (.ref a), x1, x2, x3] st h = jv_ev d 0 755 [some (.ref a), x1, x2, x3] (.ref a :: st) h := jq_nx (jv_insR jm_0 dL_law_754) rfl
theorem e0_755 : jv_ev d 0 755 [x0, x1, x2, some (.int v)] st h = jv_ev d 0 756 [x0, x1, x2, some (.int v)] (.int v :: st) h := jq_nx (jv_insR jm_0 dL_law_755) rfl
theorem e0_756 : jv_ev d 0 756 lc st h = jv_ev d 0 757 lc (.int 3 :: st) h := jq_iconst (jv_insR jm_0 dL_law_756) (by decide)
theorem e0_757 : jv_ev d 0 757 lc (.int w :: .int v :: st) h = jv_ev d 0 758 lc (.int (v + w) :: st) h := jq_nx (jv_insR jm_0 dL_law_757) rfl
theorem e0_758 : jv_ev d 0 758 lc (.int v :: .ref a :: st) h = (jv_ig h a 0 0 v).bind fun w => jv_ev d 0 759 lc (.int w :: st) h := jq_iald (jv_insR jm_0 dL_law_758)
theorem e0_759 : jv_ev d 0 759 lc [z2, z1, z0, .ref b] h = (jv_rc h b [(1, 144)]).bind fun y => (jv_cd d y [.ref b, z0, z1, z2] h).bind fun r => jv_on r (fun v h => jv_ev d 0 762 lc (v.toList ++ []) h) (fun q h => some (.inr q, h)) := jq_V (as := [z0, z1, z2]) (rest := []) (jv_insR jm_0 dL_law_759) jo_0 jV_0_82 rfl rfl rfl rfl
theorem e0_762 : jv_ev d 0 762 [x0, x1, some (.ref a), x3] st h = jv_ev d 0 763 [x0, x1, some (.ref a), x3] (.ref a :: st) h := jq_nx (jv_insR jm_0 dL_law_762) rfl
theorem e0_763 : jv_ev d 0 763 [some (.ref a), x1, x2, x3] st h = jv_ev d 0 764 [some (.ref a), x1, x2, x3] (.ref a :: st) h := jq_nx (jv_insR jm_0 dL_law_763) rfl
theorem e0_764 : jv_ev d 0 764 [x0, x1, x2, some (.int v)] st h = jv_ev d 0 765 [x0, x1, x2, some (.int v)] (.int v :: st) h := jq_nx (jv_insR jm_0 dL_law_764) rfl
theorem e0_765 : jv_ev d 0 765 lc st h = jv_ev d 0 766 lc (.int 1 :: st) h := jq_iconst (jv_insR jm_0 dL_law_765) (by decide)
theorem e0_766 : jv_ev d 0 766 lc (.int w :: .int v :: st) h = jv_ev d 0 767 lc (.int (v + w) :: st) h := jq_nx (jv_insR jm_0 dL_law_766) rfl
theorem e0_767 : jv_ev d 0 767 lc (.int v :: .ref a :: st) h = (jv_ig h a 0 0 v).bind fun w => jv_ev d 0 768 lc (.int w :: st) h := jq_iald (jv_insR jm_0 dL_law_767)
theorem e0_768 : jv_ev d 0 768 [some (.ref a), x1, x2, x3] st h = jv_ev d 0 769 [some (.ref a), x1, x2, x3] (.ref a :: st) h := jq_nx (jv_insR jm_0 dL_law_768) rfl
theorem e0_769 : jv_ev d 0 769 [x0, x1, x2, some (.int v)] st h = jv_ev d 0 770 [x0, x1, x2, some (.int v)] (.int v :: st) h := jq_nx (jv_insR jm_0 dL_law_769) rfl
theorem e0_770 : jv_ev d 0 770 lc st h = jv_ev d 0 771 lc (.int 2 :: st) h := jq_iconst (jv_insR jm_0 dL_law_770) (by decide)
theorem e0_771 : jv_ev d 0 771 lc (.int w :: .int v :: st) h = jv_ev d 0 772 lc (.int (v + w) :: st) h := jq_nx (jv_insR jm_0 dL_law_771) rfl
theorem e0_772 : jv_ev d 0 772 lc (.int v :: .ref a :: st) h = (jv_ig h a 0 0 v).bind fun w => jv_ev d 0 773 lc (.int w :: st) h := jq_iald (jv_insR jm_0 dL_law_772)
theorem e0_773 : jv_ev d 0 773 [some (.ref a), x1, x2, x3] st h = jv_ev d 0 774 [some (.ref a), x1, x2, x3] (.ref a :: st) h := jq_nx (jv_insR jm_0 dL_law_773) rfl
theorem e0_774 : jv_ev d 0 774 [x0, x1, x2, some (.int v)] st h = jv_ev d 0 775 [x0, x1, x2, some (.int v)] (.int v :: st) h := jq_nx (jv_insR jm_0 dL_law_774) rfl
theorem e0_775 : jv_ev d 0 775 lc st h = jv_ev d 0 776 lc (.int 3 :: st) h := jq_iconst (jv_insR jm_0 dL_law_775) (by decide)
theorem e0_776 : jv_ev d 0 776 lc (.int w :: .int v :: st) h = jv_ev d 0 777 lc (.int (v + w) :: st) h := jq_nx (jv_insR jm_0 dL_law_776) rfl
theorem e0_777 : jv_ev d 0 777 lc (.int v :: .ref a :: st) h = (jv_ig h a 0 0 v).bind fun w => jv_ev d 0 778 lc (.int w :: st) h := jq_iald (jv_insR jm_0 dL_law_777)
theorem e0_778 : jv_ev d 0 778 lc [z2, z1, z0, .ref b, y0] h = (jv_rc h b [(0, 75)]).bind fun y => (jv_cd d y [.ref b, z0, z1, z2] h).bind fun r => jv_on r (fun v h => jv_ev d 0 781 lc (v.toList ++ [y0]) h) (fun q h => some (.inr q, h)) := jq_V (as := [z0, z1, z2]) (rest := [y0]) (jv_insR jm_0 dL_law_778) jo_0 jV_0_85 rfl rfl rfl rfl
theorem e0_781 : jv_ev d 0 781 lc (.int w :: .int v :: st) h = if v = w then jv_ev d 0 1482 lc st h else jv_ev d 0 784 lc st h := jq_if (jv_insR jm_0 dL_law_781) rfl (by decide)
theorem e0_784 : jv_ev d 0 784 lc st h = jv_ev d 0 785 lc (.int 0 :: st) h := jq_iconst (jv_insR jm_0 dL_law_784) (by decide)
theorem e0_785 : jv_ev d 0 785 lc [.int v] h = if narrow .boolean (.int v) = .int v then some (.inl (some (.int v)), h) else none := jq_ret (jv_insR jm_0 dL_law_785) jr_0 (by decide)
theorem e0_786 : jv_ev d 0 786 [x0, some (.ref a), x2, x3] st h = jv_ev d 0 787 [x0, some (.ref a), x2, x3] (.ref a :: st) h := jq_nx (jv_insR jm_0 dL_law_786) rfl
theorem e0_787 : jv_ev d 0 787 [some (.ref a), x1, x2, x3] st h = jv_ev d 0 788 [some (.ref a), x1, x2, x3] (.ref a :: st) h := jq_nx (jv_insR jm_0 dL_law_787) rfl
theorem e0_788 : jv_ev d 0 788 [x0, x1, x2, some (.int v)] st h = jv_ev d 0 789 [x0, x1, x2, some (.int v)] (.int v :: st) h := jq_nx (jv_insR jm_0 dL_law_788) rfl
theorem e0_789 : jv_ev d 0 789 lc st h = jv_ev d 0 790 lc (.int 1 :: st) h := jq_iconst (jv_insR jm_0 dL_law_789) (by decide)
theorem e0_790 : jv_ev d 0 790 lc (.int w :: .int v :: st) h = jv_ev d 0 791 lc (.int (v + w) :: st) h := jq_nx (jv_insR jm_0 dL_law_790) rfl
theorem e0_791 : jv_ev d 0 791 lc (.int v :: .ref a :: st) h = (jv_ig h a 0 0 v).bind fun w => jv_ev d 0 792 lc (.int w :: st) h := jq_iald (jv_insR jm_0 dL_law_791)
theorem e0_792 : jv_ev d 0 792 lc [z0, .ref b] h = (jv_rc h b [(1, 147)]).bind fun y => (jv_cd d y [.ref b, z0] h).bind fun r => jv_on r (fun v h => jv_ev d 0 795 lc (v.toList ++ []) h) (fun q h => some (.inr q, h)) := jq_V (as := [z0]) (rest := []) (jv_insR jm_0 dL_law_792) jo_0 jV_0_86 rfl rfl rfl rfl
theorem e0_795 : jv_ev d 0 795 [x0, x1, some (.ref a), x3] st h = jv_ev d 0 796 [x0, x1, some (.ref a), x3] (.ref a :: st) h := jq_nx (jv_insR jm_0 dL_law_795) rfl
theorem e0_796 : jv_ev d 0 796 [some (.ref a), x1, x2, x3] st h = jv_ev d 0 797 [some (.ref a), x1, x2, x3] (.ref a :: st) h := jq_nx (jv_insR jm_0 dL_law_796) rfl
theorem e0_797 : jv_ev d 0 797 [x0, x1, x2, some (.int v)] st h = jv_ev d 0 798 [x0, x1, x2, some (.int v)] (.int v :: st) h := jq_nx (jv_insR jm_0 dL_law_797) rfl
theorem e0_798 : jv_ev d 0 798 lc st h = jv_ev d 0 799 lc (.int 1 :: st) h := jq_iconst (jv_insR jm_0 dL_law_798) (by decide)
theorem e0_799 : jv_ev d 0 799 lc (.int w :: .int v :: st) h = jv_ev d 0 800 lc (.int (v + w) :: st) h := jq_nx (jv_insR jm_0 dL_law_799) rfl
theorem e0_800 : jv_ev d 0 800 lc (.int v :: .ref a :: st) h = (jv_ig h a 0 0 v).bind fun w => jv_ev d 0 801 lc (.int w :: st) h := jq_iald (jv_insR jm_0 dL_law_800)
theorem e0_801 : jv_ev d 0 801 lc [z0, .ref b, y0] h = (jv_rc h b [(0, 76)]).bind fun y => (jv_cd d y [.ref b, z0] h).bind fun r => jv_on r (fun v h => jv_ev d 0 804 lc (v.toList ++ [y0]) h) (fun q h => some (.inr q, h)) := jq_V (as := [z0]) (rest := [y0]) (jv_insR jm_0 dL_law_801) jo_0 jV_0_89 rfl rfl rfl rfl
theorem e0_804 : jv_ev d 0 804 lc (.int w :: .int v :: st) h = if v = w then jv_ev d 0 1482 lc st h else jv_ev d 0 807 lc st h := jq_if (jv_insR jm_0 dL_law_804) rfl (by decide)
theorem e0_807 : jv_ev d 0 807 lc st h = jv_ev d 0 808 lc (.int 0 :: st) h := jq_iconst (jv_insR jm_0 dL_law_807) (by decide)
theorem e0_808 : jv_ev d 0 808 lc [.int v] h = if narrow .boolean (.int v) = .int v then some (.inl (some (.int v)), h) else none := jq_ret (jv_insR jm_0 dL_law_808) jr_0 (by decide)
theorem e0_809 : jv_ev d 0 809 [x0, some (.ref a), x2, x3] st h = jv_ev d 0 810 [x0, some (.ref a), x2, x3] (.ref a :: st) h := jq_nx (jv_insR jm_0 dL_law_809) rfl
theorem e0_810 : jv_ev d 0 810 [some (.ref a), x1, x2, x3] st h = jv_ev d 0 811 [some (.ref a), x1, x2, x3] (.ref a :: st) h := jq_nx (jv_insR jm_0 dL_law_810) rfl
theorem e0_811 : jv_ev d 0 811 [x0, x1, x2, some (.int v)] st h = jv_ev d 0 812 [x0, x1, x2, some (.int v)] (.int v :: st) h := jq_nx (jv_insR jm_0 dL_law_811) rfl
theorem e0_812 : jv_ev d 0 812 lc st h = jv_ev d 0 813 lc (.int 1 :: st) h := jq_iconst (jv_insR jm_0 dL_law_812) (by decide)
theorem e0_813 : jv_ev d 0 813 lc (.int w :: .int v :: st) h = jv_ev d 0 814 lc (.int (v + w) :: st) h := jq_nx (jv_insR jm_0 dL_law_813) rfl
theorem e0_814 : jv_ev d 0 814 lc (.int v :: .ref a :: st) h = (jv_ig h a 0 0 v).bind fun w => jv_ev d 0 815 lc (.int w :: st) h := jq_iald (jv_insR jm_0 dL_law_814)
theorem e0_815 : jv_ev d 0 815 [some (.ref a), x1, x2, x3] st h = jv_ev d 0 816 [some (.ref a), x1, x2, x3] (.ref a :: st) h := jq_nx (jv_insR jm_0 dL_law_815) rfl
theorem e0_816 : jv_ev d 0 816 [x0, x1, x2, some (.int v)] st h = jv_ev d 0 817 [x0, x1, x2, some (.int v)] (.int v :: st) h := jq_nx (jv_insR jm_0 dL_law_816) rfl
theorem e0_817 : jv_ev d 0 817 lc st h = jv_ev d 0 818 lc (.int 2 :: st) h := jq_iconst (jv_insR jm_0 dL_law_817) (by decide)
theorem e0_818 : jv_ev d 0 818 lc (.int w :: .int v :: st) h = jv_ev d 0 819 lc (.int (v + w) :: st) h := jq_nx (jv_insR jm_0 dL_law_818) rfl
theorem e0_819 : jv_ev d 0 819 lc (.int v :: .ref a :: st) h = (jv_ig h a 0 0 v).bind fun w => jv_ev d 0 820 lc (.int w :: st) h := jq_iald (jv_insR jm_0 dL_law_819)
theorem e0_820 : jv_ev d 0 820 lc [z1, z0, .ref b] h = (jv_rc h b [(1, 145)]).bind fun y => (jv_cd d y [.ref b, z0, z1] h).bind fun r => jv_on r (fun v h => jv_ev d 0 823 lc (v.toList ++ []) h) (fun q h => some (.inr q, h)) := jq_V (as := [z0, z1]) (rest := []) (jv_insR jm_0 dL_law_820) jo_0 jV_0_90 rfl rfl rfl rfl
theorem e0_823 : jv_ev d 0 823 [x0, x1, some (.ref a), x3] st h = jv_ev d 0 824 [x0, x1, some (.ref a), x3] (.ref a :: st) h := jq_nx (jv_insR jm_0 dL_law_823) rfl
theorem e0_824 : jv_ev d 0 824 [some (.ref a), x1, x2, x3] st h = jv_ev d 0 825 [some (.ref a), x1, x2, x3] (.ref a :: st) h := jq_nx (jv_insR jm_0 dL_law_824) rfl
theorem e0_825 : jv_ev d 0 825 [x0, x1, x2, some (.int v)] st h = jv_ev d 0 826 [x0, x1, x2, some (.int v)] (.int v :: st) h := jq_nx (jv_insR jm_0 dL_law_825) rfl
theorem e0_826 : jv_ev d 0 826 lc st h = jv_ev d 0 827 lc (.int 1 :: st) h := jq_iconst (jv_insR jm_0 dL_law_826) (by decide)
theorem e0_827 : jv_ev d 0 827 lc (.int w :: .int v :: st) h = jv_ev d 0 828 lc (.int (v + w) :: st) h := jq_nx (jv_insR jm_0 dL_law_827) rfl
theorem e0_828 : jv_ev d 0 828 lc (.int v :: .ref a :: st) h = (jv_ig h a 0 0 v).bind fun w => jv_ev d 0 829 lc (.int w :: st) h := jq_iald (jv_insR jm_0 dL_law_828)
theorem e0_829 : jv_ev d 0 829 [some (.ref a), x1, x2, x3] st h = jv_ev d 0 830 [some (.ref a), x1, x2, x3] (.ref a :: st) h := jq_nx (jv_insR jm_0 dL_law_829) rfl
theorem e0_830 : jv_ev d 0 830 [x0, x1, x2, some (.int v)] st h = jv_ev d 0 831 [x0, x1, x2, some (.int v)] (.int v :: st) h := jq_nx (jv_insR jm_0 dL_law_830) rfl
theorem e0_831 : jv_ev d 0 831 lc st h = jv_ev d 0 832 lc (.int 2 :: st) h := jq_iconst (jv_insR jm_0 dL_law_831) (by decide)
theorem e0_832 : jv_ev d 0 832 lc (.int w :: .int v :: st) h = jv_ev d 0 833 lc (.int (v + w) :: st) h := jq_nx (jv_insR jm_0 dL_law_832) rfl
theorem e0_833 : jv_ev d 0 833 lc (.int v :: .ref a :: st) h = (jv_ig h a 0 0 v).bind fun w => jv_ev d 0 834 lc (.int w :: st) h := jq_iald (jv_insR jm_0 dL_law_833)
theorem e0_834 : jv_ev d 0 834 lc [z1, z0, .ref b, y0] h = (jv_rc h b [(0, 78)]).bind fun y => (jv_cd d y [.ref b, z0, z1] h).bind fun r => jv_on r (fun v h => jv_ev d 0 837 lc (v.toList ++ [y0]) h) (fun q h => some (.inr q, h)) := jq_V (as := [z0, z1]) (rest := [y0]) (jv_insR jm_0 dL_law_834) jo_0 jV_0_93 rfl rfl rfl rfl
theorem e0_837 : jv_ev d 0 837 lc (.int w :: .int v :: st) h = if v = w then jv_ev d 0 1482 lc st h else jv_ev d 0 840 lc st h := jq_if (jv_insR jm_0 dL_law_837) rfl (by decide)
theorem e0_840 : jv_ev d 0 840 lc st h = jv_ev d 0 841 lc (.int 0 :: st) h := jq_iconst (jv_insR jm_0 dL_law_840) (by decide)
theorem e0_841 : jv_ev d 0 841 lc [.int v] h = if narrow .boolean (.int v) = .int v then some (.inl (some (.int v)), h) else none := jq_ret (jv_insR jm_0 dL_law_841) jr_0 (by decide)
theorem e0_842 : jv_ev d 0 842 [x0, some (.ref a), x2, x3] st h = jv_ev d 0 843 [x0, some (.ref a), x2, x3] (.ref a :: st) h := jq_nx (jv_insR jm_0 dL_law_842) rfl
theorem e0_843 : jv_ev d 0 843 [some (.ref a), x1, x2, x3] st h = jv_ev d 0 844 [some (.ref a), x1, x2, x3] (.ref a :: st) h := jq_nx (jv_insR jm_0 dL_law_843) rfl
theorem e0_844 : jv_ev d 0 844 [x0, x1, x2, some (.int v)] st h = jv_ev d 0 845 [x0, x1, x2, some (.int v)] (.int v :: st) h := jq_nx (jv_insR jm_0 dL_law_844) rfl
theorem e0_845 : jv_ev d 0 845 lc st h = jv_ev d 0 846 lc (.int 1 :: st) h := jq_iconst (jv_insR jm_0 dL_law_845) (by decide)
theorem e0_846 : jv_ev d 0 846 lc (.int w :: .int v :: st) h = jv_ev d 0 847 lc (.int (v + w) :: st) h := jq_nx (jv_insR jm_0 dL_law_846) rfl
theorem e0_847 : jv_ev d 0 847 lc (.int v :: .ref a :: st) h = (jv_ig h a 0 0 v).bind fun w => jv_ev d 0 848 lc (.int w :: st) h := jq_iald (jv_insR jm_0 dL_law_847)
theorem e0_848 : jv_ev d 0 848 [some (.ref a), x1, x2, x3] st h = jv_ev d 0 849 [some (.ref a), x1, x2, x3] (.ref a :: st) h := jq_nx (jv_insR jm_0 dL_law_848) rfl
theorem e0_849 : jv_ev d 0 849 [x0, x1, x2, some (.int v)] st h = jv_ev d 0 850 [x0, x1, x2, some (.int v)] (.int v :: st) h := jq_nx (jv_insR jm_0 dL_law_849) rfl
theorem e0_850 : jv_ev d 0 850 lc st h = jv_ev d 0 851 lc (.int 2 :: st) h := jq_iconst (jv_insR jm_0 dL_law_850) (by decide)
theorem e0_851 : jv_ev d 0 851 lc (.int w :: .int v :: st) h = jv_ev d 0 852 lc (.int (v + w) :: st) h := jq_nx (jv_insR jm_0 dL_law_851) rfl
theorem e0_852 : jv_ev d 0 852 lc (.int v :: .ref a :: st) h = (jv_ig h a 0 0 v).bind fun w => jv_ev d 0 853 lc (.int w :: st) h := jq_iald (jv_insR jm_0 dL_law_852)
theorem e0_853 : jv_ev d 0 853 [some (.ref a), x1, x2, x3] st h = jv_ev d 0 854 [some (.ref a), x1, x2, x3] (.ref a :: st) h := jq_nx (jv_insR jm_0 dL_law_853) rfl
theorem e0_854 : jv_ev d 0 854 [x0, x1, x2, some (.int v)] st h = jv_ev d 0 855 [x0, x1, x2, some (.int v)] (.int v :: st) h := jq_nx (jv_insR jm_0 dL_law_854) rfl
theorem e0_855 : jv_ev d 0 855 lc st h = jv_ev d 0 856 lc (.int 3 :: st) h := jq_iconst (jv_insR jm_0 dL_law_855) (by decide)
theorem e0_856 : jv_ev d 0 856 lc (.int w :: .int v :: st) h = jv_ev d 0 857 lc (.int (v + w) :: st) h := jq_nx (jv_insR jm_0 dL_law_856) rfl
theorem e0_857 : jv_ev d 0 857 lc (.int v :: .ref a :: st) h = (jv_ig h a 0 0 v).bind fun w => jv_ev d 0 858 lc (.int w :: st) h := jq_iald (jv_insR jm_0 dL_law_857)
theorem e0_858 : jv_ev d 0 858 [some (.ref a), x1, x2, x3] st h = jv_ev d 0 859 [some (.ref a), x1, x2, x3] (.ref a :: st) h := jq_nx (jv_insR jm_0 dL_law_858) rfl
theorem e0_859 : jv_ev d 0 859 [x0, x1, x2, some (.int v)] st h = jv_ev d 0 860 [x0, x1, x2, some (.int v)] (.int v :: st) h := jq_nx (jv_insR jm_0 dL_law_859) rfl
theorem e0_860 : jv_ev d 0 860 lc st h = jv_ev d 0 861 lc (.int 4 :: st) h := jq_iconst (jv_insR jm_0 dL_law_860) (by decide)
theorem e0_861 : jv_ev d 0 861 lc (.int w :: .int v :: st) h = jv_ev d 0 862 lc (.int (v + w) :: st) h := jq_nx (jv_insR jm_0 dL_law_861) rfl
theorem e0_862 : jv_ev d 0 862 lc (.int v :: .ref a :: st) h = (jv_ig h a 0 0 v).bind fun w => jv_ev d 0 863 lc (.int w :: st) h := jq_iald (jv_insR jm_0 dL_law_862)
theorem e0_863 : jv_ev d 0 863 lc [z3, z2, z1, z0, .ref b] h = (jv_rc h b [(1, 149)]).bind fun y => (jv_cd d y [.ref b, z0, z1, z2, z3] h).bind fun r => jv_on r (fun v h => jv_ev d 0 866 lc (v.toList ++ []) h) (fun q h => some (.inr q, h)) := jq_V (as := [z0, z1, z2, z3]) (rest := []) (jv_insR jm_0 dL_law_863) jo_0 jV_0_94 rfl rfl rfl rfl
theorem e0_866 : jv_ev d 0 866 [x0, x1, some (.ref a), x3] st h = jv_ev d 0 867 [x0, x1, some (.ref a), x3] (.ref a :: st) h := jq_nx (jv_insR jm_0 dL_law_866) rfl
theorem e0_867 : jv_ev d 0 867 [some (.ref a), x1, x2, x3] st h = jv_ev d 0 868 [some (.ref a), x1, x2, x3] (.ref a :: st) h := jq_nx (jv_insR jm_0 dL_law_867) rfl
theorem e0_868 : jv_ev d 0 868 [x0, x1, x2, some (.int v)] st h = jv_ev d 0 869 [x0, x1, x2, some (.int v)] (.int v :: st) h := jq_nx (jv_insR jm_0 dL_law_868) rfl
theorem e0_869 : jv_ev d 0 869 lc st h = jv_ev d 0 870 lc (.int 1 :: st) h := jq_iconst (jv_insR jm_0 dL_law_869) (by decide)
theorem e0_870 : jv_ev d 0 870 lc (.int w :: .int v :: st) h = jv_ev d 0 871 lc (.int (v + w) :: st) h := jq_nx (jv_insR jm_0 dL_law_870) rfl
theorem e0_871 : jv_ev d 0 871 lc (.int v :: .ref a :: st) h = (jv_ig h a 0 0 v).bind fun w => jv_ev d 0 872 lc (.int w :: st) h := jq_iald (jv_insR jm_0 dL_law_871)
theorem e0_872 : jv_ev d 0 872 [some (.ref a), x1, x2, x3] st h = jv_ev d 0 873 [some (.ref a), x1, x2, x3] (.ref a :: st) h := jq_nx (jv_insR jm_0 dL_law_872) rfl
theorem e0_873 : jv_ev d 0 873 [x0, x1, x2, some (.int v)] st h = jv_ev d 0 874 [x0, x1, x2, some (.int v)] (.int v :: st) h := jq_nx (jv_insR jm_0 dL_law_873) rfl
theorem e0_874 : jv_ev d 0 874 lc st h = jv_ev d 0 875 lc (.int 2 :: st) h := jq_iconst (jv_insR jm_0 dL_law_874) (by decide)
theorem e0_875 : jv_ev d 0 875 lc (.int w :: .int v :: st) h = jv_ev d 0 876 lc (.int (v + w) :: st) h := jq_nx (jv_insR jm_0 dL_law_875) rfl
theorem e0_876 : jv_ev d 0 876 lc (.int v :: .ref a :: st) h = (jv_ig h a 0 0 v).bind fun w => jv_ev d 0 877 lc (.int w :: st) h := jq_iald (jv_insR jm_0 dL_law_876)
theorem e0_877 : jv_ev d 0 877 [some (.ref a), x1, x2, x3] st h = jv_ev d 0 878 [some (.ref a), x1, x2, x3] (.ref a :: st) h := jq_nx (jv_insR jm_0 dL_law_877) rfl
theorem e0_878 : jv_ev d 0 878 [x0, x1, x2, some (.int v)] st h = jv_ev d 0 879 [x0, x1, x2, some (.int v)] (.int v :: st) h := jq_nx (jv_insR jm_0 dL_law_878) rfl
theorem e0_879 : jv_ev d 0 879 lc st h = jv_ev d 0 880 lc (.int 3 :: st) h := jq_iconst (jv_insR jm_0 dL_law_879) (by decide)
theorem e0_880 : jv_ev d 0 880 lc (.int w :: .int v :: st) h = jv_ev d 0 881 lc (.int (v + w) :: st) h := jq_nx (jv_insR jm_0 dL_law_880) rfl
theorem e0_881 : jv_ev d 0 881 lc (.int v :: .ref a :: st) h = (jv_ig h a 0 0 v).bind fun w => jv_ev d 0 882 lc (.int w :: st) h := jq_iald (jv_insR jm_0 dL_law_881)
theorem e0_882 : jv_ev d 0 882 [some (.ref a), x1, x2, x3] st h = jv_ev d 0 883 [some (.ref a), x1, x2, x3] (.ref a :: st) h := jq_nx (jv_insR jm_0 dL_law_882) rfl
theorem e0_883 : jv_ev d 0 883 [x0, x1, x2, some (.int v)] st h = jv_ev d 0 884 [x0, x1, x2, some (.int v)] (.int v :: st) h := jq_nx (jv_insR jm_0 dL_law_883) rfl
theorem e0_884 : jv_ev d 0 884 lc st h = jv_ev d 0 885 lc (.int 4 :: st) h := jq_iconst (jv_insR jm_0 dL_law_884) (by decide)
theorem e0_885 : jv_ev d 0 885 lc (.int w :: .int v :: st) h = jv_ev d 0 886 lc (.int (v + w) :: st) h := jq_nx (jv_insR jm_0 dL_law_885) rfl
theorem e0_886 : jv_ev d 0 886 lc (.int v :: .ref a :: st) h = (jv_ig h a 0 0 v).bind fun w => jv_ev d 0 887 lc (.int w :: st) h := jq_iald (jv_insR jm_0 dL_law_886)
theorem e0_887 : jv_ev d 0 887 lc [z3, z2, z1, z0, .ref b, y0] h = (jv_rc h b [(0, 79)]).bind fun y => (jv_cd d y [.ref b, z0, z1, z2, z3] h).bind fun r => jv_on r (fun v h => jv_ev d 0 890 lc (v.toList ++ [y0]) h) (fun q h => some (.inr q, h)) := jq_V (as := [z0, z1, z2, z3]) (rest := [y0]) (jv_insR jm_0 dL_law_887) jo_0 jV_0_98 rfl rfl rfl rfl
theorem e0_890 : jv_ev d 0 890 lc (.int w :: .int v :: st) h = if v = w then jv_ev d 0 1482 lc st h else jv_ev d 0 893 lc st h := jq_if (jv_insR jm_0 dL_law_890) rfl (by decide)
theorem e0_893 : jv_ev d 0 893 lc st h = jv_ev d 0 894 lc (.int 0 :: st) h := jq_iconst (jv_insR jm_0 dL_law_893) (by decide)
theorem e0_894 : jv_ev d 0 894 lc [.int v] h = if narrow .boolean (.int v) = .int v then some (.inl (some (.int v)), h) else none := jq_ret (jv_insR jm_0 dL_law_894) jr_0 (by decide)
theorem e0_895 : jv_ev d 0 895 [x0, some (.ref a), x2, x3] st h = jv_ev d 0 896 [x0, some (.ref a), x2, x3] (.ref a :: st) h := jq_nx (jv_insR jm_0 dL_law_895) rfl
theorem e0_896 : jv_ev d 0 896 [some (.ref a), x1, x2, x3] st h = jv_ev d 0 897 [some (.ref a), x1, x2, x3] (.ref a :: st) h := jq_nx (jv_insR jm_0 dL_law_896) rfl
theorem e0_897 : jv_ev d 0 897 [x0, x1, x2, some (.int v)] st h = jv_ev d 0 898 [x0, x1, x2, some (.int v)] (.int v :: st) h := jq_nx (jv_insR jm_0 dL_law_897) rfl
theorem e0_898 : jv_ev d 0 898 lc st h = jv_ev d 0 899 lc (.int 1 :: st) h := jq_iconst (jv_insR jm_0 dL_law_898) (by decide)
theorem e0_899 : jv_ev d 0 899 lc (.int w :: .int v :: st) h = jv_ev d 0 900 lc (.int (v + w) :: st) h := jq_nx (jv_insR jm_0 dL_law_899) rfl
theorem e0_900 : jv_ev d 0 900 lc (.int v :: .ref a :: st) h = (jv_ig h a 0 0 v).bind fun w => jv_ev d 0 901 lc (.int w :: st) h := jq_iald (jv_insR jm_0 dL_law_900)
theorem e0_901 : jv_ev d 0 901 [some (.ref a), x1, x2, x3] st h = jv_ev d 0 902 [some (.ref a), x1, x2, x3] (.ref a :: st) h := jq_nx (jv_insR jm_0 dL_law_901) rfl
theorem e0_902 : jv_ev d 0 902 [x0, x1, x2, some (.int v)] st h = jv_ev d 0 903 [x0, x1, x2, some (.int v)] (.int v :: st) h := jq_nx (jv_insR jm_0 dL_law_902) rfl
theorem e0_903 : jv_ev d 0 903 lc st h = jv_ev d 0 904 lc (.int 2 :: st) h := jq_iconst (jv_insR jm_0 dL_law_903) (by decide)
theorem e0_904 : jv_ev d 0 904 lc (.int w :: .int v :: st) h = jv_ev d 0 905 lc (.int (v + w) :: st) h := jq_nx (jv_insR jm_0 dL_law_904) rfl
theorem e0_905 : jv_ev d 0 905 lc (.int v :: .ref a :: st) h = (jv_ig h a 0 0 v).bind fun w => jv_ev d 0 906 lc (.int w :: st) h := jq_iald (jv_insR jm_0 dL_law_905)
theorem e0_906 : jv_ev d 0 906 [some (.ref a), x1, x2, x3] st h = jv_ev d 0 907 [some (.ref a), x1, x2, x3] (.ref a :: st) h := jq_nx (jv_insR jm_0 dL_law_906) rfl
theorem e0_907 : jv_ev d 0 907 [x0, x1, x2, some (.int v)] st h = jv_ev d 0 908 [x0, x1, x2, some (.int v)] (.int v :: st) h := jq_nx (jv_insR jm_0 dL_law_907) rfl
theorem e0_908 : jv_ev d 0 908 lc st h = jv_ev d 0 909 lc (.int 3 :: st) h := jq_iconst (jv_insR jm_0 dL_law_908) (by decide)
theorem e0_909 : jv_ev d 0 909 lc (.int w :: .int v :: st) h = jv_ev d 0 910 lc (.int (v + w) :: st) h := jq_nx (jv_insR jm_0 dL_law_909) rfl
theorem e0_910 : jv_ev d 0 910 lc (.int v :: .ref a :: st) h = (jv_ig h a 0 0 v).bind fun w => jv_ev d 0 911 lc (.int w :: st) h := jq_iald (jv_insR jm_0 dL_law_910)
theorem e0_911 : jv_ev d 0 911 [some (.ref a), x1, x2, x3] st h = jv_ev d 0 912 [some (.ref a), x1, x2, x3] (.ref a :: st) h := jq_nx (jv_insR jm_0 dL_law_911) rfl
theorem e0_912 : jv_ev d 0 912 [x0, x1, x2, some (.int v)] st h = jv_ev d 0 913 [x0, x1, x2, some (.int v)] (.int v :: st) h := jq_nx (jv_insR jm_0 dL_law_912) rfl
theorem e0_913 : jv_ev d 0 913 lc st h = jv_ev d 0 914 lc (.int 4 :: st) h := jq_iconst (jv_insR jm_0 dL_law_913) (by decide)
theorem e0_914 : jv_ev d 0 914 lc (.int w :: .int v :: st) h = jv_ev d 0 915 lc (.int (v + w) :: st) h := jq_nx (jv_insR jm_0 dL_law_914) rfl
theorem e0_915 : jv_ev d 0 915 lc (.int v :: .ref a :: st) h = (jv_ig h a 0 0 v).bind fun w => jv_ev d 0 916 lc (.int w :: st) h := jq_iald (jv_insR jm_0 dL_law_915)
theorem e0_916 : jv_ev d 0 916 lc [z3, z2, z1, z0, .ref b] h = (jv_rc h b [(1, 151)]).bind fun y => (jv_cd d y [.ref b, z0, z1, z2, z3] h).bind fun r => jv_on r (fun v h => jv_ev d 0 919 lc (v.toList ++ []) h) (fun q h => some (.inr q, h)) := jq_V (as := [z0, z1, z2, z3]) (rest := []) (jv_insR jm_0 dL_law_916) jo_0 jV_0_99 rfl rfl rfl rfl
theorem e0_919 : jv_ev d 0 919 [x0, x1, some (.ref a), x3] st h = jv_ev d 0 920 [x0, x1, some (.ref a), x3] (.ref a :: st) h := jq_nx (jv_insR jm_0 dL_law_919) rfl
theorem e0_920 : jv_ev d 0 920 [some (.ref a), x1, x2, x3] st h = jv_ev d 0 921 [some (.ref a), x1, x2, x3] (.ref a :: st) h := jq_nx (jv_insR jm_0 dL_law_920) rfl
theorem e0_921 : jv_ev d 0 921 [x0, x1, x2, some (.int v)] st h = jv_ev d 0 922 [x0, x1, x2, some (.int v)] (.int v :: st) h := jq_nx (jv_insR jm_0 dL_law_921) rfl
theorem e0_922 : jv_ev d 0 922 lc st h = jv_ev d 0 923 lc (.int 1 :: st) h := jq_iconst (jv_insR jm_0 dL_law_922) (by decide)
theorem e0_923 : jv_ev d 0 923 lc (.int w :: .int v :: st) h = jv_ev d 0 924 lc (.int (v + w) :: st) h := jq_nx (jv_insR jm_0 dL_law_923) rfl
theorem e0_924 : jv_ev d 0 924 lc (.int v :: .ref a :: st) h = (jv_ig h a 0 0 v).bind fun w => jv_ev d 0 925 lc (.int w :: st) h := jq_iald (jv_insR jm_0 dL_law_924)
theorem e0_925 : jv_ev d 0 925 [some (.ref a), x1, x2, x3] st h = jv_ev d 0 926 [some (.ref a), x1, x2, x3] (.ref a :: st) h := jq_nx (jv_insR jm_0 dL_law_925) rfl
theorem e0_926 : jv_ev d 0 926 [x0, x1, x2, some (.int v)] st h = jv_ev d 0 927 [x0, x1, x2, some (.int v)] (.int v :: st) h := jq_nx (jv_insR jm_0 dL_law_926) rfl
theorem e0_927 : jv_ev d 0 927 lc st h = jv_ev d 0 928 lc (.int 2 :: st) h := jq_iconst (jv_insR jm_0 dL_law_927) (by decide)
theorem e0_928 : jv_ev d 0 928 lc (.int w :: .int v :: st) h = jv_ev d 0 929 lc (.int (v + w) :: st) h := jq_nx (jv_insR jm_0 dL_law_928) rfl
theorem e0_929 : jv_ev d 0 929 lc (.int v :: .ref a :: st) h = (jv_ig h a 0 0 v).bind fun w => jv_ev d 0 930 lc (.int w :: st) h := jq_iald (jv_insR jm_0 dL_law_929)
theorem e0_930 : jv_ev d 0 930 [some (.ref a), x1, x2, x3] st h = jv_ev d 0 931 [some (.ref a), x1, x2, x3] (.ref a :: st) h := jq_nx (jv_insR jm_0 dL_law_930) rfl
theorem e0_931 : jv_ev d 0 931 [x0, x1, x2, some (.int v)] st h = jv_ev d 0 932 [x0, x1, x2, some (.int v)] (.int v :: st) h := jq_nx (jv_insR jm_0 dL_law_931) rfl
theorem e0_932 : jv_ev d 0 932 lc st h = jv_ev d 0 933 lc (.int 3 :: st) h := jq_iconst (jv_insR jm_0 dL_law_932) (by decide)
theorem e0_933 : jv_ev d 0 933 lc (.int w :: .int v :: st) h = jv_ev d 0 934 lc (.int (v + w) :: st) h := jq_nx (jv_insR jm_0 dL_law_933) rfl
theorem e0_934 : jv_ev d 0 934 lc (.int v :: .ref a :: st) h = (jv_ig h a 0 0 v).bind fun w => jv_ev d 0 935 lc (.int w :: st) h := jq_iald (jv_insR jm_0 dL_law_934)
theorem e0_935 : jv_ev d 0 935 [some (.ref a), x1, x2, x3] st h = jv_ev d 0 936 [some (.ref a), x1, x2, x3] (.ref a :: st) h := jq_nx (jv_insR jm_0 dL_law_935) rfl
theorem e0_936 : jv_ev d 0 936 [x0, x1, x2, some (.int v)] st h = jv_ev d 0 937 [x0, x1, x2, some (.int v)] (.int v :: st) h := jq_nx (jv_insR jm_0 dL_law_936) rfl
theorem e0_937 : jv_ev d 0 937 lc st h = jv_ev d 0 938 lc (.int 4 :: st) h := jq_iconst (jv_insR jm_0 dL_law_937) (by decide)
theorem e0_938 : jv_ev d 0 938 lc (.int w :: .int v :: st) h = jv_ev d 0 939 lc (.int (v + w) :: st) h := jq_nx (jv_insR jm_0 dL_law_938) rfl
theorem e0_939 : jv_ev d 0 939 lc (.int v :: .ref a :: st) h = (jv_ig h a 0 0 v).bind fun w => jv_ev d 0 940 lc (.int w :: st) h := jq_iald (jv_insR jm_0 dL_law_939)
theorem e0_940 : jv_ev d 0 940 lc [z3, z2, z1, z0, .ref b, y0] h = (jv_rc h b [(0, 82)]).bind fun y => (jv_cd d y [.ref b, z0, z1, z2, z3] h).bind fun r => jv_on r (fun v h => jv_ev d 0 943 lc (v.toList ++ [y0]) h) (fun q h => some (.inr q, h)) := jq_V (as := [z0, z1, z2, z3]) (rest := [y0]) (jv_insR jm_0 dL_law_940) jo_0 jV_0_102 rfl rfl rfl rfl
theorem e0_943 : jv_ev d 0 943 lc (.int w :: .int v :: st) h = if v = w then jv_ev d 0 1482 lc st h else jv_ev d 0 946 lc st h := jq_if (jv_insR jm_0 dL_law_943) rfl (by decide)
theorem e0_946 : jv_ev d 0 946 lc st h = jv_ev d 0 947 lc (.int 0 :: st) h := jq_iconst (jv_insR jm_0 dL_law_946) (by decide)
theorem e0_947 : jv_ev d 0 947 lc [.int v] h = if narrow .boolean (.int v) = .int v then some (.inl (some (.int v)), h) else none := jq_ret (jv_insR jm_0 dL_law_947) jr_0 (by decide)
theorem e0_948 : jv_ev d 0 948 [x0, some (.ref a), x2, x3] st h = jv_ev d 0 949 [x0, some (.ref a), x2, x3] (.ref a :: st) h := jq_nx (jv_insR jm_0 dL_law_948) rfl
theorem e0_949 : jv_ev d 0 949 [some (.ref a), x1, x2, x3] st h = jv_ev d 0 950 [some (.ref a), x1, x2, x3] (.ref a :: st) h := jq_nx (jv_insR jm_0 dL_law_949) rfl
theorem e0_950 : jv_ev d 0 950 [x0, x1, x2, some (.int v)] st h = jv_ev d 0 951 [x0, x1, x2, some (.int v)] (.int v :: st) h := jq_nx (jv_insR jm_0 dL_law_950) rfl
theorem e0_951 : jv_ev d 0 951 lc st h = jv_ev d 0 952 lc (.int 1 :: st) h := jq_iconst (jv_insR jm_0 dL_law_951) (by decide)
theorem e0_952 : jv_ev d 0 952 lc (.int w :: .int v :: st) h = jv_ev d 0 953 lc (.int (v + w) :: st) h := jq_nx (jv_insR jm_0 dL_law_952) rfl
theorem e0_953 : jv_ev d 0 953 lc (.int v :: .ref a :: st) h = (jv_ig h a 0 0 v).bind fun w => jv_ev d 0 954 lc (.int w :: st) h := jq_iald (jv_insR jm_0 dL_law_953)
theorem e0_954 : jv_ev d 0 954 [some (.ref a), x1, x2, x3] st h = jv_ev d 0 955 [some (.ref a), x1, x2, x3] (.ref a :: st) h := jq_nx (jv_insR jm_0 dL_law_954) rfl
theorem e0_955 : jv_ev d 0 955 [x0, x1, x2, some (.int v)] st h = jv_ev d 0 956 [x0, x1, x2, some (.int v)] (.int v :: st) h := jq_nx (jv_insR jm_0 dL_law_955) rfl
theorem e0_956 : jv_ev d 0 956 lc st h = jv_ev d 0 957 lc (.int 2 :: st) h := jq_iconst (jv_insR jm_0 dL_law_956) (by decide)
theorem e0_957 : jv_ev d 0 957 lc (.int w :: .int v :: st) h = jv_ev d 0 958 lc (.int (v + w) :: st) h := jq_nx (jv_insR jm_0 dL_law_957) rfl
theorem e0_958 : jv_ev d 0 958 lc (.int v :: .ref a :: st) h = (jv_ig h a 0 0 v).bind fun w => jv_ev d 0 959 lc (.int w :: st) h := jq_iald (jv_insR jm_0 dL_law_958)
theorem e0_959 : jv_ev d 0 959 [some (.ref a), x1, x2, x3] st h = jv_ev d 0 960 [some (.ref a), x1, x2, x3] (.ref a :: st) h := jq_nx (jv_insR jm_0 dL_law_959) rfl
theorem e0_960 : jv_ev d 0 960 [x0, x1, x2, some (.int v)] st h = jv_ev d 0 961 [x0, x1, x2, some (.int v)] (.int v :: st) h := jq_nx (jv_insR jm_0 dL_law_960) rfl
theorem e0_961 : jv_ev d 0 961 lc st h = jv_ev d 0 962 lc (.int 3 :: st) h := jq_iconst (jv_insR jm_0 dL_law_961) (by decide)
theorem e0_962 : jv_ev d 0 962 lc (.int w :: .int v :: st) h = jv_ev d 0 963 lc (.int (v + w) :: st) h := jq_nx (jv_insR jm_0 dL_law_962) rfl
theorem e0_963 : jv_ev d 0 963 lc (.int v :: .ref a :: st) h = (jv_ig h a 0 0 v).bind fun w => jv_ev d 0 964 lc (.int w :: st) h := jq_iald (jv_insR jm_0 dL_law_963)
theorem e0_964 : jv_ev d 0 964 lc [z2, z1, z0, .ref b] h = (jv_rc h b [(1, 155)]).bind fun y => (jv_cd d y [.ref b, z0, z1, z2] h).bind fun r => jv_on r (fun v h => jv_ev d 0 967 lc (v.toList ++ []) h) (fun q h => some (.inr q, h)) := jq_V (as := [z0, z1, z2]) (rest := []) (jv_insR jm_0 dL_law_964) jo_0 jV_0_103 rfl rfl rfl rfl
theorem e0_967 : jv_ev d 0 967 [x0, x1, some (.ref a), x3] st h = jv_ev d 0 968 [x0, x1, some (.ref a), x3] (.ref a :: st) h := jq_nx (jv_insR jm_0 dL_law_967) rfl
theorem e0_968 : jv_ev d 0 968 [some (.ref a), x1, x2, x3] st h = jv_ev d 0 969 [some (.ref a), x1, x2, x3] (.ref a :: st) h := jq_nx (jv_insR jm_0 dL_law_968) rfl
theorem e0_969 : jv_ev d 0 969 [x0, x1, x2, some (.int v)] st h = jv_ev d 0 970 [x0, x1, x2, some (.int v)] (.int v :: st) h := jq_nx (jv_insR jm_0 dL_law_969) rfl
theorem e0_970 : jv_ev d 0 970 lc st h = jv_ev d 0 971 lc (.int 1 :: st) h := jq_iconst (jv_insR jm_0 dL_law_970) (by decide)
theorem e0_971 : jv_ev d 0 971 lc (.int w :: .int v :: st) h = jv_ev d 0 972 lc (.int (v + w) :: st) h := jq_nx (jv_insR jm_0 dL_law_971) rfl
theorem e0_972 : jv_ev d 0 972 lc (.int v :: .ref a :: st) h = (jv_ig h a 0 0 v).bind fun w => jv_ev d 0 973 lc (.int w :: st) h := jq_iald (jv_insR jm_0 dL_law_972)
theorem e0_973 : jv_ev d 0 973 [some (.ref a), x1, x2, x3] st h = jv_ev d 0 974 [some (.ref a), x1, x2, x3] (.ref a :: st) h := jq_nx (jv_insR jm_0 dL_law_973) rfl
theorem e0_974 : jv_ev d 0 974 [x0, x1, x2, some (.int v)] st h = jv_ev d 0 975 [x0, x1, x2, some (.int v)] (.int v :: st) h := jq_nx (jv_insR jm_0 dL_law_974) rfl
theorem e0_975 : jv_ev d 0 975 lc st h = jv_ev d 0 976 lc (.int 2 :: st) h := jq_iconst (jv_insR jm_0 dL_law_975) (by decide)
theorem e0_976 : jv_ev d 0 976 lc (.int w :: .int v :: st) h = jv_ev d 0 977 lc (.int (v + w) :: st) h := jq_nx (jv_insR jm_0 dL_law_976) rfl
theorem e0_977 : jv_ev d 0 977 lc (.int v :: .ref a :: st) h = (jv_ig h a 0 0 v).bind fun w => jv_ev d 0 978 lc (.int w :: st) h := jq_iald (jv_insR jm_0 dL_law_977)
theorem e0_978 : jv_ev d 0 978 [some (.ref a), x1, x2, x3] st h = jv_ev d 0 979 [some (.ref a), x1, x2, x3] (.ref a :: st) h := jq_nx (jv_insR jm_0 dL_law_978) rfl
theorem e0_979 : jv_ev d 0 979 [x0, x1, x2, some (.int v)] st h = jv_ev d 0 980 [x0, x1, x2, some (.int v)] (.int v :: st) h := jq_nx (jv_insR jm_0 dL_law_979) rfl
theorem e0_980 : jv_ev d 0 980 lc st h = jv_ev d 0 981 lc (.int 3 :: st) h := jq_iconst (jv_insR jm_0 dL_law_980) (by decide)
theorem e0_981 : jv_ev d 0 981 lc (.int w :: .int v :: st) h = jv_ev d 0 982 lc (.int (v + w) :: st) h := jq_nx (jv_insR jm_0 dL_law_981) rfl
theorem e0_982 : jv_ev d 0 982 lc (.int v :: .ref a :: st) h = (jv_ig h a 0 0 v).bind fun w => jv_ev d 0 983 lc (.int w :: st) h := jq_iald (jv_insR jm_0 dL_law_982)
theorem e0_983 : jv_ev d 0 983 lc [z2, z1, z0, .ref b, y0] h = (jv_rc h b [(0, 88)]).bind fun y => (jv_cd d y [.ref b, z0, z1, z2] h).bind fun r => jv_on r (fun v h => jv_ev d 0 986 lc (v.toList ++ [y0]) h) (fun q h => some (.inr q, h)) := jq_V (as := [z0, z1, z2]) (rest := [y0]) (jv_insR jm_0 dL_law_983) jo_0 jV_0_106 rfl rfl rfl rfl
theorem e0_986 : jv_ev d 0 986 lc (.int w :: .int v :: st) h = if v = w then jv_ev d 0 1482 lc st h else jv_ev d 0 989 lc st h := jq_if (jv_insR jm_0 dL_law_986) rfl (by decide)
theorem e0_989 : jv_ev d 0 989 lc st h = jv_ev d 0 990 lc (.int 0 :: st) h := jq_iconst (jv_insR jm_0 dL_law_989) (by decide)
theorem e0_990 : jv_ev d 0 990 lc [.int v] h = if narrow .boolean (.int v) = .int v then some (.inl (some (.int v)), h) else none := jq_ret (jv_insR jm_0 dL_law_990) jr_0 (by decide)
theorem e0_991 : jv_ev d 0 991 [x0, some (.ref a), x2, x3] st h = jv_ev d 0 992 [x0, some (.ref a), x2, x3] (.ref a :: st) h := jq_nx (jv_insR jm_0 dL_law_991) rfl
theorem e0_992 : jv_ev d 0 992 [some (.ref a), x1, x2, x3] st h = jv_ev d 0 993 [some (.ref a), x1, x2, x3] (.ref a :: st) h := jq_nx (jv_insR jm_0 dL_law_992) rfl
theorem e0_993 : jv_ev d 0 993 [x0, x1, x2, some (.int v)] st h = jv_ev d 0 994 [x0, x1, x2, some (.int v)] (.int v :: st) h := jq_nx (jv_insR jm_0 dL_law_993) rfl
theorem e0_994 : jv_ev d 0 994 lc st h = jv_ev d 0 995 lc (.int 1 :: st) h := jq_iconst (jv_insR jm_0 dL_law_994) (by decide)
theorem e0_995 : jv_ev d 0 995 lc (.int w :: .int v :: st) h = jv_ev d 0 996 lc (.int (v + w) :: st) h := jq_nx (jv_insR jm_0 dL_law_995) rfl
theorem e0_996 : jv_ev d 0 996 lc (.int v :: .ref a :: st) h = (jv_ig h a 0 0 v).bind fun w => jv_ev d 0 997 lc (.int w :: st) h := jq_iald (jv_insR jm_0 dL_law_996)
theorem e0_997 : jv_ev d 0 997 [some (.ref a), x1, x2, x3] st h = jv_ev d 0 998 [some (.ref a), x1, x2, x3] (.ref a :: st) h := jq_nx (jv_insR jm_0 dL_law_997) rfl
theorem e0_998 : jv_ev d 0 998 [x0, x1, x2, some (.int v)] st h = jv_ev d 0 999 [x0, x1, x2, some (.int v)] (.int v :: st) h := jq_nx (jv_insR jm_0 dL_law_998) rfl
theorem e0_999 : jv_ev d 0 999 lc st h = jv_ev d 0 1000 lc (.int 2 :: st) h := jq_iconst (jv_insR jm_0 dL_law_999) (by decide)
theorem e0_1000 : jv_ev d 0 1000 lc (.int w :: .int v :: st) h = jv_ev d 0 1001 lc (.int (v + w) :: st) h := jq_nx (jv_insR jm_0 dL_law_1000) rfl
theorem e0_1001 : jv_ev d 0 1001 lc (.int v :: .ref a :: st) h = (jv_ig h a 0 0 v).bind fun w => jv_ev d 0 1002 lc (.int w :: st) h := jq_iald (jv_insR jm_0 dL_law_1001)
theorem e0_1002 : jv_ev d 0 1002 lc [z1, z0, .ref b] h = (jv_rc h b [(1, 156)]).bind fun y => (jv_cd d y [.ref b, z0, z1] h).bind fun r => jv_on r (fun v h => jv_ev d 0 1005 lc (v.toList ++ []) h) (fun q h => some (.inr q, h)) := jq_V (as := [z0, z1]) (rest := []) (jv_insR jm_0 dL_law_1002) jo_0 jV_0_107 rfl rfl rfl rfl
theorem e0_1005 : jv_ev d 0 1005 [x0, x1, some (.ref a), x3] st h = jv_ev d 0 1006 [x0, x1, some (.ref a), x3] (.ref a :: st) h := jq_nx (jv_insR jm_0 dL_law_1005) rfl
theorem e0_1006 : jv_ev d 0 1006 [some (.ref a), x1, x2, x3] st h = jv_ev d 0 1007 [some (.ref a), x1, x2, x3] (.ref a :: st) h := jq_nx (jv_insR jm_0 dL_law_1006) rfl
theorem e0_1007 : jv_ev d 0 1007 [x0, x1, x2, some (.int v)] st h = jv_ev d 0 1008 [x0, x1, x2, some (.int v)] (.int v :: st) h := jq_nx (jv_insR jm_0 dL_law_1007) rfl
theorem e0_1008 : jv_ev d 0 1008 lc st h = jv_ev d 0 1009 lc (.int 1 :: st) h := jq_iconst (jv_insR jm_0 dL_law_1008) (by decide)
theorem e0_1009 : jv_ev d 0 1009 lc (.int w :: .int v :: st) h = jv_ev d 0 1010 lc (.int (v + w) :: st) h := jq_nx (jv_insR jm_0 dL_law_1009) rfl
theorem e0_1010 : jv_ev d 0 1010 lc (.int v :: .ref a :: st) h = (jv_ig h a 0 0 v).bind fun w => jv_ev d 0 1011 lc (.int w :: st) h := jq_iald (jv_insR jm_0 dL_law_1010)
theorem e0_1011 : jv_ev d 0 1011 [some (.ref a), x1, x2, x3] st h = jv_ev d 0 1012 [some (.ref a), x1, x2, x3] (.ref a :: st) h := jq_nx (jv_insR jm_0 dL_law_1011) rfl
theorem e0_1012 : jv_ev d 0 1012 [x0, x1, x2, some (.int v)] st h = jv_ev d 0 1013 [x0, x1, x2, some (.int v)] (.int v :: st) h := jq_nx (jv_insR jm_0 dL_law_1012) rfl
theorem e0_1013 : jv_ev d 0 1013 lc st h = jv_ev d 0 1014 lc (.int 2 :: st) h := jq_iconst (jv_insR jm_0 dL_law_1013) (by decide)
theorem e0_1014 : jv_ev d 0 1014 lc (.int w :: .int v :: st) h = jv_ev d 0 1015 lc (.int (v + w) :: st) h := jq_nx (jv_insR jm_0 dL_law_1014) rfl
theorem e0_1015 : jv_ev d 0 1015 lc (.int v :: .ref a :: st) h = (jv_ig h a 0 0 v).bind fun w => jv_ev d 0 1016 lc (.int w :: st) h := jq_iald (jv_insR jm_0 dL_law_1015)
theorem e0_1016 : jv_ev d 0 1016 lc [z1, z0, .ref b, y0] h = (jv_rc h b [(0, 90)]).bind fun y => (jv_cd d y [.ref b, z0, z1] h).bind fun r => jv_on r (fun v h => jv_ev d 0 1019 lc (v.toList ++ [y0]) h) (fun q h => some (.inr q, h)) := jq_V (as := [z0, z1]) (rest := [y0]) (jv_insR jm_0 dL_law_1016) jo_0 jV_0_110 rfl rfl rfl rfl
theorem e0_1019 : jv_ev d 0 1019 lc (.int w :: .int v :: st) h = if v = w then jv_ev d 0 1482 lc st h else jv_ev d 0 1022 lc st h := jq_if (jv_insR jm_0 dL_law_1019) rfl (by decide)
theorem e0_1022 : jv_ev d 0 1022 lc st h = jv_ev d 0 1023 lc (.int 0 :: st) h := jq_iconst (jv_insR jm_0 dL_law_1022) (by decide)
theorem e0_1023 : jv_ev d 0 1023 lc [.int v] h = if narrow .boolean (.int v) = .int v then some (.inl (some (.int v)), h) else none := jq_ret (jv_insR jm_0 dL_law_1023) jr_0 (by decide)
theorem e0_1024 : jv_ev d 0 1024 [x0, some (.ref a), x2, x3] st h = jv_ev d 0 1025 [x0, some (.ref a), x2, x3] (.ref a :: st) h := jq_nx (jv_insR jm_0 dL_law_1024) rfl
theorem e0_1025 : jv_ev d 0 1025 [some (.ref a), x1, x2, x3] st h = jv_ev d 0 1026 [some (.ref a), x1, x2, x3] (.ref a :: st) h := jq_nx (jv_insR jm_0 dL_law_1025) rfl
theorem e0_1026 : jv_ev d 0 1026 [x0, x1, x2, some (.int v)] st h = jv_ev d 0 1027 [x0, x1, x2, some (.int v)] (.int v :: st) h := jq_nx (jv_insR jm_0 dL_law_1026) rfl
theorem e0_1027 : jv_ev d 0 1027 lc st h = jv_ev d 0 1028 lc (.int 1 :: st) h := jq_iconst (jv_insR jm_0 dL_law_1027) (by decide)
theorem e0_1028 : jv_ev d 0 1028 lc (.int w :: .int v :: st) h = jv_ev d 0 1029 lc (.int (v + w) :: st) h := jq_nx (jv_insR jm_0 dL_law_1028) rfl
theorem e0_1029 : jv_ev d 0 1029 lc (.int v :: .ref a :: st) h = (jv_ig h a 0 0 v).bind fun w => jv_ev d 0 1030 lc (.int w :: st) h := jq_iald (jv_insR jm_0 dL_law_1029)
theorem e0_1030 : jv_ev d 0 1030 [some (.ref a), x1, x2, x3] st h = jv_ev d 0 1031 [some (.ref a), x1, x2, x3] (.ref a :: st) h := jq_nx (jv_insR jm_0 dL_law_1030) rfl
theorem e0_1031 : jv_ev d 0 1031 [x0, x1, x2, some (.int v)] st h = jv_ev d 0 1032 [x0, x1, x2, some (.int v)] (.int v :: st) h := jq_nx (jv_insR jm_0 dL_law_1031) rfl
theorem e0_1032 : jv_ev d 0 1032 lc st h = jv_ev d 0 1033 lc (.int 2 :: st) h := jq_iconst (jv_insR jm_0 dL_law_1032) (by decide)
theorem e0_1033 : jv_ev d 0 1033 lc (.int w :: .int v :: st) h = jv_ev d 0 1034 lc (.int (v + w) :: st) h := jq_nx (jv_insR jm_0 dL_law_1033) rfl
theorem e0_1034 : jv_ev d 0 1034 lc (.int v :: .ref a :: st) h = (jv_ig h a 0 0 v).bind fun w => jv_ev d 0 1035 lc (.int w :: st) h := jq_iald (jv_insR jm_0 dL_law_1034)
theorem e0_1035 : jv_ev d 0 1035 lc [z1, z0, .ref b] h = (jv_rc h b [(1, 157)]).bind fun y => (jv_cd d y [.ref b, z0, z1] h).bind fun r => jv_on r (fun v h => jv_ev d 0 1038 lc (v.toList ++ []) h) (fun q h => some (.inr q, h)) := jq_V (as := [z0, z1]) (rest := []) (jv_insR jm_0 dL_law_1035) jo_0 jV_0_111 rfl rfl rfl rfl
theorem e0_1038 : jv_ev d 0 1038 [x0, x1, some (.ref a), x3] st h = jv_ev d 0 1039 [x0, x1, some (.ref a), x3] (.ref a :: st) h := jq_nx (jv_insR jm_0 dL_law_1038) rfl
theorem e0_1039 : jv_ev d 0 1039 [some (.ref a), x1, x2, x3] st h = jv_ev d 0 1040 [some (.ref a), x1, x2, x3] (.ref a :: st) h := jq_nx (jv_insR jm_0 dL_law_1039) rfl
theorem e0_1040 : jv_ev d 0 1040 [x0, x1, x2, some (.int v)] st h = jv_ev d 0 1041 [x0, x1, x2, some (.int v)] (.int v :: st) h := jq_nx (jv_insR jm_0 dL_law_1040) rfl
theorem e0_1041 : jv_ev d 0 1041 lc st h = jv_ev d 0 1042 lc (.int 1 :: st) h := jq_iconst (jv_insR jm_0 dL_law_1041) (by decide)
theorem e0_1042 : jv_ev d 0 1042 lc (.int w :: .int v :: st) h = jv_ev d 0 1043 lc (.int (v + w) :: st) h := jq_nx (jv_insR jm_0 dL_law_1042) rfl
theorem e0_1043 : jv_ev d 0 1043 lc (.int v :: .ref a :: st) h = (jv_ig h a 0 0 v).bind fun w => jv_ev d 0 1044 lc (.int w :: st) h := jq_iald (jv_insR jm_0 dL_law_1043)
theorem e0_1044 : jv_ev d 0 1044 [some (.ref a), x1, x2, x3] st h = jv_ev d 0 1045 [some (.ref a), x1, x2, x3] (.ref a :: st) h := jq_nx (jv_insR jm_0 dL_law_1044) rfl
theorem e0_1045 : jv_ev d 0 1045 [x0, x1, x2, some (.int v)] st h = jv_ev d 0 1046 [x0, x1, x2, some (.int v)] (.int v :: st) h := jq_nx (jv_insR jm_0 dL_law_1045) rfl
theorem e0_1046 : jv_ev d 0 1046 lc st h = jv_ev d 0 1047 lc (.int 2 :: st) h := jq_iconst (jv_insR jm_0 dL_law_1046) (by decide)
theorem e0_1047 : jv_ev d 0 1047 lc (.int w :: .int v :: st) h = jv_ev d 0 1048 lc (.int (v + w) :: st) h := jq_nx (jv_insR jm_0 dL_law_1047) rfl
theorem e0_1048 : jv_ev d 0 1048 lc (.int v :: .ref a :: st) h = (jv_ig h a 0 0 v).bind fun w => jv_ev d 0 1049 lc (.int w :: st) h := jq_iald (jv_insR jm_0 dL_law_1048)
theorem e0_1049 : jv_ev d 0 1049 lc [z1, z0, .ref b, y0] h = (jv_rc h b [(0, 92)]).bind fun y => (jv_cd d y [.ref b, z0, z1] h).bind fun r => jv_on r (fun v h => jv_ev d 0 1052 lc (v.toList ++ [y0]) h) (fun q h => some (.inr q, h)) := jq_V (as := [z0, z1]) (rest := [y0]) (jv_insR jm_0 dL_law_1049) jo_0 jV_0_114 rfl rfl rfl rfl
theorem e0_1052 : jv_ev d 0 1052 lc (.int w :: .int v :: st) h = if v = w then jv_ev d 0 1482 lc st h else jv_ev d 0 1055 lc st h := jq_if (jv_insR jm_0 dL_law_1052) rfl (by decide)
theorem e0_1055 : jv_ev d 0 1055 lc st h = jv_ev d 0 1056 lc (.int 0 :: st) h := jq_iconst (jv_insR jm_0 dL_law_1055) (by decide)
theorem e0_1056 : jv_ev d 0 1056 lc [.int v] h = if narrow .boolean (.int v) = .int v then some (.inl (some (.int v)), h) else none := jq_ret (jv_insR jm_0 dL_law_1056) jr_0 (by decide)
theorem e0_1057 : jv_ev d 0 1057 [x0, some (.ref a), x2, x3] st h = jv_ev d 0 1058 [x0, some (.ref a), x2, x3] (.ref a :: st) h := jq_nx (jv_insR jm_0 dL_law_1057) rfl
theorem e0_1058 : jv_ev d 0 1058 [some (.ref a), x1, x2, x3] st h = jv_ev d 0 1059 [some (.ref a), x1, x2, x3] (.ref a :: st) h := jq_nx (jv_insR jm_0 dL_law_1058) rfl
theorem e0_1059 : jv_ev d 0 1059 [x0, x1, x2, some (.int v)] st h = jv_ev d 0 1060 [x0, x1, x2, some (.int v)] (.int v :: st) h := jq_nx (jv_insR jm_0 dL_law_1059) rfl
theorem e0_1060 : jv_ev d 0 1060 lc st h = jv_ev d 0 1061 lc (.int 1 :: st) h := jq_iconst (jv_insR jm_0 dL_law_1060) (by decide)
theorem e0_1061 : jv_ev d 0 1061 lc (.int w :: .int v :: st) h = jv_ev d 0 1062 lc (.int (v + w) :: st) h := jq_nx (jv_insR jm_0 dL_law_1061) rfl
theorem e0_1062 : jv_ev d 0 1062 lc (.int v :: .ref a :: st) h = (jv_ig h a 0 0 v).bind fun w => jv_ev d 0 1063 lc (.int w :: st) h := jq_iald (jv_insR jm_0 dL_law_1062)
theorem e0_1063 : jv_ev d 0 1063 lc [z0, .ref b] h = (jv_rc h b [(1, 158)]).bind fun y => (jv_cd d y [.ref b, z0] h).bind fun r => jv_on r (fun v h => jv_ev d 0 1066 lc (v.toList ++ []) h) (fun q h => some (.inr q, h)) := jq_V (as := [z0]) (rest := []) (jv_insR jm_0 dL_law_1063) jo_0 jV_0_115 rfl rfl rfl rfl
theorem e0_1066 : jv_ev d 0 1066 [x0, x1, some (.ref a), x3] st h = jv_ev d 0 1067 [x0, x1, some (.ref a), x3] (.ref a :: st) h := jq_nx (jv_insR jm_0 dL_law_1066) rfl
theorem e0_1067 : jv_ev d 0 1067 [some (.ref a), x1, x2, x3] st h = jv_ev d 0 1068 [some (.ref a), x1, x2, x3] (.ref a :: st) h := jq_nx (jv_insR jm_0 dL_law_1067) rfl
theorem e0_1068 : jv_ev d 0 1068 [x0, x1, x2, some (.int v)] st h = jv_ev d 0 1069 [x0, x1, x2, some (.int v)] (.int v :: st) h := jq_nx (jv_insR jm_0 dL_law_1068) rfl
theorem e0_1069 : jv_ev d 0 1069 lc st h = jv_ev d 0 1070 lc (.int 1 :: st) h := jq_iconst (jv_insR jm_0 dL_law_1069) (by decide)
theorem e0_1070 : jv_ev d 0 1070 lc (.int w :: .int v :: st) h = jv_ev d 0 1071 lc (.int (v + w) :: st) h := jq_nx (jv_insR jm_0 dL_law_1070) rfl
theorem e0_1071 : jv_ev d 0 1071 lc (.int v :: .ref a :: st) h = (jv_ig h a 0 0 v).bind fun w => jv_ev d 0 1072 lc (.int w :: st) h := jq_iald (jv_insR jm_0 dL_law_1071)
theorem e0_1072 : jv_ev d 0 1072 lc [z0, .ref b, y0] h = (jv_rc h b [(0, 93)]).bind fun y => (jv_cd d y [.ref b, z0] h).bind fun r => jv_on r (fun v h => jv_ev d 0 1075 lc (v.toList ++ [y0]) h) (fun q h => some (.inr q, h)) := jq_V (as := [z0]) (rest := [y0]) (jv_insR jm_0 dL_law_1072) jo_0 jV_0_118 rfl rfl rfl rfl
theorem e0_1075 : jv_ev d 0 1075 lc (.int w :: .int v :: st) h = if v = w then jv_ev d 0 1482 lc st h else jv_ev d 0 1078 lc st h := jq_if (jv_insR jm_0 dL_law_1075) rfl (by decide)
theorem e0_1078 : jv_ev d 0 1078 lc st h = jv_ev d 0 1079 lc (.int 0 :: st) h := jq_iconst (jv_insR jm_0 dL_law_1078) (by decide)
theorem e0_1079 : jv_ev d 0 1079 lc [.int v] h = if narrow .boolean (.int v) = .int v then some (.inl (some (.int v)), h) else none := jq_ret (jv_insR jm_0 dL_law_1079) jr_0 (by decide)
theorem e0_1080 : jv_ev d 0 1080 [x0, some (.ref a), x2, x3] st h = jv_ev d 0 1081 [x0, some (.ref a), x2, x3] (.ref a :: st) h := jq_nx (jv_insR jm_0 dL_law_1080) rfl
theorem e0_1081 : jv_ev d 0 1081 lc [.ref b] h = (jv_rc h b [(1, 159)]).bind fun y => (jv_cd d y [.ref b] h).bind fun r => jv_on r (fun v h => jv_ev d 0 1084 lc (v.toList ++ []) h) (fun q h => some (.inr q, h)) := jq_V (as := []) (rest := []) (jv_insR jm_0 dL_law_1081) jo_0 jV_0_119 rfl rfl rfl rfl
theorem e0_1084 : jv_ev d 0 1084 [x0, x1, some (.ref a), x3] st h = jv_ev d 0 1085 [x0, x1, some (.ref a), x3] (.ref a :: st) h := jq_nx (jv_insR jm_0 dL_law_1084) rfl
theorem e0_1085 : jv_ev d 0 1085 lc [.ref b, y0] h = (jv_rc h b [(0, 94)]).bind fun y => (jv_cd d y [.ref b] h).bind fun r => jv_on r (fun v h => jv_ev d 0 1088 lc (v.toList ++ [y0]) h) (fun q h => some (.inr q, h)) := jq_V (as := []) (rest := [y0]) (jv_insR jm_0 dL_law_1085) jo_0 jV_0_122 rfl rfl rfl rfl
theorem e0_1088 : jv_ev d 0 1088 lc (.int w :: .int v :: st) h = if v = w then jv_ev d 0 1482 lc st h else jv_ev d 0 1091 lc st h := jq_if (jv_insR jm_0 dL_law_1088) rfl (by decide)
theorem e0_1091 : jv_ev d 0 1091 lc st h = jv_ev d 0 1092 lc (.int 0 :: st) h := jq_iconst (jv_insR jm_0 dL_law_1091) (by decide)
theorem e0_1092 : jv_ev d 0 1092 lc [.int v] h = if narrow .boolean (.int v) = .int v then some (.inl (some (.int v)), h) else none := jq_ret (jv_insR jm_0 dL_law_1092) jr_0 (by decide)
theorem e0_1093 : jv_ev d 0 1093 [x0, some (.ref a), x2, x3] st h = jv_ev d 0 1094 [x0, some (.ref a), x2, x3] (.ref a :: st) h := jq_nx (jv_insR jm_0 dL_law_1093) rfl
theorem e0_1094 : jv_ev d 0 1094 [some (.ref a), x1, x2, x3] st h = jv_ev d 0 1095 [some (.ref a), x1, x2, x3] (.ref a :: st) h := jq_nx (jv_insR jm_0 dL_law_1094) rfl
theorem e0_1095 : jv_ev d 0 1095 [x0, x1, x2, some (.int v)] st h = jv_ev d 0 1096 [x0, x1, x2, some (.int v)] (.int v :: st) h := jq_nx (jv_insR jm_0 dL_law_1095) rfl
theorem e0_1096 : jv_ev d 0 1096 lc st h = jv_ev d 0 1097 lc (.int 1 :: st) h := jq_iconst (jv_insR jm_0 dL_law_1096) (by decide)
theorem e0_1097 : jv_ev d 0 1097 lc (.int w :: .int v :: st) h = jv_ev d 0 1098 lc (.int (v + w) :: st) h := jq_nx (jv_insR jm_0 dL_law_1097) rfl
theorem e0_1098 : jv_ev d 0 1098 lc (.int v :: .ref a :: st) h = (jv_ig h a 0 0 v).bind fun w => jv_ev d 0 1099 lc (.int w :: st) h := jq_iald (jv_insR jm_0 dL_law_1098)
theorem e0_1099 : jv_ev d 0 1099 [some (.ref a), x1, x2, x3] st h = jv_ev d 0 1100 [some (.ref a), x1, x2, x3] (.ref a :: st) h := jq_nx (jv_insR jm_0 dL_law_1099) rfl
theorem e0_1100 : jv_ev d 0 1100 [x0, x1, x2, some (.int v)] st h = jv_ev d 0 1101 [x0, x1, x2, some (.int v)] (.int v :: st) h := jq_nx (jv_insR jm_0 dL_law_1100) rfl
theorem e0_1101 : jv_ev d 0 1101 lc st h = jv_ev d 0 1102 lc (.int 2 :: st) h := jq_iconst (jv_insR jm_0 dL_law_1101) (by decide)
theorem e0_1102 : jv_ev d 0 1102 lc (.int w :: .int v :: st) h = jv_ev d 0 1103 lc (.int (v + w) :: st) h := jq_nx (jv_insR jm_0 dL_law_1102) rfl
theorem e0_1103 : jv_ev d 0 1103 lc (.int v :: .ref a :: st) h = (jv_ig h a 0 0 v).bind fun w => jv_ev d 0 1104 lc (.int w :: st) h := jq_iald (jv_insR jm_0 dL_law_1103)
theorem e0_1104 : jv_ev d 0 1104 [some (.ref a), x1, x2, x3] st h = jv_ev d 0 1105 [some (.ref a), x1, x2, x3] (.ref a :: st) h := jq_nx (jv_insR jm_0 dL_law_1104) rfl
theorem e0_1105 : jv_ev d 0 1105 [x0, x1, x2, some (.int v)] st h = jv_ev d 0 1106 [x0, x1, x2, some (.int v)] (.int v :: st) h := jq_nx (jv_insR jm_0 dL_law_1105) rfl
theorem e0_1106 : jv_ev d 0 1106 lc st h = jv_ev d 0 1107 lc (.int 3 :: st) h := jq_iconst (jv_insR jm_0 dL_law_1106) (by decide)
theorem e0_1107 : jv_ev d 0 1107 lc (.int w :: .int v :: st) h = jv_ev d 0 1108 lc (.int (v + w) :: st) h := jq_nx (jv_insR jm_0 dL_law_1107) rfl
theorem e0_1108 : jv_ev d 0 1108 lc (.int v :: .ref a :: st) h = (jv_ig h a 0 0 v).bind fun w => jv_ev d 0 1109 lc (.int w :: st) h := jq_iald (jv_insR jm_0 dL_law_1108)
theorem e0_1109 : jv_ev d 0 1109 lc [z2, z1, z0, .ref b] h = (jv_rc h b [(1, 161)]).bind fun y => (jv_cd d y [.ref b, z0, z1, z2] h).bind fun r => jv_on r (fun v h => jv_ev d 0 1112 lc (v.toList ++ []) h) (fun q h => some (.inr q, h)) := jq_V (as := [z0, z1, z2]) (rest := []) (jv_insR jm_0 dL_law_1109) jo_0 jV_0_123 rfl rfl rfl rfl
theorem e0_1112 : jv_ev d 0 1112 [x0, x1, some (.ref a), x3] st h = jv_ev d 0 1113 [x0, x1, some (.ref a), x3] (.ref a :: st) h := jq_nx (jv_insR jm_0 dL_law_1112) rfl
theorem e0_1113 : jv_ev d 0 1113 [some (.ref a), x1, x2, x3] st h = jv_ev d 0 1114 [some (.ref a), x1, x2, x3] (.ref a :: st) h := jq_nx (jv_insR jm_0 dL_law_1113) rfl
theorem e0_1114 : jv_ev d 0 1114 [x0, x1, x2, some (.int v)] st h = jv_ev d 0 1115 [x0, x1, x2, some (.int v)] (.int v :: st) h := jq_nx (jv_insR jm_0 dL_law_1114) rfl
theorem e0_1115 : jv_ev d 0 1115 lc st h = jv_ev d 0 1116 lc (.int 1 :: st) h := jq_iconst (jv_insR jm_0 dL_law_1115) (by decide)
theorem e0_1116 : jv_ev d 0 1116 lc (.int w :: .int v :: st) h = jv_ev d 0 1117 lc (.int (v + w) :: st) h := jq_nx (jv_insR jm_0 dL_law_1116) rfl
theorem e0_1117 : jv_ev d 0 1117 lc (.int v :: .ref a :: st) h = (jv_ig h a 0 0 v).bind fun w => jv_ev d 0 1118 lc (.int w :: st) h := jq_iald (jv_insR jm_0 dL_law_1117)
theorem e0_1118 : jv_ev d 0 1118 [some (.ref a), x1, x2, x3] st h = jv_ev d 0 1119 [some (.ref a), x1, x2, x3] (.ref a :: st) h := jq_nx (jv_insR jm_0 dL_law_1118) rfl
theorem e0_1119 : jv_ev d 0 1119 [x0, x1, x2, some (.int v)] st h = jv_ev d 0 1120 [x0, x1, x2, some (.int v)] (.int v :: st) h := jq_nx (jv_insR jm_0 dL_law_1119) rfl
theorem e0_1120 : jv_ev d 0 1120 lc st h = jv_ev d 0 1121 lc (.int 2 :: st) h := jq_iconst (jv_insR jm_0 dL_law_1120) (by decide)
theorem e0_1121 : jv_ev d 0 1121 lc (.int w :: .int v :: st) h = jv_ev d 0 1122 lc (.int (v + w) :: st) h := jq_nx (jv_insR jm_0 dL_law_1121) rfl
theorem e0_1122 : jv_ev d 0 1122 lc (.int v :: .ref a :: st) h = (jv_ig h a 0 0 v).bind fun w => jv_ev d 0 1123 lc (.int w :: st) h := jq_iald (jv_insR jm_0 dL_law_1122)
theorem e0_1123 : jv_ev d 0 1123 [some (.ref a), x1, x2, x3] st h = jv_ev d 0 1124 [some (.ref a), x1, x2, x3] (.ref a :: st) h := jq_nx (jv_insR jm_0 dL_law_1123) rfl
theorem e0_1124 : jv_ev d 0 1124 [x0, x1, x2, some (.int v)] st h = jv_ev d 0 1125 [x0, x1, x2, some (.int v)] (.int v :: st) h := jq_nx (jv_insR jm_0 dL_law_1124) rfl
theorem e0_1125 : jv_ev d 0 1125 lc st h = jv_ev d 0 1126 lc (.int 3 :: st) h := jq_iconst (jv_insR jm_0 dL_law_1125) (by decide)
theorem e0_1126 : jv_ev d 0 1126 lc (.int w :: .int v :: st) h = jv_ev d 0 1127 lc (.int (v + w) :: st) h := jq_nx (jv_insR jm_0 dL_law_1126) rfl
theorem e0_1127 : jv_ev d 0 1127 lc (.int v :: .ref a :: st) h = (jv_ig h a 0 0 v).bind fun w => jv_ev d 0 1128 lc (.int w :: st) h := jq_iald (jv_insR jm_0 dL_law_1127)
theorem e0_1128 : jv_ev d 0 1128 lc [z2, z1, z0, .ref b, y0] h = (jv_rc h b [(0, 95)]).bind fun y => (jv_cd d y [.ref b, z0, z1, z2] h).bind fun r => jv_on r (fun v h => jv_ev d 0 1131 lc (v.toList ++ [y0]) h) (fun q h => some (.inr q, h)) := jq_V (as := [z0, z1, z2]) (rest := [y0]) (jv_insR jm_0 dL_law_1128) jo_0 jV_0_126 rfl rfl rfl rfl
theorem e0_1131 : jv_ev d 0 1131 lc (.int w :: .int v :: st) h = if v = w then jv_ev d 0 1482 lc st h else jv_ev d 0 1134 lc st h := jq_if (jv_insR jm_0 dL_law_1131) rfl (by decide)
theorem e0_1134 : jv_ev d 0 1134 lc st h = jv_ev d 0 1135 lc (.int 0 :: st) h := jq_iconst (jv_insR jm_0 dL_law_1134) (by decide)
theorem e0_1135 : jv_ev d 0 1135 lc [.int v] h = if narrow .boolean (.int v) = .int v then some (.inl (some (.int v)), h) else none := jq_ret (jv_insR jm_0 dL_law_1135) jr_0 (by decide)
theorem e0_1136 : jv_ev d 0 1136 [x0, some (.ref a), x2, x3] st h = jv_ev d 0 1137 [x0, some (.ref a), x2, x3] (.ref a :: st) h := jq_nx (jv_insR jm_0 dL_law_1136) rfl
theorem e0_1137 : jv_ev d 0 1137 [some (.ref a), x1, x2, x3] st h = jv_ev d 0 1138 [some (.ref a), x1, x2, x3] (.ref a :: st) h := jq_nx (jv_insR jm_0 dL_law_1137) rfl
theorem e0_1138 : jv_ev d 0 1138 [x0, x1, x2, some (.int v)] st h = jv_ev d 0 1139 [x0, x1, x2, some (.int v)] (.int v :: st) h := jq_nx (jv_insR jm_0 dL_law_1138) rfl
theorem e0_1139 : jv_ev d 0 1139 lc st h = jv_ev d 0 1140 lc (.int 1 :: st) h := jq_iconst (jv_insR jm_0 dL_law_1139) (by decide)
theorem e0_1140 : jv_ev d 0 1140 lc (.int w :: .int v :: st) h = jv_ev d 0 1141 lc (.int (v + w) :: st) h := jq_nx (jv_insR jm_0 dL_law_1140) rfl
theorem e0_1141 : jv_ev d 0 1141 lc (.int v :: .ref a :: st) h = (jv_ig h a 0 0 v).bind fun w => jv_ev d 0 1142 lc (.int w :: st) h := jq_iald (jv_insR jm_0 dL_law_1141)
theorem e0_1142 : jv_ev d 0 1142 [some (.ref a), x1, x2, x3] st h = jv_ev d 0 1143 [some (.ref a), x1, x2, x3] (.ref a :: st) h := jq_nx (jv_insR jm_0 dL_law_1142) rfl
theorem e0_1143 : jv_ev d 0 1143 [x0, x1, x2, some (.int v)] st h = jv_ev d 0 1144 [x0, x1, x2, some (.int v)] (.int v :: st) h := jq_nx (jv_insR jm_0 dL_law_1143) rfl
theorem e0_1144 : jv_ev d 0 1144 lc st h = jv_ev d 0 1145 lc (.int 2 :: st) h := jq_iconst (jv_insR jm_0 dL_law_1144) (by decide)
theorem e0_1145 : jv_ev d 0 1145 lc (.int w :: .int v :: st) h = jv_ev d 0 1146 lc (.int (v + w) :: st) h := jq_nx (jv_insR jm_0 dL_law_1145) rfl
theorem e0_1146 : jv_ev d 0 1146 lc (.int v :: .ref a :: st) h = (jv_ig h a 0 0 v).bind fun w => jv_ev d 0 1147 lc (.int w :: st) h := jq_iald (jv_insR jm_0 dL_law_1146)
theorem e0_1147 : jv_ev d 0 1147 [some (.ref a), x1, x2, x3] st h = jv_ev d 0 1148 [some (.ref a), x1, x2, x3] (.ref a :: st) h := jq_nx (jv_insR jm_0 dL_law_1147) rfl
theorem e0_1148 : jv_ev d 0 1148 [x0, x1, x2, some (.int v)] st h = jv_ev d 0 1149 [x0, x1, x2, some (.int v)] (.int v :: st) h := jq_nx (jv_insR jm_0 dL_law_1148) rfl
theorem e0_1149 : jv_ev d 0 1149 lc st h = jv_ev d 0 1150 lc (.int 3 :: st) h := jq_iconst (jv_insR jm_0 dL_law_1149) (by decide)
theorem e0_1150 : jv_ev d 0 1150 lc (.int w :: .int v :: st) h = jv_ev d 0 1151 lc (.int (v + w) :: st) h := jq_nx (jv_insR jm_0 dL_law_1150) rfl
theorem e0_1151 : jv_ev d 0 1151 lc (.int v :: .ref a :: st) h = (jv_ig h a 0 0 v).bind fun w => jv_ev d 0 1152 lc (.int w :: st) h := jq_iald (jv_insR jm_0 dL_law_1151)
theorem e0_1152 : jv_ev d 0 1152 lc [z2, z1, z0, .ref b] h = (jv_rc h b [(1, 163)]).bind fun y => (jv_cd d y [.ref b, z0, z1, z2] h).bind fun r => jv_on r (fun v h => jv_ev d 0 1155 lc (v.toList ++ []) h) (fun q h => some (.inr q, h)) := jq_V (as := [z0, z1, z2]) (rest := []) (jv_insR jm_0 dL_law_1152) jo_0 jV_0_127 rfl rfl rfl rfl
theorem e0_1155 : jv_ev d 0 1155 [x0, x1, some (.ref a), x3] st h = jv_ev d 0 1156 [x0, x1, some (.ref a), x3] (.ref a :: st) h := jq_nx (jv_insR jm_0 dL_law_1155) rfl
theorem e0_1156 : jv_ev d 0 1156 [some (.ref a), x1, x2, x3] st h = jv_ev d 0 1157 [some (.ref a), x1, x2, x3] (.ref a :: st) h := jq_nx (jv_insR jm_0 dL_law_1156) rfl
theorem e0_1157 : jv_ev d 0 1157 [x0, x1, x2, some (.int v)] st h = jv_ev d 0 1158 [x0, x1, x2, some (.int v)] (.int v :: st) h := jq_nx (jv_insR jm_0 dL_law_1157) rfl
theorem e0_1158 : jv_ev d 0 1158 lc st h = jv_ev d 0 1159 lc (.int 1 :: st) h := jq_iconst (jv_insR jm_0 dL_law_1158) (by decide)
theorem e0_1159 : jv_ev d 0 1159 lc (.int w :: .int v :: st) h = jv_ev d 0 1160 lc (.int (v + w) :: st) h := jq_nx (jv_insR jm_0 dL_law_1159) rfl
theorem e0_1160 : jv_ev d 0 1160 lc (.int v :: .ref a :: st) h = (jv_ig h a 0 0 v).bind fun w => jv_ev d 0 1161 lc (.int w :: st) h := jq_iald (jv_insR jm_0 dL_law_1160)
theorem e0_1161 : jv_ev d 0 1161 [some (.ref a), x1, x2, x3] st h = jv_ev d 0 1162 [some (.ref a), x1, x2, x3] (.ref a :: st) h := jq_nx (jv_insR jm_0 dL_law_1161) rfl
theorem e0_1162 : jv_ev d 0 1162 [x0, x1, x2, some (.int v)] st h = jv_ev d 0 1163 [x0, x1, x2, some (.int v)] (.int v :: st) h := jq_nx (jv_insR jm_0 dL_law_1162) rfl
theorem e0_1163 : jv_ev d 0 1163 lc st h = jv_ev d 0 1164 lc (.int 2 :: st) h := jq_iconst (jv_insR jm_0 dL_law_1163) (by decide)
theorem e0_1164 : jv_ev d 0 1164 lc (.int w :: .int v :: st) h = jv_ev d 0 1165 lc (.int (v + w) :: st) h := jq_nx (jv_insR jm_0 dL_law_1164) rfl
theorem e0_1165 : jv_ev d 0 1165 lc (.int v :: .ref a :: st) h = (jv_ig h a 0 0 v).bind fun w => jv_ev d 0 1166 lc (.int w :: st) h := jq_iald (jv_insR jm_0 dL_law_1165)
theorem e0_1166 : jv_ev d 0 1166 [some (.ref a), x1, x2, x3] st h = jv_ev d 0 1167 [some (.ref a), x1, x2, x3] (.ref a :: st) h := jq_nx (jv_insR jm_0 dL_law_1166) rfl
theorem e0_1167 : jv_ev d 0 1167 [x0, x1, x2, some (.int v)] st h = jv_ev d 0 1168 [x0, x1, x2, some (.int v)] (.int v :: st) h := jq_nx (jv_insR jm_0 dL_law_1167) rfl
theorem e0_1168 : jv_ev d 0 1168 lc st h = jv_ev d 0 1169 lc (.int 3 :: st) h := jq_iconst (jv_insR jm_0 dL_law_1168) (by decide)
theorem e0_1169 : jv_ev d 0 1169 lc (.int w :: .int v :: st) h = jv_ev d 0 1170 lc (.int (v + w) :: st) h := jq_nx (jv_insR jm_0 dL_law_1169) rfl
theorem e0_1170 : jv_ev d 0 1170 lc (.int v :: .ref a :: st) h = (jv_ig h a 0 0 v).bind fun w => jv_ev d 0 1171 lc (.int w :: st) h := jq_iald (jv_insR jm_0 dL_law_1170)
theorem e0_1171 : jv_ev d 0 1171 lc [z2, z1, z0, .ref b, y0] h = (jv_rc h b [(0, 100)]).bind fun y => (jv_cd d y [.ref b, z0, z1, z2] h).bind fun r => jv_on r (fun v h => jv_ev d 0 1174 lc (v.toList ++ [y0]) h) (fun q h => some (.inr q, h)) := jq_V (as := [z0, z1, z2]) (rest := [y0]) (jv_insR jm_0 dL_law_1171) jo_0 jV_0_130 rfl rfl rfl rfl
theorem e0_1174 : jv_ev d 0 1174 lc (.int w :: .int v :: st) h = if v = w then jv_ev d 0 1482 lc st h else jv_ev d 0 1177 lc st h := jq_if (jv_insR jm_0 dL_law_1174) rfl (by decide)
theorem e0_1177 : jv_ev d 0 1177 lc st h = jv_ev d 0 1178 lc (.int 0 :: st) h := jq_iconst (jv_insR jm_0 dL_law_1177) (by decide)
theorem e0_1178 : jv_ev d 0 1178 lc [.int v] h = if narrow .boolean (.int v) = .int v then some (.inl (some (.int v)), h) else none := jq_ret (jv_insR jm_0 dL_law_1178) jr_0 (by decide)
theorem e0_1179 : jv_ev d 0 1179 [x0, some (.ref a), x2, x3] st h = jv_ev d 0 1180 [x0, some (.ref a), x2, x3] (.ref a :: st) h := jq_nx (jv_insR jm_0 dL_law_1179) rfl
theorem e0_1180 : jv_ev d 0 1180 [some (.ref a), x1, x2, x3] st h = jv_ev d 0 1181 [some (.ref a), x1, x2, x3] (.ref a :: st) h := jq_nx (jv_insR jm_0 dL_law_1180) rfl
theorem e0_1181 : jv_ev d 0 1181 [x0, x1, x2, some (.int v)] st h = jv_ev d 0 1182 [x0, x1, x2, some (.int v)] (.int v :: st) h := jq_nx (jv_insR jm_0 dL_law_1181) rfl
theorem e0_1182 : jv_ev d 0 1182 lc st h = jv_ev d 0 1183 lc (.int 1 :: st) h := jq_iconst (jv_insR jm_0 dL_law_1182) (by decide)
theorem e0_1183 : jv_ev d 0 1183 lc (.int w :: .int v :: st) h = jv_ev d 0 1184 lc (.int (v + w) :: st) h := jq_nx (jv_insR jm_0 dL_law_1183) rfl
theorem e0_1184 : jv_ev d 0 1184 lc (.int v :: .ref a :: st) h = (jv_ig h a 0 0 v).bind fun w => jv_ev d 0 1185 lc (.int w :: st) h := jq_iald (jv_insR jm_0 dL_law_1184)
theorem e0_1185 : jv_ev d 0 1185 [some (.ref a), x1, x2, x3] st h = jv_ev d 0 1186 [some (.ref a), x1, x2, x3] (.ref a :: st) h := jq_nx (jv_insR jm_0 dL_law_1185) rfl
theorem e0_1186 : jv_ev d 0 1186 [x0, x1, x2, some (.int v)] st h = jv_ev d 0 1187 [x0, x1, x2, some (.int v)] (.int v :: st) h := jq_nx (jv_insR jm_0 dL_law_1186) rfl
theorem e0_1187 : jv_ev d 0 1187 lc st h = jv_ev d 0 1188 lc (.int 2 :: st) h := jq_iconst (jv_insR jm_0 dL_law_1187) (by decide)
theorem e0_1188 : jv_ev d 0 1188 lc (.int w :: .int v :: st) h = jv_ev d 0 1189 lc (.int (v + w) :: st) h := jq_nx (jv_insR jm_0 dL_law_1188) rfl
theorem e0_1189 : jv_ev d 0 1189 lc (.int v :: .ref a :: st) h = (jv_ig h a 0 0 v).bind fun w => jv_ev d 0 1190 lc (.int w :: st) h := jq_iald (jv_insR jm_0 dL_law_1189)
theorem e0_1190 : jv_ev d 0 1190 lc (.int v :: st) h = if v = 0 then jv_ev d 0 1197 lc st h else jv_ev d 0 1193 lc st h := jq_if (jv_insR jm_0 dL_law_1190) rfl (by decide)
theorem e0_1193 : jv_ev d 0 1193 lc st h = jv_ev d 0 1194 lc (.int 1 :: st) h := jq_iconst (jv_insR jm_0 dL_law_1193) (by decide)
theorem e0_1194 : jv_ev d 0 1194 lc st h = jv_ev d 0 1198 lc st h := jq_go (jv_insR jm_0 dL_law_1194) (by decide)
theorem e0_1197 : jv_ev d 0 1197 lc st h = jv_ev d 0 1198 lc (.int 0 :: st) h := jq_iconst (jv_insR jm_0 dL_law_1197) (by decide)
theorem e0_1198 : jv_ev d 0 1198 lc [z1, z0, .ref b] h = (jv_rc h b [(1, 164)]).bind fun y => (jv_cd d y [.ref b, z0, z1] h).bind fun r => jv_on r (fun v h => jv_ev d 0 1201 lc (v.toList ++ []) h) (fun q h => some (.inr q, h)) := jq_V (as := [z0, z1]) (rest := []) (jv_insR jm_0 dL_law_1198) jo_0 jV_0_131 rfl rfl rfl rfl
theorem e0_1201 : jv_ev d 0 1201 [x0, x1, some (.ref a), x3] st h = jv_ev d 0 1202 [x0, x1, some (.ref a), x3] (.ref a :: st) h := jq_nx (jv_insR jm_0 dL_law_1201) rfl
theorem e0_1202 : jv_ev d 0 1202 [some (.ref a), x1, x2, x3] st h = jv_ev d 0 1203 [some (.ref a), x1, x2, x3] (.ref a :: st) h := jq_nx (jv_insR jm_0 dL_law_1202) rfl
theorem e0_1203 : jv_ev d 0 1203 [x0, x1, x2, some (.int v)] st h = jv_ev d 0 1204 [x0, x1, x2, some (.int v)] (.int v :: st) h := jq_nx (jv_insR jm_0 dL_law_1203) rfl
theorem e0_1204 : jv_ev d 0 1204 lc st h = jv_ev d 0 1205 lc (.int 1 :: st) h := jq_iconst (jv_insR jm_0 dL_law_1204) (by decide)
theorem e0_1205 : jv_ev d 0 1205 lc (.int w :: .int v :: st) h = jv_ev d 0 1206 lc (.int (v + w) :: st) h := jq_nx (jv_insR jm_0 dL_law_1205) rfl
theorem e0_1206 : jv_ev d 0 1206 lc (.int v :: .ref a :: st) h = (jv_ig h a 0 0 v).bind fun w => jv_ev d 0 1207 lc (.int w :: st) h := jq_iald (jv_insR jm_0 dL_law_1206)
theorem e0_1207 : jv_ev d 0 1207 [some (.ref a), x1, x2, x3] st h = jv_ev d 0 1208 [some (.ref a), x1, x2, x3] (.ref a :: st) h := jq_nx (jv_insR jm_0 dL_law_1207) rfl
theorem e0_1208 : jv_ev d 0 1208 [x0, x1, x2, some (.int v)] st h = jv_ev d 0 1209 [x0, x1, x2, some (.int v)] (.int v :: st) h := jq_nx (jv_insR jm_0 dL_law_1208) rfl
theorem e0_1209 : jv_ev d 0 1209 lc st h = jv_ev d 0 1210 lc (.int 2 :: st) h := jq_iconst (jv_insR jm_0 dL_law_1209) (by decide)
theorem e0_1210 : jv_ev d 0 1210 lc (.int w :: .int v :: st) h = jv_ev d 0 1211 lc (.int (v + w) :: st) h := jq_nx (jv_insR jm_0 dL_law_1210) rfl
theorem e0_1211 : jv_ev d 0 1211 lc (.int v :: .ref a :: st) h = (jv_ig h a 0 0 v).bind fun w => jv_ev d 0 1212 lc (.int w :: st) h := jq_iald (jv_insR jm_0 dL_law_1211)
theorem e0_1212 : jv_ev d 0 1212 lc (.int v :: st) h = if v = 0 then jv_ev d 0 1219 lc st h else jv_ev d 0 1215 lc st h := jq_if (jv_insR jm_0 dL_law_1212) rfl (by decide)
theorem e0_1215 : jv_ev d 0 1215 lc st h = jv_ev d 0 1216 lc (.int 1 :: st) h := jq_iconst (jv_insR jm_0 dL_law_1215) (by decide)
theorem e0_1216 : jv_ev d 0 1216 lc st h = jv_ev d 0 1220 lc st h := jq_go (jv_insR jm_0 dL_law_1216) (by decide)
theorem e0_1219 : jv_ev d 0 1219 lc st h = jv_ev d 0 1220 lc (.int 0 :: st) h := jq_iconst (jv_insR jm_0 dL_law_1219) (by decide)
theorem e0_1220 : jv_ev d 0 1220 lc [z1, z0, .ref b, y0] h = (jv_rc h b [(0, 101)]).bind fun y => (jv_cd d y [.ref b, z0, z1] h).bind fun r => jv_on r (fun v h => jv_ev d 0 1223 lc (v.toList ++ [y0]) h) (fun q h => some (.inr q, h)) := jq_V (as := [z0, z1]) (rest := [y0]) (jv_insR jm_0 dL_law_1220) jo_0 jV_0_135 rfl rfl rfl rfl
theorem e0_1223 : jv_ev d 0 1223 lc (.int w :: .int v :: st) h = if v = w then jv_ev d 0 1482 lc st h else jv_ev d 0 1226 lc st h := jq_if (jv_insR jm_0 dL_law_1223) rfl (by decide)
theorem e0_1226 : jv_ev d 0 1226 lc st h = jv_ev d 0 1227 lc (.int 0 :: st) h := jq_iconst (jv_insR jm_0 dL_law_1226) (by decide)
theorem e0_1227 : jv_ev d 0 1227 lc [.int v] h = if narrow .boolean (.int v) = .int v then some (.inl (some (.int v)), h) else none := jq_ret (jv_insR jm_0 dL_law_1227) jr_0 (by decide)
theorem e0_1228 : jv_ev d 0 1228 [x0, some (.ref a), x2, x3] st h = jv_ev d 0 1229 [x0, some (.ref a), x2, x3] (.ref a :: st) h := jq_nx (jv_insR jm_0 dL_law_1228) rfl
theorem e0_1229 : jv_ev d 0 1229 [some (.ref a), x1, x2, x3] st h = jv_ev d 0 1230 [some (.ref a), x1, x2, x3] (.ref a :: st) h := jq_nx (jv_insR jm_0 dL_law_1229) rfl
theorem e0_1230 : jv_ev d 0 1230 [x0, x1, x2, some (.int v)] st h = jv_ev d 0 1231 [x0, x1, x2, some (.int v)] (.int v :: st) h := jq_nx (jv_insR jm_0 dL_law_1230) rfl
theorem e0_1231 : jv_ev d 0 1231 lc st h = jv_ev d 0 1232 lc (.int 1 :: st) h := jq_iconst (jv_insR jm_0 dL_law_1231) (by decide)
theorem e0_1232 : jv_ev d 0 1232 lc (.int w :: .int v :: st) h = jv_ev d 0 1233 lc (.int (v + w) :: st) h := jq_nx (jv_insR jm_0 dL_law_1232) rfl
theorem e0_1233 : jv_ev d 0 1233 lc (.int v :: .ref a :: st) h = (jv_ig h a 0 0 v).bind fun w => jv_ev d 0 1234 lc (.int w :: st) h := jq_iald (jv_insR jm_0 dL_law_1233)
theorem e0_1234 : jv_ev d 0 1234 [some (.ref a), x1, x2, x3] st h = jv_ev d 0 1235 [some (.ref a), x1, x2, x3] (.ref a :: st) h := jq_nx (jv_insR jm_0 dL_law_1234) rfl
theorem e0_1235 : jv_ev d 0 1235 [x0, x1, x2, some (.int v)] st h = jv_ev d 0 1236 [x0, x1, x2, some (.int v)] (.int v :: st) h := jq_nx (jv_insR jm_0 dL_law_1235) rfl
theorem e0_1236 : jv_ev d 0 1236 lc st h = jv_ev d 0 1237 lc (.int 2 :: st) h := jq_iconst (jv_insR jm_0 dL_law_1236) (by decide)
theorem e0_1237 : jv_ev d 0 1237 lc (.int w :: .int v :: st) h = jv_ev d 0 1238 lc (.int (v + w) :: st) h := jq_nx (jv_insR jm_0 dL_law_1237) rfl
theorem e0_1238 : jv_ev d 0 1238 lc (.int v :: .ref a :: st) h = (jv_ig h a 0 0 v).bind fun w => jv_ev d 0 1239 lc (.int w :: st) h := jq_iald (jv_insR jm_0 dL_law_1238)
theorem e0_1239 : jv_ev d 0 1239 lc [z1, z0, .ref b] h = (jv_rc h b [(1, 160)]).bind fun y => (jv_cd d y [.ref b, z0, z1] h).bind fun r => jv_on r (fun v h => jv_ev d 0 1242 lc (v.toList ++ []) h) (fun q h => some (.inr q, h)) := jq_V (as := [z0, z1]) (rest := []) (jv_insR jm_0 dL_law_1239) jo_0 jV_0_136 rfl rfl rfl rfl
theorem e0_1242 : jv_ev d 0 1242 [x0, x1, some (.ref a), x3] st h = jv_ev d 0 1243 [x0, x1, some (.ref a), x3] (.ref a :: st) h := jq_nx (jv_insR jm_0 dL_law_1242) rfl
theorem e0_1243 : jv_ev d 0 1243 [some (.ref a), x1, x2, x3] st h = jv_ev d 0 1244 [some (.ref a), x1, x2, x3] (.ref a :: st) h := jq_nx (jv_insR jm_0 dL_law_1243) rfl
theorem e0_1244 : jv_ev d 0 1244 [x0, x1, x2, some (.int v)] st h = jv_ev d 0 1245 [x0, x1, x2, some (.int v)] (.int v :: st) h := jq_nx (jv_insR jm_0 dL_law_1244) rfl
theorem e0_1245 : jv_ev d 0 1245 lc st h = jv_ev d 0 1246 lc (.int 1 :: st) h := jq_iconst (jv_insR jm_0 dL_law_1245) (by decide)
theorem e0_1246 : jv_ev d 0 1246 lc (.int w :: .int v :: st) h = jv_ev d 0 1247 lc (.int (v + w) :: st) h := jq_nx (jv_insR jm_0 dL_law_1246) rfl
theorem e0_1247 : jv_ev d 0 1247 lc (.int v :: .ref a :: st) h = (jv_ig h a 0 0 v).bind fun w => jv_ev d 0 1248 lc (.int w :: st) h := jq_iald (jv_insR jm_0 dL_law_1247)
theorem e0_1248 : jv_ev d 0 1248 [some (.ref a), x1, x2, x3] st h = jv_ev d 0 1249 [some (.ref a), x1, x2, x3] (.ref a :: st) h := jq_nx (jv_insR jm_0 dL_law_1248) rfl
theorem e0_1249 : jv_ev d 0 1249 [x0, x1, x2, some (.int v)] st h = jv_ev d 0 1250 [x0, x1, x2, some (.int v)] (.int v :: st) h := jq_nx (jv_insR jm_0 dL_law_1249) rfl
theorem e0_1250 : jv_ev d 0 1250 lc st h = jv_ev d 0 1251 lc (.int 2 :: st) h := jq_iconst (jv_insR jm_0 dL_law_1250) (by decide)
theorem e0_1251 : jv_ev d 0 1251 lc (.int w :: .int v :: st) h = jv_ev d 0 1252 lc (.int (v + w) :: st) h := jq_nx (jv_insR jm_0 dL_law_1251) rfl
theorem e0_1252 : jv_ev d 0 1252 lc (.int v :: .ref a :: st) h = (jv_ig h a 0 0 v).bind fun w => jv_ev d 0 1253 lc (.int w :: st) h := jq_iald (jv_insR jm_0 dL_law_1252)
theorem e0_1253 : jv_ev d 0 1253 lc [z1, z0, .ref b, y0] h = (jv_rc h b [(0, 102)]).bind fun y => (jv_cd d y [.ref b, z0, z1] h).bind fun r => jv_on r (fun v h => jv_ev d 0 1256 lc (v.toList ++ [y0]) h) (fun q h => some (.inr q, h)) := jq_V (as := [z0, z1]) (rest := [y0]) (jv_insR jm_0 dL_law_1253) jo_0 jV_0_139 rfl rfl rfl rfl
theorem e0_1256 : jv_ev d 0 1256 lc (.int w :: .int v :: st) h = if v = w then jv_ev d 0 1482 lc st h else jv_ev d 0 1259 lc st h := jq_if (jv_insR jm_0 dL_law_1256) rfl (by decide)
theorem e0_1259 : jv_ev d 0 1259 lc st h = jv_ev d 0 1260 lc (.int 0 :: st) h := jq_iconst (jv_insR jm_0 dL_law_1259) (by decide)
theorem e0_1260 : jv_ev d 0 1260 lc [.int v] h = if narrow .boolean (.int v) = .int v then some (.inl (some (.int v)), h) else none := jq_ret (jv_insR jm_0 dL_law_1260) jr_0 (by decide)
theorem e0_1261 : jv_ev d 0 1261 [x0, some (.ref a), x2, x3] st h = jv_ev d 0 1262 [x0, some (.ref a), x2, x3] (.ref a :: st) h := jq_nx (jv_insR jm_0 dL_law_1261) rfl
theorem e0_1262 : jv_ev d 0 1262 [some (.ref a), x1, x2, x3] st h = jv_ev d 0 1263 [some (.ref a), x1, x2, x3] (.ref a :: st) h := jq_nx (jv_insR jm_0 dL_law_1262) rfl
theorem e0_1263 : jv_ev d 0 1263 [x0, x1, x2, some (.int v)] st h = jv_ev d 0 1264 [x0, x1, x2, some (.int v)] (.int v :: st) h := jq_nx (jv_insR jm_0 dL_law_1263) rfl
theorem e0_1264 : jv_ev d 0 1264 lc st h = jv_ev d 0 1265 lc (.int 1 :: st) h := jq_iconst (jv_insR jm_0 dL_law_1264) (by decide)
theorem e0_1265 : jv_ev d 0 1265 lc (.int w :: .int v :: st) h = jv_ev d 0 1266 lc (.int (v + w) :: st) h := jq_nx (jv_insR jm_0 dL_law_1265) rfl
theorem e0_1266 : jv_ev d 0 1266 lc (.int v :: .ref a :: st) h = (jv_ig h a 0 0 v).bind fun w => jv_ev d 0 1267 lc (.int w :: st) h := jq_iald (jv_insR jm_0 dL_law_1266)
theorem e0_1267 : jv_ev d 0 1267 [some (.ref a), x1, x2, x3] st h = jv_ev d 0 1268 [some (.ref a), x1, x2, x3] (.ref a :: st) h := jq_nx (jv_insR jm_0 dL_law_1267) rfl
theorem e0_1268 : jv_ev d 0 1268 [x0, x1, x2, some (.int v)] st h = jv_ev d 0 1269 [x0, x1, x2, some (.int v)] (.int v :: st) h := jq_nx (jv_insR jm_0 dL_law_1268) rfl
theorem e0_1269 : jv_ev d 0 1269 lc st h = jv_ev d 0 1270 lc (.int 2 :: st) h := jq_iconst (jv_insR jm_0 dL_law_1269) (by decide)
theorem e0_1270 : jv_ev d 0 1270 lc (.int w :: .int v :: st) h = jv_ev d 0 1271 lc (.int (v + w) :: st) h := jq_nx (jv_insR jm_0 dL_law_1270) rfl
theorem e0_1271 : jv_ev d 0 1271 lc (.int v :: .ref a :: st) h = (jv_ig h a 0 0 v).bind fun w => jv_ev d 0 1272 lc (.int w :: st) h := jq_iald (jv_insR jm_0 dL_law_1271)
theorem e0_1272 : jv_ev d 0 1272 [some (.ref a), x1, x2, x3] st h = jv_ev d 0 1273 [some (.ref a), x1, x2, x3] (.ref a :: st) h := jq_nx (jv_insR jm_0 dL_law_1272) rfl
theorem e0_1273 : jv_ev d 0 1273 [x0, x1, x2, some (.int v)] st h = jv_ev d 0 1274 [x0, x1, x2, some (.int v)] (.int v :: st) h := jq_nx (jv_insR jm_0 dL_law_1273) rfl
theorem e0_1274 : jv_ev d 0 1274 lc st h = jv_ev d 0 1275 lc (.int 3 :: st) h := jq_iconst (jv_insR jm_0 dL_law_1274) (by decide)
theorem e0_1275 : jv_ev d 0 1275 lc (.int w :: .int v :: st) h = jv_ev d 0 1276 lc (.int (v + w) :: st) h := jq_nx (jv_insR jm_0 dL_law_1275) rfl
theorem e0_1276 : jv_ev d 0 1276 lc (.int v :: .ref a :: st) h = (jv_ig h a 0 0 v).bind fun w => jv_ev d 0 1277 lc (.int w :: st) h := jq_iald (jv_insR jm_0 dL_law_1276)
theorem e0_1277 : jv_ev d 0 1277 lc [z2, z1, z0, .ref b] h = (jv_rc h b [(1, 165)]).bind fun y => (jv_cd d y [.ref b, z0, z1, z2] h).bind fun r => jv_on r (fun v h => jv_ev d 0 1280 lc (v.toList ++ []) h) (fun q h => some (.inr q, h)) := jq_V (as := [z0, z1, z2]) (rest := []) (jv_insR jm_0 dL_law_1277) jo_0 jV_0_140 rfl rfl rfl rfl
theorem e0_1280 : jv_ev d 0 1280 [x0, x1, some (.ref a), x3] st h = jv_ev d 0 1281 [x0, x1, some (.ref a), x3] (.ref a :: st) h := jq_nx (jv_insR jm_0 dL_law_1280) rfl
theorem e0_1281 : jv_ev d 0 1281 [some (.ref a), x1, x2, x3] st h = jv_ev d 0 1282 [some (.ref a), x1, x2, x3] (.ref a :: st) h := jq_nx (jv_insR jm_0 dL_law_1281) rfl
theorem e0_1282 : jv_ev d 0 1282 [x0, x1, x2, some (.int v)] st h = jv_ev d 0 1283 [x0, x1, x2, some (.int v)] (.int v :: st) h := jq_nx (jv_insR jm_0 dL_law_1282) rfl
theorem e0_1283 : jv_ev d 0 1283 lc st h = jv_ev d 0 1284 lc (.int 1 :: st) h := jq_iconst (jv_insR jm_0 dL_law_1283) (by decide)
theorem e0_1284 : jv_ev d 0 1284 lc (.int w :: .int v :: st) h = jv_ev d 0 1285 lc (.int (v + w) :: st) h := jq_nx (jv_insR jm_0 dL_law_1284) rfl
theorem e0_1285 : jv_ev d 0 1285 lc (.int v :: .ref a :: st) h = (jv_ig h a 0 0 v).bind fun w => jv_ev d 0 1286 lc (.int w :: st) h := jq_iald (jv_insR jm_0 dL_law_1285)
theorem e0_1286 : jv_ev d 0 1286 [some (.ref a), x1, x2, x3] st h = jv_ev d 0 1287 [some (.ref a), x1, x2, x3] (.ref a :: st) h := jq_nx (jv_insR jm_0 dL_law_1286) rfl
theorem e0_1287 : jv_ev d 0 1287 [x0, x1, x2, some (.int v)] st h = jv_ev d 0 1288 [x0, x1, x2, some (.int v)] (.int v :: st) h := jq_nx (jv_insR jm_0 dL_law_1287) rfl
theorem e0_1288 : jv_ev d 0 1288 lc st h = jv_ev d 0 1289 lc (.int 2 :: st) h := jq_iconst (jv_insR jm_0 dL_law_1288) (by decide)
theorem e0_1289 : jv_ev d 0 1289 lc (.int w :: .int v :: st) h = jv_ev d 0 1290 lc (.int (v + w) :: st) h := jq_nx (jv_insR jm_0 dL_law_1289) rfl
theorem e0_1290 : jv_ev d 0 1290 lc (.int v :: .ref a :: st) h = (jv_ig h a 0 0 v).bind fun w => jv_ev d 0 1291 lc (.int w :: st) h := jq_iald (jv_insR jm_0 dL_law_1290)
theorem e0_1291 : jv_ev d 0 1291 [some (.ref a), x1, x2, x3] st h = jv_ev d 0 1292 [some (.ref a), x1, x2, x3] (.ref a :: st) h := jq_nx (jv_insR jm_0 dL_law_1291) rfl
theorem e0_1292 : jv_ev d 0 1292 [x0, x1, x2, some (.int v)] st h = jv_ev d 0 1293 [x0, x1, x2, some (.int v)] (.int v :: st) h := jq_nx (jv_insR jm_0 dL_law_1292) rfl
theorem e0_1293 : jv_ev d 0 1293 lc st h = jv_ev d 0 1294 lc (.int 3 :: st) h := jq_iconst (jv_insR jm_0 dL_law_1293) (by decide)
theorem e0_1294 : jv_ev d 0 1294 lc (.int w :: .int v :: st) h = jv_ev d 0 1295 lc (.int (v + w) :: st) h := jq_nx (jv_insR jm_0 dL_law_1294) rfl
theorem e0_1295 : jv_ev d 0 1295 lc (.int v :: .ref a :: st) h = (jv_ig h a 0 0 v).bind fun w => jv_ev d 0 1296 lc (.int w :: st) h := jq_iald (jv_insR jm_0 dL_law_1295)
theorem e0_1296 : jv_ev d 0 1296 lc [z2, z1, z0, .ref b, y0] h = (jv_rc h b [(0, 103)]).bind fun y => (jv_cd d y [.ref b, z0, z1, z2] h).bind fun r => jv_on r (fun v h => jv_ev d 0 1299 lc (v.toList ++ [y0]) h) (fun q h => some (.inr q, h)) := jq_V (as := [z0, z1, z2]) (rest := [y0]) (jv_insR jm_0 dL_law_1296) jo_0 jV_0_143 rfl rfl rfl rfl
theorem e0_1299 : jv_ev d 0 1299 lc (.int w :: .int v :: st) h = if v = w then jv_ev d 0 1482 lc st h else jv_ev d 0 1302 lc st h := jq_if (jv_insR jm_0 dL_law_1299) rfl (by decide)
theorem e0_1302 : jv_ev d 0 1302 lc st h = jv_ev d 0 1303 lc (.int 0 :: st) h := jq_iconst (jv_insR jm_0 dL_law_1302) (by decide)
theorem e0_1303 : jv_ev d 0 1303 lc [.int v] h = if narrow .boolean (.int v) = .int v then some (.inl (some (.int v)), h) else none := jq_ret (jv_insR jm_0 dL_law_1303) jr_0 (by decide)
theorem e0_1304 : jv_ev d 0 1304 [x0, some (.ref a), x2, x3] st h = jv_ev d 0 1305 [x0, some (.ref a), x2, x3] (.ref a :: st) h := jq_nx (jv_insR jm_0 dL_law_1304) rfl
theorem e0_1305 : jv_ev d 0 1305 lc [.ref b] h = (jv_rc h b [(1, 166)]).bind fun y => (jv_cd d y [.ref b] h).bind fun r => jv_on r (fun v h => jv_ev d 0 1308 lc (v.toList ++ []) h) (fun q h => some (.inr q, h)) := jq_V (as := []) (rest := []) (jv_insR jm_0 dL_law_1305) jo_0 jV_0_144 rfl rfl rfl rfl
theorem e0_1308 : jv_ev d 0 1308 [x0, x1, some (.ref a), x3] st h = jv_ev d 0 1309 [x0, x1, some (.ref a), x3] (.ref a :: st) h := jq_nx (jv_insR jm_0 dL_law_1308) rfl
theorem e0_1309 : jv_ev d 0 1309 lc [.ref b, y0] h = (jv_rc h b [(0, 104)]).bind fun y => (jv_cd d y [.ref b] h).bind fun r => jv_on r (fun v h => jv_ev d 0 1312 lc (v.toList ++ [y0]) h) (fun q h => some (.inr q, h)) := jq_V (as := []) (rest := [y0]) (jv_insR jm_0 dL_law_1309) jo_0 jV_0_147 rfl rfl rfl rfl
theorem e0_1312 : jv_ev d 0 1312 lc (.int w :: .int v :: st) h = if v = w then jv_ev d 0 1482 lc st h else jv_ev d 0 1315 lc st h := jq_if (jv_insR jm_0 dL_law_1312) rfl (by decide)
theorem e0_1315 : jv_ev d 0 1315 lc st h = jv_ev d 0 1316 lc (.int 0 :: st) h := jq_iconst (jv_insR jm_0 dL_law_1315) (by decide)
theorem e0_1316 : jv_ev d 0 1316 lc [.int v] h = if narrow .boolean (.int v) = .int v then some (.inl (some (.int v)), h) else none := jq_ret (jv_insR jm_0 dL_law_1316) jr_0 (by decide)
theorem e0_1317 : jv_ev d 0 1317 [x0, some (.ref a), x2, x3] st h = jv_ev d 0 1318 [x0, some (.ref a), x2, x3] (.ref a :: st) h := jq_nx (jv_insR jm_0 dL_law_1317) rfl
theorem e0_1318 : jv_ev d 0 1318 [some (.ref a), x1, x2, x3] st h = jv_ev d 0 1319 [some (.ref a), x1, x2, x3] (.ref a :: st) h := jq_nx (jv_insR jm_0 dL_law_1318) rfl
theorem e0_1319 : jv_ev d 0 1319 [x0, x1, x2, some (.int v)] st h = jv_ev d 0 1320 [x0, x1, x2, some (.int v)] (.int v :: st) h := jq_nx (jv_insR jm_0 dL_law_1319) rfl
theorem e0_1320 : jv_ev d 0 1320 lc st h = jv_ev d 0 1321 lc (.int 1 :: st) h := jq_iconst (jv_insR jm_0 dL_law_1320) (by decide)
theorem e0_1321 : jv_ev d 0 1321 lc (.int w :: .int v :: st) h = jv_ev d 0 1322 lc (.int (v + w) :: st) h := jq_nx (jv_insR jm_0 dL_law_1321) rfl
theorem e0_1322 : jv_ev d 0 1322 lc (.int v :: .ref a :: st) h = (jv_ig h a 0 0 v).bind fun w => jv_ev d 0 1323 lc (.int w :: st) h := jq_iald (jv_insR jm_0 dL_law_1322)
theorem e0_1323 : jv_ev d 0 1323 [some (.ref a), x1, x2, x3] st h = jv_ev d 0 1324 [some (.ref a), x1, x2, x3] (.ref a :: st) h := jq_nx (jv_insR jm_0 dL_law_1323) rfl
theorem e0_1324 : jv_ev d 0 1324 [x0, x1, x2, some (.int v)] st h = jv_ev d 0 1325 [x0, x1, x2, some (.int v)] (.int v :: st) h := jq_nx (jv_insR jm_0 dL_law_1324) rfl
theorem e0_1325 : jv_ev d 0 1325 lc st h = jv_ev d 0 1326 lc (.int 2 :: st) h := jq_iconst (jv_insR jm_0 dL_law_1325) (by decide)
theorem e0_1326 : jv_ev d 0 1326 lc (.int w :: .int v :: st) h = jv_ev d 0 1327 lc (.int (v + w) :: st) h := jq_nx (jv_insR jm_0 dL_law_1326) rfl
theorem e0_1327 : jv_ev d 0 1327 lc (.int v :: .ref a :: st) h = (jv_ig h a 0 0 v).bind fun w => jv_ev d 0 1328 lc (.int w :: st) h := jq_iald (jv_insR jm_0 dL_law_1327)
theorem e0_1328 : jv_ev d 0 1328 [some (.ref a), x1, x2, x3] st h = jv_ev d 0 1329 [some (.ref a), x1, x2, x3] (.ref a :: st) h := jq_nx (jv_insR jm_0 dL_law_1328) rfl
theorem e0_1329 : jv_ev d 0 1329 [x0, x1, x2, some (.int v)] st h = jv_ev d 0 1330 [x0, x1, x2, some (.int v)] (.int v :: st) h := jq_nx (jv_insR jm_0 dL_law_1329) rfl
theorem e0_1330 : jv_ev d 0 1330 lc st h = jv_ev d 0 1331 lc (.int 3 :: st) h := jq_iconst (jv_insR jm_0 dL_law_1330) (by decide)
theorem e0_1331 : jv_ev d 0 1331 lc (.int w :: .int v :: st) h = jv_ev d 0 1332 lc (.int (v + w) :: st) h := jq_nx (jv_insR jm_0 dL_law_1331) rfl
theorem e0_1332 : jv_ev d 0 1332 lc (.int v :: .ref a :: st) h = (jv_ig h a 0 0 v).bind fun w => jv_ev d 0 1333 lc (.int w :: st) h := jq_iald (jv_insR jm_0 dL_law_1332)
theorem e0_1333 : jv_ev d 0 1333 [some (.ref a), x1, x2, x3] st h = jv_ev d 0 1334 [some (.ref a), x1, x2, x3] (.ref a :: st) h := jq_nx (jv_insR jm_0 dL_law_1333) rfl
theorem e0_1334 : jv_ev d 0 1334 [x0, x1, x2, some (.int v)] st h = jv_ev d 0 1335 [x0, x1, x2, some (.int v)] (.int v :: st) h := jq_nx (jv_insR jm_0 dL_law_1334) rfl
theorem e0_1335 : jv_ev d 0 1335 lc st h = jv_ev d 0 1336 lc (.int 4 :: st) h := jq_iconst (jv_insR jm_0 dL_law_1335) (by decide)
theorem e0_1336 : jv_ev d 0 1336 lc (.int w :: .int v :: st) h = jv_ev d 0 1337 lc (.int (v + w) :: st) h := jq_nx (jv_insR jm_0 dL_law_1336) rfl
theorem e0_1337 : jv_ev d 0 1337 lc (.int v :: .ref a :: st) h = (jv_ig h a 0 0 v).bind fun w => jv_ev d 0 1338 lc (.int w :: st) h := jq_iald (jv_insR jm_0 dL_law_1337)
theorem e0_1338 : jv_ev d 0 1338 lc [z3, z2, z1, z0, .ref b] h = (jv_rc h b [(1, 167)]).bind fun y => (jv_cd d y [.ref b, z0, z1, z2, z3] h).bind fun r => jv_on r (fun v h => jv_ev d 0 1341 lc (v.toList ++ []) h) (fun q h => some (.inr q, h)) := jq_V (as := [z0, z1, z2, z3]) (rest := []) (jv_insR jm_0 dL_law_1338) jo_0 jV_0_148 rfl rfl rfl rfl
theorem e0_1341 : jv_ev d 0 1341 [x0, x1, some (.ref a), x3] st h = jv_ev d 0 1342 [x0, x1, some (.ref a), x3] (.ref a :: st) h := jq_nx (jv_insR jm_0 dL_law_1341) rfl
theorem e0_1342 : jv_ev d 0 1342 [some (.ref a), x1, x2, x3] st h = jv_ev d 0 1343 [some (.ref a), x1, x2, x3] (.ref a :: st) h := jq_nx (jv_insR jm_0 dL_law_1342) rfl
theorem e0_1343 : jv_ev d 0 1343 [x0, x1, x2, some (.int v)] st h = jv_ev d 0 1344 [x0, x1, x2, some (.int v)] (.int v :: st) h := jq_nx (jv_insR jm_0 dL_law_1343) rfl
theorem e0_1344 : jv_ev d 0 1344 lc st h = jv_ev d 0 1345 lc (.int 1 :: st) h := jq_iconst (jv_insR jm_0 dL_law_1344) (by decide)
theorem e0_1345 : jv_ev d 0 1345 lc (.int w :: .int v :: st) h = jv_ev d 0 1346 lc (.int (v + w) :: st) h := jq_nx (jv_insR jm_0 dL_law_1345) rfl
theorem e0_1346 : jv_ev d 0 1346 lc (.int v :: .ref a :: st) h = (jv_ig h a 0 0 v).bind fun w => jv_ev d 0 1347 lc (.int w :: st) h := jq_iald (jv_insR jm_0 dL_law_1346)
theorem e0_1347 : jv_ev d 0 1347 [some (.ref a), x1, x2, x3] st h = jv_ev d 0 1348 [some (.ref a), x1, x2, x3] (.ref a :: st) h := jq_nx (jv_insR jm_0 dL_law_1347) rfl
theorem e0_1348 : jv_ev d 0 1348 [x0, x1, x2, some (.int v)] st h = jv_ev d 0 1349 [x0, x1, x2, some (.int v)] (.int v :: st) h := jq_nx (jv_insR jm_0 dL_law_1348) rfl
theorem e0_1349 : jv_ev d 0 1349 lc st h = jv_ev d 0 1350 lc (.int 2 :: st) h := jq_iconst (jv_insR jm_0 dL_law_1349) (by decide)
theorem e0_1350 : jv_ev d 0 1350 lc (.int w :: .int v :: st) h = jv_ev d 0 1351 lc (.int (v + w) :: st) h := jq_nx (jv_insR jm_0 dL_law_1350) rfl
theorem e0_1351 : jv_ev d 0 1351 lc (.int v :: .ref a :: st) h = (jv_ig h a 0 0 v).bind fun w => jv_ev d 0 1352 lc (.int w :: st) h := jq_iald (jv_insR jm_0 dL_law_1351)
theorem e0_1352 : jv_ev d 0 1352 [some (.ref a), x1, x2, x3] st h = jv_ev d 0 1353 [some (.ref a), x1, x2, x3] (.ref a :: st) h := jq_nx (jv_insR jm_0 dL_law_1352) rfl
theorem e0_1353 : jv_ev d 0 1353 [x0, x1, x2, some (.int v)] st h = jv_ev d 0 1354 [x0, x1, x2, some (.int v)] (.int v :: st) h := jq_nx (jv_insR jm_0 dL_law_1353) rfl
theorem e0_1354 : jv_ev d 0 1354 lc st h = jv_ev d 0 1355 lc (.int 3 :: st) h := jq_iconst (jv_insR jm_0 dL_law_1354) (by decide)
theorem e0_1355 : jv_ev d 0 1355 lc (.int w :: .int v :: st) h = jv_ev d 0 1356 lc (.int (v + w) :: st) h := jq_nx (jv_insR jm_0 dL_law_1355) rfl
theorem e0_1356 : jv_ev d 0 1356 lc (.int v :: .ref a :: st) h = (jv_ig h a 0 0 v).bind fun w => jv_ev d 0 1357 lc (.int w :: st) h := jq_iald (jv_insR jm_0 dL_law_1356)
theorem e0_1357 : jv_ev d 0 1357 [some (.ref a), x1, x2, x3] st h = jv_ev d 0 1358 [some (.ref a), x1, x2, x3] (.ref a :: st) h := jq_nx (jv_insR jm_0 dL_law_1357) rfl
theorem e0_1358 : jv_ev d 0 1358 [x0, x1, x2, some (.int v)] st h = jv_ev d 0 1359 [x0, x1, x2, some (.int v)] (.int v :: st) h := jq_nx (jv_insR jm_0 dL_law_1358) rfl
theorem e0_1359 : jv_ev d 0 1359 lc st h = jv_ev d 0 1360 lc (.int 4 :: st) h := jq_iconst (jv_insR jm_0 dL_law_1359) (by decide)
theorem e0_1360 : jv_ev d 0 1360 lc (.int w :: .int v :: st) h = jv_ev d 0 1361 lc (.int (v + w) :: st) h := jq_nx (jv_insR jm_0 dL_law_1360) rfl
theorem e0_1361 : jv_ev d 0 1361 lc (.int v :: .ref a :: st) h = (jv_ig h a 0 0 v).bind fun w => jv_ev d 0 1362 lc (.int w :: st) h := jq_iald (jv_insR jm_0 dL_law_1361)
theorem e0_1362 : jv_ev d 0 1362 lc [z3, z2, z1, z0, .ref b, y0] h = (jv_rc h b [(0, 105)]).bind fun y => (jv_cd d y [.ref b, z0, z1, z2, z3] h).bind fun r => jv_on r (fun v h => jv_ev d 0 1365 lc (v.toList ++ [y0]) h) (fun q h => some (.inr q, h)) := jq_V (as := [z0, z1, z2, z3]) (rest := [y0]) (jv_insR jm_0 dL_law_1362) jo_0 jV_0_151 rfl rfl rfl rfl
theorem e0_1365 : jv_ev d 0 1365 lc (.int w :: .int v :: st) h = if v = w then jv_ev d 0 1482 lc st h else jv_ev d 0 1368 lc st h := jq_if (jv_insR jm_0 dL_law_1365) rfl (by decide)
theorem e0_1368 : jv_ev d 0 1368 lc st h = jv_ev d 0 1369 lc (.int 0 :: st) h := jq_iconst (jv_insR jm_0 dL_law_1368) (by decide)
theorem e0_1369 : jv_ev d 0 1369 lc [.int v] h = if narrow .boolean (.int v) = .int v then some (.inl (some (.int v)), h) else none := jq_ret (jv_insR jm_0 dL_law_1369) jr_0 (by decide)
theorem e0_1370 : jv_ev d 0 1370 [x0, some (.ref a), x2, x3] st h = jv_ev d 0 1371 [x0, some (.ref a), x2, x3] (.ref a :: st) h := jq_nx (jv_insR jm_0 dL_law_1370) rfl
theorem e0_1371 : jv_ev d 0 1371 [some (.ref a), x1, x2, x3] st h = jv_ev d 0 1372 [some (.ref a), x1, x2, x3] (.ref a :: st) h := jq_nx (jv_insR jm_0 dL_law_1371) rfl
theorem e0_1372 : jv_ev d 0 1372 [x0, x1, x2, some (.int v)] st h = jv_ev d 0 1373 [x0, x1, x2, some (.int v)] (.int v :: st) h := jq_nx (jv_insR jm_0 dL_law_1372) rfl
theorem e0_1373 : jv_ev d 0 1373 lc st h = jv_ev d 0 1374 lc (.int 1 :: st) h := jq_iconst (jv_insR jm_0 dL_law_1373) (by decide)
theorem e0_1374 : jv_ev d 0 1374 lc (.int w :: .int v :: st) h = jv_ev d 0 1375 lc (.int (v + w) :: st) h := jq_nx (jv_insR jm_0 dL_law_1374) rfl
theorem e0_1375 : jv_ev d 0 1375 lc (.int v :: .ref a :: st) h = (jv_ig h a 0 0 v).bind fun w => jv_ev d 0 1376 lc (.int w :: st) h := jq_iald (jv_insR jm_0 dL_law_1375)
theorem e0_1376 : jv_ev d 0 1376 [some (.ref a), x1, x2, x3] st h = jv_ev d 0 1377 [some (.ref a), x1, x2, x3] (.ref a :: st) h := jq_nx (jv_insR jm_0 dL_law_1376) rfl
theorem e0_1377 : jv_ev d 0 1377 [x0, x1, x2, some (.int v)] st h = jv_ev d 0 1378 [x0, x1, x2, some (.int v)] (.int v :: st) h := jq_nx (jv_insR jm_0 dL_law_1377) rfl
theorem e0_1378 : jv_ev d 0 1378 lc st h = jv_ev d 0 1379 lc (.int 2 :: st) h := jq_iconst (jv_insR jm_0 dL_law_1378) (by decide)
theorem e0_1379 : jv_ev d 0 1379 lc (.int w :: .int v :: st) h = jv_ev d 0 1380 lc (.int (v + w) :: st) h := jq_nx (jv_insR jm_0 dL_law_1379) rfl
theorem e0_1380 : jv_ev d 0 1380 lc (.int v :: .ref a :: st) h = (jv_ig h a 0 0 v).bind fun w => jv_ev d 0 1381 lc (.int w :: st) h := jq_iald (jv_insR jm_0 dL_law_1380)
theorem e0_1381 : jv_ev d 0 1381 [some (.ref a), x1, x2, x3] st h = jv_ev d 0 1382 [some (.ref a), x1, x2, x3] (.ref a :: st) h := jq_nx (jv_insR jm_0 dL_law_1381) rfl
theorem e0_1382 : jv_ev d 0 1382 [x0, x1, x2, some (.int v)] st h = jv_ev d 0 1383 [x0, x1, x2, some (.int v)] (.int v :: st) h := jq_nx (jv_insR jm_0 dL_law_1382) rfl
theorem e0_1383 : jv_ev d 0 1383 lc st h = jv_ev d 0 1384 lc (.int 3 :: st) h := jq_iconst (jv_insR jm_0 dL_law_1383) (by decide)
theorem e0_1384 : jv_ev d 0 1384 lc (.int w :: .int v :: st) h = jv_ev d 0 1385 lc (.int (v + w) :: st) h := jq_nx (jv_insR jm_0 dL_law_1384) rfl
theorem e0_1385 : jv_ev d 0 1385 lc (.int v :: .ref a :: st) h = (jv_ig h a 0 0 v).bind fun w => jv_ev d 0 1386 lc (.int w :: st) h := jq_iald (jv_insR jm_0 dL_law_1385)
theorem e0_1386 : jv_ev d 0 1386 lc [z2, z1, z0, .ref b] h = (jv_rc h b [(1, 169)]).bind fun y => (jv_cd d y [.ref b, z0, z1, z2] h).bind fun r => jv_on r (fun v h => jv_ev d 0 1389 lc (v.toList ++ []) h) (fun q h => some (.inr q, h)) := jq_V (as := [z0, z1, z2]) (rest := []) (jv_insR jm_0 dL_law_1386) jo_0 jV_0_152 rfl rfl rfl rfl
theorem e0_1389 : jv_ev d 0 1389 [x0, x1, some (.ref a), x3] st h = jv_ev d 0 1390 [x0, x1, some (.ref a), x3] (.ref a :: st) h := jq_nx (jv_insR jm_0 dL_law_1389) rfl
theorem e0_1390 : jv_ev d 0 1390 [some (.ref a), x1, x2, x3] st h = jv_ev d 0 1391 [some (.ref a), x1, x2, x3] (.ref a :: st) h := jq_nx (jv_insR jm_0 dL_law_1390) rfl
theorem e0_1391 : jv_ev d 0 1391 [x0, x1, x2, some (.int v)] st h = jv_ev d 0 1392 [x0, x1, x2, some (.int v)] (.int v :: st) h := jq_nx (jv_insR jm_0 dL_law_1391) rfl
theorem e0_1392 : jv_ev d 0 1392 lc st h = jv_ev d 0 1393 lc (.int 1 :: st) h := jq_iconst (jv_insR jm_0 dL_law_1392) (by decide)
theorem e0_1393 : jv_ev d 0 1393 lc (.int w :: .int v :: st) h = jv_ev d 0 1394 lc (.int (v + w) :: st) h := jq_nx (jv_insR jm_0 dL_law_1393) rfl
theorem e0_1394 : jv_ev d 0 1394 lc (.int v :: .ref a :: st) h = (jv_ig h a 0 0 v).bind fun w => jv_ev d 0 1395 lc (.int w :: st) h := jq_iald (jv_insR jm_0 dL_law_1394)
theorem e0_1395 : jv_ev d 0 1395 [some (.ref a), x1, x2, x3] st h = jv_ev d 0 1396 [some (.ref a), x1, x2, x3] (.ref a :: st) h := jq_nx (jv_insR jm_0 dL_law_1395) rfl
theorem e0_1396 : jv_ev d 0 1396 [x0, x1, x2, some (.int v)] st h = jv_ev d 0 1397 [x0, x1, x2, some (.int v)] (.int v :: st) h := jq_nx (jv_insR jm_0 dL_law_1396) rfl
theorem e0_1397 : jv_ev d 0 1397 lc st h = jv_ev d 0 1398 lc (.int 2 :: st) h := jq_iconst (jv_insR jm_0 dL_law_1397) (by decide)
theorem e0_1398 : jv_ev d 0 1398 lc (.int w :: .int v :: st) h = jv_ev d 0 1399 lc (.int (v + w) :: st) h := jq_nx (jv_insR jm_0 dL_law_1398) rfl
theorem e0_1399 : jv_ev d 0 1399 lc (.int v :: .ref a :: st) h = (jv_ig h a 0 0 v).bind fun w => jv_ev d 0 1400 lc (.int w :: st) h := jq_iald (jv_insR jm_0 dL_law_1399)
theorem e0_1400 : jv_ev d 0 1400 [some (.ref a), x1, x2, x3] st h = jv_ev d 0 1401 [some (.ref a), x1, x2, x3] (.ref a :: st) h := jq_nx (jv_insR jm_0 dL_law_1400) rfl
theorem e0_1401 : jv_ev d 0 1401 [x0, x1, x2, some (.int v)] st h = jv_ev d 0 1402 [x0, x1, x2, some (.int v)] (.int v :: st) h := jq_nx (jv_insR jm_0 dL_law_1401) rfl
theorem e0_1402 : jv_ev d 0 1402 lc st h = jv_ev d 0 1403 lc (.int 3 :: st) h := jq_iconst (jv_insR jm_0 dL_law_1402) (by decide)
theorem e0_1403 : jv_ev d 0 1403 lc (.int w :: .int v :: st) h = jv_ev d 0 1404 lc (.int (v + w) :: st) h := jq_nx (jv_insR jm_0 dL_law_1403) rfl
theorem e0_1404 : jv_ev d 0 1404 lc (.int v :: .ref a :: st) h = (jv_ig h a 0 0 v).bind fun w => jv_ev d 0 1405 lc (.int w :: st) h := jq_iald (jv_insR jm_0 dL_law_1404)
theorem e0_1405 : jv_ev d 0 1405 lc [z2, z1, z0, .ref b, y0] h = (jv_rc h b [(0, 109)]).bind fun y => (jv_cd d y [.ref b, z0, z1, z2] h).bind fun r => jv_on r (fun v h => jv_ev d 0 1408 lc (v.toList ++ [y0]) h) (fun q h => some (.inr q, h)) := jq_V (as := [z0, z1, z2]) (rest := [y0]) (jv_insR jm_0 dL_law_1405) jo_0 jV_0_155 rfl rfl rfl rfl
theorem e0_1408 : jv_ev d 0 1408 lc (.int w :: .int v :: st) h = if v = w then jv_ev d 0 1482 lc st h else jv_ev d 0 1411 lc st h := jq_if (jv_insR jm_0 dL_law_1408) rfl (by decide)
theorem e0_1411 : jv_ev d 0 1411 lc st h = jv_ev d 0 1412 lc (.int 0 :: st) h := jq_iconst (jv_insR jm_0 dL_law_1411) (by decide)
theorem e0_1412 : jv_ev d 0 1412 lc [.int v] h = if narrow .boolean (.int v) = .int v then some (.inl (some (.int v)), h) else none := jq_ret (jv_insR jm_0 dL_law_1412) jr_0 (by decide)
theorem e0_1413 : jv_ev d 0 1413 [x0, some (.ref a), x2, x3] st h = jv_ev d 0 1414 [x0, some (.ref a), x2, x3] (.ref a :: st) h := jq_nx (jv_insR jm_0 dL_law_1413) rfl
theorem e0_1414 : jv_ev d 0 1414 [some (.ref a), x1, x2, x3] st h = jv_ev d 0 1415 [some (.ref a), x1, x2, x3] (.ref a :: st) h := jq_nx (jv_insR jm_0 dL_law_1414) rfl
theorem e0_1415 : jv_ev d 0 1415 [x0, x1, x2, some (.int v)] st h = jv_ev d 0 1416 [x0, x1, x2, some (.int v)] (.int v :: st) h := jq_nx (jv_insR jm_0 dL_law_1415) rfl
theorem e0_1416 : jv_ev d 0 1416 lc st h = jv_ev d 0 1417 lc (.int 1 :: st) h := jq_iconst (jv_insR jm_0 dL_law_1416) (by decide)
theorem e0_1417 : jv_ev d 0 1417 lc (.int w :: .int v :: st) h = jv_ev d 0 1418 lc (.int (v + w) :: st) h := jq_nx (jv_insR jm_0 dL_law_1417) rfl
theorem e0_1418 : jv_ev d 0 1418 lc (.int v :: .ref a :: st) h = (jv_ig h a 0 0 v).bind fun w => jv_ev d 0 1419 lc (.int w :: st) h := jq_iald (jv_insR jm_0 dL_law_1418)
theorem e0_1419 : jv_ev d 0 1419 lc [z0, .ref b] h = (jv_rc h b [(1, 171)]).bind fun y => (jv_cd d y [.ref b, z0] h).bind fun r => jv_on r (fun v h => jv_ev d 0 1422 lc (v.toList ++ []) h) (fun q h => some (.inr q, h)) := jq_V (as := [z0]) (rest := []) (jv_insR jm_0 dL_law_1419) jo_0 jV_0_156 rfl rfl rfl rfl
theorem e0_1422 : jv_ev d 0 1422 [x0, x1, some (.ref a), x3] st h = jv_ev d 0 1423 [x0, x1, some (.ref a), x3] (.ref a :: st) h := jq_nx (jv_insR jm_0 dL_law_1422) rfl
theorem e0_1423 : jv_ev d 0 1423 [some (.ref a), x1, x2, x3] st h = jv_ev d 0 1424 [some (.ref a), x1, x2, x3] (.ref a :: st) h := jq_nx (jv_insR jm_0 dL_law_1423) rfl
theorem e0_1424 : jv_ev d 0 1424 [x0, x1, x2, some (.int v)] st h = jv_ev d 0 1425 [x0, x1, x2, some (.int v)] (.int v :: st) h := jq_nx (jv_insR jm_0 dL_law_1424) rfl
theorem e0_1425 : jv_ev d 0 1425 lc st h = jv_ev d 0 1426 lc (.int 1 :: st) h := jq_iconst (jv_insR jm_0 dL_law_1425) (by decide)
theorem e0_1426 : jv_ev d 0 1426 lc (.int w :: .int v :: st) h = jv_ev d 0 1427 lc (.int (v + w) :: st) h := jq_nx (jv_insR jm_0 dL_law_1426) rfl
theorem e0_1427 : jv_ev d 0 1427 lc (.int v :: .ref a :: st) h = (jv_ig h a 0 0 v).bind fun w => jv_ev d 0 1428 lc (.int w :: st) h := jq_iald (jv_insR jm_0 dL_law_1427)
theorem e0_1428 : jv_ev d 0 1428 lc [z0, .ref b, y0] h = (jv_rc h b [(0, 111)]).bind fun y => (jv_cd d y [.ref b, z0] h).bind fun r => jv_on r (fun v h => jv_ev d 0 1431 lc (v.toList ++ [y0]) h) (fun q h => some (.inr q, h)) := jq_V (as := [z0]) (rest := [y0]) (jv_insR jm_0 dL_law_1428) jo_0 jV_0_159 rfl rfl rfl rfl
theorem e0_1431 : jv_ev d 0 1431 lc (.int w :: .int v :: st) h = if v = w then jv_ev d 0 1482 lc st h else jv_ev d 0 1434 lc st h := jq_if (jv_insR jm_0 dL_law_1431) rfl (by decide)
theorem e0_1434 : jv_ev d 0 1434 lc st h = jv_ev d 0 1435 lc (.int 0 :: st) h := jq_iconst (jv_insR jm_0 dL_law_1434) (by decide)
theorem e0_1435 : jv_ev d 0 1435 lc [.int v] h = if narrow .boolean (.int v) = .int v then some (.inl (some (.int v)), h) else none := jq_ret (jv_insR jm_0 dL_law_1435) jr_0 (by decide)
theorem e0_1436 : jv_ev d 0 1436 [x0, some (.ref a), x2, x3] st h = jv_ev d 0 1437 [x0, some (.ref a), x2, x3] (.ref a :: st) h := jq_nx (jv_insR jm_0 dL_law_1436) rfl
theorem e0_1437 : jv_ev d 0 1437 [some (.ref a), x1, x2, x3] st h = jv_ev d 0 1438 [some (.ref a), x1, x2, x3] (.ref a :: st) h := jq_nx (jv_insR jm_0 dL_law_1437) rfl
theorem e0_1438 : jv_ev d 0 1438 [x0, x1, x2, some (.int v)] st h = jv_ev d 0 1439 [x0, x1, x2, some (.int v)] (.int v :: st) h := jq_nx (jv_insR jm_0 dL_law_1438) rfl
theorem e0_1439 : jv_ev d 0 1439 lc st h = jv_ev d 0 1440 lc (.int 1 :: st) h := jq_iconst (jv_insR jm_0 dL_law_1439) (by decide)
theorem e0_1440 : jv_ev d 0 1440 lc (.int w :: .int v :: st) h = jv_ev d 0 1441 lc (.int (v + w) :: st) h := jq_nx (jv_insR jm_0 dL_law_1440) rfl
theorem e0_1441 : jv_ev d 0 1441 lc (.int v :: .ref a :: st) h = (jv_ig h a 0 0 v).bind fun w => jv_ev d 0 1442 lc (.int w :: st) h := jq_iald (jv_insR jm_0 dL_law_1441)
theorem e0_1442 : jv_ev d 0 1442 lc [z0, .ref b] h = (jv_rc h b [(1, 172)]).bind fun y => (jv_cd d y [.ref b, z0] h).bind fun r => jv_on r (fun v h => jv_ev d 0 1445 lc (v.toList ++ []) h) (fun q h => some (.inr q, h)) := jq_V (as := [z0]) (rest := []) (jv_insR jm_0 dL_law_1442) jo_0 jV_0_160 rfl rfl rfl rfl
theorem e0_1445 : jv_ev d 0 1445 [x0, x1, some (.ref a), x3] st h = jv_ev d 0 1446 [x0, x1, some (.ref a), x3] (.ref a :: st) h := jq_nx (jv_insR jm_0 dL_law_1445) rfl
theorem e0_1446 : jv_ev d 0 1446 [some (.ref a), x1, x2, x3] st h = jv_ev d 0 1447 [some (.ref a), x1, x2, x3] (.ref a :: st) h := jq_nx (jv_insR jm_0 dL_law_1446) rfl
theorem e0_1447 : jv_ev d 0 1447 [x0, x1, x2, some (.int v)] st h = jv_ev d 0 1448 [x0, x1, x2, some (.int v)] (.int v :: st) h := jq_nx (jv_insR jm_0 dL_law_1447) rfl
theorem e0_1448 : jv_ev d 0 1448 lc st h = jv_ev d 0 1449 lc (.int 1 :: st) h := jq_iconst (jv_insR jm_0 dL_law_1448) (by decide)
theorem e0_1449 : jv_ev d 0 1449 lc (.int w :: .int v :: st) h = jv_ev d 0 1450 lc (.int (v + w) :: st) h := jq_nx (jv_insR jm_0 dL_law_1449) rfl
theorem e0_1450 : jv_ev d 0 1450 lc (.int v :: .ref a :: st) h = (jv_ig h a 0 0 v).bind fun w => jv_ev d 0 1451 lc (.int w :: st) h := jq_iald (jv_insR jm_0 dL_law_1450)
theorem e0_1451 : jv_ev d 0 1451 lc [z0, .ref b, y0] h = (jv_rc h b [(0, 112)]).bind fun y => (jv_cd d y [.ref b, z0] h).bind fun r => jv_on r (fun v h => jv_ev d 0 1454 lc (v.toList ++ [y0]) h) (fun q h => some (.inr q, h)) := jq_V (as := [z0]) (rest := [y0]) (jv_insR jm_0 dL_law_1451) jo_0 jV_0_163 rfl rfl rfl rfl
theorem e0_1454 : jv_ev d 0 1454 lc (.int w :: .int v :: st) h = if v = w then jv_ev d 0 1482 lc st h else jv_ev d 0 1457 lc st h := jq_if (jv_insR jm_0 dL_law_1454) rfl (by decide)
theorem e0_1457 : jv_ev d 0 1457 lc st h = jv_ev d 0 1458 lc (.int 0 :: st) h := jq_iconst (jv_insR jm_0 dL_law_1457) (by decide)
theorem e0_1458 : jv_ev d 0 1458 lc [.int v] h = if narrow .boolean (.int v) = .int v then some (.inl (some (.int v)), h) else none := jq_ret (jv_insR jm_0 dL_law_1458) jr_0 (by decide)
theorem e0_1459 : jv_ev d 0 1459 [x0, some (.ref a), x2, x3] st h = jv_ev d 0 1460 [x0, some (.ref a), x2, x3] (.ref a :: st) h := jq_nx (jv_insR jm_0 dL_law_1459) rfl
theorem e0_1460 : jv_ev d 0 1460 [some (.ref a), x1, x2, x3] st h = jv_ev d 0 1461 [some (.ref a), x1, x2, x3] (.ref a :: st) h := jq_nx (jv_insR jm_0 dL_law_1460) rfl
theorem e0_1461 : jv_ev d 0 1461 [x0, x1, x2, some (.int v)] st h = jv_ev d 0 1462 [x0, x1, x2, some (.int v)] (.int v :: st) h := jq_nx (jv_insR jm_0 dL_law_1461) rfl
theorem e0_1462 : jv_ev d 0 1462 lc st h = jv_ev d 0 1463 lc (.int 1 :: st) h := jq_iconst (jv_insR jm_0 dL_law_1462) (by decide)
theorem e0_1463 : jv_ev d 0 1463 lc (.int w :: .int v :: st) h = jv_ev d 0 1464 lc (.int (v + w) :: st) h := jq_nx (jv_insR jm_0 dL_law_1463) rfl
theorem e0_1464 : jv_ev d 0 1464 lc (.int v :: .ref a :: st) h = (jv_ig h a 0 0 v).bind fun w => jv_ev d 0 1465 lc (.int w :: st) h := jq_iald (jv_insR jm_0 dL_law_1464)
theorem e0_1465 : jv_ev d 0 1465 lc [z0, .ref b] h = (jv_rc h b [(1, 173)]).bind fun y => (jv_cd d y [.ref b, z0] h).bind fun r => jv_on r (fun v h => jv_ev d 0 1468 lc (v.toList ++ []) h) (fun q h => some (.inr q, h)) := jq_V (as := [z0]) (rest := []) (jv_insR jm_0 dL_law_1465) jo_0 jV_0_164 rfl rfl rfl rfl
theorem e0_1468 : jv_ev d 0 1468 [x0, x1, some (.ref a), x3] st h = jv_ev d 0 1469 [x0, x1, some (.ref a), x3] (.ref a :: st) h := jq_nx (jv_insR jm_0 dL_law_1468) rfl
theorem e0_1469 : jv_ev d 0 1469 [some (.ref a), x1, x2, x3] st h = jv_ev d 0 1470 [some (.ref a), x1, x2, x3] (.ref a :: st) h := jq_nx (jv_insR jm_0 dL_law_1469) rfl
theorem e0_1470 : jv_ev d 0 1470 [x0, x1, x2, some (.int v)] st h = jv_ev d 0 1471 [x0, x1, x2, some (.int v)] (.int v :: st) h := jq_nx (jv_insR jm_0 dL_law_1470) rfl
theorem e0_1471 : jv_ev d 0 1471 lc st h = jv_ev d 0 1472 lc (.int 1 :: st) h := jq_iconst (jv_insR jm_0 dL_law_1471) (by decide)
theorem e0_1472 : jv_ev d 0 1472 lc (.int w :: .int v :: st) h = jv_ev d 0 1473 lc (.int (v + w) :: st) h := jq_nx (jv_insR jm_0 dL_law_1472) rfl
theorem e0_1473 : jv_ev d 0 1473 lc (.int v :: .ref a :: st) h = (jv_ig h a 0 0 v).bind fun w => jv_ev d 0 1474 lc (.int w :: st) h := jq_iald (jv_insR jm_0 dL_law_1473)
theorem e0_1474 : jv_ev d 0 1474 lc [z0, .ref b, y0] h = (jv_rc h b [(0, 113)]).bind fun y => (jv_cd d y [.ref b, z0] h).bind fun r => jv_on r (fun v h => jv_ev d 0 1477 lc (v.toList ++ [y0]) h) (fun q h => some (.inr q, h)) := jq_V (as := [z0]) (rest := [y0]) (jv_insR jm_0 dL_law_1474) jo_0 jV_0_167 rfl rfl rfl rfl
theorem e0_1477 : jv_ev d 0 1477 lc (.int w :: .int v :: st) h = if v = w then jv_ev d 0 1482 lc st h else jv_ev d 0 1480 lc st h := jq_if (jv_insR jm_0 dL_law_1477) rfl (by decide)
theorem e0_1480 : jv_ev d 0 1480 lc st h = jv_ev d 0 1481 lc (.int 0 :: st) h := jq_iconst (jv_insR jm_0 dL_law_1480) (by decide)
theorem e0_1481 : jv_ev d 0 1481 lc [.int v] h = if narrow .boolean (.int v) = .int v then some (.inl (some (.int v)), h) else none := jq_ret (jv_insR jm_0 dL_law_1481) jr_0 (by decide)
theorem e0_1482 : jv_ev d 0 1482 [x0, x1, x2, some (.int v)] st h = jv_ev d 0 1485 [x0, x1, x2, some (.int (v + 6))] st h := jq_nx (jv_insR jm_0 dL_law_1482) rfl
theorem e0_1485 : jv_ev d 0 1485 lc st h = jv_ev d 0 18 lc st h := jq_go (jv_insR jm_0 dL_law_1485) (by decide)
theorem e0_1488 : jv_ev d 0 1488 lc st h = jv_ev d 0 1489 lc (.int 1 :: st) h := jq_iconst (jv_insR jm_0 dL_law_1488) (by decide)
theorem e0_1489 : jv_ev d 0 1489 lc [.int v] h = if narrow .boolean (.int v) = .int v then some (.inl (some (.int v)), h) else none := jq_ret (jv_insR jm_0 dL_law_1489) jr_0 (by decide)
end
