theorem jb {α β : Type} {x : Option α} {y : α} (h : x = some y) {f : α → Option β} : x.bind f = f y := by rw [h]; rfl
theorem jbi {α β : Type} {x : Option α} {c : Prop} [Decidable c] {y : α} (h : x = if c then none else some y) {f : α → Option β} : x.bind f = if c then none else f y := by
  rw [h]
  by_cases hc : c
  · rw [if_pos hc, if_pos hc]; rfl
  · rw [if_neg hc, if_neg hc]; rfl
section
variable {p q : jv_H} {s : tw_S} {i x v : Int32} {xl : Int64}
theorem tgb_0 (hp : p.length = 589) {F : Value → Option jv_R} : (jv_gf (tw_h p s q) 589 [(0, 0, .int)]).bind F = F (.int (s.1 0)) := jb (tg_0 hp)
theorem tpb_0 (hp : p.length = 589) {F : jv_H → Option jv_R} : (jv_pf (tw_h p s q) 589 [(0, 0, .int)] (.int v)).bind F = F (tw_h p (tw_i s 0 v) q) := jb (tp_0 hp)
theorem tgb_1 (hp : p.length = 589) {F : Value → Option jv_R} : (jv_gf (tw_h p s q) 589 [(0, 1, .array .byte)]).bind F = F (.ref 590) := jb (tg_1 hp)
theorem tgb_2 (hp : p.length = 589) {F : Value → Option jv_R} : (jv_gf (tw_h p s q) 589 [(0, 2, .int)]).bind F = F (.int (s.1 2)) := jb (tg_2 hp)
theorem tpb_2 (hp : p.length = 589) {F : jv_H → Option jv_R} : (jv_pf (tw_h p s q) 589 [(0, 2, .int)] (.int v)).bind F = F (tw_h p (tw_i s 2 v) q) := jb (tp_2 hp)
theorem tgb_3 (hp : p.length = 589) {F : Value → Option jv_R} : (jv_gf (tw_h p s q) 589 [(0, 3, .array .byte)]).bind F = F (.ref 591) := jb (tg_3 hp)
theorem tgb_4 (hp : p.length = 589) {F : Value → Option jv_R} : (jv_gf (tw_h p s q) 589 [(0, 4, .int)]).bind F = F (.int (s.1 4)) := jb (tg_4 hp)
theorem tpb_4 (hp : p.length = 589) {F : jv_H → Option jv_R} : (jv_pf (tw_h p s q) 589 [(0, 4, .int)] (.int v)).bind F = F (tw_h p (tw_i s 4 v) q) := jb (tp_4 hp)
theorem tgb_5 (hp : p.length = 589) {F : Value → Option jv_R} : (jv_gf (tw_h p s q) 589 [(0, 5, .array .int)]).bind F = F (.ref 592) := jb (tg_5 hp)
theorem tgb_6 (hp : p.length = 589) {F : Value → Option jv_R} : (jv_gf (tw_h p s q) 589 [(0, 6, .array .int)]).bind F = F (.ref 593) := jb (tg_6 hp)
theorem tgb_7 (hp : p.length = 589) {F : Value → Option jv_R} : (jv_gf (tw_h p s q) 589 [(0, 7, .array .int)]).bind F = F (.ref 594) := jb (tg_7 hp)
theorem tgb_8 (hp : p.length = 589) {F : Value → Option jv_R} : (jv_gf (tw_h p s q) 589 [(0, 8, .array .long)]).bind F = F (.ref 595) := jb (tg_8 hp)
theorem tgb_9 (hp : p.length = 589) {F : Value → Option jv_R} : (jv_gf (tw_h p s q) 589 [(0, 9, .array .long)]).bind F = F (.ref 596) := jb (tg_9 hp)
theorem tgb_10 (hp : p.length = 589) {F : Value → Option jv_R} : (jv_gf (tw_h p s q) 589 [(0, 10, .int)]).bind F = F (.int (s.1 10)) := jb (tg_10 hp)
theorem tpb_10 (hp : p.length = 589) {F : jv_H → Option jv_R} : (jv_pf (tw_h p s q) 589 [(0, 10, .int)] (.int v)).bind F = F (tw_h p (tw_i s 10 v) q) := jb (tp_10 hp)
theorem tgb_11 (hp : p.length = 589) {F : Value → Option jv_R} : (jv_gf (tw_h p s q) 589 [(0, 11, .int)]).bind F = F (.int (s.1 11)) := jb (tg_11 hp)
theorem tpb_11 (hp : p.length = 589) {F : jv_H → Option jv_R} : (jv_pf (tw_h p s q) 589 [(0, 11, .int)] (.int v)).bind F = F (tw_h p (tw_i s 11 v) q) := jb (tp_11 hp)
theorem tgb_12 (hp : p.length = 589) {F : Value → Option jv_R} : (jv_gf (tw_h p s q) 589 [(0, 12, .int)]).bind F = F (.int (s.1 12)) := jb (tg_12 hp)
theorem tpb_12 (hp : p.length = 589) {F : jv_H → Option jv_R} : (jv_pf (tw_h p s q) 589 [(0, 12, .int)] (.int v)).bind F = F (tw_h p (tw_i s 12 v) q) := jb (tp_12 hp)
theorem tgb_13 (hp : p.length = 589) {F : Value → Option jv_R} : (jv_gf (tw_h p s q) 589 [(0, 13, .int)]).bind F = F (.int (s.1 13)) := jb (tg_13 hp)
theorem tpb_13 (hp : p.length = 589) {F : jv_H → Option jv_R} : (jv_pf (tw_h p s q) 589 [(0, 13, .int)] (.int v)).bind F = F (tw_h p (tw_i s 13 v) q) := jb (tp_13 hp)
theorem tgb_14 (hp : p.length = 589) {F : Value → Option jv_R} : (jv_gf (tw_h p s q) 589 [(0, 14, .int)]).bind F = F (.int (s.1 14)) := jb (tg_14 hp)
theorem tpb_14 (hp : p.length = 589) {F : jv_H → Option jv_R} : (jv_pf (tw_h p s q) 589 [(0, 14, .int)] (.int v)).bind F = F (tw_h p (tw_i s 14 v) q) := jb (tp_14 hp)
theorem tgb_15 (hp : p.length = 589) {F : Value → Option jv_R} : (jv_gf (tw_h p s q) 589 [(0, 15, .int)]).bind F = F (.int (s.1 15)) := jb (tg_15 hp)
theorem tpb_15 (hp : p.length = 589) {F : jv_H → Option jv_R} : (jv_pf (tw_h p s q) 589 [(0, 15, .int)] (.int v)).bind F = F (tw_h p (tw_i s 15 v) q) := jb (tp_15 hp)
theorem tgb_16 (hp : p.length = 589) {F : Value → Option jv_R} : (jv_gf (tw_h p s q) 589 [(0, 16, .int)]).bind F = F (.int (s.1 16)) := jb (tg_16 hp)
theorem tpb_16 (hp : p.length = 589) {F : jv_H → Option jv_R} : (jv_pf (tw_h p s q) 589 [(0, 16, .int)] (.int v)).bind F = F (tw_h p (tw_i s 16 v) q) := jb (tp_16 hp)
theorem tgb_17 (hp : p.length = 589) {F : Value → Option jv_R} : (jv_gf (tw_h p s q) 589 [(0, 17, .int)]).bind F = F (.int (s.1 17)) := jb (tg_17 hp)
theorem tpb_17 (hp : p.length = 589) {F : jv_H → Option jv_R} : (jv_pf (tw_h p s q) 589 [(0, 17, .int)] (.int v)).bind F = F (tw_h p (tw_i s 17 v) q) := jb (tp_17 hp)
theorem tgb_18 (hp : p.length = 589) {F : Value → Option jv_R} : (jv_gf (tw_h p s q) 589 [(0, 18, .int)]).bind F = F (.int (s.1 18)) := jb (tg_18 hp)
theorem tpb_18 (hp : p.length = 589) {F : jv_H → Option jv_R} : (jv_pf (tw_h p s q) 589 [(0, 18, .int)] (.int v)).bind F = F (tw_h p (tw_i s 18 v) q) := jb (tp_18 hp)
theorem tgb_19 (hp : p.length = 589) {F : Value → Option jv_R} : (jv_gf (tw_h p s q) 589 [(0, 19, .int)]).bind F = F (.int (s.1 19)) := jb (tg_19 hp)
theorem tpb_19 (hp : p.length = 589) {F : jv_H → Option jv_R} : (jv_pf (tw_h p s q) 589 [(0, 19, .int)] (.int v)).bind F = F (tw_h p (tw_i s 19 v) q) := jb (tp_19 hp)
theorem tgb_20 (hp : p.length = 589) {F : Value → Option jv_R} : (jv_gf (tw_h p s q) 589 [(0, 20, .int)]).bind F = F (.int (s.1 20)) := jb (tg_20 hp)
theorem tpb_20 (hp : p.length = 589) {F : jv_H → Option jv_R} : (jv_pf (tw_h p s q) 589 [(0, 20, .int)] (.int v)).bind F = F (tw_h p (tw_i s 20 v) q) := jb (tp_20 hp)
theorem tgb_21 (hp : p.length = 589) {F : Value → Option jv_R} : (jv_gf (tw_h p s q) 589 [(0, 21, .array .long)]).bind F = F (.ref 597) := jb (tg_21 hp)
theorem tgb_22 (hp : p.length = 589) {F : Value → Option jv_R} : (jv_gf (tw_h p s q) 589 [(0, 22, .array .int)]).bind F = F (.ref 598) := jb (tg_22 hp)
theorem tgb_23 (hp : p.length = 589) {F : Value → Option jv_R} : (jv_gf (tw_h p s q) 589 [(0, 23, .array .int)]).bind F = F (.ref 599) := jb (tg_23 hp)
theorem tgb_24 (hp : p.length = 589) {F : Value → Option jv_R} : (jv_gf (tw_h p s q) 589 [(0, 24, .array .int)]).bind F = F (.ref 600) := jb (tg_24 hp)
theorem tgb_25 (hp : p.length = 589) {F : Value → Option jv_R} : (jv_gf (tw_h p s q) 589 [(0, 25, .array .int)]).bind F = F (.ref 601) := jb (tg_25 hp)
theorem tgb_26 (hp : p.length = 589) {F : Value → Option jv_R} : (jv_gf (tw_h p s q) 589 [(0, 26, .array .int)]).bind F = F (.ref 602) := jb (tg_26 hp)
theorem tgb_27 (hp : p.length = 589) {F : Value → Option jv_R} : (jv_gf (tw_h p s q) 589 [(0, 27, .array .int)]).bind F = F (.ref 603) := jb (tg_27 hp)
theorem tgb_28 (hp : p.length = 589) {F : Value → Option jv_R} : (jv_gf (tw_h p s q) 589 [(0, 28, .array .int)]).bind F = F (.ref 604) := jb (tg_28 hp)
theorem tgb_29 (hp : p.length = 589) {F : Value → Option jv_R} : (jv_gf (tw_h p s q) 589 [(0, 29, .array .int)]).bind F = F (.ref 605) := jb (tg_29 hp)
theorem tgb_30 (hp : p.length = 589) {F : Value → Option jv_R} : (jv_gf (tw_h p s q) 589 [(0, 30, .array .int)]).bind F = F (.ref 606) := jb (tg_30 hp)
theorem tgb_31 (hp : p.length = 589) {F : Value → Option jv_R} : (jv_gf (tw_h p s q) 589 [(0, 31, .array .int)]).bind F = F (.ref 607) := jb (tg_31 hp)
theorem tgb_32 (hp : p.length = 589) {F : Value → Option jv_R} : (jv_gf (tw_h p s q) 589 [(0, 32, .array .int)]).bind F = F (.ref 608) := jb (tg_32 hp)
theorem tgb_33 (hp : p.length = 589) {F : Value → Option jv_R} : (jv_gf (tw_h p s q) 589 [(0, 33, .array .int)]).bind F = F (.ref 609) := jb (tg_33 hp)
theorem tgb_34 (hp : p.length = 589) {F : Value → Option jv_R} : (jv_gf (tw_h p s q) 589 [(0, 34, .array .int)]).bind F = F (.ref 610) := jb (tg_34 hp)
theorem tgb_35 (hp : p.length = 589) {F : Value → Option jv_R} : (jv_gf (tw_h p s q) 589 [(0, 35, .array .int)]).bind F = F (.ref 611) := jb (tg_35 hp)
theorem tgb_36 (hp : p.length = 589) {F : Value → Option jv_R} : (jv_gf (tw_h p s q) 589 [(0, 36, .int)]).bind F = F (.int (s.1 36)) := jb (tg_36 hp)
theorem tpb_36 (hp : p.length = 589) {F : jv_H → Option jv_R} : (jv_pf (tw_h p s q) 589 [(0, 36, .int)] (.int v)).bind F = F (tw_h p (tw_i s 36 v) q) := jb (tp_36 hp)
theorem tgb_37 (hp : p.length = 589) {F : Value → Option jv_R} : (jv_gf (tw_h p s q) 589 [(0, 37, .array .boolean)]).bind F = F (.ref 612) := jb (tg_37 hp)
theorem tgb_38 (hp : p.length = 589) {F : Value → Option jv_R} : (jv_gf (tw_h p s q) 589 [(0, 38, .array .int)]).bind F = F (.ref 613) := jb (tg_38 hp)
theorem tgb_39 (hp : p.length = 589) {F : Value → Option jv_R} : (jv_gf (tw_h p s q) 589 [(0, 39, .array .int)]).bind F = F (.ref 614) := jb (tg_39 hp)
theorem tgb_40 (hp : p.length = 589) {F : Value → Option jv_R} : (jv_gf (tw_h p s q) 589 [(0, 40, .array .int)]).bind F = F (.ref 615) := jb (tg_40 hp)
theorem tgb_41 (hp : p.length = 589) {F : Value → Option jv_R} : (jv_gf (tw_h p s q) 589 [(0, 41, .array .int)]).bind F = F (.ref 616) := jb (tg_41 hp)
theorem tgb_42 (hp : p.length = 589) {F : Value → Option jv_R} : (jv_gf (tw_h p s q) 589 [(0, 42, .int)]).bind F = F (.int (s.1 42)) := jb (tg_42 hp)
theorem tpb_42 (hp : p.length = 589) {F : jv_H → Option jv_R} : (jv_pf (tw_h p s q) 589 [(0, 42, .int)] (.int v)).bind F = F (tw_h p (tw_i s 42 v) q) := jb (tp_42 hp)
theorem tgb_43 (hp : p.length = 589) {F : Value → Option jv_R} : (jv_gf (tw_h p s q) 589 [(0, 43, .array .int)]).bind F = F (.ref 617) := jb (tg_43 hp)
theorem tgb_44 (hp : p.length = 589) {F : Value → Option jv_R} : (jv_gf (tw_h p s q) 589 [(0, 44, .array .int)]).bind F = F (.ref 618) := jb (tg_44 hp)
theorem tgb_45 (hp : p.length = 589) {F : Value → Option jv_R} : (jv_gf (tw_h p s q) 589 [(0, 45, .array .int)]).bind F = F (.ref 619) := jb (tg_45 hp)
theorem tgb_46 (hp : p.length = 589) {F : Value → Option jv_R} : (jv_gf (tw_h p s q) 589 [(0, 46, .int)]).bind F = F (.int (s.1 46)) := jb (tg_46 hp)
theorem tpb_46 (hp : p.length = 589) {F : jv_H → Option jv_R} : (jv_pf (tw_h p s q) 589 [(0, 46, .int)] (.int v)).bind F = F (tw_h p (tw_i s 46 v) q) := jb (tp_46 hp)
theorem tgb_47 (hp : p.length = 589) {F : Value → Option jv_R} : (jv_gf (tw_h p s q) 589 [(0, 47, .array .int)]).bind F = F (.ref 620) := jb (tg_47 hp)
theorem tgb_48 (hp : p.length = 589) {F : Value → Option jv_R} : (jv_gf (tw_h p s q) 589 [(0, 48, .array .int)]).bind F = F (.ref 621) := jb (tg_48 hp)
theorem tgb_49 (hp : p.length = 589) {F : Value → Option jv_R} : (jv_gf (tw_h p s q) 589 [(0, 49, .boolean)]).bind F = F (.int (s.1 49)) := jb (tg_49 hp)
theorem tpb_49 (hp : p.length = 589) (hv : v = 0 ∨ v = 1) {F : jv_H → Option jv_R} : (jv_pf (tw_h p s q) 589 [(0, 49, .boolean)] (.int v)).bind F = F (tw_h p (tw_i s 49 v) q) := jb (tp_49 hp hv)
theorem tgb_50 (hp : p.length = 589) {F : Value → Option jv_R} : (jv_gf (tw_h p s q) 589 [(0, 50, .array .int)]).bind F = F (.ref 622) := jb (tg_50 hp)
theorem tgb_51 (hp : p.length = 589) {F : Value → Option jv_R} : (jv_gf (tw_h p s q) 589 [(0, 51, .array .int)]).bind F = F (.ref 623) := jb (tg_51 hp)
theorem tgb_52 (hp : p.length = 589) {F : Value → Option jv_R} : (jv_gf (tw_h p s q) 589 [(0, 52, .int)]).bind F = F (.int (s.1 52)) := jb (tg_52 hp)
theorem tpb_52 (hp : p.length = 589) {F : jv_H → Option jv_R} : (jv_pf (tw_h p s q) 589 [(0, 52, .int)] (.int v)).bind F = F (tw_h p (tw_i s 52 v) q) := jb (tp_52 hp)
theorem tgb_53 (hp : p.length = 589) {F : Value → Option jv_R} : (jv_gf (tw_h p s q) 589 [(0, 53, .int)]).bind F = F (.int (s.1 53)) := jb (tg_53 hp)
theorem tpb_53 (hp : p.length = 589) {F : jv_H → Option jv_R} : (jv_pf (tw_h p s q) 589 [(0, 53, .int)] (.int v)).bind F = F (tw_h p (tw_i s 53 v) q) := jb (tp_53 hp)
theorem tgb_54 (hp : p.length = 589) {F : Value → Option jv_R} : (jv_gf (tw_h p s q) 589 [(0, 54, .array .int)]).bind F = F (.ref 624) := jb (tg_54 hp)
theorem tgb_55 (hp : p.length = 589) {F : Value → Option jv_R} : (jv_gf (tw_h p s q) 589 [(0, 55, .int)]).bind F = F (.int (s.1 55)) := jb (tg_55 hp)
theorem tpb_55 (hp : p.length = 589) {F : jv_H → Option jv_R} : (jv_pf (tw_h p s q) 589 [(0, 55, .int)] (.int v)).bind F = F (tw_h p (tw_i s 55 v) q) := jb (tp_55 hp)
theorem tgb_56 (hp : p.length = 589) {F : Value → Option jv_R} : (jv_gf (tw_h p s q) 589 [(0, 56, .int)]).bind F = F (.int (s.1 56)) := jb (tg_56 hp)
theorem tpb_56 (hp : p.length = 589) {F : jv_H → Option jv_R} : (jv_pf (tw_h p s q) 589 [(0, 56, .int)] (.int v)).bind F = F (tw_h p (tw_i s 56 v) q) := jb (tp_56 hp)
theorem tgb_57 (hp : p.length = 589) {F : Value → Option jv_R} : (jv_gf (tw_h p s q) 589 [(0, 57, .array .int)]).bind F = F (.ref 625) := jb (tg_57 hp)
theorem tgb_58 (hp : p.length = 589) {F : Value → Option jv_R} : (jv_gf (tw_h p s q) 589 [(0, 58, .array .int)]).bind F = F (.ref 626) := jb (tg_58 hp)
theorem tgb_59 (hp : p.length = 589) {F : Value → Option jv_R} : (jv_gf (tw_h p s q) 589 [(0, 59, .array .int)]).bind F = F (.ref 627) := jb (tg_59 hp)
theorem tgb_60 (hp : p.length = 589) {F : Value → Option jv_R} : (jv_gf (tw_h p s q) 589 [(0, 60, .array .int)]).bind F = F (.ref 628) := jb (tg_60 hp)
theorem tgb_61 (hp : p.length = 589) {F : Value → Option jv_R} : (jv_gf (tw_h p s q) 589 [(0, 61, .int)]).bind F = F (.int (s.1 61)) := jb (tg_61 hp)
theorem tpb_61 (hp : p.length = 589) {F : jv_H → Option jv_R} : (jv_pf (tw_h p s q) 589 [(0, 61, .int)] (.int v)).bind F = F (tw_h p (tw_i s 61 v) q) := jb (tp_61 hp)
theorem tgb_62 (hp : p.length = 589) {F : Value → Option jv_R} : (jv_gf (tw_h p s q) 589 [(0, 62, .int)]).bind F = F (.int (s.1 62)) := jb (tg_62 hp)
theorem tpb_62 (hp : p.length = 589) {F : jv_H → Option jv_R} : (jv_pf (tw_h p s q) 589 [(0, 62, .int)] (.int v)).bind F = F (tw_h p (tw_i s 62 v) q) := jb (tp_62 hp)
theorem tgb_63 (hp : p.length = 589) {F : Value → Option jv_R} : (jv_gf (tw_h p s q) 589 [(0, 63, .int)]).bind F = F (.int (s.1 63)) := jb (tg_63 hp)
theorem tpb_63 (hp : p.length = 589) {F : jv_H → Option jv_R} : (jv_pf (tw_h p s q) 589 [(0, 63, .int)] (.int v)).bind F = F (tw_h p (tw_i s 63 v) q) := jb (tp_63 hp)
theorem tgb_64 (hp : p.length = 589) {F : Value → Option jv_R} : (jv_gf (tw_h p s q) 589 [(0, 64, .array .int)]).bind F = F (.ref 629) := jb (tg_64 hp)
theorem tgb_65 (hp : p.length = 589) {F : Value → Option jv_R} : (jv_gf (tw_h p s q) 589 [(0, 65, .int)]).bind F = F (.int (s.1 65)) := jb (tg_65 hp)
theorem tpb_65 (hp : p.length = 589) {F : jv_H → Option jv_R} : (jv_pf (tw_h p s q) 589 [(0, 65, .int)] (.int v)).bind F = F (tw_h p (tw_i s 65 v) q) := jb (tp_65 hp)
theorem tgb_66 (hp : p.length = 589) {F : Value → Option jv_R} : (jv_gf (tw_h p s q) 589 [(0, 66, .array .int)]).bind F = F (.ref 630) := jb (tg_66 hp)
theorem tgb_67 (hp : p.length = 589) {F : Value → Option jv_R} : (jv_gf (tw_h p s q) 589 [(0, 67, .array .int)]).bind F = F (.ref 631) := jb (tg_67 hp)
theorem tgb_68 (hp : p.length = 589) {F : Value → Option jv_R} : (jv_gf (tw_h p s q) 589 [(0, 68, .array .boolean)]).bind F = F (.ref 632) := jb (tg_68 hp)
theorem tgb_69 (hp : p.length = 589) {F : Value → Option jv_R} : (jv_gf (tw_h p s q) 589 [(0, 69, .array .int)]).bind F = F (.ref 633) := jb (tg_69 hp)
theorem tgb_70 (hp : p.length = 589) {F : Value → Option jv_R} : (jv_gf (tw_h p s q) 589 [(0, 70, .array .boolean)]).bind F = F (.ref 634) := jb (tg_70 hp)
theorem tgb_71 (hp : p.length = 589) {F : Value → Option jv_R} : (jv_gf (tw_h p s q) 589 [(0, 71, .array .int)]).bind F = F (.ref 635) := jb (tg_71 hp)
theorem trb_1 (hp : p.length = 589) {F : Int32 → Option jv_R} : (jv_ig (tw_h p s q) 590 1 2 i).bind F = if i < 0 ∨ 2000 ≤ i.toNatClampNeg then none else F (s.2.1 1 i.toNatClampNeg) := jbi (tr_1 hp)
theorem tub_1 (hp : p.length = 589) {F : jv_H → Option jv_R} : (jv_ip (tw_h p s q) 590 1 2 i x).bind F = if i < 0 ∨ 2000 ≤ i.toNatClampNeg then none else F (tw_h p (tw_a s 1 (upd (s.2.1 1) i.toNatClampNeg (vp_nar .byte x))) q) := jbi (tu_1 hp)
theorem trb_3 (hp : p.length = 589) {F : Int32 → Option jv_R} : (jv_ig (tw_h p s q) 591 1 2 i).bind F = if i < 0 ∨ 2000 ≤ i.toNatClampNeg then none else F (s.2.1 3 i.toNatClampNeg) := jbi (tr_3 hp)
theorem tub_3 (hp : p.length = 589) {F : jv_H → Option jv_R} : (jv_ip (tw_h p s q) 591 1 2 i x).bind F = if i < 0 ∨ 2000 ≤ i.toNatClampNeg then none else F (tw_h p (tw_a s 3 (upd (s.2.1 3) i.toNatClampNeg (vp_nar .byte x))) q) := jbi (tu_3 hp)
theorem trb_5 (hp : p.length = 589) {F : Int32 → Option jv_R} : (jv_ig (tw_h p s q) 592 0 0 i).bind F = if i < 0 ∨ 403 ≤ i.toNatClampNeg then none else F (s.2.1 5 i.toNatClampNeg) := jbi (tr_5 hp)
theorem tub_5 (hp : p.length = 589) {F : jv_H → Option jv_R} : (jv_ip (tw_h p s q) 592 0 0 i x).bind F = if i < 0 ∨ 403 ≤ i.toNatClampNeg then none else F (tw_h p (tw_a s 5 (upd (s.2.1 5) i.toNatClampNeg x)) q) := jbi (tu_5 hp)
theorem trb_6 (hp : p.length = 589) {F : Int32 → Option jv_R} : (jv_ig (tw_h p s q) 593 0 0 i).bind F = if i < 0 ∨ 403 ≤ i.toNatClampNeg then none else F (s.2.1 6 i.toNatClampNeg) := jbi (tr_6 hp)
theorem tub_6 (hp : p.length = 589) {F : jv_H → Option jv_R} : (jv_ip (tw_h p s q) 593 0 0 i x).bind F = if i < 0 ∨ 403 ≤ i.toNatClampNeg then none else F (tw_h p (tw_a s 6 (upd (s.2.1 6) i.toNatClampNeg x)) q) := jbi (tu_6 hp)
theorem trb_7 (hp : p.length = 589) {F : Int32 → Option jv_R} : (jv_ig (tw_h p s q) 594 0 0 i).bind F = if i < 0 ∨ 403 ≤ i.toNatClampNeg then none else F (s.2.1 7 i.toNatClampNeg) := jbi (tr_7 hp)
theorem tub_7 (hp : p.length = 589) {F : jv_H → Option jv_R} : (jv_ip (tw_h p s q) 594 0 0 i x).bind F = if i < 0 ∨ 403 ≤ i.toNatClampNeg then none else F (tw_h p (tw_a s 7 (upd (s.2.1 7) i.toNatClampNeg x)) q) := jbi (tu_7 hp)
theorem trb_8 (hp : p.length = 589) {F : Int64 → Option jv_R} : (jv_lg (tw_h p s q) 595 i).bind F = if i < 0 ∨ 403 ≤ i.toNatClampNeg then none else F (s.2.2 8 i.toNatClampNeg) := jbi (tr_8 hp)
theorem tub_8 (hp : p.length = 589) {F : jv_H → Option jv_R} : (jv_lp (tw_h p s q) 595 i xl).bind F = if i < 0 ∨ 403 ≤ i.toNatClampNeg then none else F (tw_h p (tw_l s 8 (vp_updL (s.2.2 8) i.toNatClampNeg xl)) q) := jbi (tu_8 hp)
theorem trb_9 (hp : p.length = 589) {F : Int64 → Option jv_R} : (jv_lg (tw_h p s q) 596 i).bind F = if i < 0 ∨ 21 ≤ i.toNatClampNeg then none else F (s.2.2 9 i.toNatClampNeg) := jbi (tr_9 hp)
theorem tub_9 (hp : p.length = 589) {F : jv_H → Option jv_R} : (jv_lp (tw_h p s q) 596 i xl).bind F = if i < 0 ∨ 21 ≤ i.toNatClampNeg then none else F (tw_h p (tw_l s 9 (vp_updL (s.2.2 9) i.toNatClampNeg xl)) q) := jbi (tu_9 hp)
theorem trb_21 (hp : p.length = 589) {F : Int64 → Option jv_R} : (jv_lg (tw_h p s q) 597 i).bind F = if i < 0 ∨ 10 ≤ i.toNatClampNeg then none else F (s.2.2 21 i.toNatClampNeg) := jbi (tr_21 hp)
theorem tub_21 (hp : p.length = 589) {F : jv_H → Option jv_R} : (jv_lp (tw_h p s q) 597 i xl).bind F = if i < 0 ∨ 10 ≤ i.toNatClampNeg then none else F (tw_h p (tw_l s 21 (vp_updL (s.2.2 21) i.toNatClampNeg xl)) q) := jbi (tu_21 hp)
theorem trb_22 (hp : p.length = 589) {F : Int32 → Option jv_R} : (jv_ig (tw_h p s q) 598 0 0 i).bind F = if i < 0 ∨ 2 ≤ i.toNatClampNeg then none else F (s.2.1 22 i.toNatClampNeg) := jbi (tr_22 hp)
theorem tub_22 (hp : p.length = 589) {F : jv_H → Option jv_R} : (jv_ip (tw_h p s q) 598 0 0 i x).bind F = if i < 0 ∨ 2 ≤ i.toNatClampNeg then none else F (tw_h p (tw_a s 22 (upd (s.2.1 22) i.toNatClampNeg x)) q) := jbi (tu_22 hp)
theorem trb_23 (hp : p.length = 589) {F : Int32 → Option jv_R} : (jv_ig (tw_h p s q) 599 0 0 i).bind F = if i < 0 ∨ 2 ≤ i.toNatClampNeg then none else F (s.2.1 23 i.toNatClampNeg) := jbi (tr_23 hp)
theorem tub_23 (hp : p.length = 589) {F : jv_H → Option jv_R} : (jv_ip (tw_h p s q) 599 0 0 i x).bind F = if i < 0 ∨ 2 ≤ i.toNatClampNeg then none else F (tw_h p (tw_a s 23 (upd (s.2.1 23) i.toNatClampNeg x)) q) := jbi (tu_23 hp)
theorem trb_24 (hp : p.length = 589) {F : Int32 → Option jv_R} : (jv_ig (tw_h p s q) 600 0 0 i).bind F = if i < 0 ∨ 96 ≤ i.toNatClampNeg then none else F (s.2.1 24 i.toNatClampNeg) := jbi (tr_24 hp)
theorem tub_24 (hp : p.length = 589) {F : jv_H → Option jv_R} : (jv_ip (tw_h p s q) 600 0 0 i x).bind F = if i < 0 ∨ 96 ≤ i.toNatClampNeg then none else F (tw_h p (tw_a s 24 (upd (s.2.1 24) i.toNatClampNeg x)) q) := jbi (tu_24 hp)
theorem trb_25 (hp : p.length = 589) {F : Int32 → Option jv_R} : (jv_ig (tw_h p s q) 601 0 0 i).bind F = if i < 0 ∨ 2 ≤ i.toNatClampNeg then none else F (s.2.1 25 i.toNatClampNeg) := jbi (tr_25 hp)
theorem tub_25 (hp : p.length = 589) {F : jv_H → Option jv_R} : (jv_ip (tw_h p s q) 601 0 0 i x).bind F = if i < 0 ∨ 2 ≤ i.toNatClampNeg then none else F (tw_h p (tw_a s 25 (upd (s.2.1 25) i.toNatClampNeg x)) q) := jbi (tu_25 hp)
theorem trb_26 (hp : p.length = 589) {F : Int32 → Option jv_R} : (jv_ig (tw_h p s q) 602 0 0 i).bind F = if i < 0 ∨ 12 ≤ i.toNatClampNeg then none else F (s.2.1 26 i.toNatClampNeg) := jbi (tr_26 hp)
theorem tub_26 (hp : p.length = 589) {F : jv_H → Option jv_R} : (jv_ip (tw_h p s q) 602 0 0 i x).bind F = if i < 0 ∨ 12 ≤ i.toNatClampNeg then none else F (tw_h p (tw_a s 26 (upd (s.2.1 26) i.toNatClampNeg x)) q) := jbi (tu_26 hp)
theorem trb_27 (hp : p.length = 589) {F : Int32 → Option jv_R} : (jv_ig (tw_h p s q) 603 0 0 i).bind F = if i < 0 ∨ 12 ≤ i.toNatClampNeg then none else F (s.2.1 27 i.toNatClampNeg) := jbi (tr_27 hp)
theorem tub_27 (hp : p.length = 589) {F : jv_H → Option jv_R} : (jv_ip (tw_h p s q) 603 0 0 i x).bind F = if i < 0 ∨ 12 ≤ i.toNatClampNeg then none else F (tw_h p (tw_a s 27 (upd (s.2.1 27) i.toNatClampNeg x)) q) := jbi (tu_27 hp)
theorem trb_28 (hp : p.length = 589) {F : Int32 → Option jv_R} : (jv_ig (tw_h p s q) 604 0 0 i).bind F = if i < 0 ∨ 2 ≤ i.toNatClampNeg then none else F (s.2.1 28 i.toNatClampNeg) := jbi (tr_28 hp)
theorem tub_28 (hp : p.length = 589) {F : jv_H → Option jv_R} : (jv_ip (tw_h p s q) 604 0 0 i x).bind F = if i < 0 ∨ 2 ≤ i.toNatClampNeg then none else F (tw_h p (tw_a s 28 (upd (s.2.1 28) i.toNatClampNeg x)) q) := jbi (tu_28 hp)
theorem trb_29 (hp : p.length = 589) {F : Int32 → Option jv_R} : (jv_ig (tw_h p s q) 605 0 0 i).bind F = if i < 0 ∨ 8 ≤ i.toNatClampNeg then none else F (s.2.1 29 i.toNatClampNeg) := jbi (tr_29 hp)
theorem tub_29 (hp : p.length = 589) {F : jv_H → Option jv_R} : (jv_ip (tw_h p s q) 605 0 0 i x).bind F = if i < 0 ∨ 8 ≤ i.toNatClampNeg then none else F (tw_h p (tw_a s 29 (upd (s.2.1 29) i.toNatClampNeg x)) q) := jbi (tu_29 hp)
theorem trb_30 (hp : p.length = 589) {F : Int32 → Option jv_R} : (jv_ig (tw_h p s q) 606 0 0 i).bind F = if i < 0 ∨ 8 ≤ i.toNatClampNeg then none else F (s.2.1 30 i.toNatClampNeg) := jbi (tr_30 hp)
theorem tub_30 (hp : p.length = 589) {F : jv_H → Option jv_R} : (jv_ip (tw_h p s q) 606 0 0 i x).bind F = if i < 0 ∨ 8 ≤ i.toNatClampNeg then none else F (tw_h p (tw_a s 30 (upd (s.2.1 30) i.toNatClampNeg x)) q) := jbi (tu_30 hp)
theorem trb_31 (hp : p.length = 589) {F : Int32 → Option jv_R} : (jv_ig (tw_h p s q) 607 0 0 i).bind F = if i < 0 ∨ 2 ≤ i.toNatClampNeg then none else F (s.2.1 31 i.toNatClampNeg) := jbi (tr_31 hp)
theorem tub_31 (hp : p.length = 589) {F : jv_H → Option jv_R} : (jv_ip (tw_h p s q) 607 0 0 i x).bind F = if i < 0 ∨ 2 ≤ i.toNatClampNeg then none else F (tw_h p (tw_a s 31 (upd (s.2.1 31) i.toNatClampNeg x)) q) := jbi (tu_31 hp)
theorem trb_32 (hp : p.length = 589) {F : Int32 → Option jv_R} : (jv_ig (tw_h p s q) 608 0 0 i).bind F = if i < 0 ∨ 2 ≤ i.toNatClampNeg then none else F (s.2.1 32 i.toNatClampNeg) := jbi (tr_32 hp)
theorem tub_32 (hp : p.length = 589) {F : jv_H → Option jv_R} : (jv_ip (tw_h p s q) 608 0 0 i x).bind F = if i < 0 ∨ 2 ≤ i.toNatClampNeg then none else F (tw_h p (tw_a s 32 (upd (s.2.1 32) i.toNatClampNeg x)) q) := jbi (tu_32 hp)
theorem trb_33 (hp : p.length = 589) {F : Int32 → Option jv_R} : (jv_ig (tw_h p s q) 609 0 0 i).bind F = if i < 0 ∨ 2 ≤ i.toNatClampNeg then none else F (s.2.1 33 i.toNatClampNeg) := jbi (tr_33 hp)
theorem tub_33 (hp : p.length = 589) {F : jv_H → Option jv_R} : (jv_ip (tw_h p s q) 609 0 0 i x).bind F = if i < 0 ∨ 2 ≤ i.toNatClampNeg then none else F (tw_h p (tw_a s 33 (upd (s.2.1 33) i.toNatClampNeg x)) q) := jbi (tu_33 hp)
theorem trb_34 (hp : p.length = 589) {F : Int32 → Option jv_R} : (jv_ig (tw_h p s q) 610 0 0 i).bind F = if i < 0 ∨ 6 ≤ i.toNatClampNeg then none else F (s.2.1 34 i.toNatClampNeg) := jbi (tr_34 hp)
theorem tub_34 (hp : p.length = 589) {F : jv_H → Option jv_R} : (jv_ip (tw_h p s q) 610 0 0 i x).bind F = if i < 0 ∨ 6 ≤ i.toNatClampNeg then none else F (tw_h p (tw_a s 34 (upd (s.2.1 34) i.toNatClampNeg x)) q) := jbi (tu_34 hp)
theorem trb_35 (hp : p.length = 589) {F : Int32 → Option jv_R} : (jv_ig (tw_h p s q) 611 0 0 i).bind F = if i < 0 ∨ 6 ≤ i.toNatClampNeg then none else F (s.2.1 35 i.toNatClampNeg) := jbi (tr_35 hp)
theorem tub_35 (hp : p.length = 589) {F : jv_H → Option jv_R} : (jv_ip (tw_h p s q) 611 0 0 i x).bind F = if i < 0 ∨ 6 ≤ i.toNatClampNeg then none else F (tw_h p (tw_a s 35 (upd (s.2.1 35) i.toNatClampNeg x)) q) := jbi (tu_35 hp)
theorem trb_37 (hp : p.length = 589) {F : Int32 → Option jv_R} : (jv_ig (tw_h p s q) 612 1 2 i).bind F = if i < 0 ∨ 260 ≤ i.toNatClampNeg then none else F (s.2.1 37 i.toNatClampNeg) := jbi (tr_37 hp)
theorem tub_37 (hp : p.length = 589) {F : jv_H → Option jv_R} : (jv_ip (tw_h p s q) 612 1 2 i x).bind F = if i < 0 ∨ 260 ≤ i.toNatClampNeg then none else F (tw_h p (tw_a s 37 (upd (s.2.1 37) i.toNatClampNeg (vp_nar .boolean x))) q) := jbi (tu_37 hp)
theorem trb_38 (hp : p.length = 589) {F : Int32 → Option jv_R} : (jv_ig (tw_h p s q) 613 0 0 i).bind F = if i < 0 ∨ 260 ≤ i.toNatClampNeg then none else F (s.2.1 38 i.toNatClampNeg) := jbi (tr_38 hp)
theorem tub_38 (hp : p.length = 589) {F : jv_H → Option jv_R} : (jv_ip (tw_h p s q) 613 0 0 i x).bind F = if i < 0 ∨ 260 ≤ i.toNatClampNeg then none else F (tw_h p (tw_a s 38 (upd (s.2.1 38) i.toNatClampNeg x)) q) := jbi (tu_38 hp)
theorem trb_39 (hp : p.length = 589) {F : Int32 → Option jv_R} : (jv_ig (tw_h p s q) 614 0 0 i).bind F = if i < 0 ∨ 260 ≤ i.toNatClampNeg then none else F (s.2.1 39 i.toNatClampNeg) := jbi (tr_39 hp)
theorem tub_39 (hp : p.length = 589) {F : jv_H → Option jv_R} : (jv_ip (tw_h p s q) 614 0 0 i x).bind F = if i < 0 ∨ 260 ≤ i.toNatClampNeg then none else F (tw_h p (tw_a s 39 (upd (s.2.1 39) i.toNatClampNeg x)) q) := jbi (tu_39 hp)
theorem trb_40 (hp : p.length = 589) {F : Int32 → Option jv_R} : (jv_ig (tw_h p s q) 615 0 0 i).bind F = if i < 0 ∨ 260 ≤ i.toNatClampNeg then none else F (s.2.1 40 i.toNatClampNeg) := jbi (tr_40 hp)
theorem tub_40 (hp : p.length = 589) {F : jv_H → Option jv_R} : (jv_ip (tw_h p s q) 615 0 0 i x).bind F = if i < 0 ∨ 260 ≤ i.toNatClampNeg then none else F (tw_h p (tw_a s 40 (upd (s.2.1 40) i.toNatClampNeg x)) q) := jbi (tu_40 hp)
theorem trb_41 (hp : p.length = 589) {F : Int32 → Option jv_R} : (jv_ig (tw_h p s q) 616 0 0 i).bind F = if i < 0 ∨ 260 ≤ i.toNatClampNeg then none else F (s.2.1 41 i.toNatClampNeg) := jbi (tr_41 hp)
theorem tub_41 (hp : p.length = 589) {F : jv_H → Option jv_R} : (jv_ip (tw_h p s q) 616 0 0 i x).bind F = if i < 0 ∨ 260 ≤ i.toNatClampNeg then none else F (tw_h p (tw_a s 41 (upd (s.2.1 41) i.toNatClampNeg x)) q) := jbi (tu_41 hp)
theorem trb_43 (hp : p.length = 589) {F : Int32 → Option jv_R} : (jv_ig (tw_h p s q) 617 0 0 i).bind F = if i < 0 ∨ 840 ≤ i.toNatClampNeg then none else F (s.2.1 43 i.toNatClampNeg) := jbi (tr_43 hp)
theorem tub_43 (hp : p.length = 589) {F : jv_H → Option jv_R} : (jv_ip (tw_h p s q) 617 0 0 i x).bind F = if i < 0 ∨ 840 ≤ i.toNatClampNeg then none else F (tw_h p (tw_a s 43 (upd (s.2.1 43) i.toNatClampNeg x)) q) := jbi (tu_43 hp)
theorem trb_44 (hp : p.length = 589) {F : Int32 → Option jv_R} : (jv_ig (tw_h p s q) 618 0 0 i).bind F = if i < 0 ∨ 840 ≤ i.toNatClampNeg then none else F (s.2.1 44 i.toNatClampNeg) := jbi (tr_44 hp)
theorem tub_44 (hp : p.length = 589) {F : jv_H → Option jv_R} : (jv_ip (tw_h p s q) 618 0 0 i x).bind F = if i < 0 ∨ 840 ≤ i.toNatClampNeg then none else F (tw_h p (tw_a s 44 (upd (s.2.1 44) i.toNatClampNeg x)) q) := jbi (tu_44 hp)
theorem trb_45 (hp : p.length = 589) {F : Int32 → Option jv_R} : (jv_ig (tw_h p s q) 619 0 0 i).bind F = if i < 0 ∨ 64 ≤ i.toNatClampNeg then none else F (s.2.1 45 i.toNatClampNeg) := jbi (tr_45 hp)
theorem tub_45 (hp : p.length = 589) {F : jv_H → Option jv_R} : (jv_ip (tw_h p s q) 619 0 0 i x).bind F = if i < 0 ∨ 64 ≤ i.toNatClampNeg then none else F (tw_h p (tw_a s 45 (upd (s.2.1 45) i.toNatClampNeg x)) q) := jbi (tu_45 hp)
theorem trb_47 (hp : p.length = 589) {F : Int32 → Option jv_R} : (jv_ig (tw_h p s q) 620 0 0 i).bind F = if i < 0 ∨ 9 ≤ i.toNatClampNeg then none else F (s.2.1 47 i.toNatClampNeg) := jbi (tr_47 hp)
theorem tub_47 (hp : p.length = 589) {F : jv_H → Option jv_R} : (jv_ip (tw_h p s q) 620 0 0 i x).bind F = if i < 0 ∨ 9 ≤ i.toNatClampNeg then none else F (tw_h p (tw_a s 47 (upd (s.2.1 47) i.toNatClampNeg x)) q) := jbi (tu_47 hp)
theorem trb_48 (hp : p.length = 589) {F : Int32 → Option jv_R} : (jv_ig (tw_h p s q) 621 0 0 i).bind F = if i < 0 ∨ 400 ≤ i.toNatClampNeg then none else F (s.2.1 48 i.toNatClampNeg) := jbi (tr_48 hp)
theorem tub_48 (hp : p.length = 589) {F : jv_H → Option jv_R} : (jv_ip (tw_h p s q) 621 0 0 i x).bind F = if i < 0 ∨ 400 ≤ i.toNatClampNeg then none else F (tw_h p (tw_a s 48 (upd (s.2.1 48) i.toNatClampNeg x)) q) := jbi (tu_48 hp)
theorem trb_50 (hp : p.length = 589) {F : Int32 → Option jv_R} : (jv_ig (tw_h p s q) 622 0 0 i).bind F = if i < 0 ∨ 92 ≤ i.toNatClampNeg then none else F (s.2.1 50 i.toNatClampNeg) := jbi (tr_50 hp)
theorem tub_50 (hp : p.length = 589) {F : jv_H → Option jv_R} : (jv_ip (tw_h p s q) 622 0 0 i x).bind F = if i < 0 ∨ 92 ≤ i.toNatClampNeg then none else F (tw_h p (tw_a s 50 (upd (s.2.1 50) i.toNatClampNeg x)) q) := jbi (tu_50 hp)
theorem trb_51 (hp : p.length = 589) {F : Int32 → Option jv_R} : (jv_ig (tw_h p s q) 623 0 0 i).bind F = if i < 0 ∨ 92 ≤ i.toNatClampNeg then none else F (s.2.1 51 i.toNatClampNeg) := jbi (tr_51 hp)
theorem tub_51 (hp : p.length = 589) {F : jv_H → Option jv_R} : (jv_ip (tw_h p s q) 623 0 0 i x).bind F = if i < 0 ∨ 92 ≤ i.toNatClampNeg then none else F (tw_h p (tw_a s 51 (upd (s.2.1 51) i.toNatClampNeg x)) q) := jbi (tu_51 hp)
theorem trb_54 (hp : p.length = 589) {F : Int32 → Option jv_R} : (jv_ig (tw_h p s q) 624 0 0 i).bind F = if i < 0 ∨ 2760 ≤ i.toNatClampNeg then none else F (s.2.1 54 i.toNatClampNeg) := jbi (tr_54 hp)
theorem tub_54 (hp : p.length = 589) {F : jv_H → Option jv_R} : (jv_ip (tw_h p s q) 624 0 0 i x).bind F = if i < 0 ∨ 2760 ≤ i.toNatClampNeg then none else F (tw_h p (tw_a s 54 (upd (s.2.1 54) i.toNatClampNeg x)) q) := jbi (tu_54 hp)
theorem trb_57 (hp : p.length = 589) {F : Int32 → Option jv_R} : (jv_ig (tw_h p s q) 625 0 0 i).bind F = if i < 0 ∨ 4 ≤ i.toNatClampNeg then none else F (s.2.1 57 i.toNatClampNeg) := jbi (tr_57 hp)
theorem tub_57 (hp : p.length = 589) {F : jv_H → Option jv_R} : (jv_ip (tw_h p s q) 625 0 0 i x).bind F = if i < 0 ∨ 4 ≤ i.toNatClampNeg then none else F (tw_h p (tw_a s 57 (upd (s.2.1 57) i.toNatClampNeg x)) q) := jbi (tu_57 hp)
theorem trb_58 (hp : p.length = 589) {F : Int32 → Option jv_R} : (jv_ig (tw_h p s q) 626 0 0 i).bind F = if i < 0 ∨ 4 ≤ i.toNatClampNeg then none else F (s.2.1 58 i.toNatClampNeg) := jbi (tr_58 hp)
theorem tub_58 (hp : p.length = 589) {F : jv_H → Option jv_R} : (jv_ip (tw_h p s q) 626 0 0 i x).bind F = if i < 0 ∨ 4 ≤ i.toNatClampNeg then none else F (tw_h p (tw_a s 58 (upd (s.2.1 58) i.toNatClampNeg x)) q) := jbi (tu_58 hp)
theorem trb_59 (hp : p.length = 589) {F : Int32 → Option jv_R} : (jv_ig (tw_h p s q) 627 0 0 i).bind F = if i < 0 ∨ 4 ≤ i.toNatClampNeg then none else F (s.2.1 59 i.toNatClampNeg) := jbi (tr_59 hp)
theorem tub_59 (hp : p.length = 589) {F : jv_H → Option jv_R} : (jv_ip (tw_h p s q) 627 0 0 i x).bind F = if i < 0 ∨ 4 ≤ i.toNatClampNeg then none else F (tw_h p (tw_a s 59 (upd (s.2.1 59) i.toNatClampNeg x)) q) := jbi (tu_59 hp)
theorem trb_60 (hp : p.length = 589) {F : Int32 → Option jv_R} : (jv_ig (tw_h p s q) 628 0 0 i).bind F = if i < 0 ∨ 24 ≤ i.toNatClampNeg then none else F (s.2.1 60 i.toNatClampNeg) := jbi (tr_60 hp)
theorem tub_60 (hp : p.length = 589) {F : jv_H → Option jv_R} : (jv_ip (tw_h p s q) 628 0 0 i x).bind F = if i < 0 ∨ 24 ≤ i.toNatClampNeg then none else F (tw_h p (tw_a s 60 (upd (s.2.1 60) i.toNatClampNeg x)) q) := jbi (tu_60 hp)
theorem trb_64 (hp : p.length = 589) {F : Int32 → Option jv_R} : (jv_ig (tw_h p s q) 629 0 0 i).bind F = if i < 0 ∨ 24 ≤ i.toNatClampNeg then none else F (s.2.1 64 i.toNatClampNeg) := jbi (tr_64 hp)
theorem tub_64 (hp : p.length = 589) {F : jv_H → Option jv_R} : (jv_ip (tw_h p s q) 629 0 0 i x).bind F = if i < 0 ∨ 24 ≤ i.toNatClampNeg then none else F (tw_h p (tw_a s 64 (upd (s.2.1 64) i.toNatClampNeg x)) q) := jbi (tu_64 hp)
theorem trb_66 (hp : p.length = 589) {F : Int32 → Option jv_R} : (jv_ig (tw_h p s q) 630 0 0 i).bind F = if i < 0 ∨ 20 ≤ i.toNatClampNeg then none else F (s.2.1 66 i.toNatClampNeg) := jbi (tr_66 hp)
theorem tub_66 (hp : p.length = 589) {F : jv_H → Option jv_R} : (jv_ip (tw_h p s q) 630 0 0 i x).bind F = if i < 0 ∨ 20 ≤ i.toNatClampNeg then none else F (tw_h p (tw_a s 66 (upd (s.2.1 66) i.toNatClampNeg x)) q) := jbi (tu_66 hp)
theorem trb_67 (hp : p.length = 589) {F : Int32 → Option jv_R} : (jv_ig (tw_h p s q) 631 0 0 i).bind F = if i < 0 ∨ 20 ≤ i.toNatClampNeg then none else F (s.2.1 67 i.toNatClampNeg) := jbi (tr_67 hp)
theorem tub_67 (hp : p.length = 589) {F : jv_H → Option jv_R} : (jv_ip (tw_h p s q) 631 0 0 i x).bind F = if i < 0 ∨ 20 ≤ i.toNatClampNeg then none else F (tw_h p (tw_a s 67 (upd (s.2.1 67) i.toNatClampNeg x)) q) := jbi (tu_67 hp)
theorem trb_68 (hp : p.length = 589) {F : Int32 → Option jv_R} : (jv_ig (tw_h p s q) 632 1 2 i).bind F = if i < 0 ∨ 256 ≤ i.toNatClampNeg then none else F (s.2.1 68 i.toNatClampNeg) := jbi (tr_68 hp)
theorem tub_68 (hp : p.length = 589) {F : jv_H → Option jv_R} : (jv_ip (tw_h p s q) 632 1 2 i x).bind F = if i < 0 ∨ 256 ≤ i.toNatClampNeg then none else F (tw_h p (tw_a s 68 (upd (s.2.1 68) i.toNatClampNeg (vp_nar .boolean x))) q) := jbi (tu_68 hp)
theorem trb_69 (hp : p.length = 589) {F : Int32 → Option jv_R} : (jv_ig (tw_h p s q) 633 0 0 i).bind F = if i < 0 ∨ 10 ≤ i.toNatClampNeg then none else F (s.2.1 69 i.toNatClampNeg) := jbi (tr_69 hp)
theorem tub_69 (hp : p.length = 589) {F : jv_H → Option jv_R} : (jv_ip (tw_h p s q) 633 0 0 i x).bind F = if i < 0 ∨ 10 ≤ i.toNatClampNeg then none else F (tw_h p (tw_a s 69 (upd (s.2.1 69) i.toNatClampNeg x)) q) := jbi (tu_69 hp)
theorem trb_70 (hp : p.length = 589) {F : Int32 → Option jv_R} : (jv_ig (tw_h p s q) 634 1 2 i).bind F = if i < 0 ∨ 3 ≤ i.toNatClampNeg then none else F (s.2.1 70 i.toNatClampNeg) := jbi (tr_70 hp)
theorem tub_70 (hp : p.length = 589) {F : jv_H → Option jv_R} : (jv_ip (tw_h p s q) 634 1 2 i x).bind F = if i < 0 ∨ 3 ≤ i.toNatClampNeg then none else F (tw_h p (tw_a s 70 (upd (s.2.1 70) i.toNatClampNeg (vp_nar .boolean x))) q) := jbi (tu_70 hp)
theorem trb_71 (hp : p.length = 589) {F : Int32 → Option jv_R} : (jv_ig (tw_h p s q) 635 0 0 i).bind F = if i < 0 ∨ 276 ≤ i.toNatClampNeg then none else F (s.2.1 71 i.toNatClampNeg) := jbi (tr_71 hp)
theorem tub_71 (hp : p.length = 589) {F : jv_H → Option jv_R} : (jv_ip (tw_h p s q) 635 0 0 i x).bind F = if i < 0 ∨ 276 ≤ i.toNatClampNeg then none else F (tw_h p (tw_a s 71 (upd (s.2.1 71) i.toNatClampNeg x)) q) := jbi (tu_71 hp)
end
abbrev Jk : Type := (Nat → Int32) × (Nat → Int32) × Int32
def tw_w (s : tw_S) (r : Nat → Int32) (lo : Int32) (j : Jk) : tw_S := (fun i => if i = 52 then lo else if i = 49 then j.2.2 else s.1 i, fun i => if i = 51 then r else if i = 47 then j.1 else if i = 48 then j.2.1 else s.2.1 i, s.2.2)
section
variable {s : tw_S} {r r' : Nat → Int32} {lo lo' : Int32} {j : Jk} {v : Nat → Int32} {b : Int32}
theorem ww_a51 : tw_a (tw_w s r lo j) 51 r' = tw_w s r' lo j := by
  unfold tw_a tw_w
  refine Prod.ext rfl (Prod.ext (funext fun i => ?_) rfl)
  by_cases h : i = 51 <;> simp [h]
theorem ww_a47 : tw_a (tw_w s r lo j) 47 v = tw_w s r lo (v, j.2) := by
  unfold tw_a tw_w
  refine Prod.ext rfl (Prod.ext (funext fun i => ?_) rfl)
  by_cases h : i = 47 <;> simp [h]
theorem ww_a48 : tw_a (tw_w s r lo j) 48 v = tw_w s r lo (j.1, v, j.2.2) := by
  unfold tw_a tw_w
  refine Prod.ext rfl (Prod.ext (funext fun i => ?_) rfl)
  by_cases h : i = 48 <;> simp [h]
theorem ww_i49 : tw_i (tw_w s r lo j) 49 b = tw_w s r lo (j.1, j.2.1, b) := by
  unfold tw_i tw_w
  refine Prod.ext (funext fun i => ?_) rfl
  by_cases h : i = 49 <;> simp [h]
theorem ww_i52 : tw_i (tw_w s r lo j) 52 lo' = tw_w s r lo' j := by
  unfold tw_i tw_w
  refine Prod.ext (funext fun i => ?_) rfl
  by_cases h : i = 52 <;> simp [h]
theorem ww_id : tw_w s (s.2.1 51) (s.1 52) (s.2.1 47, s.2.1 48, s.1 49) = s := by
  unfold tw_w
  refine Prod.ext (funext fun i => ?_) (Prod.ext (funext fun i => ?_) rfl)
  · by_cases h : i = 52
    · subst h; rfl
    · by_cases h : i = 49
      · subst h; rfl
      · simp [*]
  · by_cases h : i = 51
    · subst h; rfl
    · by_cases h : i = 47
      · subst h; rfl
      · by_cases h : i = 48
        · subst h; rfl
        · simp [*]
theorem wa_51 : (tw_w s r lo j).2.1 51 = r := rfl
theorem wa_47 : (tw_w s r lo j).2.1 47 = j.1 := rfl
theorem wa_48 : (tw_w s r lo j).2.1 48 = j.2.1 := rfl
theorem wi_49 : (tw_w s r lo j).1 49 = j.2.2 := rfl
theorem wi_52 : (tw_w s r lo j).1 52 = lo := rfl
theorem wa_1 : (tw_w s r lo j).2.1 1 = s.2.1 1 := rfl
theorem wa_3 : (tw_w s r lo j).2.1 3 = s.2.1 3 := rfl
theorem wa_5 : (tw_w s r lo j).2.1 5 = s.2.1 5 := rfl
theorem wa_6 : (tw_w s r lo j).2.1 6 = s.2.1 6 := rfl
theorem wa_7 : (tw_w s r lo j).2.1 7 = s.2.1 7 := rfl
theorem wl_8 : (tw_w s r lo j).2.2 8 = s.2.2 8 := rfl
theorem wl_9 : (tw_w s r lo j).2.2 9 = s.2.2 9 := rfl
theorem wl_21 : (tw_w s r lo j).2.2 21 = s.2.2 21 := rfl
theorem wa_22 : (tw_w s r lo j).2.1 22 = s.2.1 22 := rfl
theorem wa_23 : (tw_w s r lo j).2.1 23 = s.2.1 23 := rfl
theorem wa_24 : (tw_w s r lo j).2.1 24 = s.2.1 24 := rfl
theorem wa_25 : (tw_w s r lo j).2.1 25 = s.2.1 25 := rfl
theorem wa_26 : (tw_w s r lo j).2.1 26 = s.2.1 26 := rfl
theorem wa_27 : (tw_w s r lo j).2.1 27 = s.2.1 27 := rfl
theorem wa_28 : (tw_w s r lo j).2.1 28 = s.2.1 28 := rfl
theorem wa_29 : (tw_w s r lo j).2.1 29 = s.2.1 29 := rfl
theorem wa_30 : (tw_w s r lo j).2.1 30 = s.2.1 30 := rfl
theorem wa_31 : (tw_w s r lo j).2.1 31 = s.2.1 31 := rfl
theorem wa_32 : (tw_w s r lo j).2.1 32 = s.2.1 32 := rfl
theorem wa_33 : (tw_w s r lo j).2.1 33 = s.2.1 33 := rfl
theorem wa_34 : (tw_w s r lo j).2.1 34 = s.2.1 34 := rfl
theorem wa_35 : (tw_w s r lo j).2.1 35 = s.2.1 35 := rfl
theorem wa_37 : (tw_w s r lo j).2.1 37 = s.2.1 37 := rfl
theorem wa_38 : (tw_w s r lo j).2.1 38 = s.2.1 38 := rfl
theorem wa_39 : (tw_w s r lo j).2.1 39 = s.2.1 39 := rfl
theorem wa_40 : (tw_w s r lo j).2.1 40 = s.2.1 40 := rfl
theorem wa_41 : (tw_w s r lo j).2.1 41 = s.2.1 41 := rfl
theorem wa_43 : (tw_w s r lo j).2.1 43 = s.2.1 43 := rfl
theorem wa_44 : (tw_w s r lo j).2.1 44 = s.2.1 44 := rfl
theorem wa_45 : (tw_w s r lo j).2.1 45 = s.2.1 45 := rfl
theorem wa_50 : (tw_w s r lo j).2.1 50 = s.2.1 50 := rfl
theorem wa_54 : (tw_w s r lo j).2.1 54 = s.2.1 54 := rfl
theorem wa_57 : (tw_w s r lo j).2.1 57 = s.2.1 57 := rfl
theorem wa_58 : (tw_w s r lo j).2.1 58 = s.2.1 58 := rfl
theorem wa_59 : (tw_w s r lo j).2.1 59 = s.2.1 59 := rfl
theorem wa_60 : (tw_w s r lo j).2.1 60 = s.2.1 60 := rfl
theorem wa_64 : (tw_w s r lo j).2.1 64 = s.2.1 64 := rfl
theorem wa_66 : (tw_w s r lo j).2.1 66 = s.2.1 66 := rfl
theorem wa_67 : (tw_w s r lo j).2.1 67 = s.2.1 67 := rfl
theorem wa_68 : (tw_w s r lo j).2.1 68 = s.2.1 68 := rfl
theorem wa_69 : (tw_w s r lo j).2.1 69 = s.2.1 69 := rfl
theorem wa_70 : (tw_w s r lo j).2.1 70 = s.2.1 70 := rfl
theorem wa_71 : (tw_w s r lo j).2.1 71 = s.2.1 71 := rfl
theorem wi_0 : (tw_w s r lo j).1 0 = s.1 0 := rfl
theorem wi_2 : (tw_w s r lo j).1 2 = s.1 2 := rfl
theorem wi_4 : (tw_w s r lo j).1 4 = s.1 4 := rfl
theorem wi_10 : (tw_w s r lo j).1 10 = s.1 10 := rfl
theorem wi_11 : (tw_w s r lo j).1 11 = s.1 11 := rfl
theorem wi_12 : (tw_w s r lo j).1 12 = s.1 12 := rfl
theorem wi_13 : (tw_w s r lo j).1 13 = s.1 13 := rfl
theorem wi_14 : (tw_w s r lo j).1 14 = s.1 14 := rfl
theorem wi_15 : (tw_w s r lo j).1 15 = s.1 15 := rfl
theorem wi_16 : (tw_w s r lo j).1 16 = s.1 16 := rfl
theorem wi_17 : (tw_w s r lo j).1 17 = s.1 17 := rfl
theorem wi_18 : (tw_w s r lo j).1 18 = s.1 18 := rfl
theorem wi_19 : (tw_w s r lo j).1 19 = s.1 19 := rfl
theorem wi_20 : (tw_w s r lo j).1 20 = s.1 20 := rfl
theorem wi_36 : (tw_w s r lo j).1 36 = s.1 36 := rfl
theorem wi_42 : (tw_w s r lo j).1 42 = s.1 42 := rfl
theorem wi_46 : (tw_w s r lo j).1 46 = s.1 46 := rfl
theorem wi_53 : (tw_w s r lo j).1 53 = s.1 53 := rfl
theorem wi_55 : (tw_w s r lo j).1 55 = s.1 55 := rfl
theorem wi_56 : (tw_w s r lo j).1 56 = s.1 56 := rfl
theorem wi_61 : (tw_w s r lo j).1 61 = s.1 61 := rfl
theorem wi_62 : (tw_w s r lo j).1 62 = s.1 62 := rfl
theorem wi_63 : (tw_w s r lo j).1 63 = s.1 63 := rfl
theorem wi_65 : (tw_w s r lo j).1 65 = s.1 65 := rfl
end
