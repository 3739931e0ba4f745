/-! the reference: reading, whole -/
section
variable {d sd t b c n lv : Nat} {p q : jv_H} {s s' s2 : tw_S} {K V F N L : Nat → Nat} {R : Nat → Nat → Nat} {z : Zs} {S : Sx} {T : Tx} {w : Wt} {A : Ab} {r : Nat → Int32} {lo : Int32} {j : Jk}
theorem m_beginsT (hp : p.length = 589) (ht : TV s lv T) (hT : TW T) : jv_cd (d + 1) 5 [.ref 589] (tw_h p (tw_w s r lo j) q) = some (.inl none, tw_h p (tw_w s (cp (bg_r T) r 92) (t_se T) j) q) := by
  obtain ⟨hlv, h18, _, _, _, h28, _, _, h30, h31, _, h33, _⟩ := ht
  have t4 := hT.2.2.2.1
  have l1 := jl_0 (N := 92) (F := fun k => jv_ev d 5 2 [some (.ref 589), some (.int (nI k))] [] (tw_h p (tw_w s (cp (fun _ => nI 0) r k) lo j) q)) (fun k hk => by
    rw [e5_2]
    simp (disch := omega) only [il_0, il_1, il_2, il_3, il_4, il_5, il_6, il_7, il_8, il_9, il_10, il_11, il_12, il_13, il_14, il_15, il_16, il_17, il_18, il_19, il_20, il_21, il_22, il_23, il_24, il_25, il_26, il_27, il_28, il_29, il_30, il_31, il_32, il_40, il_41, il_42, il_43, il_44, il_45, il_46, il_47, il_48, il_52, il_56, il_57, il_59, il_60, il_61, il_63, il_64, il_68, il_72, il_75, il_76, il_82, il_88, il_89, il_90, il_92, il_96, il_97, il_99, il_100, il_101, il_102, il_103, il_104, il_105, il_107, il_108, il_109, il_110, il_111, il_112, il_114, il_115, il_116, il_117, il_118, il_119, il_121, il_122, il_130, il_200, il_255, il_256, il_260, il_276, il_400, il_403, il_420, il_840, il_999, il_1000, il_2000, il_2001, il_2668, il_2760, il_9999, il_12345, il_1000000, il_1103515245, ↓im_1, ↓im_2, ↓im_8, ↓im_1000, nI_add, pk_mul, pk_sub, ↓pk_rem, pk_div, nm_add, nI_clamp, nI_ltI, nI_leI, nI_eq, nm_eq, mn_eq, mm_eq, nm_lt, mn_lt, nm_le, mn_le, nl_T, nl_F, nle_T, nle_F, ne_T, ne_F, b2i_0, b2i_1, b2i_n, nb_0, nb_1, or_false, false_or, or_true, true_or, and_true, true_and, and_false, false_and, or_self, and_self, not_true_eq_false, not_false_eq_true, ↓reduceIte, if_true, if_false, ↓jv_bs, ↓jv_ol, ↓jv_or, jv_tl, jv_tn, jo_T, ck_2_166_17, ck_6_43_16, ck_6_43_17, ck_6_73_16, ck_7_65_17, ck_30_10_19, su_F, e5_3, e5_5, e5_8, e5_9, e5_12, e5_13, e5_14, e5_15, e5_18, ↓tgb_18 hp, wi_18, ↓tgb_28 hp, ↓trb_28 hp, ↓tub_28 hp, wa_28, ↓tgb_30 hp, ↓trb_30 hp, ↓tub_30 hp, wa_30, ↓tgb_31 hp, ↓trb_31 hp, ↓tub_31 hp, wa_31, ↓tgb_33 hp, ↓trb_33 hp, ↓tub_33 hp, wa_33, ↓tgb_51 hp, ↓trb_51 hp, ↓tub_51 hp, wa_51, ww_a51, ↓tpb_52 hp, ww_i52, ↓tw_rcb hp, cp_uc])
  rw [cp_0] at l1
  have l2 := jl_0 (N := t_nl T) (F := fun k => jv_ev d 5 23 [some (.ref 589), some (.int (nI k))] [] (tw_h p (tw_w s (fun i => if 48 ≤ i ∧ i < 48 + k then t_pk T (i - 48) else cp (fun _ => nI 0) r 92 i) lo j) q)) (fun k hk => by
    have h30 := (h30 k hk).2
    have e : upd (fun i => if 48 ≤ i ∧ i < 48 + k then t_pk T (i - 48) else cp (fun _ => nI 0) r 92 i) (48 + k) (t_pk T k) = fun i => if 48 ≤ i ∧ i < 48 + (k + 1) then t_pk T (i - 48) else cp (fun _ => nI 0) r 92 i := by
      funext i
      unfold upd
      by_cases h : i = 48 + k
      · subst h
        rw [if_pos rfl, if_pos (by omega), Nat.add_sub_cancel_left]
      · rw [if_neg h]
        dsimp only
        by_cases h2 : 48 ≤ i ∧ i < 48 + k
        · rw [if_pos h2, if_pos (by omega)]
        · rw [if_neg h2, if_neg (by omega)]
    rw [e5_23]
    simp (disch := omega) only [il_0, il_1, il_2, il_3, il_4, il_5, il_6, il_7, il_8, il_9, il_10, il_11, il_12, il_13, il_14, il_15, il_16, il_17, il_18, il_19, il_20, il_21, il_22, il_23, il_24, il_25, il_26, il_27, il_28, il_29, il_30, il_31, il_32, il_40, il_41, il_42, il_43, il_44, il_45, il_46, il_47, il_48, il_52, il_56, il_57, il_59, il_60, il_61, il_63, il_64, il_68, il_72, il_75, il_76, il_82, il_88, il_89, il_90, il_92, il_96, il_97, il_99, il_100, il_101, il_102, il_103, il_104, il_105, il_107, il_108, il_109, il_110, il_111, il_112, il_114, il_115, il_116, il_117, il_118, il_119, il_121, il_122, il_130, il_200, il_255, il_256, il_260, il_276, il_400, il_403, il_420, il_840, il_999, il_1000, il_2000, il_2001, il_2668, il_2760, il_9999, il_12345, il_1000000, il_1103515245, ↓im_1, ↓im_2, ↓im_8, ↓im_1000, nI_add, pk_mul, pk_sub, ↓pk_rem, pk_div, nm_add, nI_clamp, nI_ltI, nI_leI, nI_eq, nm_eq, mn_eq, mm_eq, nm_lt, mn_lt, nm_le, mn_le, nl_T, nl_F, nle_T, nle_F, ne_T, ne_F, b2i_0, b2i_1, b2i_n, nb_0, nb_1, or_false, false_or, or_true, true_or, and_true, true_and, and_false, false_and, or_self, and_self, not_true_eq_false, not_false_eq_true, ↓reduceIte, if_true, if_false, ↓jv_bs, ↓jv_ol, ↓jv_or, jv_tl, jv_tn, jo_T, ck_2_166_17, ck_6_43_16, ck_6_43_17, ck_6_73_16, ck_7_65_17, ck_30_10_19, su_F, e5_24, e5_25, e5_28, e5_29, e5_32, e5_33, e5_36, e5_37, e5_40, e5_42, e5_43, e5_44, e5_45, e5_48, e5_49, e5_50, e5_53, e5_54, e5_55, e5_56, e5_57, e5_58, e5_61, ↓tgb_18 hp, wi_18, ↓tgb_28 hp, ↓trb_28 hp, ↓tub_28 hp, wa_28, ↓tgb_30 hp, ↓trb_30 hp, ↓tub_30 hp, wa_30, ↓tgb_31 hp, ↓trb_31 hp, ↓tub_31 hp, wa_31, ↓tgb_33 hp, ↓trb_33 hp, ↓tub_33 hp, wa_33, ↓tgb_51 hp, ↓trb_51 hp, ↓tub_51 hp, wa_51, ww_a51, ↓tpb_52 hp, ww_i52, ↓tw_rcb hp, h18, h28, h30, e])
  have e0 : (fun i => if 48 ≤ i ∧ i < 48 + 0 then t_pk T (i - 48) else cp (fun _ => nI 0) r 92 i) = cp (fun _ => nI 0) r 92 := by
    funext i
    rw [if_neg (by omega)]
  rw [e0] at l2
  have e1 : upd (fun i => if 48 ≤ i ∧ i < 48 + t_nl T then t_pk T (i - 48) else cp (fun _ => nI 0) r 92 i) 88 (t_st T) = cp (bg_r T) r 92 := by
    funext i
    unfold upd cp bg_r
    by_cases h : i = 88
    · rw [if_pos h, if_pos (by omega), if_pos h]
    · rw [if_neg h]
      dsimp only
      by_cases h2 : i < 92
      · rw [if_pos h2, if_pos h2, if_neg h]
      · rw [if_neg h2, if_neg h2, if_neg (by omega)]
  refine Eq.trans ?_ (Eq.trans l1 (Eq.trans ?_ (Eq.trans l2 ?_)))
  · simp (disch := omega) only [il_0, il_1, il_2, il_3, il_4, il_5, il_6, il_7, il_8, il_9, il_10, il_11, il_12, il_13, il_14, il_15, il_16, il_17, il_18, il_19, il_20, il_21, il_22, il_23, il_24, il_25, il_26, il_27, il_28, il_29, il_30, il_31, il_32, il_40, il_41, il_42, il_43, il_44, il_45, il_46, il_47, il_48, il_52, il_56, il_57, il_59, il_60, il_61, il_63, il_64, il_68, il_72, il_75, il_76, il_82, il_88, il_89, il_90, il_92, il_96, il_97, il_99, il_100, il_101, il_102, il_103, il_104, il_105, il_107, il_108, il_109, il_110, il_111, il_112, il_114, il_115, il_116, il_117, il_118, il_119, il_121, il_122, il_130, il_200, il_255, il_256, il_260, il_276, il_400, il_403, il_420, il_840, il_999, il_1000, il_2000, il_2001, il_2668, il_2760, il_9999, il_12345, il_1000000, il_1103515245, ↓im_1, ↓im_2, ↓im_8, ↓im_1000, nI_add, pk_mul, pk_sub, ↓pk_rem, pk_div, nm_add, nI_clamp, nI_ltI, nI_leI, nI_eq, nm_eq, mn_eq, mm_eq, nm_lt, mn_lt, nm_le, mn_le, nl_T, nl_F, nle_T, nle_F, ne_T, ne_F, b2i_0, b2i_1, b2i_n, nb_0, nb_1, or_false, false_or, or_true, true_or, and_true, true_and, and_false, false_and, or_self, and_self, not_true_eq_false, not_false_eq_true, ↓reduceIte, if_true, if_false, ↓jv_bs, ↓jv_ol, ↓jv_or, jv_tl, jv_tn, jo_T, ck_2_166_17, ck_6_43_16, ck_6_43_17, ck_6_73_16, ck_7_65_17, ck_30_10_19, su_F, e5_0, e5_1, ↓tgb_18 hp, wi_18, ↓tgb_28 hp, ↓trb_28 hp, ↓tub_28 hp, wa_28, ↓tgb_30 hp, ↓trb_30 hp, ↓tub_30 hp, wa_30, ↓tgb_31 hp, ↓trb_31 hp, ↓tub_31 hp, wa_31, ↓tgb_33 hp, ↓trb_33 hp, ↓tub_33 hp, wa_33, ↓tgb_51 hp, ↓trb_51 hp, ↓tub_51 hp, wa_51, ww_a51, ↓tpb_52 hp, ww_i52, ↓tw_rcb hp, n5]
  · simp (disch := omega) only [il_0, il_1, il_2, il_3, il_4, il_5, il_6, il_7, il_8, il_9, il_10, il_11, il_12, il_13, il_14, il_15, il_16, il_17, il_18, il_19, il_20, il_21, il_22, il_23, il_24, il_25, il_26, il_27, il_28, il_29, il_30, il_31, il_32, il_40, il_41, il_42, il_43, il_44, il_45, il_46, il_47, il_48, il_52, il_56, il_57, il_59, il_60, il_61, il_63, il_64, il_68, il_72, il_75, il_76, il_82, il_88, il_89, il_90, il_92, il_96, il_97, il_99, il_100, il_101, il_102, il_103, il_104, il_105, il_107, il_108, il_109, il_110, il_111, il_112, il_114, il_115, il_116, il_117, il_118, il_119, il_121, il_122, il_130, il_200, il_255, il_256, il_260, il_276, il_400, il_403, il_420, il_840, il_999, il_1000, il_2000, il_2001, il_2668, il_2760, il_9999, il_12345, il_1000000, il_1103515245, ↓im_1, ↓im_2, ↓im_8, ↓im_1000, nI_add, pk_mul, pk_sub, ↓pk_rem, pk_div, nm_add, nI_clamp, nI_ltI, nI_leI, nI_eq, nm_eq, mn_eq, mm_eq, nm_lt, mn_lt, nm_le, mn_le, nl_T, nl_F, nle_T, nle_F, ne_T, ne_F, b2i_0, b2i_1, b2i_n, nb_0, nb_1, or_false, false_or, or_true, true_or, and_true, true_and, and_false, false_and, or_self, and_self, not_true_eq_false, not_false_eq_true, ↓reduceIte, if_true, if_false, ↓jv_bs, ↓jv_ol, ↓jv_or, jv_tl, jv_tn, jo_T, ck_2_166_17, ck_6_43_16, ck_6_43_17, ck_6_73_16, ck_7_65_17, ck_30_10_19, su_F, e5_2, e5_3, e5_5, e5_8, e5_9, e5_12, e5_13, e5_14, e5_15, e5_18, e5_21, e5_22, ↓tgb_18 hp, wi_18, ↓tgb_28 hp, ↓trb_28 hp, ↓tub_28 hp, wa_28, ↓tgb_30 hp, ↓trb_30 hp, ↓tub_30 hp, wa_30, ↓tgb_31 hp, ↓trb_31 hp, ↓tub_31 hp, wa_31, ↓tgb_33 hp, ↓trb_33 hp, ↓tub_33 hp, wa_33, ↓tgb_51 hp, ↓trb_51 hp, ↓tub_51 hp, wa_51, ww_a51, ↓tpb_52 hp, ww_i52, ↓tw_rcb hp]
  · simp (disch := omega) only [il_0, il_1, il_2, il_3, il_4, il_5, il_6, il_7, il_8, il_9, il_10, il_11, il_12, il_13, il_14, il_15, il_16, il_17, il_18, il_19, il_20, il_21, il_22, il_23, il_24, il_25, il_26, il_27, il_28, il_29, il_30, il_31, il_32, il_40, il_41, il_42, il_43, il_44, il_45, il_46, il_47, il_48, il_52, il_56, il_57, il_59, il_60, il_61, il_63, il_64, il_68, il_72, il_75, il_76, il_82, il_88, il_89, il_90, il_92, il_96, il_97, il_99, il_100, il_101, il_102, il_103, il_104, il_105, il_107, il_108, il_109, il_110, il_111, il_112, il_114, il_115, il_116, il_117, il_118, il_119, il_121, il_122, il_130, il_200, il_255, il_256, il_260, il_276, il_400, il_403, il_420, il_840, il_999, il_1000, il_2000, il_2001, il_2668, il_2760, il_9999, il_12345, il_1000000, il_1103515245, ↓im_1, ↓im_2, ↓im_8, ↓im_1000, nI_add, pk_mul, pk_sub, ↓pk_rem, pk_div, nm_add, nI_clamp, nI_ltI, nI_leI, nI_eq, nm_eq, mn_eq, mm_eq, nm_lt, mn_lt, nm_le, mn_le, nl_T, nl_F, nle_T, nle_F, ne_T, ne_F, b2i_0, b2i_1, b2i_n, nb_0, nb_1, or_false, false_or, or_true, true_or, and_true, true_and, and_false, false_and, or_self, and_self, not_true_eq_false, not_false_eq_true, ↓reduceIte, if_true, if_false, ↓jv_bs, ↓jv_ol, ↓jv_or, jv_tl, jv_tn, jo_T, ck_2_166_17, ck_6_43_16, ck_6_43_17, ck_6_73_16, ck_7_65_17, ck_30_10_19, su_F, e5_23, e5_24, e5_25, e5_28, e5_29, e5_32, e5_33, e5_64, e5_65, e5_68, e5_70, e5_71, e5_74, e5_75, e5_78, e5_79, e5_80, e5_81, e5_82, e5_85, e5_86, e5_89, e5_90, e5_93, ↓tgb_18 hp, wi_18, ↓tgb_28 hp, ↓trb_28 hp, ↓tub_28 hp, wa_28, ↓tgb_30 hp, ↓trb_30 hp, ↓tub_30 hp, wa_30, ↓tgb_31 hp, ↓trb_31 hp, ↓tub_31 hp, wa_31, ↓tgb_33 hp, ↓trb_33 hp, ↓tub_33 hp, wa_33, ↓tgb_51 hp, ↓trb_51 hp, ↓tub_51 hp, wa_51, ww_a51, ↓tpb_52 hp, ww_i52, ↓tw_rcb hp, h18, h28, h31, h33, e1]
theorem m_beginsT_b (hp : p.length = 589) (ht : TV s lv T) (hT : TW T) {F : jv_R → Option jv_R} : (jv_cd (d + 1) 5 [.ref 589] (tw_h p (tw_w s r lo j) q)).bind F = F (.inl none, tw_h p (tw_w s (cp (bg_r T) r 92) (t_se T) j) q) := jb (m_beginsT hp ht hT)
/-- the text is taken from the tape -/
theorem m_taken (hp : p.length = 589) (h2 : s.1 2 = nI n) (hn : n ≤ 2000) (hy : ∀ i < n, (s.2.1 1 i).toInt8.toInt32 = s.2.1 1 i) : jv_cd (d + 1) 10 [.ref 589] (tw_h p s q) = jv_ev d 10 41 [some (.ref 589), some (.int (nI n))] [] (tw_h p (tw_i (tw_a (tw_i s 4 (nI n)) 3 (cp (s.2.1 1) (s.2.1 3) n)) 2 (nI 0)) q) := by
  have l1 := jl_0 (N := n) (F := fun k => jv_ev d 10 10 [some (.ref 589), some (.int (nI k))] [] (tw_h p (tw_a (tw_i s 4 (nI n)) 3 (cp (s.2.1 1) (s.2.1 3) k)) q)) (fun k hk => by
    have hv : vp_nar .byte (s.2.1 1 k) = s.2.1 1 k := by
      rw [← hy k hk]
      exact pk_vb _
    have e : tw_a (tw_a (tw_i s 4 (nI n)) 3 (cp (s.2.1 1) (s.2.1 3) k)) 3 (cp (s.2.1 1) (s.2.1 3) (k + 1)) = tw_a (tw_i s 4 (nI n)) 3 (cp (s.2.1 1) (s.2.1 3) (k + 1)) := tw_aa
    rw [e10_10]
    simp (disch := omega) only [il_0, il_1, il_2, il_3, il_4, il_5, il_6, il_7, il_8, il_9, il_10, il_11, il_12, il_13, il_14, il_15, il_16, il_17, il_18, il_19, il_20, il_21, il_22, il_23, il_24, il_25, il_26, il_27, il_28, il_29, il_30, il_31, il_32, il_40, il_41, il_42, il_43, il_44, il_45, il_46, il_47, il_48, il_52, il_56, il_57, il_59, il_60, il_61, il_63, il_64, il_68, il_72, il_75, il_76, il_82, il_88, il_89, il_90, il_92, il_96, il_97, il_99, il_100, il_101, il_102, il_103, il_104, il_105, il_107, il_108, il_109, il_110, il_111, il_112, il_114, il_115, il_116, il_117, il_118, il_119, il_121, il_122, il_130, il_200, il_255, il_256, il_260, il_276, il_400, il_403, il_420, il_840, il_999, il_1000, il_2000, il_2001, il_2668, il_2760, il_9999, il_12345, il_1000000, il_1103515245, ↓im_1, ↓im_2, ↓im_8, ↓im_1000, nI_add, pk_mul, pk_sub, ↓pk_rem, pk_div, nm_add, nI_clamp, nI_ltI, nI_leI, nI_eq, nm_eq, mn_eq, mm_eq, nm_lt, mn_lt, nm_le, mn_le, nl_T, nl_F, nle_T, nle_F, ne_T, ne_F, b2i_0, b2i_1, b2i_n, nb_0, nb_1, or_false, false_or, or_true, true_or, and_true, true_and, and_false, false_and, or_self, and_self, not_true_eq_false, not_false_eq_true, ↓reduceIte, if_true, if_false, ↓jv_bs, ↓jv_ol, ↓jv_or, jv_tl, jv_tn, jo_T, ck_2_166_17, ck_6_43_16, ck_6_43_17, ck_6_73_16, ck_7_65_17, ck_30_10_19, su_F, e10_11, e10_12, e10_15, e10_18, e10_19, e10_22, e10_23, e10_24, e10_27, e10_28, e10_29, e10_30, e10_33, ↓tgb_1 hp, ↓trb_1 hp, ↓tub_1 hp, wa_1, ↓tgb_2 hp, wi_2, ↓tpb_2 hp, ↓tgb_3 hp, ↓trb_3 hp, ↓tub_3 hp, wa_3, ↓tgb_4 hp, wi_4, ↓tpb_4 hp, ↓tgb_11 hp, wi_11, ↓tpb_11 hp, ↓tpb_12 hp, ↓tgb_13 hp, wi_13, ↓tpb_13 hp, ↓tgb_14 hp, wi_14, ↓tgb_15 hp, wi_15, ↓tpb_15 hp, ↓tgb_16 hp, wi_16, ↓tpb_17 hp, ↓tgb_18 hp, wi_18, ↓tpb_18 hp, ↓tgb_19 hp, wi_19, ↓tpb_19 hp, ↓tpb_20 hp, ↓tpb_36 hp, ↓tpb_42 hp, ↓tpb_53 hp, ↓tpb_65 hp, ↓tgb_70 hp, ↓trb_70 hp, ↓tub_70 hp, wa_70, ↓tw_rcb hp, tw_i1, tw_i2, tw_a1, tw_a2, tw_a3, Nat.reduceEqDiff, hv, cp_u, tw_aa])
  rw [cp_0] at l1
  have e0 : tw_a (tw_i s 4 (nI n)) 3 (s.2.1 3) = tw_i s 4 (nI n) := tw_ai (s := tw_i s 4 (nI n)) (k := 3)
  rw [e0] at l1
  refine Eq.trans ?_ (Eq.trans l1 ?_)
  · simp (disch := omega) only [il_0, il_1, il_2, il_3, il_4, il_5, il_6, il_7, il_8, il_9, il_10, il_11, il_12, il_13, il_14, il_15, il_16, il_17, il_18, il_19, il_20, il_21, il_22, il_23, il_24, il_25, il_26, il_27, il_28, il_29, il_30, il_31, il_32, il_40, il_41, il_42, il_43, il_44, il_45, il_46, il_47, il_48, il_52, il_56, il_57, il_59, il_60, il_61, il_63, il_64, il_68, il_72, il_75, il_76, il_82, il_88, il_89, il_90, il_92, il_96, il_97, il_99, il_100, il_101, il_102, il_103, il_104, il_105, il_107, il_108, il_109, il_110, il_111, il_112, il_114, il_115, il_116, il_117, il_118, il_119, il_121, il_122, il_130, il_200, il_255, il_256, il_260, il_276, il_400, il_403, il_420, il_840, il_999, il_1000, il_2000, il_2001, il_2668, il_2760, il_9999, il_12345, il_1000000, il_1103515245, ↓im_1, ↓im_2, ↓im_8, ↓im_1000, nI_add, pk_mul, pk_sub, ↓pk_rem, pk_div, nm_add, nI_clamp, nI_ltI, nI_leI, nI_eq, nm_eq, mn_eq, mm_eq, nm_lt, mn_lt, nm_le, mn_le, nl_T, nl_F, nle_T, nle_F, ne_T, ne_F, b2i_0, b2i_1, b2i_n, nb_0, nb_1, or_false, false_or, or_true, true_or, and_true, true_and, and_false, false_and, or_self, and_self, not_true_eq_false, not_false_eq_true, ↓reduceIte, if_true, if_false, ↓jv_bs, ↓jv_ol, ↓jv_or, jv_tl, jv_tn, jo_T, ck_2_166_17, ck_6_43_16, ck_6_43_17, ck_6_73_16, ck_7_65_17, ck_30_10_19, su_F, e10_0, e10_1, e10_2, e10_5, e10_8, e10_9, ↓tgb_1 hp, ↓trb_1 hp, ↓tub_1 hp, wa_1, ↓tgb_2 hp, wi_2, ↓tpb_2 hp, ↓tgb_3 hp, ↓trb_3 hp, ↓tub_3 hp, wa_3, ↓tgb_4 hp, wi_4, ↓tpb_4 hp, ↓tgb_11 hp, wi_11, ↓tpb_11 hp, ↓tpb_12 hp, ↓tgb_13 hp, wi_13, ↓tpb_13 hp, ↓tgb_14 hp, wi_14, ↓tgb_15 hp, wi_15, ↓tpb_15 hp, ↓tgb_16 hp, wi_16, ↓tpb_17 hp, ↓tgb_18 hp, wi_18, ↓tpb_18 hp, ↓tgb_19 hp, wi_19, ↓tpb_19 hp, ↓tpb_20 hp, ↓tpb_36 hp, ↓tpb_42 hp, ↓tpb_53 hp, ↓tpb_65 hp, ↓tgb_70 hp, ↓trb_70 hp, ↓tub_70 hp, wa_70, ↓tw_rcb hp, n10, h2]
  · simp (disch := omega) only [il_0, il_1, il_2, il_3, il_4, il_5, il_6, il_7, il_8, il_9, il_10, il_11, il_12, il_13, il_14, il_15, il_16, il_17, il_18, il_19, il_20, il_21, il_22, il_23, il_24, il_25, il_26, il_27, il_28, il_29, il_30, il_31, il_32, il_40, il_41, il_42, il_43, il_44, il_45, il_46, il_47, il_48, il_52, il_56, il_57, il_59, il_60, il_61, il_63, il_64, il_68, il_72, il_75, il_76, il_82, il_88, il_89, il_90, il_92, il_96, il_97, il_99, il_100, il_101, il_102, il_103, il_104, il_105, il_107, il_108, il_109, il_110, il_111, il_112, il_114, il_115, il_116, il_117, il_118, il_119, il_121, il_122, il_130, il_200, il_255, il_256, il_260, il_276, il_400, il_403, il_420, il_840, il_999, il_1000, il_2000, il_2001, il_2668, il_2760, il_9999, il_12345, il_1000000, il_1103515245, ↓im_1, ↓im_2, ↓im_8, ↓im_1000, nI_add, pk_mul, pk_sub, ↓pk_rem, pk_div, nm_add, nI_clamp, nI_ltI, nI_leI, nI_eq, nm_eq, mn_eq, mm_eq, nm_lt, mn_lt, nm_le, mn_le, nl_T, nl_F, nle_T, nle_F, ne_T, ne_F, b2i_0, b2i_1, b2i_n, nb_0, nb_1, or_false, false_or, or_true, true_or, and_true, true_and, and_false, false_and, or_self, and_self, not_true_eq_false, not_false_eq_true, ↓reduceIte, if_true, if_false, ↓jv_bs, ↓jv_ol, ↓jv_or, jv_tl, jv_tn, jo_T, ck_2_166_17, ck_6_43_16, ck_6_43_17, ck_6_73_16, ck_7_65_17, ck_30_10_19, su_F, e10_10, e10_11, e10_12, e10_15, e10_18, e10_19, e10_22, e10_23, e10_24, e10_27, e10_28, e10_29, e10_30, e10_33, e10_36, e10_37, e10_38, ↓tgb_1 hp, ↓trb_1 hp, ↓tub_1 hp, wa_1, ↓tgb_2 hp, wi_2, ↓tpb_2 hp, ↓tgb_3 hp, ↓trb_3 hp, ↓tub_3 hp, wa_3, ↓tgb_4 hp, wi_4, ↓tpb_4 hp, ↓tgb_11 hp, wi_11, ↓tpb_11 hp, ↓tpb_12 hp, ↓tgb_13 hp, wi_13, ↓tpb_13 hp, ↓tgb_14 hp, wi_14, ↓tgb_15 hp, wi_15, ↓tpb_15 hp, ↓tgb_16 hp, wi_16, ↓tpb_17 hp, ↓tgb_18 hp, wi_18, ↓tpb_18 hp, ↓tgb_19 hp, wi_19, ↓tpb_19 hp, ↓tpb_20 hp, ↓tpb_36 hp, ↓tpb_42 hp, ↓tpb_53 hp, ↓tpb_65 hp, ↓tgb_70 hp, ↓trb_70 hp, ↓tub_70 hp, wa_70, ↓tw_rcb hp, tw_i1, tw_i2, tw_a1, tw_a2, tw_a3, Nat.reduceEqDiff]
/-- what reading leaves -/
theorem TI_rd (hi : TI s lv A) (hA : AW A) (hs : s'.1 18 = s.1 18 ∧ s'.1 53 = s.1 53 ∧ s'.1 65 = s.1 65) (h2 : s'.1 2 = nI 0) (ht : TV s' lv A.1) (he : ∀ k, k = 50 ∨ k = 51 ∨ k = 54 ∨ k = 66 ∨ k = 67 ∨ k = 70 ∨ k = 71 → s'.2.1 k = s.2.1 k) (h9 : s'.2.2 9 = s.2.2 9) {x : Int32} (h17 : s'.1 17 = x) : TI s' lv (A.1, A.2.1, fun i => if i = 5 then 0 else A.2.2.1 i, x) := by
  obtain ⟨b1, b2, b3, b4, b5, b6, b7, b8, b9, b10, b11, b12⟩ := hi
  refine ⟨ht, by rw [he 50 (by omega)]; exact b2, by rw [he 51 (by omega)]; exact b3, hs.2.1.trans b4, fun i hi k hk => ?_, fun i hi => ?_, hs.2.2.trans b7, fun i hi => ?_, h2, fun i hi => absurd hi (Nat.not_lt_zero _), h17, h9.trans b12⟩
  · rw [he 54 (by omega)]; exact b5 i hi k hk
  · rw [he 70 (by omega), he 71 (by omega)]
    show s.2.1 70 i = nI (if 1 + i = 5 then 0 else A.2.2.1 (1 + i)) ∧ ((if 1 + i = 5 then 0 else A.2.2.1 (1 + i)) = 1 → _)
    rw [if_neg (by omega)]
    exact b6 i hi
  · rw [he 66 (by omega), he 67 (by omega)]; exact b8 i hi
theorem to_read (hp : p.length = 589) (hi : TI s lv A) (hA : AW A) (hY : AY A) : ∃ s' lv', TI s' lv' (o_read A).2 ∧ jv_cd (d + 9) 10 [.ref 589] (tw_h p s q) = some (.inl (some (.int (o_read A).1)), tw_h p s' q) := by
  obtain ⟨b1, b2, b3, b4, b5, b6, b7, b8, b9, b10, b11, b12⟩ := id hi
  have hTA := hA.1
  have hn : rb_n A ≤ 2000 := hA.2.2.2.2.2.2.2
  have h2 : s.1 2 = nI (rb_n A) := b9
  obtain ⟨hlv, h18, _⟩ := id b1
  have hE := EN_b (b := rb_b A) hn
  have st1 := m_taken (d := d + 8) (q := q) hp h2 hn (fun i hi => by rw [b10 i hi]; exact hY i hi)
  generalize hs1 : tw_i (tw_a (tw_i s 4 (nI (rb_n A))) 3 (cp (s.2.1 1) (s.2.1 3) (rb_n A))) 2 (nI 0) = s1 at st1
  have hBT : BT s1 (rb_b A) (rb_n A) := by
    rw [← hs1]
    refine ⟨rfl, hn, fun i hi => ?_, fun i => ?_, fun i hi => if_neg (Nat.not_lt.mpr hi)⟩
    · show cp (s.2.1 1) (s.2.1 3) (rb_n A) i &&& nI 255 = nI (if i < A.2.2.1 5 then lb (A.2.1 60 i) else 0)
      have hi' : i < A.2.2.1 5 := hi
      rw [cp_in hi, if_pos hi', b10 i hi']
      exact lb_and
    · unfold rb_b
      split
      · exact lb_lt
      · omega
  have hf1 : ∀ k, k ≠ 2 → k ≠ 4 → s1.1 k = s.1 k := fun k h1 h2 => by
    rw [← hs1]
    show (if k = 2 then _ else if k = 4 then _ else s.1 k) = _
    rw [if_neg h1, if_neg h2]
  have hf2 : ∀ k, k ≠ 3 → s1.2.1 k = s.2.1 k := fun k h1 => by
    rw [← hs1]
    show (if k = 3 then _ else s.2.1 k) = _
    rw [if_neg h1]
  have hf3 : s1.2.2 = s.2.2 := by rw [← hs1]; rfl
  have hf4 : s1.1 2 = nI 0 := by rw [← hs1]; rfl
  obtain ⟨s2, g1, g2, r2⟩ := m_cutsUp (d := d + 5) (q := q) hp hBT (by rw [hf3]; exact b12)
  have hte2 := TE_b g2
  generalize hK : rK (rb_b A) (rb_n A) = K at hE hte2
  generalize hV : rV (rb_b A) (rb_n A) = V at hE hte2
  generalize hF : tfr (rb_b A) (rb_n A) = F at hE hte2
  generalize hN : rN (rb_b A) (rb_n A) = N at hE hte2
  generalize hL : rL (rb_b A) (rb_n A) = L at hE
  generalize hR : rR (rb_b A) (rb_n A) = R at hE
  have k18 : s2.1 18 = nI lv := (g1.1 18 (by decide)).trans ((hf1 18 (by decide) (by decide)).trans h18)
  obtain ⟨sd, hsd⟩ : ∃ sd, sd = 1 - lv := ⟨_, rfl⟩
  have hsd1 : lv + sd = 1 := by omega
  -- the begin
  generalize hs2' : tw_i (tw_i (tw_i (tw_i (tw_i (tw_i s2 11 (nI 0)) 12 (nI 0)) 13 (nI 0)) 15 (nI 0)) 19 (nI sd)) 20 (nI 0) = s2'
  have hp3 := m_plain (d := d + 7) (q := q) (s := s2') hp (show sd < 2 by omega)
  have k19' : s2'.1 19 = nI sd := by rw [← hs2']; rfl
  have k19p : (plS s2' sd).1 19 = nI sd := k19'
  generalize hs3 : tw_i (tw_i (plS s2' sd) 36 (nI (130 * sd))) 42 (nI (420 * sd)) = s3
  have st3 : jv_ev (d + 8) 10 41 [some (.ref 589), some (.int (nI (rb_n A)))] [] (tw_h p s1 q) = jv_ev (d + 8) 10 112 [some (.ref 589), some (.int (nI (rb_n A)))] [] (tw_h p s3 q) := by
    rw [← hs3]
    rw [← hs2'] at hp3
    have e1 : nI 1 - nI lv = nI sd := by rw [pk_sub (by omega), hsd]
    generalize hpl : plS s2' sd = spl at k19p
    rw [hs2', hpl] at hp3
    rw [← hs2'] at hp3
    simp (disch := omega) only [il_0, il_1, il_2, il_3, il_4, il_5, il_6, il_7, il_8, il_9, il_10, il_11, il_12, il_13, il_14, il_15, il_16, il_17, il_18, il_19, il_20, il_21, il_22, il_23, il_24, il_25, il_26, il_27, il_28, il_29, il_30, il_31, il_32, il_40, il_41, il_42, il_43, il_44, il_45, il_46, il_47, il_48, il_52, il_56, il_57, il_59, il_60, il_61, il_63, il_64, il_68, il_72, il_75, il_76, il_82, il_88, il_89, il_90, il_92, il_96, il_97, il_99, il_100, il_101, il_102, il_103, il_104, il_105, il_107, il_108, il_109, il_110, il_111, il_112, il_114, il_115, il_116, il_117, il_118, il_119, il_121, il_122, il_130, il_200, il_255, il_256, il_260, il_276, il_400, il_403, il_420, il_840, il_999, il_1000, il_2000, il_2001, il_2668, il_2760, il_9999, il_12345, il_1000000, il_1103515245, ↓im_1, ↓im_2, ↓im_8, ↓im_1000, nI_add, pk_mul, pk_sub, ↓pk_rem, pk_div, nm_add, nI_clamp, nI_ltI, nI_leI, nI_eq, nm_eq, mn_eq, mm_eq, nm_lt, mn_lt, nm_le, mn_le, nl_T, nl_F, nle_T, nle_F, ne_T, ne_F, b2i_0, b2i_1, b2i_n, nb_0, nb_1, or_false, false_or, or_true, true_or, and_true, true_and, and_false, false_and, or_self, and_self, not_true_eq_false, not_false_eq_true, ↓reduceIte, if_true, if_false, ↓jv_bs, ↓jv_ol, ↓jv_or, jv_tl, jv_tn, jo_T, ck_2_166_17, ck_6_43_16, ck_6_43_17, ck_6_73_16, ck_7_65_17, ck_30_10_19, su_F, e10_41, e10_42, e10_45, e10_46, e10_47, e10_50, e10_51, e10_52, e10_55, e10_56, e10_57, e10_60, e10_61, e10_62, e10_65, e10_66, e10_67, e10_68, e10_71, e10_72, e10_75, e10_76, e10_77, e10_80, e10_81, e10_82, e10_85, e10_88, e10_89, e10_92, e10_93, e10_96, e10_97, e10_100, e10_101, e10_104, e10_105, e10_108, e10_109, ↓tgb_1 hp, ↓trb_1 hp, ↓tub_1 hp, wa_1, ↓tgb_2 hp, wi_2, ↓tpb_2 hp, ↓tgb_3 hp, ↓trb_3 hp, ↓tub_3 hp, wa_3, ↓tgb_4 hp, wi_4, ↓tpb_4 hp, ↓tgb_11 hp, wi_11, ↓tpb_11 hp, ↓tpb_12 hp, ↓tgb_13 hp, wi_13, ↓tpb_13 hp, ↓tgb_14 hp, wi_14, ↓tgb_15 hp, wi_15, ↓tpb_15 hp, ↓tgb_16 hp, wi_16, ↓tpb_17 hp, ↓tgb_18 hp, wi_18, ↓tpb_18 hp, ↓tgb_19 hp, wi_19, ↓tpb_19 hp, ↓tpb_20 hp, ↓tpb_36 hp, ↓tpb_42 hp, ↓tpb_53 hp, ↓tpb_65 hp, ↓tgb_70 hp, ↓trb_70 hp, ↓tub_70 hp, wa_70, ↓tw_rcb hp, k18, k19p, e1, ↓jbR r2, ↓jbR hp3, tw_i1, tw_i2, Nat.reduceEqDiff]
  have fx23 : FX sd s2' s3 := by
    rw [← hs3]
    exact FX_tr FX_pl (FX_tr (FX_i (j := 36) (by unfold ch; omega)) (FX_i (j := 42) (by unfold ch; omega)))
  have hte3 : TE s3 K V F N := TE_FX (TE_c hte2 (by rw [← hs2']; rfl) (by rw [← hs2']; rfl) (by rw [← hs2']; rfl) (by rw [← hs2']; rfl)) fx23
  have hPI : PI s3 K V F N sd 0 (T0, [], (0, 0)) := by
    refine ⟨⟨?_, ?_, ?_, ⟨Nat.zero_le _, fun k hk => absurd hk (Nat.not_lt_zero _)⟩, ?_, Nat.zero_le _, fun h => absurd rfl h⟩, hte3, ⟨?_, Nat.zero_le _, fun i hi => absurd hi (Nat.not_lt_zero _), fun x hx => absurd hx (List.not_mem_nil)⟩, by omega, 130 * sd, 420 * sd, ?_, ?_, ⟨Nat.le_refl _, by omega⟩, ⟨Nat.le_refl _, by omega⟩, ?_⟩
    · rw [← hs3, ← hs2']; rfl
    · rw [← hs3, ← hs2']; rfl
    · rw [← hs3, ← hs2']; rfl
    · rw [← hs3, ← hs2']; rfl
    · rw [← hs3, ← hs2']; rfl
    · rw [← hs3]; rfl
    · rw [← hs3]; rfl
    · rw [← hs3]
      exact TP_c (s := plS s2' sd) rfl (fun _ _ _ => rfl) (AB_e fun _ _ _ => rfl) (Nat.le_refl _) (Nat.le_refl _) id (TP_pl k19')
  obtain ⟨s4, f4, o4, r4⟩ := t_all (d := d) (q := q) (x1 := some (.int (nI (rb_n A)))) hp hE 500 0 _ s3 hPI WX_0 (by decide)
  have hall := qk_All hE 500 0 (T0, [], (0, 0)) ⟨Nat.zero_le _, fun k hk => absurd hk (Nat.not_lt_zero _)⟩ WX_0 (by decide)
  have hrd := pRd_k hE
  -- what stays
  have ks : ∀ k, k = 2 ∨ k = 18 ∨ k = 53 ∨ k = 65 → s4.1 k = s1.1 k := fun k hk => by
    rw [f4.1 k (by unfold ch; omega), fx23.1 k (by unfold ch; omega), ← hs2']
    show (if k = 20 then _ else if k = 19 then _ else if k = 15 then _ else if k = 13 then _ else if k = 12 then _ else if k = 11 then _ else s2.1 k) = _
    rw [if_neg (by omega), if_neg (by omega), if_neg (by omega), if_neg (by omega), if_neg (by omega), if_neg (by omega)]
    exact g1.1 k (by omega)
  have ka : ∀ k, k = 50 ∨ k = 51 ∨ k = 54 ∨ k = 66 ∨ k = 67 ∨ k = 70 ∨ k = 71 → s4.2.1 k = s.2.1 k := fun k hk => by
    rw [f4.2.1 k (by omega), fx23.2.1 k (by omega), ← hs2']
    show s2.2.1 k = _
    rw [g1.2.1 k (by omega), hf2 k (by omega)]
  have k9 : s4.2.2 9 = s.2.2 9 := by
    rw [f4.2.2.2 9 (by decide), fx23.2.2.2 9 (by decide), ← hs2']
    show s2.2.2 9 = _
    rw [g1.2.2 9 (by decide), hf3]
  have hTV2 : TV s2' lv A.1 := by
    refine TV_c (s := s) ?_ (fun k h1 h2 => ?_) b1
    · rw [← hs2']
      exact k18.trans h18.symm
    · rw [← hs2']
      show s2.2.1 k = _
      rw [g1.2.1 k (by omega), hf2 k (by omega)]
  have hTV4 : TV s4 lv A.1 := TV_FX (FX_tr fx23 f4) hsd1 hTA hTV2
  rw [st1, st3, r4]
  have hoR : o_read A = o_rd A F (pRd K V N L R) := by
    unfold o_read
    rw [hK, hV, hN, hL, hR, hF]
  rw [hoR]
  -- a fault, or the worst
  have hfin : ∀ (s5 : tw_S) (e : Nat) (pl : Int32), (1 ≤ e ∧ e ≤ 9) → (∀ k, k = 2 ∨ k = 18 ∨ k = 53 ∨ k = 65 → s5.1 k = s4.1 k) → s5.2 = s4.2 → TI (tw_i s5 17 pl) lv (A.1, A.2.1, fun i => if i = 5 then 0 else A.2.2.1 i, pl) := fun s5 e pl he h1 h2 => by
    have hh : ∀ k, k = 2 ∨ k = 18 ∨ k = 53 ∨ k = 65 → (tw_i s5 17 pl).1 k = s4.1 k := fun k hk => by
      rw [tw_i1, if_neg (by omega)]
      exact h1 k hk
    refine TI_rd hi hA ⟨?_, ?_, ?_⟩ ?_ ?_ (fun k hk => ?_) ?_ rfl
    · rw [hh 18 (by omega), ks 18 (by omega), hf1 18 (by decide) (by decide)]
    · rw [hh 53 (by omega), ks 53 (by omega), hf1 53 (by decide) (by decide)]
    · rw [hh 65 (by omega), ks 65 (by omega), hf1 65 (by decide) (by decide)]
    · rw [hh 2 (by omega), ks 2 (by omega), hf4]
    · exact TV_c (s := s4) (hh 18 (by omega)) (fun k _ _ => by rw [tw_i2, h2]) hTV4
    · rw [tw_i2, h2]; exact ka k hk
    · rw [tw_i2, h2]; exact k9
  generalize hAll : pAll K V N L R 500 0 (T0, [], (0, 0)) = ra at o4 hall
  have hRd : pRd K V N L R = pEnd ra := by
    unfold pRd
    rw [hAll]
  cases ra with
  | inl e =>
    rw [hRd]
    unfold pEnd o_rd
    dsimp only
    obtain ⟨u1, u2, u3, _⟩ := o4
    have u0 := fe_0 u1 u2
    refine ⟨tw_i s4 17 (nI (F e.2)), lv, hfin s4 e.1 _ u2 (fun _ _ => rfl) rfl, ?_⟩
    simp (disch := omega) only [il_0, il_1, il_2, il_3, il_4, il_5, il_6, il_7, il_8, il_9, il_10, il_11, il_12, il_13, il_14, il_15, il_16, il_17, il_18, il_19, il_20, il_21, il_22, il_23, il_24, il_25, il_26, il_27, il_28, il_29, il_30, il_31, il_32, il_40, il_41, il_42, il_43, il_44, il_45, il_46, il_47, il_48, il_52, il_56, il_57, il_59, il_60, il_61, il_63, il_64, il_68, il_72, il_75, il_76, il_82, il_88, il_89, il_90, il_92, il_96, il_97, il_99, il_100, il_101, il_102, il_103, il_104, il_105, il_107, il_108, il_109, il_110, il_111, il_112, il_114, il_115, il_116, il_117, il_118, il_119, il_121, il_122, il_130, il_200, il_255, il_256, il_260, il_276, il_400, il_403, il_420, il_840, il_999, il_1000, il_2000, il_2001, il_2668, il_2760, il_9999, il_12345, il_1000000, il_1103515245, ↓im_1, ↓im_2, ↓im_8, ↓im_1000, nI_add, pk_mul, pk_sub, ↓pk_rem, pk_div, nm_add, nI_clamp, nI_ltI, nI_leI, nI_eq, nm_eq, mn_eq, mm_eq, nm_lt, mn_lt, nm_le, mn_le, nl_T, nl_F, nle_T, nle_F, ne_T, ne_F, b2i_0, b2i_1, b2i_n, nb_0, nb_1, or_false, false_or, or_true, true_or, and_true, true_and, and_false, false_and, or_self, and_self, not_true_eq_false, not_false_eq_true, ↓reduceIte, if_true, if_false, ↓jv_bs, ↓jv_ol, ↓jv_or, jv_tl, jv_tn, jo_T, ck_2_166_17, ck_6_43_16, ck_6_43_17, ck_6_73_16, ck_7_65_17, ck_30_10_19, su_F, e10_134, e10_135, e10_138, e10_141, e10_142, e10_145, e10_148, e10_149, e10_151, e10_152, e10_155, e10_158, e10_159, e10_160, e10_163, e10_166, e10_167, e10_170, e10_173, e10_174, e10_177, e10_180, e10_181, e10_184, e10_187, e10_188, e10_191, e10_192, e10_195, e10_198, e10_199, e10_202, ↓tgb_1 hp, ↓trb_1 hp, ↓tub_1 hp, wa_1, ↓tgb_2 hp, wi_2, ↓tpb_2 hp, ↓tgb_3 hp, ↓trb_3 hp, ↓tub_3 hp, wa_3, ↓tgb_4 hp, wi_4, ↓tpb_4 hp, ↓tgb_11 hp, wi_11, ↓tpb_11 hp, ↓tpb_12 hp, ↓tgb_13 hp, wi_13, ↓tpb_13 hp, ↓tgb_14 hp, wi_14, ↓tgb_15 hp, wi_15, ↓tpb_15 hp, ↓tgb_16 hp, wi_16, ↓tpb_17 hp, ↓tgb_18 hp, wi_18, ↓tpb_18 hp, ↓tgb_19 hp, wi_19, ↓tpb_19 hp, ↓tpb_20 hp, ↓tpb_36 hp, ↓tpb_42 hp, ↓tpb_53 hp, ↓tpb_65 hp, ↓tgb_70 hp, ↓trb_70 hp, ↓tub_70 hp, wa_70, ↓tw_rcb hp, u0, u1, u3, tw_i1, tw_i2, Nat.reduceEqDiff]
  | inr x =>
    obtain ⟨hX, hRC, hK0⟩ := hall
    obtain ⟨β, hβ, rβ⟩ := m_are (d := d + 7) (q := q) hp o4 hX
    obtain ⟨xt, xT, xn, xw⟩ := x
    unfold pEnd at hRd
    dsimp only at hX hRC hK0 hβ o4 hRd ⊢
    unfold o_rd
    obtain ⟨hz, hte4, hn4, _, bb, cc, v36, v42, vb, vc, vT⟩ := o4
    dsimp only at hz vT
    obtain ⟨u1, u2, u3, u4, u5, u6, u7⟩ := id hz
    dsimp only at u2 u4 u5 u6 u7
    have hx4 : xt ≤ 400 := u4.1
    have hF2 := hE.2.2.1
    by_cases hw : xw.1 = 0
    · have hβ := hβ hw
      cases hu : unT xT with
      | true =>
        rw [hu] at hβ
        rw [hRd, if_neg (by omega), if_pos hu]
        dsimp only
        obtain ⟨s5, f5, z5, r5⟩ := z_wr (d := d + 7) (q := q) (n := 6) (tok := xt) hp hE hz hte4 (by decide) hx4 (fun y hy => by obtain rfl := Sum.inr.inj hy; exact Nat.le_refl _)
        have ew : zwr 6 xt (.inr (xt, xw)) = .inr (xt, (6, xt)) := by
          unfold zwr wt
          dsimp only
          rw [if_neg (fun h => h.1 hw)]
        rw [ew] at z5
        obtain ⟨v1, _, _, _, v5, _, v7⟩ := z5
        have v5 : s5.1 15 = nI 6 := v5
        have v7 : s5.1 16 = nI (F xt) := (v7 (show (6 : Nat) ≠ 0 by decide)).1
        subst hβ
        rw [Bool.not_true, b2i_f] at rβ
        refine ⟨tw_i s5 17 (nI (F xt)), lv, hfin s5 6 _ (by decide) (fun k hk => f5.1 k (by omega)) f5.2, ?_⟩
        simp (disch := omega) only [il_0, il_1, il_2, il_3, il_4, il_5, il_6, il_7, il_8, il_9, il_10, il_11, il_12, il_13, il_14, il_15, il_16, il_17, il_18, il_19, il_20, il_21, il_22, il_23, il_24, il_25, il_26, il_27, il_28, il_29, il_30, il_31, il_32, il_40, il_41, il_42, il_43, il_44, il_45, il_46, il_47, il_48, il_52, il_56, il_57, il_59, il_60, il_61, il_63, il_64, il_68, il_72, il_75, il_76, il_82, il_88, il_89, il_90, il_92, il_96, il_97, il_99, il_100, il_101, il_102, il_103, il_104, il_105, il_107, il_108, il_109, il_110, il_111, il_112, il_114, il_115, il_116, il_117, il_118, il_119, il_121, il_122, il_130, il_200, il_255, il_256, il_260, il_276, il_400, il_403, il_420, il_840, il_999, il_1000, il_2000, il_2001, il_2668, il_2760, il_9999, il_12345, il_1000000, il_1103515245, ↓im_1, ↓im_2, ↓im_8, ↓im_1000, nI_add, pk_mul, pk_sub, ↓pk_rem, pk_div, nm_add, nI_clamp, nI_ltI, nI_leI, nI_eq, nm_eq, mn_eq, mm_eq, nm_lt, mn_lt, nm_le, mn_le, nl_T, nl_F, nle_T, nle_F, ne_T, ne_F, b2i_0, b2i_1, b2i_n, nb_0, nb_1, or_false, false_or, or_true, true_or, and_true, true_and, and_false, false_and, or_self, and_self, not_true_eq_false, not_false_eq_true, ↓reduceIte, if_true, if_false, ↓jv_bs, ↓jv_ol, ↓jv_or, jv_tl, jv_tn, jo_T, ck_2_166_17, ck_6_43_16, ck_6_43_17, ck_6_73_16, ck_7_65_17, ck_30_10_19, su_F, e10_134, e10_135, e10_138, e10_141, e10_142, e10_145, e10_148, e10_149, e10_151, e10_152, e10_155, e10_158, e10_159, e10_160, e10_163, e10_166, e10_167, e10_170, e10_173, e10_174, e10_177, e10_180, e10_181, e10_184, e10_187, e10_188, e10_191, e10_192, e10_195, e10_198, e10_199, e10_202, e10_203, e10_204, e10_207, e10_210, e10_211, e10_214, ↓tgb_1 hp, ↓trb_1 hp, ↓tub_1 hp, wa_1, ↓tgb_2 hp, wi_2, ↓tpb_2 hp, ↓tgb_3 hp, ↓trb_3 hp, ↓tub_3 hp, wa_3, ↓tgb_4 hp, wi_4, ↓tpb_4 hp, ↓tgb_11 hp, wi_11, ↓tpb_11 hp, ↓tpb_12 hp, ↓tgb_13 hp, wi_13, ↓tpb_13 hp, ↓tgb_14 hp, wi_14, ↓tgb_15 hp, wi_15, ↓tpb_15 hp, ↓tgb_16 hp, wi_16, ↓tpb_17 hp, ↓tgb_18 hp, wi_18, ↓tpb_18 hp, ↓tgb_19 hp, wi_19, ↓tpb_19 hp, ↓tpb_20 hp, ↓tpb_36 hp, ↓tpb_42 hp, ↓tpb_53 hp, ↓tpb_65 hp, ↓tgb_70 hp, ↓trb_70 hp, ↓tub_70 hp, wa_70, ↓tw_rcb hp, u1, u2, v1, v5, v7, ↓jbR rβ, ↓jbR r5, tw_i1, tw_i2, Nat.reduceEqDiff]
      | false =>
        rw [hu] at hβ
        have hrd := hrd
        rw [hRd, if_neg (by omega), if_neg (by rw [hu]; exact Bool.false_ne_true)] at hrd ⊢
        dsimp only at hrd ⊢
        subst hβ
        rw [Bool.not_false, b2i_t] at rβ
        rw [hw] at u5
        have hTP := vT.1
        have h4sd : s4.1 19 = nI sd := vT.1
        -- this side is live
        have e5 : tw_i (tw_i s4 17 (mI 1)) 18 (nI sd) = tw_w (tw_i (tw_i s4 17 (mI 1)) 18 (nI sd)) (s4.2.1 51) (s4.1 52) (s4.2.1 47, s4.2.1 48, s4.1 49) := (ww_id (s := tw_i (tw_i s4 17 (mI 1)) 18 (nI sd))).symm
        have hTV5 : TV (tw_i (tw_i s4 17 (mI 1)) 18 (nI sd)) sd xT := TV_TP (w := xw) (b := bb) (c := cc) (by omega) rfl (TP_c (s := s4) rfl (fun _ _ _ => rfl) (AB_e fun _ _ _ => rfl) (Nat.le_refl _) (Nat.le_refl _) id vT) hw (by omega) (by omega)
        have rb := m_beginsT (d := d + 7) (q := q) (s := tw_i (tw_i s4 17 (mI 1)) 18 (nI sd)) (r := s4.2.1 51) (lo := s4.1 52) (j := (s4.2.1 47, s4.2.1 48, s4.1 49)) hp hTV5 hrd
        rw [← e5] at rb
        have hcp : cp (bg_r xT) (s4.2.1 51) 92 = bg_r xT := by
          funext i
          by_cases h : i < 92
          · exact cp_in h
          · rw [cp_out (by omega), ka 51 (by omega), b3 i (by omega), bg_RZ hrd i (by omega)]
        rw [hcp] at rb
        have rk := m_keepsRow (d := d + 7) (q := q) (s := tw_i (tw_i s4 17 (mI 1)) 18 (nI sd)) (r := bg_r xT) (lo := t_se xT) (j := (s4.2.1 47, s4.2.1 48, s4.1 49)) hp
        have hcp2 : cp (bg_r xT) ((tw_i (tw_i s4 17 (mI 1)) 18 (nI sd)).2.1 50) 92 = bg_r xT := by
          funext i
          by_cases h : i < 92
          · exact cp_in h
          · rw [cp_out (by omega)]
            show s4.2.1 50 i = _
            rw [ka 50 (by omega), b2, (hA.2.1.2.1) i (by omega), bg_RZ hrd i (by omega)]
        rw [hcp2] at rk
        generalize hj : (s4.2.1 47, s4.2.1 48, s4.1 49) = jj at rb rk
        generalize hs6 : tw_w (tw_a (tw_i (tw_i s4 17 (mI 1)) 18 (nI sd)) 50 (bg_r xT)) (bg_r xT) (t_se xT) jj = s6 at rk
        refine ⟨ua (ua (ua (tw_i (tw_i s6 53 (nI 0)) 65 (nI 0)) 70 0 (nI 0)) 70 1 (nI 0)) 70 2 (nI 0), sd, ?_, ?_⟩
        · have hTV6 : TV (ua (ua (ua (tw_i (tw_i s6 53 (nI 0)) 65 (nI 0)) 70 0 (nI 0)) 70 1 (nI 0)) 70 2 (nI 0)) sd xT := by
            refine TV_c (s := tw_i (tw_i s4 17 (mI 1)) 18 (nI sd)) ?_ (fun k h1 h2 => ?_) hTV5
            · rw [← hs6]; rfl
            · show (if k = 70 then _ else if k = 70 then _ else if k = 70 then _ else s6.2.1 k) = _
              rw [if_neg (by omega), if_neg (by omega), if_neg (by omega), ← hs6]
              show (if k = 51 then _ else if k = 47 then _ else if k = 48 then _ else if k = 50 then _ else s4.2.1 k) = _
              rw [if_neg (by omega), if_neg (by omega), if_neg (by omega), if_neg (by omega)]
              rfl
          refine ⟨hTV6, ?_, ?_, rfl, fun i hi => absurd hi (Nat.not_lt_zero _), fun i hi => ⟨?_, fun h => ?_⟩, rfl, fun i hi => absurd hi (Nat.not_lt_zero _), ?_, fun i hi => absurd hi (Nat.not_lt_zero _), ?_, ?_⟩
          · rw [← hs6]; rfl
          · rw [← hs6]; exact bg_RZ hrd
          · show upd (upd (upd (s6.2.1 70) 0 (nI 0)) 1 (nI 0)) 2 (nI 0) i = nI (if 1 + i ≤ 5 then 0 else A.2.2.1 (1 + i))
            rw [if_pos (by omega)]
            unfold upd
            rcases (show i = 0 ∨ i = 1 ∨ i = 2 by omega) with rfl | rfl | rfl <;> simp
          · change (if 1 + i ≤ 5 then 0 else A.2.2.1 (1 + i)) = 1 at h
            rw [if_pos (by omega)] at h
            cases h
          · show s6.1 2 = nI 0
            rw [← hs6]
            show s4.1 2 = _
            rw [ks 2 (by omega), hf4]
          · rw [← hs6]; rfl
          · rw [← hs6]
            exact k9.trans b12
        · have hl70 : s6.2.1 70 = s6.2.1 70 := rfl
          simp (disch := omega) only [il_0, il_1, il_2, il_3, il_4, il_5, il_6, il_7, il_8, il_9, il_10, il_11, il_12, il_13, il_14, il_15, il_16, il_17, il_18, il_19, il_20, il_21, il_22, il_23, il_24, il_25, il_26, il_27, il_28, il_29, il_30, il_31, il_32, il_40, il_41, il_42, il_43, il_44, il_45, il_46, il_47, il_48, il_52, il_56, il_57, il_59, il_60, il_61, il_63, il_64, il_68, il_72, il_75, il_76, il_82, il_88, il_89, il_90, il_92, il_96, il_97, il_99, il_100, il_101, il_102, il_103, il_104, il_105, il_107, il_108, il_109, il_110, il_111, il_112, il_114, il_115, il_116, il_117, il_118, il_119, il_121, il_122, il_130, il_200, il_255, il_256, il_260, il_276, il_400, il_403, il_420, il_840, il_999, il_1000, il_2000, il_2001, il_2668, il_2760, il_9999, il_12345, il_1000000, il_1103515245, ↓im_1, ↓im_2, ↓im_8, ↓im_1000, nI_add, pk_mul, pk_sub, ↓pk_rem, pk_div, nm_add, nI_clamp, nI_ltI, nI_leI, nI_eq, nm_eq, mn_eq, mm_eq, nm_lt, mn_lt, nm_le, mn_le, nl_T, nl_F, nle_T, nle_F, ne_T, ne_F, b2i_0, b2i_1, b2i_n, nb_0, nb_1, or_false, false_or, or_true, true_or, and_true, true_and, and_false, false_and, or_self, and_self, not_true_eq_false, not_false_eq_true, ↓reduceIte, if_true, if_false, ↓jv_bs, ↓jv_ol, ↓jv_or, jv_tl, jv_tn, jo_T, ck_2_166_17, ck_6_43_16, ck_6_43_17, ck_6_73_16, ck_7_65_17, ck_30_10_19, su_F, e10_134, e10_135, e10_138, e10_141, e10_142, e10_145, e10_148, e10_149, e10_151, e10_152, e10_155, e10_158, e10_159, e10_160, e10_163, e10_166, e10_167, e10_170, e10_173, e10_174, e10_177, e10_180, e10_181, e10_184, e10_187, e10_188, e10_191, e10_192, e10_195, e10_198, e10_199, e10_202, e10_203, e10_204, e10_207, e10_210, e10_211, e10_214, e10_215, e10_216, e10_217, e10_220, e10_223, e10_224, e10_227, e10_228, e10_231, e10_232, e10_233, e10_236, e10_237, e10_238, e10_241, e10_242, e10_243, e10_244, e10_245, e10_248, e10_249, e10_252, e10_253, e10_254, e10_255, e10_258, e10_261, e10_262, ↓tgb_1 hp, ↓trb_1 hp, ↓tub_1 hp, wa_1, ↓tgb_2 hp, wi_2, ↓tpb_2 hp, ↓tgb_3 hp, ↓trb_3 hp, ↓tub_3 hp, wa_3, ↓tgb_4 hp, wi_4, ↓tpb_4 hp, ↓tgb_11 hp, wi_11, ↓tpb_11 hp, ↓tpb_12 hp, ↓tgb_13 hp, wi_13, ↓tpb_13 hp, ↓tgb_14 hp, wi_14, ↓tgb_15 hp, wi_15, ↓tpb_15 hp, ↓tgb_16 hp, wi_16, ↓tpb_17 hp, ↓tgb_18 hp, wi_18, ↓tpb_18 hp, ↓tgb_19 hp, wi_19, ↓tpb_19 hp, ↓tpb_20 hp, ↓tpb_36 hp, ↓tpb_42 hp, ↓tpb_53 hp, ↓tpb_65 hp, ↓tgb_70 hp, ↓trb_70 hp, ↓tub_70 hp, wa_70, ↓tw_rcb hp, u1, u5, h4sd, im_1, vb_0, ↓jbR rβ, ↓jbR rb, ↓jbR rk, tw_i1, tw_i2, tw_a1, tw_a2, tw_a3, Nat.reduceEqDiff, ua]
    · rw [hRd, if_pos hw]
      dsimp only
      obtain ⟨v1, v2⟩ := u7 hw
      have hlt : xw.2 < xt := hX.2.2.2.1.2 hw
      have ew : zwr 6 xt (.inr (xt, xw)) = .inr (xt, xw) := by
        unfold zwr wt
        dsimp only
        rw [if_pos ⟨hw, Or.inl hlt⟩]
      obtain ⟨s5, f5, z5, r5⟩ := z_wr (d := d + 7) (q := q) (n := 6) (tok := xt) hp hE hz hte4 (by decide) hx4 (fun y hy => by obtain rfl := Sum.inr.inj hy; exact Nat.le_refl _)
      rw [ew] at z5
      obtain ⟨w1, _, _, _, w5, _, w7⟩ := z5
      have w5 : s5.1 15 = nI xw.1 := w5
      have w7 : s5.1 16 = nI (F xw.2) := (w7 hw).1
      cases β with
      | true =>
        rw [b2i_t] at rβ
        refine ⟨tw_i s4 17 (nI (F xw.2)), lv, hfin s4 xw.1 _ (by omega) (fun _ _ => rfl) rfl, ?_⟩
        simp (disch := omega) only [il_0, il_1, il_2, il_3, il_4, il_5, il_6, il_7, il_8, il_9, il_10, il_11, il_12, il_13, il_14, il_15, il_16, il_17, il_18, il_19, il_20, il_21, il_22, il_23, il_24, il_25, il_26, il_27, il_28, il_29, il_30, il_31, il_32, il_40, il_41, il_42, il_43, il_44, il_45, il_46, il_47, il_48, il_52, il_56, il_57, il_59, il_60, il_61, il_63, il_64, il_68, il_72, il_75, il_76, il_82, il_88, il_89, il_90, il_92, il_96, il_97, il_99, il_100, il_101, il_102, il_103, il_104, il_105, il_107, il_108, il_109, il_110, il_111, il_112, il_114, il_115, il_116, il_117, il_118, il_119, il_121, il_122, il_130, il_200, il_255, il_256, il_260, il_276, il_400, il_403, il_420, il_840, il_999, il_1000, il_2000, il_2001, il_2668, il_2760, il_9999, il_12345, il_1000000, il_1103515245, ↓im_1, ↓im_2, ↓im_8, ↓im_1000, nI_add, pk_mul, pk_sub, ↓pk_rem, pk_div, nm_add, nI_clamp, nI_ltI, nI_leI, nI_eq, nm_eq, mn_eq, mm_eq, nm_lt, mn_lt, nm_le, mn_le, nl_T, nl_F, nle_T, nle_F, ne_T, ne_F, b2i_0, b2i_1, b2i_n, nb_0, nb_1, or_false, false_or, or_true, true_or, and_true, true_and, and_false, false_and, or_self, and_self, not_true_eq_false, not_false_eq_true, ↓reduceIte, if_true, if_false, ↓jv_bs, ↓jv_ol, ↓jv_or, jv_tl, jv_tn, jo_T, ck_2_166_17, ck_6_43_16, ck_6_43_17, ck_6_73_16, ck_7_65_17, ck_30_10_19, su_F, e10_134, e10_135, e10_138, e10_141, e10_142, e10_145, e10_148, e10_149, e10_151, e10_152, e10_155, e10_158, e10_159, e10_160, e10_163, e10_166, e10_167, e10_170, e10_173, e10_174, e10_177, e10_180, e10_181, e10_184, e10_187, e10_188, e10_191, e10_192, e10_195, e10_198, e10_199, e10_202, e10_203, e10_204, e10_207, e10_210, e10_211, e10_214, ↓tgb_1 hp, ↓trb_1 hp, ↓tub_1 hp, wa_1, ↓tgb_2 hp, wi_2, ↓tpb_2 hp, ↓tgb_3 hp, ↓trb_3 hp, ↓tub_3 hp, wa_3, ↓tgb_4 hp, wi_4, ↓tpb_4 hp, ↓tgb_11 hp, wi_11, ↓tpb_11 hp, ↓tpb_12 hp, ↓tgb_13 hp, wi_13, ↓tpb_13 hp, ↓tgb_14 hp, wi_14, ↓tgb_15 hp, wi_15, ↓tpb_15 hp, ↓tgb_16 hp, wi_16, ↓tpb_17 hp, ↓tgb_18 hp, wi_18, ↓tpb_18 hp, ↓tgb_19 hp, wi_19, ↓tpb_19 hp, ↓tpb_20 hp, ↓tpb_36 hp, ↓tpb_42 hp, ↓tpb_53 hp, ↓tpb_65 hp, ↓tgb_70 hp, ↓trb_70 hp, ↓tub_70 hp, wa_70, ↓tw_rcb hp, u1, u5, v1, ↓jbR rβ, tw_i1, tw_i2, Nat.reduceEqDiff]
      | false =>
        rw [b2i_f] at rβ
        refine ⟨tw_i s5 17 (nI (F xw.2)), lv, hfin s5 xw.1 _ (by omega) (fun k hk => f5.1 k (by omega)) f5.2, ?_⟩
        simp (disch := omega) only [il_0, il_1, il_2, il_3, il_4, il_5, il_6, il_7, il_8, il_9, il_10, il_11, il_12, il_13, il_14, il_15, il_16, il_17, il_18, il_19, il_20, il_21, il_22, il_23, il_24, il_25, il_26, il_27, il_28, il_29, il_30, il_31, il_32, il_40, il_41, il_42, il_43, il_44, il_45, il_46, il_47, il_48, il_52, il_56, il_57, il_59, il_60, il_61, il_63, il_64, il_68, il_72, il_75, il_76, il_82, il_88, il_89, il_90, il_92, il_96, il_97, il_99, il_100, il_101, il_102, il_103, il_104, il_105, il_107, il_108, il_109, il_110, il_111, il_112, il_114, il_115, il_116, il_117, il_118, il_119, il_121, il_122, il_130, il_200, il_255, il_256, il_260, il_276, il_400, il_403, il_420, il_840, il_999, il_1000, il_2000, il_2001, il_2668, il_2760, il_9999, il_12345, il_1000000, il_1103515245, ↓im_1, ↓im_2, ↓im_8, ↓im_1000, nI_add, pk_mul, pk_sub, ↓pk_rem, pk_div, nm_add, nI_clamp, nI_ltI, nI_leI, nI_eq, nm_eq, mn_eq, mm_eq, nm_lt, mn_lt, nm_le, mn_le, nl_T, nl_F, nle_T, nle_F, ne_T, ne_F, b2i_0, b2i_1, b2i_n, nb_0, nb_1, or_false, false_or, or_true, true_or, and_true, true_and, and_false, false_and, or_self, and_self, not_true_eq_false, not_false_eq_true, ↓reduceIte, if_true, if_false, ↓jv_bs, ↓jv_ol, ↓jv_or, jv_tl, jv_tn, jo_T, ck_2_166_17, ck_6_43_16, ck_6_43_17, ck_6_73_16, ck_7_65_17, ck_30_10_19, su_F, e10_134, e10_135, e10_138, e10_141, e10_142, e10_145, e10_148, e10_149, e10_151, e10_152, e10_155, e10_158, e10_159, e10_160, e10_163, e10_166, e10_167, e10_170, e10_173, e10_174, e10_177, e10_180, e10_181, e10_184, e10_187, e10_188, e10_191, e10_192, e10_195, e10_198, e10_199, e10_202, e10_203, e10_204, e10_207, e10_210, e10_211, e10_214, ↓tgb_1 hp, ↓trb_1 hp, ↓tub_1 hp, wa_1, ↓tgb_2 hp, wi_2, ↓tpb_2 hp, ↓tgb_3 hp, ↓trb_3 hp, ↓tub_3 hp, wa_3, ↓tgb_4 hp, wi_4, ↓tpb_4 hp, ↓tgb_11 hp, wi_11, ↓tpb_11 hp, ↓tpb_12 hp, ↓tgb_13 hp, wi_13, ↓tpb_13 hp, ↓tgb_14 hp, wi_14, ↓tgb_15 hp, wi_15, ↓tpb_15 hp, ↓tgb_16 hp, wi_16, ↓tpb_17 hp, ↓tgb_18 hp, wi_18, ↓tpb_18 hp, ↓tgb_19 hp, wi_19, ↓tpb_19 hp, ↓tpb_20 hp, ↓tpb_36 hp, ↓tpb_42 hp, ↓tpb_53 hp, ↓tpb_65 hp, ↓tgb_70 hp, ↓trb_70 hp, ↓tub_70 hp, wa_70, ↓tw_rcb hp, u1, u2, w1, w5, w7, ↓jbR rβ, ↓jbR r5, tw_i1, tw_i2, Nat.reduceEqDiff]
end
