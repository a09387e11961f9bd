/-! THE REFERENCE: words, numerals -/
def kept (w : Int64) : Bool := decide (w = 1937006962) || decide (w = 24948) || decide (w = 465624852596) || decide (w = 6650213) || decide (w = 2003395685) || decide (w = 1970170228) || decide (w = 6709618) || decide (w = 474315584357) || decide (w = 7300710) || decide (w = 6447474) || decide (w = 1937007984) || decide (w = 474147546227) || decide (w = 1818583406) || decide (w = 1919905645) || decide (w = 1885432178) || decide (w = 500136506228) || decide (w = 2003330414) || decide (w = 1685025907) || decide (w = 474080961892) || decide (w = 31069369986344819) || decide (w = 126926574545779) || decide (w = 126913689514611) || decide (w = 1953459300) || decide (w = 32497656998945640) || decide (w = 6385252) || decide (w = 28530) || decide (w = 7237492)

theorem tg_5_5 {K : Nat → Prop} : se_tg 5 (5) K = K 10 := rfl
theorem tg_18_157 {K : Nat → Prop} : se_tg 18 (157) K = K 175 := rfl
theorem tg_29_146 {K : Nat → Prop} : se_tg 29 (146) K = K 175 := rfl
theorem tg_40_135 {K : Nat → Prop} : se_tg 40 (135) K = K 175 := rfl
theorem tg_51_124 {K : Nat → Prop} : se_tg 51 (124) K = K 175 := rfl
theorem tg_62_113 {K : Nat → Prop} : se_tg 62 (113) K = K 175 := rfl
theorem tg_73_102 {K : Nat → Prop} : se_tg 73 (102) K = K 175 := rfl
theorem tg_84_91 {K : Nat → Prop} : se_tg 84 (91) K = K 175 := rfl
theorem tg_95_80 {K : Nat → Prop} : se_tg 95 (80) K = K 175 := rfl
theorem tg_106_69 {K : Nat → Prop} : se_tg 106 (69) K = K 175 := rfl
theorem tg_117_58 {K : Nat → Prop} : se_tg 117 (58) K = K 175 := rfl
theorem tg_128_47 {K : Nat → Prop} : se_tg 128 (47) K = K 175 := rfl
theorem tg_139_36 {K : Nat → Prop} : se_tg 139 (36) K = K 175 := rfl
theorem tg_150_25 {K : Nat → Prop} : se_tg 150 (25) K = K 175 := rfl
theorem tg_161_14 {K : Nat → Prop} : se_tg 161 (14) K = K 175 := rfl
theorem tg_172_7 {K : Nat → Prop} : se_tg 172 (7) K = K 179 := rfl
theorem tg_176_4 {K : Nat → Prop} : se_tg 176 (4) K = K 180 := rfl
theorem tg_182_139 {K : Nat → Prop} : se_tg 182 (139) K = K 321 := rfl
theorem tg_193_128 {K : Nat → Prop} : se_tg 193 (128) K = K 321 := rfl
theorem tg_204_117 {K : Nat → Prop} : se_tg 204 (117) K = K 321 := rfl
theorem tg_215_106 {K : Nat → Prop} : se_tg 215 (106) K = K 321 := rfl
theorem tg_226_95 {K : Nat → Prop} : se_tg 226 (95) K = K 321 := rfl
theorem tg_237_84 {K : Nat → Prop} : se_tg 237 (84) K = K 321 := rfl
theorem tg_248_73 {K : Nat → Prop} : se_tg 248 (73) K = K 321 := rfl
theorem tg_259_62 {K : Nat → Prop} : se_tg 259 (62) K = K 321 := rfl
theorem tg_270_51 {K : Nat → Prop} : se_tg 270 (51) K = K 321 := rfl
theorem tg_281_40 {K : Nat → Prop} : se_tg 281 (40) K = K 321 := rfl
theorem tg_292_29 {K : Nat → Prop} : se_tg 292 (29) K = K 321 := rfl
theorem tg_303_18 {K : Nat → Prop} : se_tg 303 (18) K = K 321 := rfl
theorem tg_314_7 {K : Nat → Prop} : se_tg 314 (7) K = K 321 := rfl
theorem tg_318_4 {K : Nat → Prop} : se_tg 318 (4) K = K 322 := rfl
def P_isName : mM → Prop := fun M => True
def R_isName : mM → Bool := fun M => decide ((fI M 6) = 1) && !(kept ((fJ M 9)))
def F_isName : mM → mM := fun M => M
def T_isName : Nat → Nat → se_Op mM := se_tb2 (se_tab []) mB
theorem T_isName_ok (l : Launch) : mTS l cX2_isName 2 (some .boolean) 0 0 T_isName := fun g p e s m args below meth c Q H0 C hG hI k i => se_tb2_ok (se_tab_ok _ (fun _ h => absurd h List.not_mem_nil)) (fun k i => mB_ok C hG hI k i) k i
theorem T_isName_0 {i : Nat} : T_isName 0 i = mB 0 i := rfl
theorem T_isName_11 {i : Nat} : T_isName 11 i = mB 11 i := rfl
set_option maxHeartbeats 4000000 in
set_option maxRecDepth 20000 in
theorem mt_isName (l : Launch) : mc_vrZ l yX2_isName cX2_isName 2 0 0 P_isName (fun M x M' => x = R_isName M ∧ M' = F_isName M) := by
  refine mc_vrZ_of (by decide +kernel) rfl (T_isName_ok l) (by decide) fun M hp G hG => ?_
  show G 0 [some (.ref 0), none] [] M
  refine hG [] 300 _ _ _ _ ?_
  simp only [wpN, ↓wq_aload_0, ↓wq_aload_1, ↓wq_aload_2, ↓wq_aload_3, ↓wq_aload_0n, ↓wq_aload_1n, ↓wq_aload_2n, ↓wq_aload_3n, ↓wq_getfield, ↓wq_goto, ↓wq_iconst, ↓wq_if_eq, ↓wq_if_ne, ↓wq_if_lt, ↓wq_if_ge, ↓wq_if_gt, ↓wq_if_le, ↓wq_icmp_eq, ↓wq_icmp_ne, ↓wq_icmp_lt, ↓wq_icmp_ge, ↓wq_icmp_gt, ↓wq_icmp_le, ↓wq_iload_0, ↓wq_iload_1, ↓wq_iload_2, ↓wq_iload_3, ↓wq_iret, ↓wq_istore_0, ↓wq_istore_1, ↓wq_istore_2, ↓wq_istore_3, ↓wq_lcmp, ↓wq_ldc2_w, ↓se_get_0, ↓se_get_s, ↓se_set1_0, ↓se_set1_1, ↓se_set1_s, ↓se_set2_0, ↓se_set2_1, ↓se_set2_s, ↓se_k2_n, ↓se_k2_i, ↓se_k2_r, ↓se_k2_u, ↓se_k2_l, ↓se_k2_q, ↓se_in_0, ↓se_in_s, ↓gI_s, ↓gL_s, ↓gR_r, ↓gR_n, ↓gR_q, ↓sR_r, ↓sR_n, ↓sR_q, ↓se_sp_n, ↓se_sp_y, ↓se_sp_z, ↓se_ts_n, ↓se_ts_c, ↓se_c8_n, ↓se_c8_i, ↓se_c8_r, ↓se_c8_u, ↓se_c8_l, ↓wD_e dX2_isName_0, ↓wD_e dX2_isName_1, ↓wD_e dX2_isName_4, ↓wD_e dX2_isName_5, ↓wD_e dX2_isName_8, ↓wD_e dX2_isName_9, ↓wD_e dX2_isName_10, ↓wD_e dX2_isName_11, ↓wD_e dX2_isName_14, ↓wD_e dX2_isName_17, ↓wD_e dX2_isName_18, ↓wD_e dX2_isName_21, ↓wD_e dX2_isName_22, ↓wD_e dX2_isName_25, ↓wD_e dX2_isName_28, ↓wD_e dX2_isName_29, ↓wD_e dX2_isName_32, ↓wD_e dX2_isName_33, ↓wD_e dX2_isName_36, ↓wD_e dX2_isName_39, ↓wD_e dX2_isName_40, ↓wD_e dX2_isName_43, ↓wD_e dX2_isName_44, ↓wD_e dX2_isName_47, ↓wD_e dX2_isName_50, ↓wD_e dX2_isName_51, ↓wD_e dX2_isName_54, ↓wD_e dX2_isName_55, ↓wD_e dX2_isName_58, ↓wD_e dX2_isName_61, ↓wD_e dX2_isName_62, ↓wD_e dX2_isName_65, ↓wD_e dX2_isName_66, ↓wD_e dX2_isName_69, ↓wD_e dX2_isName_72, ↓wD_e dX2_isName_73, ↓wD_e dX2_isName_76, ↓wD_e dX2_isName_77, ↓wD_e dX2_isName_80, ↓wD_e dX2_isName_83, ↓wD_e dX2_isName_84, ↓wD_e dX2_isName_87, ↓wD_e dX2_isName_88, ↓wD_e dX2_isName_91, ↓wD_e dX2_isName_94, ↓wD_e dX2_isName_95, ↓wD_e dX2_isName_98, ↓wD_e dX2_isName_99, ↓wD_e dX2_isName_102, ↓wD_e dX2_isName_105, ↓wD_e dX2_isName_106, ↓wD_e dX2_isName_109, ↓wD_e dX2_isName_110, ↓wD_e dX2_isName_113, ↓wD_e dX2_isName_116, ↓wD_e dX2_isName_117, ↓wD_e dX2_isName_120, ↓wD_e dX2_isName_121, ↓wD_e dX2_isName_124, ↓wD_e dX2_isName_127, ↓wD_e dX2_isName_128, ↓wD_e dX2_isName_131, ↓wD_e dX2_isName_132, ↓wD_e dX2_isName_135, ↓wD_e dX2_isName_138, ↓wD_e dX2_isName_139, ↓wD_e dX2_isName_142, ↓wD_e dX2_isName_143, ↓wD_e dX2_isName_146, ↓wD_e dX2_isName_149, ↓wD_e dX2_isName_150, ↓wD_e dX2_isName_153, ↓wD_e dX2_isName_154, ↓wD_e dX2_isName_157, ↓wD_e dX2_isName_160, ↓wD_e dX2_isName_161, ↓wD_e dX2_isName_164, ↓wD_e dX2_isName_165, ↓wD_e dX2_isName_168, ↓wD_e dX2_isName_171, ↓wD_e dX2_isName_172, ↓wD_e dX2_isName_175, ↓wD_e dX2_isName_176, ↓wD_e dX2_isName_179, ↓wD_e dX2_isName_180, ↓wD_e dX2_isName_181, ↓wD_e dX2_isName_182, ↓wD_e dX2_isName_185, ↓wD_e dX2_isName_186, ↓wD_e dX2_isName_189, ↓wD_e dX2_isName_192, ↓wD_e dX2_isName_193, ↓wD_e dX2_isName_196, ↓wD_e dX2_isName_197, ↓wD_e dX2_isName_200, ↓wD_e dX2_isName_203, ↓wD_e dX2_isName_204, ↓wD_e dX2_isName_207, ↓wD_e dX2_isName_208, ↓wD_e dX2_isName_211, ↓wD_e dX2_isName_214, ↓wD_e dX2_isName_215, ↓wD_e dX2_isName_218, ↓wD_e dX2_isName_219, ↓wD_e dX2_isName_222, ↓wD_e dX2_isName_225, ↓wD_e dX2_isName_226, ↓wD_e dX2_isName_229, ↓wD_e dX2_isName_230, ↓wD_e dX2_isName_233, ↓wD_e dX2_isName_236, ↓wD_e dX2_isName_237, ↓wD_e dX2_isName_240, ↓wD_e dX2_isName_241, ↓wD_e dX2_isName_244, ↓wD_e dX2_isName_247, ↓wD_e dX2_isName_248, ↓wD_e dX2_isName_251, ↓wD_e dX2_isName_252, ↓wD_e dX2_isName_255, ↓wD_e dX2_isName_258, ↓wD_e dX2_isName_259, ↓wD_e dX2_isName_262, ↓wD_e dX2_isName_263, ↓wD_e dX2_isName_266, ↓wD_e dX2_isName_269, ↓wD_e dX2_isName_270, ↓wD_e dX2_isName_273, ↓wD_e dX2_isName_274, ↓wD_e dX2_isName_277, ↓wD_e dX2_isName_280, ↓wD_e dX2_isName_281, ↓wD_e dX2_isName_284, ↓wD_e dX2_isName_285, ↓wD_e dX2_isName_288, ↓wD_e dX2_isName_291, ↓wD_e dX2_isName_292, ↓wD_e dX2_isName_295, ↓wD_e dX2_isName_296, ↓wD_e dX2_isName_299, ↓wD_e dX2_isName_302, ↓wD_e dX2_isName_303, ↓wD_e dX2_isName_306, ↓wD_e dX2_isName_307, ↓wD_e dX2_isName_310, ↓wD_e dX2_isName_313, ↓wD_e dX2_isName_314, ↓wD_e dX2_isName_317, ↓wD_e dX2_isName_318, ↓wD_e dX2_isName_321, ↓wD_e dX2_isName_322, cc_iconst_0, cc_iconst_1, ↓tg_5_5, ↓tg_18_157, ↓tg_29_146, ↓tg_40_135, ↓tg_51_124, ↓tg_62_113, ↓tg_73_102, ↓tg_84_91, ↓tg_95_80, ↓tg_106_69, ↓tg_117_58, ↓tg_128_47, ↓tg_139_36, ↓tg_150_25, ↓tg_161_14, ↓tg_172_7, ↓tg_176_4, ↓tg_182_139, ↓tg_193_128, ↓tg_204_117, ↓tg_215_106, ↓tg_226_95, ↓tg_237_84, ↓tg_248_73, ↓tg_259_62, ↓tg_270_51, ↓tg_281_40, ↓tg_292_29, ↓tg_303_18, ↓tg_314_7, ↓tg_318_4, ↓mB_0_212, ↓mB_0_205, ↓mB_11_228, ↓mB_11_230, ↓mB_11_232, ↓mB_11_234, ↓mB_11_236, ↓mB_11_238, ↓mB_11_240, ↓mB_11_242, ↓mB_11_244, ↓mB_11_246, ↓mB_11_248, ↓mB_11_250, ↓mB_11_252, ↓mB_11_254, ↓mB_11_256, ↓mB_11_258, ↓mB_11_260, ↓mB_11_262, ↓mB_11_264, ↓mB_11_266, ↓mB_11_268, ↓mB_11_270, ↓mB_11_272, ↓mB_11_274, ↓mB_11_276, ↓mB_11_278, ↓mB_11_280, ↓opGI_r, ↓opGJ_r, ↓opGA_r, ↓opPI_r, ↓opPZ_r, ↓opPJ_r, ↓opCI_r, ↓opCJ_r, ↓rz_b, ↓rz_1, ↓rz_0, ↓rt_vrZ_e, ↓T_isName_0, ↓T_isName_11, i32_10, i32_01, i32_m10, i32_03, i32_13, i32_23, Int32.reduceAdd, Int32.reduceSub, Int32.reduceMul, Int32.reduceLT, Int32.reduceLE, Int32.reduceToNatClampNeg, Int32.reduceOfInt, Int64.reduceAdd, Int64.reduceSub, Int64.reduceMul, Int64.reduceLT, Int64.reduceLE, lg_cmp_ge, lg_cmp_le, lg_cmp_gt, lg_cmp_lt, lg_cmp_eq, bI_0, bI_1, not_true_eq_false, not_false_eq_true, false_implies, Bool.not_eq_false, Bool.not_eq_true, and_self, Nat.reduceAdd, Int.reduceAdd, Nat.reduceEqDiff, reduceIte, true_and, and_true, implies_true, forall_const, fI_uI, fI_uJ, fI_sA, fI_sN, fI_uA, fI_uN, fJ_uI, fJ_uJ, fJ_sA, fJ_sN, fJ_uA, fJ_uN, fA_uI, fA_uJ, fA_sA, fA_sN, fA_uA, fA_uN, fN_uI, fN_uJ, fN_sA, fN_sN, fN_uA, fN_uN]
  clear hG
  simp only [R_isName, kept, F_isName]
  (repeat' (first | apply And.intro | intro _))
  all_goals (first | rfl | (simp only [*, decide_true, decide_false, Bool.or_true, Bool.true_or, Bool.or_false, Bool.false_or, Bool.not_true, Bool.not_false, Bool.and_true, Bool.and_false, Bool.true_and, Bool.false_and]; done))
  theorem F_wrong_e {k : Int32} {M : mM} (h : fI M 2 ≤ 0) : F_wrong k M = uI (uI M 2 (if fI M 6 = 3 then 1 else k)) 3 (fI M 7) := if_neg (Int32.not_lt.mpr h)
  theorem Int32_le0 {x : Int32} (h : x ≤ 0) (h' : ¬ x < 0) : x = 0 := Int32.le_antisymm h (Int32.not_lt.mp h')
theorem tg_13_11 {K : Nat → Prop} : se_tg 13 (11) K = K 24 := rfl
theorem tg_21_7 {K : Nat → Prop} : se_tg 21 (7) K = K 28 := rfl
def P_want : Int64 → mM → Prop := fun a0 M => P_token M
def F_want : Int64 → mM → mM := fun a0 M => if (fI M 2) ≤ 0 then (if R_isWord a0 M = true then F_token M else F_wrong 2 M) else M
def T_want : Nat → Nat → se_Op mM := se_tb2 (se_tab [(3, 282, of_vJrZ P_isWord R_isWord F_isWord), (3, 286, of_vIrV P_wrong F_wrong), (3, 289, of_vrV P_token F_token)]) mB
theorem T_want_ok (l : Launch) : mTS l cX2_want 3 none 2 43 T_want := fun g p e s m args below meth c Q H0 C hG hI k i => se_tb2_ok (se_tab_ok _ (List.forall_mem_cons.mpr ⟨of_vJrZ_ok (fr := 2) (lo := 43) (maxL' := 3) (fr' := 0) (lo' := 0) (mt_isWord l) q2123 q2125 qs39 q102 q2126 (by decide +kernel) ⟨by decide, by decide⟩ C hG hI, List.forall_mem_cons.mpr ⟨of_vIrV_ok (fr := 2) (lo := 43) (maxL' := 2) (fr' := 0) (lo' := 0) (mt_wrong l) q2161 q2163 qs42 q102 q2164 (by decide +kernel) ⟨by decide, by decide⟩ C hG hI, List.forall_mem_cons.mpr ⟨of_vrV_ok (fr := 2) (lo := 43) (maxL' := 3) (fr' := 1) (lo' := 21) (mt_token l) q2100 q2102 qs35 q102 q2103 (by decide +kernel) ⟨by decide, by decide⟩ C hG hI, fun _ h => absurd h List.not_mem_nil⟩⟩⟩)) (fun k i => mB_ok C hG hI k i) k i
theorem T_want_0 {i : Nat} : T_want 0 i = mB 0 i := rfl
theorem T_want_3_282 : T_want 3 282 = of_vJrZ P_isWord R_isWord F_isWord := rfl
theorem T_want_3_286 : T_want 3 286 = of_vIrV P_wrong F_wrong := rfl
theorem T_want_3_289 : T_want 3 289 = of_vrV P_token F_token := rfl
set_option maxHeartbeats 4000000 in
set_option maxRecDepth 20000 in
theorem mt_want (l : Launch) : mc_vJrV l yX2_want cX2_want 3 2 43 P_want (fun a0 M M' => M' = F_want a0 M) := by
  refine mc_vJrV_of (by decide +kernel) rfl (T_want_ok l) (by decide) fun a0 M hp G hG => ?_
  show G 0 [some (.ref 0), some (.long a0), none] [] M
  refine hG [] 300 _ _ _ _ ?_
  simp only [wpN, ↓wq_aload_0, ↓wq_aload_1, ↓wq_aload_2, ↓wq_aload_3, ↓wq_aload_0n, ↓wq_aload_1n, ↓wq_aload_2n, ↓wq_aload_3n, ↓wq_getfield, ↓wq_goto, ↓wq_iconst, ↓wq_if_eq, ↓wq_if_ne, ↓wq_if_lt, ↓wq_if_ge, ↓wq_if_gt, ↓wq_if_le, ↓wq_invokevirtual, ↓wq_lload_0, ↓wq_lload_1, ↓wq_lload_2, ↓wq_lload_3, ↓wq_ret, ↓se_get_0, ↓se_get_s, ↓se_set1_0, ↓se_set1_1, ↓se_set1_s, ↓se_set2_0, ↓se_set2_1, ↓se_set2_s, ↓se_k2_n, ↓se_k2_i, ↓se_k2_r, ↓se_k2_u, ↓se_k2_l, ↓se_k2_q, ↓se_in_0, ↓se_in_s, ↓gI_s, ↓gL_s, ↓gR_r, ↓gR_n, ↓gR_q, ↓sR_r, ↓sR_n, ↓sR_q, ↓se_sp_n, ↓se_sp_y, ↓se_sp_z, ↓se_ts_n, ↓se_ts_c, ↓se_c8_n, ↓se_c8_i, ↓se_c8_r, ↓se_c8_u, ↓se_c8_l, ↓wD_e dX2_want_0, ↓wD_e dX2_want_1, ↓wD_e dX2_want_4, ↓wD_e dX2_want_7, ↓wD_e dX2_want_8, ↓wD_e dX2_want_9, ↓wD_e dX2_want_10, ↓wD_e dX2_want_13, ↓wD_e dX2_want_16, ↓wD_e dX2_want_17, ↓wD_e dX2_want_18, ↓wD_e dX2_want_21, ↓wD_e dX2_want_24, ↓wD_e dX2_want_25, ↓wD_e dX2_want_28, cc_iconst_2, ↓tg_4_4, ↓tg_13_11, ↓tg_21_7, ↓mB_0_225, ↓opGI_r, ↓opGJ_r, ↓opGA_r, ↓opPI_r, ↓opPZ_r, ↓opPJ_r, ↓opCI_r, ↓opCJ_r, ↓rz_b, ↓rz_1, ↓rz_0, ↓rt_vJrV_e, ↓T_want_0, ↓T_want_3_282, ↓of_vJrZ_r, ↓ov_vJrZ_r, ↓F_isWord, ↓P_isWord, ↓T_want_3_286, ↓of_vIrV_r, ↓ov_vIrV_r, ↓P_wrong, ↓T_want_3_289, ↓of_vrV_r, ↓ov_vrV_r, i32_10, i32_01, i32_m10, i32_03, i32_13, i32_23, Int32.reduceAdd, Int32.reduceSub, Int32.reduceMul, Int32.reduceLT, Int32.reduceLE, Int32.reduceToNatClampNeg, Int32.reduceOfInt, Int64.reduceAdd, Int64.reduceSub, Int64.reduceMul, Int64.reduceLT, Int64.reduceLE, lg_cmp_ge, lg_cmp_le, lg_cmp_gt, lg_cmp_lt, lg_cmp_eq, bI_0, bI_1, not_true_eq_false, not_false_eq_true, false_implies, Bool.not_eq_false, Bool.not_eq_true, and_self, Nat.reduceAdd, Int.reduceAdd, Nat.reduceEqDiff, reduceIte, true_and, and_true, implies_true, forall_const, fI_uI, fI_uJ, fI_sA, fI_sN, fI_uA, fI_uN, fJ_uI, fJ_uJ, fJ_sA, fJ_sN, fJ_uA, fJ_uN, fA_uI, fA_uJ, fA_sA, fA_sN, fA_uA, fA_uN, fN_uI, fN_uJ, fN_sA, fN_sN, fN_uA, fN_uN]
  refine ⟨fun h => ⟨fun h1 => ⟨hp, ?_⟩, fun h1 => ?_⟩, fun h => ?_⟩
  · rw [F_want, if_pos h, if_pos h1]
  · rw [F_want, if_pos h, h1]; rfl
  · rw [F_want, if_neg h]
theorem tg_4_5 {K : Nat → Prop} : se_tg 4 (5) K = K 9 := rfl
theorem tg_14_11 {K : Nat → Prop} : se_tg 14 (11) K = K 25 := rfl
theorem tg_22_24 {K : Nat → Prop} : se_tg 22 (24) K = K 46 := rfl
theorem tg_30_11 {K : Nat → Prop} : se_tg 30 (11) K = K 41 := rfl
theorem tg_38_8 {K : Nat → Prop} : se_tg 38 (8) K = K 46 := rfl
theorem tg_55_7 {K : Nat → Prop} : se_tg 55 (7) K = K 62 := rfl
def P_toldNumber : Int32 → Int32 → mM → Prop := fun a0 a1 M => P_token M ∧ ¬ fI M 2 < 0
def R_toldNumber : Int32 → Int32 → mM → Int32 := fun a0 a1 M => if (fI M 2) ≤ 0 then (fI M 8) else 0
def F_toldNumber : Int32 → Int32 → mM → mM := fun a0 a1 M => if (fI M 2) ≤ 0 then (if (fI M 6) = 2 then (if (fI M 8) < a0 then F_wrong 4 M else if (fI M 8) ≤ a1 then F_token M else F_wrong 4 M) else F_wrong 2 M) else M
def T_toldNumber : Nat → Nat → se_Op mM := se_tb2 (se_tab [(3, 286, of_vIrV P_wrong F_wrong), (3, 289, of_vrV P_token F_token)]) mB
theorem T_toldNumber_ok (l : Launch) : mTS l cX2_toldNumber 4 (some .int) 2 43 T_toldNumber := fun g p e s m args below meth c Q H0 C hG hI k i => se_tb2_ok (se_tab_ok _ (List.forall_mem_cons.mpr ⟨of_vIrV_ok (fr := 2) (lo := 43) (maxL' := 2) (fr' := 0) (lo' := 0) (mt_wrong l) q2161 q2163 qs42 q102 q2164 (by decide +kernel) ⟨by decide, by decide⟩ C hG hI, List.forall_mem_cons.mpr ⟨of_vrV_ok (fr := 2) (lo := 43) (maxL' := 3) (fr' := 1) (lo' := 21) (mt_token l) q2100 q2102 qs35 q102 q2103 (by decide +kernel) ⟨by decide, by decide⟩ C hG hI, fun _ h => absurd h List.not_mem_nil⟩⟩)) (fun k i => mB_ok C hG hI k i) k i
theorem T_toldNumber_0 {i : Nat} : T_toldNumber 0 i = mB 0 i := rfl
theorem T_toldNumber_3_286 : T_toldNumber 3 286 = of_vIrV P_wrong F_wrong := rfl
theorem T_toldNumber_3_289 : T_toldNumber 3 289 = of_vrV P_token F_token := rfl
set_option maxHeartbeats 4000000 in
set_option maxRecDepth 20000 in
theorem mt_toldNumber (l : Launch) : mc_vIIrI l yX2_toldNumber cX2_toldNumber 4 2 43 P_toldNumber (fun a0 a1 M x M' => x = R_toldNumber a0 a1 M ∧ M' = F_toldNumber a0 a1 M) := by
  refine mc_vIIrI_of (by decide +kernel) rfl (T_toldNumber_ok l) (by decide) fun a0 a1 M hp G hG => ?_
  show G 0 [some (.ref 0), some (.int a0), some (.int a1), none] [] M
  refine hG [] 300 _ _ _ _ ?_
  simp only [wpN, ↓wq_aload_0, ↓wq_aload_1, ↓wq_aload_2, ↓wq_aload_3, ↓wq_aload_0n, ↓wq_aload_1n, ↓wq_aload_2n, ↓wq_aload_3n, ↓wq_getfield, ↓wq_goto, ↓wq_iconst, ↓wq_if_eq, ↓wq_if_ne, ↓wq_if_lt, ↓wq_if_ge, ↓wq_if_gt, ↓wq_if_le, ↓wq_icmp_eq, ↓wq_icmp_ne, ↓wq_icmp_lt, ↓wq_icmp_ge, ↓wq_icmp_gt, ↓wq_icmp_le, ↓wq_iload_0, ↓wq_iload_1, ↓wq_iload_2, ↓wq_iload_3, ↓wq_invokevirtual, ↓wq_iret, ↓wq_istore_0, ↓wq_istore_1, ↓wq_istore_2, ↓wq_istore_3, ↓se_get_0, ↓se_get_s, ↓se_set1_0, ↓se_set1_1, ↓se_set1_s, ↓se_set2_0, ↓se_set2_1, ↓se_set2_s, ↓se_k2_n, ↓se_k2_i, ↓se_k2_r, ↓se_k2_u, ↓se_k2_l, ↓se_k2_q, ↓se_in_0, ↓se_in_s, ↓gI_s, ↓gL_s, ↓gR_r, ↓gR_n, ↓gR_q, ↓sR_r, ↓sR_n, ↓sR_q, ↓se_sp_n, ↓se_sp_y, ↓se_sp_z, ↓se_ts_n, ↓se_ts_c, ↓se_c8_n, ↓se_c8_i, ↓se_c8_r, ↓se_c8_u, ↓se_c8_l, ↓wD_e dX2_toldNumber_0, ↓wD_e dX2_toldNumber_1, ↓wD_e dX2_toldNumber_4, ↓wD_e dX2_toldNumber_7, ↓wD_e dX2_toldNumber_8, ↓wD_e dX2_toldNumber_9, ↓wD_e dX2_toldNumber_10, ↓wD_e dX2_toldNumber_13, ↓wD_e dX2_toldNumber_14, ↓wD_e dX2_toldNumber_17, ↓wD_e dX2_toldNumber_18, ↓wD_e dX2_toldNumber_19, ↓wD_e dX2_toldNumber_22, ↓wD_e dX2_toldNumber_25, ↓wD_e dX2_toldNumber_26, ↓wD_e dX2_toldNumber_29, ↓wD_e dX2_toldNumber_30, ↓wD_e dX2_toldNumber_33, ↓wD_e dX2_toldNumber_34, ↓wD_e dX2_toldNumber_37, ↓wD_e dX2_toldNumber_38, ↓wD_e dX2_toldNumber_41, ↓wD_e dX2_toldNumber_42, ↓wD_e dX2_toldNumber_43, ↓wD_e dX2_toldNumber_46, ↓wD_e dX2_toldNumber_47, ↓wD_e dX2_toldNumber_50, ↓wD_e dX2_toldNumber_51, ↓wD_e dX2_toldNumber_52, ↓wD_e dX2_toldNumber_55, ↓wD_e dX2_toldNumber_58, ↓wD_e dX2_toldNumber_59, ↓wD_e dX2_toldNumber_62, ↓wD_e dX2_toldNumber_63, cc_iconst_0, cc_iconst_2, cc_iconst_4, ↓tg_4_5, ↓tg_14_11, ↓tg_22_24, ↓tg_30_11, ↓tg_38_8, ↓tg_55_7, ↓mB_0_225, ↓mB_0_212, ↓mB_0_209, ↓opGI_r, ↓opGJ_r, ↓opGA_r, ↓opPI_r, ↓opPZ_r, ↓opPJ_r, ↓opCI_r, ↓opCJ_r, ↓rz_b, ↓rz_1, ↓rz_0, ↓rt_vIIrI_e, ↓T_toldNumber_0, ↓T_toldNumber_3_286, ↓of_vIrV_r, ↓ov_vIrV_r, ↓P_wrong, ↓T_toldNumber_3_289, ↓of_vrV_r, ↓ov_vrV_r, i32_10, i32_01, i32_m10, i32_03, i32_13, i32_23, Int32.reduceAdd, Int32.reduceSub, Int32.reduceMul, Int32.reduceLT, Int32.reduceLE, Int32.reduceToNatClampNeg, Int32.reduceOfInt, Int64.reduceAdd, Int64.reduceSub, Int64.reduceMul, Int64.reduceLT, Int64.reduceLE, lg_cmp_ge, lg_cmp_le, lg_cmp_gt, lg_cmp_lt, lg_cmp_eq, bI_0, bI_1, not_true_eq_false, not_false_eq_true, false_implies, Bool.not_eq_false, Bool.not_eq_true, and_self, Nat.reduceAdd, Int.reduceAdd, Nat.reduceEqDiff, reduceIte, true_and, and_true, implies_true, forall_const, fI_uI, fI_uJ, fI_sA, fI_sN, fI_uA, fI_uN, fJ_uI, fJ_uJ, fJ_sA, fJ_sN, fJ_uA, fJ_uN, fA_uI, fA_uJ, fA_sA, fA_sN, fA_uA, fA_uN, fN_uI, fN_uJ, fN_sA, fN_sN, fN_uA, fN_uN]
  obtain ⟨hp, hf⟩ := hp
  have c1 : ∀ k : Int32, fI M 2 ≤ 0 → k = 2 ∨ k = 4 → ¬ fI (F_wrong k M) 2 = 0 := fun k h hk => by
    rw [F_wrong_e h]
    show ¬ (if fI M 6 = 3 then (1 : Int32) else k) = 0
    rcases hk with rfl | rfl <;> split <;> decide
  have c2 : ∀ k : Int32, fI M 2 ≤ 0 → fI (F_wrong k M) 8 = fI M 8 := fun k h => by
    rw [F_wrong_e h]; simp only [fI_uI]; rfl
  refine ⟨fun h => ⟨fun h1 => ⟨fun h2 => ⟨fun h3 => ⟨?_, ?_⟩, fun h3 => absurd h3 (c1 4 h (Or.inr rfl))⟩, fun h2 => ⟨fun h3 => ⟨fun h4 => absurd (Int32_le0 h hf) h4, fun h4 => ⟨hp, ?_, ?_⟩⟩, fun h3 => ⟨fun h4 => ⟨?_, ?_⟩, fun h4 => absurd h4 (c1 4 h (Or.inr rfl))⟩⟩⟩, fun h1 => ⟨fun h2 => ⟨?_, ?_⟩, fun h2 => absurd h2 (c1 2 h (Or.inl rfl))⟩⟩, fun h => ⟨?_, ?_⟩⟩
  all_goals (simp only [R_toldNumber, F_toldNumber, c2, *, if_true, if_false, Int32.reduceLE, not_false_eq_true]; done)
def P_toldBy : Int64 → Int32 → Int32 → mM → Prop := fun a0 a1 a2 M => P_want a0 M ∧ P_toldNumber a1 a2 (F_want a0 M)
def R_toldBy : Int64 → Int32 → Int32 → mM → Int32 := fun a0 a1 a2 M => R_toldNumber a1 a2 (F_want a0 M)
def F_toldBy : Int64 → Int32 → Int32 → mM → mM := fun a0 a1 a2 M => F_toldNumber a1 a2 (F_want a0 M)
def T_toldBy : Nat → Nat → se_Op mM := se_tb2 (se_tab [(3, 302, of_vJrV P_want F_want), (3, 306, of_vIIrI P_toldNumber R_toldNumber F_toldNumber)]) mB
theorem T_toldBy_ok (l : Launch) : mTS l cX2_toldBy 5 (some .int) 3 66 T_toldBy := fun g p e s m args below meth c Q H0 C hG hI k i => se_tb2_ok (se_tab_ok _ (List.forall_mem_cons.mpr ⟨of_vJrV_ok (fr := 3) (lo := 66) (maxL' := 3) (fr' := 2) (lo' := 43) (mt_want l) q2165 q2167 qs43 q102 q2168 (by decide +kernel) ⟨by decide, by decide⟩ C hG hI, List.forall_mem_cons.mpr ⟨of_vIIrI_ok (fr := 3) (lo := 66) (maxL' := 4) (fr' := 2) (lo' := 43) (mt_toldNumber l) q2169 q2171 qs44 q102 q2172 (by decide +kernel) ⟨by decide, by decide⟩ C hG hI, fun _ h => absurd h List.not_mem_nil⟩⟩)) (fun k i => mB_ok C hG hI k i) k i
theorem T_toldBy_3_302 : T_toldBy 3 302 = of_vJrV P_want F_want := rfl
theorem T_toldBy_3_306 : T_toldBy 3 306 = of_vIIrI P_toldNumber R_toldNumber F_toldNumber := rfl
set_option maxHeartbeats 4000000 in
set_option maxRecDepth 20000 in
theorem mt_toldBy (l : Launch) : mc_vJIIrI l yX2_toldBy cX2_toldBy 5 3 66 P_toldBy (fun a0 a1 a2 M x M' => x = R_toldBy a0 a1 a2 M ∧ M' = F_toldBy a0 a1 a2 M) := by
  refine mc_vJIIrI_of (by decide +kernel) rfl (T_toldBy_ok l) (by decide) fun a0 a1 a2 M hp G hG => ?_
  show G 0 [some (.ref 0), some (.long a0), none, some (.int a1), some (.int a2)] [] M
  refine hG [] 300 _ _ _ _ ?_
  simp only [wpN, ↓wq_aload_0, ↓wq_aload_1, ↓wq_aload_2, ↓wq_aload_3, ↓wq_aload_0n, ↓wq_aload_1n, ↓wq_aload_2n, ↓wq_aload_3n, ↓wq_iload, ↓wq_iload_0, ↓wq_iload_1, ↓wq_iload_2, ↓wq_iload_3, ↓wq_invokevirtual, ↓wq_iret, ↓wq_lload_0, ↓wq_lload_1, ↓wq_lload_2, ↓wq_lload_3, ↓se_get_0, ↓se_get_s, ↓se_set1_0, ↓se_set1_1, ↓se_set1_s, ↓se_set2_0, ↓se_set2_1, ↓se_set2_s, ↓se_k2_n, ↓se_k2_i, ↓se_k2_r, ↓se_k2_u, ↓se_k2_l, ↓se_k2_q, ↓se_in_0, ↓se_in_s, ↓gI_s, ↓gL_s, ↓gR_r, ↓gR_n, ↓gR_q, ↓sR_r, ↓sR_n, ↓sR_q, ↓se_sp_n, ↓se_sp_y, ↓se_sp_z, ↓se_ts_n, ↓se_ts_c, ↓se_c8_n, ↓se_c8_i, ↓se_c8_r, ↓se_c8_u, ↓se_c8_l, ↓wD_e dX2_toldBy_0, ↓wD_e dX2_toldBy_1, ↓wD_e dX2_toldBy_2, ↓wD_e dX2_toldBy_5, ↓wD_e dX2_toldBy_6, ↓wD_e dX2_toldBy_7, ↓wD_e dX2_toldBy_9, ↓wD_e dX2_toldBy_12, ↓opGI_r, ↓opGJ_r, ↓opGA_r, ↓opPI_r, ↓opPZ_r, ↓opPJ_r, ↓opCI_r, ↓opCJ_r, ↓rz_b, ↓rz_1, ↓rz_0, ↓rt_vJIIrI_e, ↓T_toldBy_3_302, ↓of_vJrV_r, ↓ov_vJrV_r, ↓T_toldBy_3_306, ↓of_vIIrI_r, ↓ov_vIIrI_r, i32_10, i32_01, i32_m10, i32_03, i32_13, i32_23, Int32.reduceAdd, Int32.reduceSub, Int32.reduceMul, Int32.reduceLT, Int32.reduceLE, Int32.reduceToNatClampNeg, Int32.reduceOfInt, Int64.reduceAdd, Int64.reduceSub, Int64.reduceMul, Int64.reduceLT, Int64.reduceLE, lg_cmp_ge, lg_cmp_le, lg_cmp_gt, lg_cmp_lt, lg_cmp_eq, bI_0, bI_1, not_true_eq_false, not_false_eq_true, false_implies, Bool.not_eq_false, Bool.not_eq_true, and_self, Nat.reduceAdd, Int.reduceAdd, Nat.reduceEqDiff, reduceIte, true_and, and_true, implies_true, forall_const, fI_uI, fI_uJ, fI_sA, fI_sN, fI_uA, fI_uN, fJ_uI, fJ_uJ, fJ_sA, fJ_sN, fJ_uA, fJ_uN, fA_uI, fA_uJ, fA_sA, fA_sN, fA_uA, fA_uN, fN_uI, fN_uJ, fN_sA, fN_sN, fN_uA, fN_uN]
  exact ⟨hp.1, hp.2, rfl, rfl⟩
  theorem vp_in_L {n N : Nat} {i : Int32} (e : i = nI n) (h : n < N) (hN : N < 2 ^ 31) : vp_in i N := e ▸ vp_in_nI h hN
  def lnK (M : mM) (k : Nat) : Int32 := if fA M 19 k = 0 then nI k else -1
theorem tg_7_7 {K : Nat → Prop} : se_tg 7 (7) K = K 14 := rfl
theorem tg_11_91 {K : Nat → Prop} : se_tg 11 (91) K = K 102 := rfl
theorem tg_25_77 {K : Nat → Prop} : se_tg 25 (77) K = K 102 := rfl
theorem tg_35_7 {K : Nat → Prop} : se_tg 35 (7) K = K 42 := rfl
theorem tg_39_63 {K : Nat → Prop} : se_tg 39 (63) K = K 102 := rfl
theorem tg_53_49 {K : Nat → Prop} : se_tg 53 (49) K = K 102 := rfl
theorem tg_63_8 {K : Nat → Prop} : se_tg 63 (8) K = K 71 := rfl
theorem tg_68_34 {K : Nat → Prop} : se_tg 68 (34) K = K 102 := rfl
theorem tg_78_8 {K : Nat → Prop} : se_tg 78 (8) K = K 86 := rfl
theorem tg_83_19 {K : Nat → Prop} : se_tg 83 (19) K = K 102 := rfl
theorem tg_93_8 {K : Nat → Prop} : se_tg 93 (8) K = K 101 := rfl
theorem tg_98_4 {K : Nat → Prop} : se_tg 98 (4) K = K 102 := rfl
theorem tg_104_12 {K : Nat → Prop} : se_tg 104 (12) K = K 116 := rfl
theorem tg_113_7 {K : Nat → Prop} : se_tg 113 (7) K = K 120 := rfl
theorem tg_117_4 {K : Nat → Prop} : se_tg 117 (4) K = K 121 := rfl
def P_lineOf : mM → Prop := fun M => True
def R_lineOf : mM → Int32 := fun M => if R_isWord 6650213 M = true then lnK M 0 else if R_isWord 474315584357 M = true then lnK M 3 else if R_isWord 7300710 M = true then lnK M 4 else if R_isWord 6447474 M = true then lnK M 5 else if R_isWord 1937007984 M = true then lnK M 6 else if R_isWord 1818583406 M = true then lnK M 8 else if R_isWord 1919905645 M = true then lnK M 10 else -1
def F_lineOf : mM → mM := fun M => M
def T_lineOf : Nat → Nat → se_Op mM := se_tb2 (se_tab [(3, 282, of_vJrZ P_isWord R_isWord F_isWord)]) mB
theorem T_lineOf_ok (l : Launch) : mTS l cX2_lineOf 2 (some .int) 1 22 T_lineOf := fun g p e s m args below meth c Q H0 C hG hI k i => se_tb2_ok (se_tab_ok _ (List.forall_mem_cons.mpr ⟨of_vJrZ_ok (fr := 1) (lo := 22) (maxL' := 3) (fr' := 0) (lo' := 0) (mt_isWord l) q2123 q2125 qs39 q102 q2126 (by decide +kernel) ⟨by decide, by decide⟩ C hG hI, fun _ h => absurd h List.not_mem_nil⟩)) (fun k i => mB_ok C hG hI k i) k i
theorem T_lineOf_0 {i : Nat} : T_lineOf 0 i = mB 0 i := rfl
theorem T_lineOf_11 {i : Nat} : T_lineOf 11 i = mB 11 i := rfl
theorem T_lineOf_15 {i : Nat} : T_lineOf 15 i = mB 15 i := rfl
theorem T_lineOf_3_282 : T_lineOf 3 282 = of_vJrZ P_isWord R_isWord F_isWord := rfl
set_option maxHeartbeats 4000000 in
set_option maxRecDepth 20000 in
theorem mt_lineOf (l : Launch) : mc_vrI l yX2_lineOf cX2_lineOf 2 1 22 P_lineOf (fun M x M' => x = R_lineOf M ∧ M' = F_lineOf M) := by
  refine mc_vrI_of (by decide +kernel) rfl (T_lineOf_ok l) (by decide) fun M hp G hG => ?_
  show G 0 [some (.ref 0), none] [] M
  refine hG [] 300 _ _ _ _ ?_
  simp only [wpN, ↓wq_aload_0, ↓wq_aload_1, ↓wq_aload_2, ↓wq_aload_3, ↓wq_aload_0n, ↓wq_aload_1n, ↓wq_aload_2n, ↓wq_aload_3n, ↓wq_baload, ↓wq_bipush, ↓wq_getfield, ↓wq_goto, ↓wq_iconst, ↓wq_if_eq, ↓wq_if_ne, ↓wq_if_lt, ↓wq_if_ge, ↓wq_if_gt, ↓wq_if_le, ↓wq_iload_0, ↓wq_iload_1, ↓wq_iload_2, ↓wq_iload_3, ↓wq_invokevirtual, ↓wq_iret, ↓wq_istore_0, ↓wq_istore_1, ↓wq_istore_2, ↓wq_istore_3, ↓wq_ldc2_w, ↓se_get_0, ↓se_get_s, ↓se_set1_0, ↓se_set1_1, ↓se_set1_s, ↓se_set2_0, ↓se_set2_1, ↓se_set2_s, ↓se_k2_n, ↓se_k2_i, ↓se_k2_r, ↓se_k2_u, ↓se_k2_l, ↓se_k2_q, ↓se_in_0, ↓se_in_s, ↓gI_s, ↓gL_s, ↓gR_r, ↓gR_n, ↓gR_q, ↓sR_r, ↓sR_n, ↓sR_q, ↓se_sp_n, ↓se_sp_y, ↓se_sp_z, ↓se_ts_n, ↓se_ts_c, ↓se_c8_n, ↓se_c8_i, ↓se_c8_r, ↓se_c8_u, ↓se_c8_l, ↓wD_e dX2_lineOf_0, ↓wD_e dX2_lineOf_1, ↓wD_e dX2_lineOf_4, ↓wD_e dX2_lineOf_7, ↓wD_e dX2_lineOf_10, ↓wD_e dX2_lineOf_11, ↓wD_e dX2_lineOf_14, ↓wD_e dX2_lineOf_15, ↓wD_e dX2_lineOf_18, ↓wD_e dX2_lineOf_21, ↓wD_e dX2_lineOf_24, ↓wD_e dX2_lineOf_25, ↓wD_e dX2_lineOf_28, ↓wD_e dX2_lineOf_29, ↓wD_e dX2_lineOf_32, ↓wD_e dX2_lineOf_35, ↓wD_e dX2_lineOf_38, ↓wD_e dX2_lineOf_39, ↓wD_e dX2_lineOf_42, ↓wD_e dX2_lineOf_43, ↓wD_e dX2_lineOf_46, ↓wD_e dX2_lineOf_49, ↓wD_e dX2_lineOf_52, ↓wD_e dX2_lineOf_53, ↓wD_e dX2_lineOf_56, ↓wD_e dX2_lineOf_57, ↓wD_e dX2_lineOf_60, ↓wD_e dX2_lineOf_63, ↓wD_e dX2_lineOf_66, ↓wD_e dX2_lineOf_68, ↓wD_e dX2_lineOf_71, ↓wD_e dX2_lineOf_72, ↓wD_e dX2_lineOf_75, ↓wD_e dX2_lineOf_78, ↓wD_e dX2_lineOf_81, ↓wD_e dX2_lineOf_83, ↓wD_e dX2_lineOf_86, ↓wD_e dX2_lineOf_87, ↓wD_e dX2_lineOf_90, ↓wD_e dX2_lineOf_93, ↓wD_e dX2_lineOf_96, ↓wD_e dX2_lineOf_98, ↓wD_e dX2_lineOf_101, ↓wD_e dX2_lineOf_102, ↓wD_e dX2_lineOf_103, ↓wD_e dX2_lineOf_104, ↓wD_e dX2_lineOf_107, ↓wD_e dX2_lineOf_108, ↓wD_e dX2_lineOf_111, ↓wD_e dX2_lineOf_112, ↓wD_e dX2_lineOf_113, ↓wD_e dX2_lineOf_116, ↓wD_e dX2_lineOf_117, ↓wD_e dX2_lineOf_120, ↓wD_e dX2_lineOf_121, cc_bipush_6, cc_bipush_8, cc_bipush_10, cc_iconst_m1, cc_iconst_0, cc_iconst_3, cc_iconst_4, cc_iconst_5, ↓tg_7_7, ↓tg_11_91, ↓tg_21_7, ↓tg_25_77, ↓tg_35_7, ↓tg_39_63, ↓tg_49_7, ↓tg_53_49, ↓tg_63_8, ↓tg_68_34, ↓tg_78_8, ↓tg_83_19, ↓tg_93_8, ↓tg_98_4, ↓tg_104_12, ↓tg_113_7, ↓tg_117_4, ↓mB_11_234, ↓mB_11_242, ↓mB_11_244, ↓mB_11_246, ↓mB_11_248, ↓mB_11_252, ↓mB_11_254, ↓mB_0_41, ↓opZald_19, ↓opZast_19, ↓mB_15_0, ↓opGI_r, ↓opGJ_r, ↓opGA_r, ↓opPI_r, ↓opPZ_r, ↓opPJ_r, ↓opCI_r, ↓opCJ_r, ↓rz_b, ↓rz_1, ↓rz_0, ↓rt_vrI_e, ↓T_lineOf_0, ↓T_lineOf_11, ↓T_lineOf_15, ↓T_lineOf_3_282, ↓of_vJrZ_r, ↓ov_vJrZ_r, ↓F_isWord, ↓P_isWord, i32_10, i32_01, i32_m10, i32_03, i32_13, i32_23, Int32.reduceAdd, Int32.reduceSub, Int32.reduceMul, Int32.reduceLT, Int32.reduceLE, Int32.reduceToNatClampNeg, Int32.reduceOfInt, Int64.reduceAdd, Int64.reduceSub, Int64.reduceMul, Int64.reduceLT, Int64.reduceLE, lg_cmp_ge, lg_cmp_le, lg_cmp_gt, lg_cmp_lt, lg_cmp_eq, bI_0, bI_1, not_true_eq_false, not_false_eq_true, false_implies, Bool.not_eq_false, Bool.not_eq_true, and_self, Nat.reduceAdd, Int.reduceAdd, Nat.reduceEqDiff, reduceIte, true_and, and_true, implies_true, forall_const, fI_uI, fI_uJ, fI_sA, fI_sN, fI_uA, fI_uN, fJ_uI, fJ_uJ, fJ_sA, fJ_sN, fJ_uA, fJ_uN, fA_uI, fA_uJ, fA_sA, fA_sN, fA_uA, fA_uN, fN_uI, fN_uJ, fN_sA, fN_sN, fN_uA, fN_uN, vp_in, Nat.reduceLeDiff, or_self, false_or, or_false, false_and]
  clear hG
  (repeat' (first | apply And.intro | intro _))
  all_goals (first | rfl | (simp only [R_lineOf, lnK, *, if_true, if_false, Bool.false_ne_true]; first | done | rfl))
