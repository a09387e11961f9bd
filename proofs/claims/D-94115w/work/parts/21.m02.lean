/-! THE REFERENCE: tokens -/
/-- the tokens' place lies in the text -/
def tkR (a n : Nat) (M : mM) : Prop := fI M 4 = nI a ∧ fI M 5 = nI n ∧ n ≤ 1500

theorem tg_10_17 {K : Nat → Prop} : se_tg 10 (17) K = K 27 := rfl
theorem tg_24_4 {K : Nat → Prop} : se_tg 24 (4) K = K 28 := rfl
def P_here : Int32 → mM → Prop := fun a0 M => ∃ a n k : Nat, tkR a n M ∧ a0 = nI k ∧ a + k < 2 ^ 31
def R_here : Int32 → mM → Int32 := fun a0 M => if (fI M 4) + a0 < (fI M 5) then (fA M 0) ((fI M 4) + a0).toNatClampNeg else -1
def F_here : Int32 → mM → mM := fun a0 M => M
def T_here : Nat → Nat → se_Op mM := se_tb2 (se_tab []) mB
theorem T_here_ok (l : Launch) : mTS l cX2_here 2 (some .int) 0 0 T_here := fun g p e s m args below meth c Q H0 C hG hI k i => se_tb2_ok (se_tab_ok _ (fun _ h => absurd h List.not_mem_nil)) (fun k i => mB_ok C hG hI k i) k i
theorem T_here_0 {i : Nat} : T_here 0 i = mB 0 i := rfl
theorem T_here_13 {i : Nat} : T_here 13 i = mB 13 i := rfl
set_option maxHeartbeats 4000000 in
set_option maxRecDepth 20000 in
theorem mt_here (l : Launch) : mc_vIrI l yX2_here cX2_here 2 0 0 P_here (fun a0 M x M' => x = R_here a0 M ∧ M' = F_here a0 M) := by
  refine mc_vIrI_of (by decide +kernel) rfl (T_here_ok l) (by decide) fun a0 M hp G hG => ?_
  show G 0 [some (.ref 0), some (.int a0)] [] M
  refine hG [] 300 _ _ _ _ ?_
  simp only [wpN, ↓wq_aload_0, ↓wq_aload_1, ↓wq_aload_2, ↓wq_aload_3, ↓wq_aload_0n, ↓wq_aload_1n, ↓wq_aload_2n, ↓wq_aload_3n, ↓wq_getfield, ↓wq_goto, ↓wq_iadd, ↓wq_iaload, ↓wq_iconst, ↓wq_icmp_eq, ↓wq_icmp_ne, ↓wq_icmp_lt, ↓wq_icmp_ge, ↓wq_icmp_gt, ↓wq_icmp_le, ↓wq_iload_0, ↓wq_iload_1, ↓wq_iload_2, ↓wq_iload_3, ↓wq_iret, ↓se_get_0, ↓se_get_s, ↓se_set1_0, ↓se_set1_1, ↓se_set1_s, ↓se_set2_0, ↓se_set2_1, ↓se_set2_s, ↓se_k2_n, ↓se_k2_i, ↓se_k2_r, ↓se_k2_u, ↓se_k2_l, ↓se_k2_q, ↓se_in_0, ↓se_in_s, ↓gI_s, ↓gL_s, ↓gR_r, ↓gR_n, ↓gR_q, ↓sR_r, ↓sR_n, ↓sR_q, ↓se_sp_n, ↓se_sp_y, ↓se_sp_z, ↓se_ts_n, ↓se_ts_c, ↓se_c8_n, ↓se_c8_i, ↓se_c8_r, ↓se_c8_u, ↓se_c8_l, ↓wD_e dX2_here_0, ↓wD_e dX2_here_1, ↓wD_e dX2_here_4, ↓wD_e dX2_here_5, ↓wD_e dX2_here_6, ↓wD_e dX2_here_7, ↓wD_e dX2_here_10, ↓wD_e dX2_here_13, ↓wD_e dX2_here_14, ↓wD_e dX2_here_17, ↓wD_e dX2_here_18, ↓wD_e dX2_here_21, ↓wD_e dX2_here_22, ↓wD_e dX2_here_23, ↓wD_e dX2_here_24, ↓wD_e dX2_here_27, ↓wD_e dX2_here_28, cc_iconst_m1, ↓tg_10_17, ↓tg_24_4, ↓mB_0_188, ↓mB_0_191, ↓mB_0_7, ↓opIald_0, ↓opIast_0, ↓mB_13_0, ↓opGI_r, ↓opGJ_r, ↓opGA_r, ↓opPI_r, ↓opPZ_r, ↓opPJ_r, ↓opCI_r, ↓opCJ_r, ↓rz_b, ↓rz_1, ↓rz_0, ↓rt_vIrI_e, ↓T_here_0, ↓T_here_13, i32_10, i32_01, i32_m10, i32_03, i32_13, i32_23, Int32.reduceAdd, Int32.reduceSub, Int32.reduceMul, Int32.reduceLT, Int32.reduceLE, Int32.reduceToNatClampNeg, Int32.reduceOfInt, Int64.reduceAdd, Int64.reduceSub, Int64.reduceMul, Int64.reduceLT, Int64.reduceLE, lg_cmp_ge, lg_cmp_le, lg_cmp_gt, lg_cmp_lt, lg_cmp_eq, bI_0, bI_1, not_true_eq_false, not_false_eq_true, false_implies, Bool.not_eq_false, Bool.not_eq_true, and_self, Nat.reduceAdd, Int.reduceAdd, Nat.reduceEqDiff, reduceIte, true_and, and_true, implies_true, forall_const, fI_uI, fI_uJ, fI_sA, fI_sN, fI_uA, fI_uN, fJ_uI, fJ_uJ, fJ_sA, fJ_sN, fJ_uA, fJ_uN, fA_uI, fA_uJ, fA_sA, fA_sN, fA_uA, fA_uN, fN_uI, fN_uJ, fN_sA, fN_sN, fN_uA, fN_uN]
  obtain ⟨a, n, k, ⟨ha, hn, hn'⟩, hk, hak⟩ := hp
  clear hG
  simp only [R_here, F_here, ha, hn, hk, nI_add, nI_clamp hak, nI_leI (show n < 2 ^ 31 by omega) hak, nI_ltI hak (show n < 2 ^ 31 by omega)]
  refine ⟨fun h => ⟨(if_neg (by omega)).symm, trivial⟩, fun h => ⟨vp_in_nI (by omega) (by omega), (if_pos (by omega)).symm, trivial⟩⟩
  theorem P_here_e {a n k : Nat} {M : mM} (h : tkR a n M) (hk : a + k < 2 ^ 31) : P_here (nI k) M := ⟨a, n, k, h, rfl, hk⟩
  theorem P_here_0 {a n : Nat} {M : mM} (h : tkR a n M) (hk : a < 2 ^ 31) : P_here 0 M := ⟨a, n, 0, h, nI_0.symm, hk⟩
  theorem R_here_e {a n k : Nat} {M : mM} (h : tkR a n M) (hk : a + k < 2 ^ 31) : R_here (nI k) M = if a + k < n then fA M 0 (a + k) else -1 := by
    obtain ⟨ha, hn, hn'⟩ := h
    simp only [R_here, ha, hn, nI_add, nI_clamp hk, nI_ltI hk (show n < 2 ^ 31 by omega)]
  theorem R_here_0 {a n : Nat} {M : mM} (h : tkR a n M) (hk : a < 2 ^ 31) : R_here 0 M = if a < n then fA M 0 a else -1 := by
    have := R_here_e (k := 0) h hk
    rw [nI_0] at this
    exact this
theorem cc_bipush_41 : (Int8.ofInt (41)).toInt32 = 41 := by decide +kernel
theorem cc_bipush_43 : (Int8.ofInt (43)).toInt32 = 43 := by decide +kernel
theorem cc_bipush_45 : (Int8.ofInt (45)).toInt32 = 45 := by decide +kernel
theorem cc_bipush_59 : (Int8.ofInt (59)).toInt32 = 59 := by decide +kernel
theorem cc_bipush_60 : (Int8.ofInt (60)).toInt32 = 60 := by decide +kernel
theorem cc_bipush_61 : (Int8.ofInt (61)).toInt32 = 61 := by decide +kernel
theorem cc_bipush_62 : (Int8.ofInt (62)).toInt32 = 62 := by decide +kernel
theorem tg_3_52 {K : Nat → Prop} : se_tg 3 (52) K = K 55 := rfl
theorem tg_9_46 {K : Nat → Prop} : se_tg 9 (46) K = K 55 := rfl
theorem tg_16_43 {K : Nat → Prop} : se_tg 16 (43) K = K 59 := rfl
theorem tg_22_33 {K : Nat → Prop} : se_tg 22 (33) K = K 55 := rfl
theorem tg_28_27 {K : Nat → Prop} : se_tg 28 (27) K = K 55 := rfl
theorem tg_34_21 {K : Nat → Prop} : se_tg 34 (21) K = K 55 := rfl
theorem tg_40_15 {K : Nat → Prop} : se_tg 40 (15) K = K 55 := rfl
theorem tg_46_9 {K : Nat → Prop} : se_tg 46 (9) K = K 55 := rfl
theorem tg_52_7 {K : Nat → Prop} : se_tg 52 (7) K = K 59 := rfl
theorem tg_56_4 {K : Nat → Prop} : se_tg 56 (4) K = K 60 := rfl
def P_isSign : Int32 → mM → Prop := fun a0 M => True
def R_isSign : Int32 → mM → Bool := fun a0 M => decide (a0 = 59) || decide (a0 = 45) || (decide ((fI M 10) ≠ 0) && (decide (a0 = 40) || decide (a0 = 41) || decide (a0 = 60) || decide (a0 = 62) || decide (a0 = 61) || decide (a0 = 43)))
def F_isSign : Int32 → mM → mM := fun a0 M => M
def T_isSign : Nat → Nat → se_Op mM := se_tb2 (se_tab []) mB
theorem T_isSign_ok (l : Launch) : mTS l cX2_isSign 2 (some .boolean) 0 0 T_isSign := fun g p e s m args below meth c Q H0 C hG hI k i => se_tb2_ok (se_tab_ok _ (fun _ h => absurd h List.not_mem_nil)) (fun k i => mB_ok C hG hI k i) k i
theorem T_isSign_0 {i : Nat} : T_isSign 0 i = mB 0 i := rfl
set_option maxHeartbeats 4000000 in
set_option maxRecDepth 20000 in
theorem mt_isSign (l : Launch) : mc_vIrZ l yX2_isSign cX2_isSign 2 0 0 P_isSign (fun a0 M x M' => x = R_isSign a0 M ∧ M' = F_isSign a0 M) := by
  refine mc_vIrZ_of (by decide +kernel) rfl (T_isSign_ok l) (by decide) fun a0 M hp G hG => ?_
  show G 0 [some (.ref 0), some (.int a0)] [] M
  refine hG [] 300 _ _ _ _ ?_
  simp only [wpN, ↓wq_aload_0, ↓wq_aload_1, ↓wq_aload_2, ↓wq_aload_3, ↓wq_aload_0n, ↓wq_aload_1n, ↓wq_aload_2n, ↓wq_aload_3n, ↓wq_bipush, ↓wq_getfield, ↓wq_goto, ↓wq_iconst, ↓wq_if_eq, ↓wq_if_ne, ↓wq_if_lt, ↓wq_if_ge, ↓wq_if_gt, ↓wq_if_le, ↓wq_icmp_eq, ↓wq_icmp_ne, ↓wq_icmp_lt, ↓wq_icmp_ge, ↓wq_icmp_gt, ↓wq_icmp_le, ↓wq_iload_0, ↓wq_iload_1, ↓wq_iload_2, ↓wq_iload_3, ↓wq_iret, ↓se_get_0, ↓se_get_s, ↓se_set1_0, ↓se_set1_1, ↓se_set1_s, ↓se_set2_0, ↓se_set2_1, ↓se_set2_s, ↓se_k2_n, ↓se_k2_i, ↓se_k2_r, ↓se_k2_u, ↓se_k2_l, ↓se_k2_q, ↓se_in_0, ↓se_in_s, ↓gI_s, ↓gL_s, ↓gR_r, ↓gR_n, ↓gR_q, ↓sR_r, ↓sR_n, ↓sR_q, ↓se_sp_n, ↓se_sp_y, ↓se_sp_z, ↓se_ts_n, ↓se_ts_c, ↓se_c8_n, ↓se_c8_i, ↓se_c8_r, ↓se_c8_u, ↓se_c8_l, ↓wD_e dX2_isSign_0, ↓wD_e dX2_isSign_1, ↓wD_e dX2_isSign_3, ↓wD_e dX2_isSign_6, ↓wD_e dX2_isSign_7, ↓wD_e dX2_isSign_9, ↓wD_e dX2_isSign_12, ↓wD_e dX2_isSign_13, ↓wD_e dX2_isSign_16, ↓wD_e dX2_isSign_19, ↓wD_e dX2_isSign_20, ↓wD_e dX2_isSign_22, ↓wD_e dX2_isSign_25, ↓wD_e dX2_isSign_26, ↓wD_e dX2_isSign_28, ↓wD_e dX2_isSign_31, ↓wD_e dX2_isSign_32, ↓wD_e dX2_isSign_34, ↓wD_e dX2_isSign_37, ↓wD_e dX2_isSign_38, ↓wD_e dX2_isSign_40, ↓wD_e dX2_isSign_43, ↓wD_e dX2_isSign_44, ↓wD_e dX2_isSign_46, ↓wD_e dX2_isSign_49, ↓wD_e dX2_isSign_50, ↓wD_e dX2_isSign_52, ↓wD_e dX2_isSign_55, ↓wD_e dX2_isSign_56, ↓wD_e dX2_isSign_59, ↓wD_e dX2_isSign_60, cc_bipush_40, cc_bipush_41, cc_bipush_43, cc_bipush_45, cc_bipush_59, cc_bipush_60, cc_bipush_61, cc_bipush_62, cc_iconst_0, cc_iconst_1, ↓tg_3_52, ↓tg_9_46, ↓tg_16_43, ↓tg_22_33, ↓tg_28_27, ↓tg_34_21, ↓tg_40_15, ↓tg_46_9, ↓tg_52_7, ↓tg_56_4, ↓mB_0_194, ↓opGI_r, ↓opGJ_r, ↓opGA_r, ↓opPI_r, ↓opPZ_r, ↓opPJ_r, ↓opCI_r, ↓opCJ_r, ↓rz_b, ↓rz_1, ↓rz_0, ↓rt_vIrZ_e, ↓T_isSign_0, i32_10, i32_01, i32_m10, i32_03, i32_13, i32_23, Int32.reduceAdd, Int32.reduceSub, Int32.reduceMul, Int32.reduceLT, Int32.reduceLE, Int32.reduceToNatClampNeg, Int32.reduceOfInt, Int64.reduceAdd, Int64.reduceSub, Int64.reduceMul, Int64.reduceLT, Int64.reduceLE, lg_cmp_ge, lg_cmp_le, lg_cmp_gt, lg_cmp_lt, lg_cmp_eq, bI_0, bI_1, not_true_eq_false, not_false_eq_true, false_implies, Bool.not_eq_false, Bool.not_eq_true, and_self, Nat.reduceAdd, Int.reduceAdd, Nat.reduceEqDiff, reduceIte, true_and, and_true, implies_true, forall_const, fI_uI, fI_uJ, fI_sA, fI_sN, fI_uA, fI_uN, fJ_uI, fJ_uJ, fJ_sA, fJ_sN, fJ_uA, fJ_uN, fA_uI, fA_uJ, fA_sA, fA_sN, fA_uA, fA_uN, fN_uI, fN_uJ, fN_sA, fN_sN, fN_uA, fN_uN]
  clear hG
  (repeat' (first | apply And.intro | intro _))
  all_goals (first | rfl | (simp only [R_isSign, F_isSign, P_isSign, *, if_true, if_false, reduceIte, decide_true, decide_false, Bool.not_true, Bool.not_false, Bool.and_true, Bool.and_false, Bool.true_and, Bool.false_and, Bool.or_true, Bool.or_false, Bool.true_or, Bool.false_or, bI_t, bI_f, or_true, true_or, or_false, false_or, and_true, true_and, and_false, false_and, not_true_eq_false, not_false_eq_true, eq_self]; done) | (subst_vars; simp [R_isSign, F_isSign, P_isSign, bI, *]; done) | (simp only [R_isSign, F_isSign, P_isSign]; (repeat' split) <;> first | rfl | (exfalso; simp only [Int32.lt_iff_toInt_lt, Int32.le_iff_toInt_le, Int64.lt_iff_toInt_lt, Int64.le_iff_toInt_le, Int32.reduceToInt, Int64.reduceToInt] at *; omega)) | (simp_all [R_isSign, F_isSign, P_isSign, bI]; done))
theorem tg_4_4 {K : Nat → Prop} : se_tg 4 (4) K = K 8 := rfl
theorem tg_14_7 {K : Nat → Prop} : se_tg 14 (7) K = K 21 := rfl
theorem tg_18_4 {K : Nat → Prop} : se_tg 18 (4) K = K 22 := rfl
def P_wrong : Int32 → mM → Prop := fun a0 M => True
def F_wrong : Int32 → mM → mM := fun a0 M => if 0 < (fI M 2) then M else (uI (uI M 2 (if (fI M 6) = 3 then 1 else a0)) 3 ((fI M 7)))
def T_wrong : Nat → Nat → se_Op mM := se_tb2 (se_tab []) mB
theorem T_wrong_ok (l : Launch) : mTS l cX2_wrong 2 none 0 0 T_wrong := fun g p e s m args below meth c Q H0 C hG hI k i => se_tb2_ok (se_tab_ok _ (fun _ h => absurd h List.not_mem_nil)) (fun k i => mB_ok C hG hI k i) k i
theorem T_wrong_0 {i : Nat} : T_wrong 0 i = mB 0 i := rfl
theorem T_wrong_1 {i : Nat} : T_wrong 1 i = mB 1 i := rfl
set_option maxHeartbeats 4000000 in
set_option maxRecDepth 20000 in
theorem mt_wrong (l : Launch) : mc_vIrV l yX2_wrong cX2_wrong 2 0 0 P_wrong (fun a0 M M' => M' = F_wrong a0 M) := by
  refine mc_vIrV_of (by decide +kernel) rfl (T_wrong_ok l) (by decide) fun a0 M hp G hG => ?_
  show G 0 [some (.ref 0), some (.int a0)] [] M
  refine hG [] 300 _ _ _ _ ?_
  simp only [wpN, ↓wq_aload_0, ↓wq_aload_1, ↓wq_aload_2, ↓wq_aload_3, ↓wq_aload_0n, ↓wq_aload_1n, ↓wq_aload_2n, ↓wq_aload_3n, ↓wq_getfield, ↓wq_goto, ↓wq_iconst, ↓wq_if_eq, ↓wq_if_ne, ↓wq_if_lt, ↓wq_if_ge, ↓wq_if_gt, ↓wq_if_le, ↓wq_icmp_eq, ↓wq_icmp_ne, ↓wq_icmp_lt, ↓wq_icmp_ge, ↓wq_icmp_gt, ↓wq_icmp_le, ↓wq_iload_0, ↓wq_iload_1, ↓wq_iload_2, ↓wq_iload_3, ↓wq_putfield, ↓wq_ret, ↓se_get_0, ↓se_get_s, ↓se_set1_0, ↓se_set1_1, ↓se_set1_s, ↓se_set2_0, ↓se_set2_1, ↓se_set2_s, ↓se_k2_n, ↓se_k2_i, ↓se_k2_r, ↓se_k2_u, ↓se_k2_l, ↓se_k2_q, ↓se_in_0, ↓se_in_s, ↓gI_s, ↓gL_s, ↓gR_r, ↓gR_n, ↓gR_q, ↓sR_r, ↓sR_n, ↓sR_q, ↓se_sp_n, ↓se_sp_y, ↓se_sp_z, ↓se_ts_n, ↓se_ts_c, ↓se_c8_n, ↓se_c8_i, ↓se_c8_r, ↓se_c8_u, ↓se_c8_l, ↓wD_e dX2_wrong_0, ↓wD_e dX2_wrong_1, ↓wD_e dX2_wrong_4, ↓wD_e dX2_wrong_7, ↓wD_e dX2_wrong_8, ↓wD_e dX2_wrong_9, ↓wD_e dX2_wrong_10, ↓wD_e dX2_wrong_13, ↓wD_e dX2_wrong_14, ↓wD_e dX2_wrong_17, ↓wD_e dX2_wrong_18, ↓wD_e dX2_wrong_21, ↓wD_e dX2_wrong_22, ↓wD_e dX2_wrong_25, ↓wD_e dX2_wrong_26, ↓wD_e dX2_wrong_27, ↓wD_e dX2_wrong_30, ↓wD_e dX2_wrong_33, cc_iconst_1, cc_iconst_3, ↓tg_4_4, ↓tg_14_7, ↓tg_18_4, ↓mB_0_225, ↓mB_0_212, ↓mB_1_225, ↓mB_0_202, ↓mB_1_13, ↓opGI_r, ↓opGJ_r, ↓opGA_r, ↓opPI_r, ↓opPZ_r, ↓opPJ_r, ↓opCI_r, ↓opCJ_r, ↓rz_b, ↓rz_1, ↓rz_0, ↓rt_vIrV_e, ↓T_wrong_0, ↓T_wrong_1, i32_10, i32_01, i32_m10, i32_03, i32_13, i32_23, Int32.reduceAdd, Int32.reduceSub, Int32.reduceMul, Int32.reduceLT, Int32.reduceLE, Int32.reduceToNatClampNeg, Int32.reduceOfInt, Int64.reduceAdd, Int64.reduceSub, Int64.reduceMul, Int64.reduceLT, Int64.reduceLE, lg_cmp_ge, lg_cmp_le, lg_cmp_gt, lg_cmp_lt, lg_cmp_eq, bI_0, bI_1, not_true_eq_false, not_false_eq_true, false_implies, Bool.not_eq_false, Bool.not_eq_true, and_self, Nat.reduceAdd, Int.reduceAdd, Nat.reduceEqDiff, reduceIte, true_and, and_true, implies_true, forall_const, fI_uI, fI_uJ, fI_sA, fI_sN, fI_uA, fI_uN, fJ_uI, fJ_uJ, fJ_sA, fJ_sN, fJ_uA, fJ_uN, fA_uI, fA_uJ, fA_sA, fA_sN, fA_uA, fA_uN, fN_uI, fN_uJ, fN_sA, fN_sN, fN_uA, fN_uN]
  clear hG
  (repeat' (first | apply And.intro | intro _))
  all_goals (first | rfl | (simp only [F_wrong, P_wrong, *, if_true, if_false, reduceIte, decide_true, decide_false, Bool.not_true, Bool.not_false, Bool.and_true, Bool.and_false, Bool.true_and, Bool.false_and, Bool.or_true, Bool.or_false, Bool.true_or, Bool.false_or, bI_t, bI_f, or_true, true_or, or_false, false_or, and_true, true_and, and_false, false_and, not_true_eq_false, not_false_eq_true, eq_self]; done) | (subst_vars; simp [F_wrong, P_wrong, bI, *]; done) | (simp only [F_wrong, P_wrong]; (repeat' split) <;> first | rfl | (exfalso; simp only [Int32.lt_iff_toInt_lt, Int32.le_iff_toInt_le, Int64.lt_iff_toInt_lt, Int64.le_iff_toInt_le, Int32.reduceToInt, Int64.reduceToInt] at *; omega)) | (simp_all [F_wrong, P_wrong, bI]; done))
def P_start : mM → Prop := fun M => True
def F_start : mM → mM := fun M => (uI (uI (uI (uI (uI M 5 ((fI M 1))) 1 (0)) 4 (0)) 2 (0)) 3 (-1))
def T_start : Nat → Nat → se_Op mM := se_tb2 (se_tab []) mB
theorem T_start_ok (l : Launch) : mTS l cX2_start 1 none 0 0 T_start := fun g p e s m args below meth c Q H0 C hG hI k i => se_tb2_ok (se_tab_ok _ (fun _ h => absurd h List.not_mem_nil)) (fun k i => mB_ok C hG hI k i) k i
theorem T_start_0 {i : Nat} : T_start 0 i = mB 0 i := rfl
theorem T_start_1 {i : Nat} : T_start 1 i = mB 1 i := rfl
set_option maxHeartbeats 4000000 in
set_option maxRecDepth 20000 in
theorem mt_start (l : Launch) : mc_vrV l yX2_start cX2_start 1 0 0 P_start (fun M M' => M' = F_start M) := by
  refine mc_vrV_of (by decide +kernel) rfl (T_start_ok l) (by decide) fun M hp G hG => ?_
  show G 0 [some (.ref 0)] [] M
  refine hG [] 300 _ _ _ _ ?_
  simp only [wpN, ↓wq_aload_0, ↓wq_aload_1, ↓wq_aload_2, ↓wq_aload_3, ↓wq_aload_0n, ↓wq_aload_1n, ↓wq_aload_2n, ↓wq_aload_3n, ↓wq_getfield, ↓wq_iconst, ↓wq_putfield, ↓wq_ret, ↓se_get_0, ↓se_get_s, ↓se_set1_0, ↓se_set1_1, ↓se_set1_s, ↓se_set2_0, ↓se_set2_1, ↓se_set2_s, ↓se_k2_n, ↓se_k2_i, ↓se_k2_r, ↓se_k2_u, ↓se_k2_l, ↓se_k2_q, ↓se_in_0, ↓se_in_s, ↓gI_s, ↓gL_s, ↓gR_r, ↓gR_n, ↓gR_q, ↓sR_r, ↓sR_n, ↓sR_q, ↓se_sp_n, ↓se_sp_y, ↓se_sp_z, ↓se_ts_n, ↓se_ts_c, ↓se_c8_n, ↓se_c8_i, ↓se_c8_r, ↓se_c8_u, ↓se_c8_l, ↓wD_e dX2_start_0, ↓wD_e dX2_start_1, ↓wD_e dX2_start_2, ↓wD_e dX2_start_5, ↓wD_e dX2_start_8, ↓wD_e dX2_start_9, ↓wD_e dX2_start_10, ↓wD_e dX2_start_13, ↓wD_e dX2_start_14, ↓wD_e dX2_start_15, ↓wD_e dX2_start_18, ↓wD_e dX2_start_19, ↓wD_e dX2_start_20, ↓wD_e dX2_start_23, ↓wD_e dX2_start_24, ↓wD_e dX2_start_25, ↓wD_e dX2_start_28, cc_iconst_m1, cc_iconst_0, ↓mB_0_181, ↓mB_1_191, ↓mB_1_181, ↓mB_1_188, ↓mB_1_225, ↓mB_1_13, ↓opGI_r, ↓opGJ_r, ↓opGA_r, ↓opPI_r, ↓opPZ_r, ↓opPJ_r, ↓opCI_r, ↓opCJ_r, ↓rz_b, ↓rz_1, ↓rz_0, ↓rt_vrV_e, ↓T_start_0, ↓T_start_1, i32_10, i32_01, i32_m10, i32_03, i32_13, i32_23, Int32.reduceAdd, Int32.reduceSub, Int32.reduceMul, Int32.reduceLT, Int32.reduceLE, Int32.reduceToNatClampNeg, Int32.reduceOfInt, Int64.reduceAdd, Int64.reduceSub, Int64.reduceMul, Int64.reduceLT, Int64.reduceLE, lg_cmp_ge, lg_cmp_le, lg_cmp_gt, lg_cmp_lt, lg_cmp_eq, bI_0, bI_1, not_true_eq_false, not_false_eq_true, false_implies, Bool.not_eq_false, Bool.not_eq_true, and_self, Nat.reduceAdd, Int.reduceAdd, Nat.reduceEqDiff, reduceIte, true_and, and_true, implies_true, forall_const, fI_uI, fI_uJ, fI_sA, fI_sN, fI_uA, fI_uN, fJ_uI, fJ_uJ, fJ_sA, fJ_sN, fJ_uA, fJ_uN, fA_uI, fA_uJ, fA_sA, fA_sN, fA_uA, fA_uN, fN_uI, fN_uJ, fN_sA, fN_sN, fN_uA, fN_uN]
  clear hG
  (repeat' (first | apply And.intro | intro _))
  all_goals (first | rfl | (simp only [F_start, P_start, *, if_true, if_false, reduceIte, decide_true, decide_false, Bool.not_true, Bool.not_false, Bool.and_true, Bool.and_false, Bool.true_and, Bool.false_and, Bool.or_true, Bool.or_false, Bool.true_or, Bool.false_or, bI_t, bI_f, or_true, true_or, or_false, false_or, and_true, true_and, and_false, false_and, not_true_eq_false, not_false_eq_true, eq_self]; done) | (subst_vars; simp [F_start, P_start, bI, *]; done) | (simp only [F_start, P_start]; (repeat' split) <;> first | rfl | (exfalso; simp only [Int32.lt_iff_toInt_lt, Int32.le_iff_toInt_le, Int64.lt_iff_toInt_lt, Int64.le_iff_toInt_le, Int32.reduceToInt, Int64.reduceToInt] at *; omega)) | (simp_all [F_start, P_start, bI]; done))
theorem tg_5_16 {K : Nat → Prop} : se_tg 5 (16) K = K 21 := rfl
def P_isWord : Int64 → mM → Prop := fun a0 M => True
def R_isWord : Int64 → mM → Bool := fun a0 M => decide ((fI M 6) = 1) && decide ((fJ M 9) = a0)
def F_isWord : Int64 → mM → mM := fun a0 M => M
def T_isWord : Nat → Nat → se_Op mM := se_tb2 (se_tab []) mB
theorem T_isWord_ok (l : Launch) : mTS l cX2_isWord 3 (some .boolean) 0 0 T_isWord := fun g p e s m args below meth c Q H0 C hG hI k i => se_tb2_ok (se_tab_ok _ (fun _ h => absurd h List.not_mem_nil)) (fun k i => mB_ok C hG hI k i) k i
theorem T_isWord_0 {i : Nat} : T_isWord 0 i = mB 0 i := rfl
set_option maxHeartbeats 4000000 in
set_option maxRecDepth 20000 in
theorem mt_isWord (l : Launch) : mc_vJrZ l yX2_isWord cX2_isWord 3 0 0 P_isWord (fun a0 M x M' => x = R_isWord a0 M ∧ M' = F_isWord a0 M) := by
  refine mc_vJrZ_of (by decide +kernel) rfl (T_isWord_ok l) (by decide) fun a0 M hp G hG => ?_
  show G 0 [some (.ref 0), some (.long a0), none] [] M
  refine hG [] 300 _ _ _ _ ?_
  simp only [wpN, ↓wq_aload_0, ↓wq_aload_1, ↓wq_aload_2, ↓wq_aload_3, ↓wq_aload_0n, ↓wq_aload_1n, ↓wq_aload_2n, ↓wq_aload_3n, ↓wq_getfield, ↓wq_goto, ↓wq_iconst, ↓wq_if_eq, ↓wq_if_ne, ↓wq_if_lt, ↓wq_if_ge, ↓wq_if_gt, ↓wq_if_le, ↓wq_icmp_eq, ↓wq_icmp_ne, ↓wq_icmp_lt, ↓wq_icmp_ge, ↓wq_icmp_gt, ↓wq_icmp_le, ↓wq_iret, ↓wq_lcmp, ↓wq_lload_0, ↓wq_lload_1, ↓wq_lload_2, ↓wq_lload_3, ↓se_get_0, ↓se_get_s, ↓se_set1_0, ↓se_set1_1, ↓se_set1_s, ↓se_set2_0, ↓se_set2_1, ↓se_set2_s, ↓se_k2_n, ↓se_k2_i, ↓se_k2_r, ↓se_k2_u, ↓se_k2_l, ↓se_k2_q, ↓se_in_0, ↓se_in_s, ↓gI_s, ↓gL_s, ↓gR_r, ↓gR_n, ↓gR_q, ↓sR_r, ↓sR_n, ↓sR_q, ↓se_sp_n, ↓se_sp_y, ↓se_sp_z, ↓se_ts_n, ↓se_ts_c, ↓se_c8_n, ↓se_c8_i, ↓se_c8_r, ↓se_c8_u, ↓se_c8_l, ↓wD_e dX2_isWord_0, ↓wD_e dX2_isWord_1, ↓wD_e dX2_isWord_4, ↓wD_e dX2_isWord_5, ↓wD_e dX2_isWord_8, ↓wD_e dX2_isWord_9, ↓wD_e dX2_isWord_12, ↓wD_e dX2_isWord_13, ↓wD_e dX2_isWord_14, ↓wD_e dX2_isWord_17, ↓wD_e dX2_isWord_18, ↓wD_e dX2_isWord_21, ↓wD_e dX2_isWord_22, cc_iconst_0, cc_iconst_1, ↓tg_5_16, ↓tg_14_7, ↓tg_18_4, ↓mB_0_212, ↓mB_0_205, ↓opGI_r, ↓opGJ_r, ↓opGA_r, ↓opPI_r, ↓opPZ_r, ↓opPJ_r, ↓opCI_r, ↓opCJ_r, ↓rz_b, ↓rz_1, ↓rz_0, ↓rt_vJrZ_e, ↓T_isWord_0, i32_10, i32_01, i32_m10, i32_03, i32_13, i32_23, Int32.reduceAdd, Int32.reduceSub, Int32.reduceMul, Int32.reduceLT, Int32.reduceLE, Int32.reduceToNatClampNeg, Int32.reduceOfInt, Int64.reduceAdd, Int64.reduceSub, Int64.reduceMul, Int64.reduceLT, Int64.reduceLE, lg_cmp_ge, lg_cmp_le, lg_cmp_gt, lg_cmp_lt, lg_cmp_eq, bI_0, bI_1, not_true_eq_false, not_false_eq_true, false_implies, Bool.not_eq_false, Bool.not_eq_true, and_self, Nat.reduceAdd, Int.reduceAdd, Nat.reduceEqDiff, reduceIte, true_and, and_true, implies_true, forall_const, fI_uI, fI_uJ, fI_sA, fI_sN, fI_uA, fI_uN, fJ_uI, fJ_uJ, fJ_sA, fJ_sN, fJ_uA, fJ_uN, fA_uI, fA_uJ, fA_sA, fA_sN, fA_uA, fA_uN, fN_uI, fN_uJ, fN_sA, fN_sN, fN_uA, fN_uN]
  clear hG
  (repeat' (first | apply And.intro | intro _))
  all_goals (first | rfl | (simp only [R_isWord, F_isWord, P_isWord, *, if_true, if_false, reduceIte, decide_true, decide_false, Bool.not_true, Bool.not_false, Bool.and_true, Bool.and_false, Bool.true_and, Bool.false_and, Bool.or_true, Bool.or_false, Bool.true_or, Bool.false_or, bI_t, bI_f, or_true, true_or, or_false, false_or, and_true, true_and, and_false, false_and, not_true_eq_false, not_false_eq_true, eq_self]; done) | (subst_vars; simp [R_isWord, F_isWord, P_isWord, bI, *]; done) | (simp only [R_isWord, F_isWord, P_isWord]; (repeat' split) <;> first | rfl | (exfalso; simp only [Int32.lt_iff_toInt_lt, Int32.le_iff_toInt_le, Int64.lt_iff_toInt_lt, Int64.le_iff_toInt_le, Int32.reduceToInt, Int64.reduceToInt] at *; omega)) | (simp_all [R_isWord, F_isWord, P_isWord, bI]; done))
