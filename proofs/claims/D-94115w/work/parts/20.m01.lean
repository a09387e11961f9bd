/-! THE REFERENCE: small methods, the tape -/
theorem i32_10 : ((1 : Int32) = 0) = False := by decide
theorem i32_01 : ((0 : Int32) = 1) = False := by decide
theorem i32_m10 : ((-1 : Int32) = 0) = False := by decide
theorem i32_03 : ((0 : Int32) = 3) = False := by decide
theorem i32_13 : ((1 : Int32) = 3) = False := by decide
theorem i32_23 : ((2 : Int32) = 3) = False := by decide

theorem cc_iconst_0 : Int32.ofInt (0) = 0 := by decide +kernel
theorem cc_iconst_1 : Int32.ofInt (1) = 1 := by decide +kernel
theorem tg_1_12 {K : Nat → Prop} : se_tg 1 (12) K = K 13 := rfl
theorem tg_6_7 {K : Nat → Prop} : se_tg 6 (7) K = K 13 := rfl
theorem tg_10_4 {K : Nat → Prop} : se_tg 10 (4) K = K 14 := rfl
def P_isIn : Int32 → Int32 → mM → Prop := fun a0 a1 M => True
def R_isIn : Int32 → Int32 → mM → Bool := fun a0 a1 M => !(decide (a0 < 0)) && !(decide (a1 ≤ a0))
def F_isIn : Int32 → Int32 → mM → mM := fun a0 a1 M => M
def T_isIn : Nat → Nat → se_Op mM := se_tb2 (se_tab []) mB
theorem T_isIn_ok (l : Launch) : mTS l cX2_isIn 2 (some .boolean) 0 0 T_isIn := fun g p e s m args below meth c Q H0 C hG hI k i => se_tb2_ok (se_tab_ok _ (fun _ h => absurd h List.not_mem_nil)) (fun k i => mB_ok C hG hI k i) k i
set_option maxHeartbeats 4000000 in
set_option maxRecDepth 20000 in
theorem mt_isIn (l : Launch) : mc_sIIrZ l yX2_isIn cX2_isIn 2 0 0 P_isIn (fun a0 a1 M x M' => x = R_isIn a0 a1 M ∧ M' = F_isIn a0 a1 M) := by
  refine mc_sIIrZ_of (by decide +kernel) rfl (T_isIn_ok l) (by decide) fun a0 a1 M hp G hG => ?_
  show G 0 [some (.int a0), some (.int a1)] [] M
  refine hG [] 300 _ _ _ _ ?_
  simp only [wpN, ↓wq_goto, ↓wq_iconst, ↓wq_if_eq, ↓wq_if_ne, ↓wq_if_lt, ↓wq_if_ge, ↓wq_if_gt, ↓wq_if_le, ↓wq_icmp_eq, ↓wq_icmp_ne, ↓wq_icmp_lt, ↓wq_icmp_ge, ↓wq_icmp_gt, ↓wq_icmp_le, ↓wq_iload_0, ↓wq_iload_1, ↓wq_iload_2, ↓wq_iload_3, ↓wq_iret, ↓se_get_0, ↓se_get_s, ↓se_set1_0, ↓se_set1_1, ↓se_set1_s, ↓se_set2_0, ↓se_set2_1, ↓se_set2_s, ↓se_k2_n, ↓se_k2_i, ↓se_k2_r, ↓se_k2_u, ↓se_k2_l, ↓se_k2_q, ↓se_in_0, ↓se_in_s, ↓gI_s, ↓gL_s, ↓gR_r, ↓gR_n, ↓gR_q, ↓sR_r, ↓sR_n, ↓sR_q, ↓se_sp_n, ↓se_sp_y, ↓se_sp_z, ↓se_ts_n, ↓se_ts_c, ↓se_c8_n, ↓se_c8_i, ↓se_c8_r, ↓se_c8_u, ↓se_c8_l, ↓wD_e dX2_isIn_0, ↓wD_e dX2_isIn_1, ↓wD_e dX2_isIn_4, ↓wD_e dX2_isIn_5, ↓wD_e dX2_isIn_6, ↓wD_e dX2_isIn_9, ↓wD_e dX2_isIn_10, ↓wD_e dX2_isIn_13, ↓wD_e dX2_isIn_14, cc_iconst_0, cc_iconst_1, ↓tg_1_12, ↓tg_6_7, ↓tg_10_4, ↓opGI_r, ↓opGJ_r, ↓opGA_r, ↓opPI_r, ↓opPZ_r, ↓opPJ_r, ↓opCI_r, ↓opCJ_r, ↓rz_b, ↓rz_1, ↓rz_0, ↓rt_sIIrZ_e, i32_10, i32_01, i32_m10, i32_03, i32_13, i32_23, Int32.reduceAdd, Int32.reduceSub, Int32.reduceMul, Int32.reduceLT, Int32.reduceLE, Int32.reduceToNatClampNeg, Int32.reduceOfInt, Int64.reduceAdd, Int64.reduceSub, Int64.reduceMul, Int64.reduceLT, Int64.reduceLE, lg_cmp_ge, lg_cmp_le, lg_cmp_gt, lg_cmp_lt, lg_cmp_eq, bI_0, bI_1, not_true_eq_false, not_false_eq_true, false_implies, Bool.not_eq_false, Bool.not_eq_true, and_self, Nat.reduceAdd, Int.reduceAdd, Nat.reduceEqDiff, reduceIte, true_and, and_true, implies_true, forall_const, fI_uI, fI_uJ, fI_sA, fI_sN, fI_uA, fI_uN, fJ_uI, fJ_uJ, fJ_sA, fJ_sN, fJ_uA, fJ_uN, fA_uI, fA_uJ, fA_sA, fA_sN, fA_uA, fA_uN, fN_uI, fN_uJ, fN_sA, fN_sN, fN_uA, fN_uN]
  clear hG
  (repeat' (first | apply And.intro | intro _))
  all_goals (first | rfl | (simp only [R_isIn, F_isIn, P_isIn, *, if_true, if_false, reduceIte, decide_true, decide_false, Bool.not_true, Bool.not_false, Bool.and_true, Bool.and_false, Bool.true_and, Bool.false_and, Bool.or_true, Bool.or_false, Bool.true_or, Bool.false_or, bI_t, bI_f, or_true, true_or, or_false, false_or, and_true, true_and, and_false, false_and, not_true_eq_false, not_false_eq_true, eq_self]; done) | (subst_vars; simp [R_isIn, F_isIn, P_isIn, bI, *]; done) | (simp only [R_isIn, F_isIn, P_isIn]; (repeat' split) <;> first | rfl | (exfalso; simp only [Int32.lt_iff_toInt_lt, Int32.le_iff_toInt_le, Int64.lt_iff_toInt_lt, Int64.le_iff_toInt_le, Int32.reduceToInt, Int64.reduceToInt] at *; omega)) | (simp_all [R_isIn, F_isIn, P_isIn, bI]; done))
theorem cc_bipush_97 : (Int8.ofInt (97)).toInt32 = 97 := by decide +kernel
theorem cc_bipush_122 : (Int8.ofInt (122)).toInt32 = 122 := by decide +kernel
theorem tg_3_13 {K : Nat → Prop} : se_tg 3 (13) K = K 16 := rfl
theorem tg_9_7 {K : Nat → Prop} : se_tg 9 (7) K = K 16 := rfl
theorem tg_13_4 {K : Nat → Prop} : se_tg 13 (4) K = K 17 := rfl
def P_isLetter : Int32 → mM → Prop := fun a0 M => True
def R_isLetter : Int32 → mM → Bool := fun a0 M => !(decide (a0 < 97)) && !(decide (122 < a0))
def F_isLetter : Int32 → mM → mM := fun a0 M => M
def T_isLetter : Nat → Nat → se_Op mM := se_tb2 (se_tab []) mB
theorem T_isLetter_ok (l : Launch) : mTS l cX2_isLetter 1 (some .boolean) 0 0 T_isLetter := fun g p e s m args below meth c Q H0 C hG hI k i => se_tb2_ok (se_tab_ok _ (fun _ h => absurd h List.not_mem_nil)) (fun k i => mB_ok C hG hI k i) k i
set_option maxHeartbeats 4000000 in
set_option maxRecDepth 20000 in
theorem mt_isLetter (l : Launch) : mc_sIrZ l yX2_isLetter cX2_isLetter 1 0 0 P_isLetter (fun a0 M x M' => x = R_isLetter a0 M ∧ M' = F_isLetter a0 M) := by
  refine mc_sIrZ_of (by decide +kernel) rfl (T_isLetter_ok l) (by decide) fun a0 M hp G hG => ?_
  show G 0 [some (.int a0)] [] M
  refine hG [] 300 _ _ _ _ ?_
  simp only [wpN, ↓wq_bipush, ↓wq_goto, ↓wq_iconst, ↓wq_icmp_eq, ↓wq_icmp_ne, ↓wq_icmp_lt, ↓wq_icmp_ge, ↓wq_icmp_gt, ↓wq_icmp_le, ↓wq_iload_0, ↓wq_iload_1, ↓wq_iload_2, ↓wq_iload_3, ↓wq_iret, ↓se_get_0, ↓se_get_s, ↓se_set1_0, ↓se_set1_1, ↓se_set1_s, ↓se_set2_0, ↓se_set2_1, ↓se_set2_s, ↓se_k2_n, ↓se_k2_i, ↓se_k2_r, ↓se_k2_u, ↓se_k2_l, ↓se_k2_q, ↓se_in_0, ↓se_in_s, ↓gI_s, ↓gL_s, ↓gR_r, ↓gR_n, ↓gR_q, ↓sR_r, ↓sR_n, ↓sR_q, ↓se_sp_n, ↓se_sp_y, ↓se_sp_z, ↓se_ts_n, ↓se_ts_c, ↓se_c8_n, ↓se_c8_i, ↓se_c8_r, ↓se_c8_u, ↓se_c8_l, ↓wD_e dX2_isLetter_0, ↓wD_e dX2_isLetter_1, ↓wD_e dX2_isLetter_3, ↓wD_e dX2_isLetter_6, ↓wD_e dX2_isLetter_7, ↓wD_e dX2_isLetter_9, ↓wD_e dX2_isLetter_12, ↓wD_e dX2_isLetter_13, ↓wD_e dX2_isLetter_16, ↓wD_e dX2_isLetter_17, cc_bipush_97, cc_bipush_122, cc_iconst_0, cc_iconst_1, ↓tg_3_13, ↓tg_9_7, ↓tg_13_4, ↓opGI_r, ↓opGJ_r, ↓opGA_r, ↓opPI_r, ↓opPZ_r, ↓opPJ_r, ↓opCI_r, ↓opCJ_r, ↓rz_b, ↓rz_1, ↓rz_0, ↓rt_sIrZ_e, i32_10, i32_01, i32_m10, i32_03, i32_13, i32_23, Int32.reduceAdd, Int32.reduceSub, Int32.reduceMul, Int32.reduceLT, Int32.reduceLE, Int32.reduceToNatClampNeg, Int32.reduceOfInt, Int64.reduceAdd, Int64.reduceSub, Int64.reduceMul, Int64.reduceLT, Int64.reduceLE, lg_cmp_ge, lg_cmp_le, lg_cmp_gt, lg_cmp_lt, lg_cmp_eq, bI_0, bI_1, not_true_eq_false, not_false_eq_true, false_implies, Bool.not_eq_false, Bool.not_eq_true, and_self, Nat.reduceAdd, Int.reduceAdd, Nat.reduceEqDiff, reduceIte, true_and, and_true, implies_true, forall_const, fI_uI, fI_uJ, fI_sA, fI_sN, fI_uA, fI_uN, fJ_uI, fJ_uJ, fJ_sA, fJ_sN, fJ_uA, fJ_uN, fA_uI, fA_uJ, fA_sA, fA_sN, fA_uA, fA_uN, fN_uI, fN_uJ, fN_sA, fN_sN, fN_uA, fN_uN]
  clear hG
  (repeat' (first | apply And.intro | intro _))
  all_goals (first | rfl | (simp only [R_isLetter, F_isLetter, P_isLetter, *, if_true, if_false, reduceIte, decide_true, decide_false, Bool.not_true, Bool.not_false, Bool.and_true, Bool.and_false, Bool.true_and, Bool.false_and, Bool.or_true, Bool.or_false, Bool.true_or, Bool.false_or, bI_t, bI_f, or_true, true_or, or_false, false_or, and_true, true_and, and_false, false_and, not_true_eq_false, not_false_eq_true, eq_self]; done) | (subst_vars; simp [R_isLetter, F_isLetter, P_isLetter, bI, *]; done) | (simp only [R_isLetter, F_isLetter, P_isLetter]; (repeat' split) <;> first | rfl | (exfalso; simp only [Int32.lt_iff_toInt_lt, Int32.le_iff_toInt_le, Int64.lt_iff_toInt_lt, Int64.le_iff_toInt_le, Int32.reduceToInt, Int64.reduceToInt] at *; omega)) | (simp_all [R_isLetter, F_isLetter, P_isLetter, bI]; done))
theorem cc_bipush_48 : (Int8.ofInt (48)).toInt32 = 48 := by decide +kernel
theorem cc_bipush_57 : (Int8.ofInt (57)).toInt32 = 57 := by decide +kernel
def P_isDigit : Int32 → mM → Prop := fun a0 M => True
def R_isDigit : Int32 → mM → Bool := fun a0 M => !(decide (a0 < 48)) && !(decide (57 < a0))
def F_isDigit : Int32 → mM → mM := fun a0 M => M
def T_isDigit : Nat → Nat → se_Op mM := se_tb2 (se_tab []) mB
theorem T_isDigit_ok (l : Launch) : mTS l cX2_isDigit 1 (some .boolean) 0 0 T_isDigit := fun g p e s m args below meth c Q H0 C hG hI k i => se_tb2_ok (se_tab_ok _ (fun _ h => absurd h List.not_mem_nil)) (fun k i => mB_ok C hG hI k i) k i
set_option maxHeartbeats 4000000 in
set_option maxRecDepth 20000 in
theorem mt_isDigit (l : Launch) : mc_sIrZ l yX2_isDigit cX2_isDigit 1 0 0 P_isDigit (fun a0 M x M' => x = R_isDigit a0 M ∧ M' = F_isDigit a0 M) := by
  refine mc_sIrZ_of (by decide +kernel) rfl (T_isDigit_ok l) (by decide) fun a0 M hp G hG => ?_
  show G 0 [some (.int a0)] [] M
  refine hG [] 300 _ _ _ _ ?_
  simp only [wpN, ↓wq_bipush, ↓wq_goto, ↓wq_iconst, ↓wq_icmp_eq, ↓wq_icmp_ne, ↓wq_icmp_lt, ↓wq_icmp_ge, ↓wq_icmp_gt, ↓wq_icmp_le, ↓wq_iload_0, ↓wq_iload_1, ↓wq_iload_2, ↓wq_iload_3, ↓wq_iret, ↓se_get_0, ↓se_get_s, ↓se_set1_0, ↓se_set1_1, ↓se_set1_s, ↓se_set2_0, ↓se_set2_1, ↓se_set2_s, ↓se_k2_n, ↓se_k2_i, ↓se_k2_r, ↓se_k2_u, ↓se_k2_l, ↓se_k2_q, ↓se_in_0, ↓se_in_s, ↓gI_s, ↓gL_s, ↓gR_r, ↓gR_n, ↓gR_q, ↓sR_r, ↓sR_n, ↓sR_q, ↓se_sp_n, ↓se_sp_y, ↓se_sp_z, ↓se_ts_n, ↓se_ts_c, ↓se_c8_n, ↓se_c8_i, ↓se_c8_r, ↓se_c8_u, ↓se_c8_l, ↓wD_e dX2_isDigit_0, ↓wD_e dX2_isDigit_1, ↓wD_e dX2_isDigit_3, ↓wD_e dX2_isDigit_6, ↓wD_e dX2_isDigit_7, ↓wD_e dX2_isDigit_9, ↓wD_e dX2_isDigit_12, ↓wD_e dX2_isDigit_13, ↓wD_e dX2_isDigit_16, ↓wD_e dX2_isDigit_17, cc_bipush_48, cc_bipush_57, cc_iconst_0, cc_iconst_1, ↓tg_3_13, ↓tg_9_7, ↓tg_13_4, ↓opGI_r, ↓opGJ_r, ↓opGA_r, ↓opPI_r, ↓opPZ_r, ↓opPJ_r, ↓opCI_r, ↓opCJ_r, ↓rz_b, ↓rz_1, ↓rz_0, ↓rt_sIrZ_e, i32_10, i32_01, i32_m10, i32_03, i32_13, i32_23, Int32.reduceAdd, Int32.reduceSub, Int32.reduceMul, Int32.reduceLT, Int32.reduceLE, Int32.reduceToNatClampNeg, Int32.reduceOfInt, Int64.reduceAdd, Int64.reduceSub, Int64.reduceMul, Int64.reduceLT, Int64.reduceLE, lg_cmp_ge, lg_cmp_le, lg_cmp_gt, lg_cmp_lt, lg_cmp_eq, bI_0, bI_1, not_true_eq_false, not_false_eq_true, false_implies, Bool.not_eq_false, Bool.not_eq_true, and_self, Nat.reduceAdd, Int.reduceAdd, Nat.reduceEqDiff, reduceIte, true_and, and_true, implies_true, forall_const, fI_uI, fI_uJ, fI_sA, fI_sN, fI_uA, fI_uN, fJ_uI, fJ_uJ, fJ_sA, fJ_sN, fJ_uA, fJ_uN, fA_uI, fA_uJ, fA_sA, fA_sN, fA_uA, fA_uN, fN_uI, fN_uJ, fN_sA, fN_sN, fN_uA, fN_uN]
  clear hG
  (repeat' (first | apply And.intro | intro _))
  all_goals (first | rfl | (simp only [R_isDigit, F_isDigit, P_isDigit, *, if_true, if_false, reduceIte, decide_true, decide_false, Bool.not_true, Bool.not_false, Bool.and_true, Bool.and_false, Bool.true_and, Bool.false_and, Bool.or_true, Bool.or_false, Bool.true_or, Bool.false_or, bI_t, bI_f, or_true, true_or, or_false, false_or, and_true, true_and, and_false, false_and, not_true_eq_false, not_false_eq_true, eq_self]; done) | (subst_vars; simp [R_isDigit, F_isDigit, P_isDigit, bI, *]; done) | (simp only [R_isDigit, F_isDigit, P_isDigit]; (repeat' split) <;> first | rfl | (exfalso; simp only [Int32.lt_iff_toInt_lt, Int32.le_iff_toInt_le, Int64.lt_iff_toInt_lt, Int64.le_iff_toInt_le, Int32.reduceToInt, Int64.reduceToInt] at *; omega)) | (simp_all [R_isDigit, F_isDigit, P_isDigit, bI]; done))
theorem cc_iconst_3 : Int32.ofInt (3) = 3 := by decide +kernel
def P_isBox : Int32 → mM → Prop := fun a0 M => True
def R_isBox : Int32 → mM → Bool := fun a0 M => !(decide (a0 < 0)) && !(decide (3 ≤ a0))
def F_isBox : Int32 → mM → mM := fun a0 M => M
def T_isBox : Nat → Nat → se_Op mM := se_tb2 (se_tab []) mB
theorem T_isBox_ok (l : Launch) : mTS l cX2_isBox 1 (some .boolean) 0 0 T_isBox := fun g p e s m args below meth c Q H0 C hG hI k i => se_tb2_ok (se_tab_ok _ (fun _ h => absurd h List.not_mem_nil)) (fun k i => mB_ok C hG hI k i) k i
set_option maxHeartbeats 4000000 in
set_option maxRecDepth 20000 in
theorem mt_isBox (l : Launch) : mc_sIrZ l yX2_isBox cX2_isBox 1 0 0 P_isBox (fun a0 M x M' => x = R_isBox a0 M ∧ M' = F_isBox a0 M) := by
  refine mc_sIrZ_of (by decide +kernel) rfl (T_isBox_ok l) (by decide) fun a0 M hp G hG => ?_
  show G 0 [some (.int a0)] [] M
  refine hG [] 300 _ _ _ _ ?_
  simp only [wpN, ↓wq_goto, ↓wq_iconst, ↓wq_if_eq, ↓wq_if_ne, ↓wq_if_lt, ↓wq_if_ge, ↓wq_if_gt, ↓wq_if_le, ↓wq_icmp_eq, ↓wq_icmp_ne, ↓wq_icmp_lt, ↓wq_icmp_ge, ↓wq_icmp_gt, ↓wq_icmp_le, ↓wq_iload_0, ↓wq_iload_1, ↓wq_iload_2, ↓wq_iload_3, ↓wq_iret, ↓se_get_0, ↓se_get_s, ↓se_set1_0, ↓se_set1_1, ↓se_set1_s, ↓se_set2_0, ↓se_set2_1, ↓se_set2_s, ↓se_k2_n, ↓se_k2_i, ↓se_k2_r, ↓se_k2_u, ↓se_k2_l, ↓se_k2_q, ↓se_in_0, ↓se_in_s, ↓gI_s, ↓gL_s, ↓gR_r, ↓gR_n, ↓gR_q, ↓sR_r, ↓sR_n, ↓sR_q, ↓se_sp_n, ↓se_sp_y, ↓se_sp_z, ↓se_ts_n, ↓se_ts_c, ↓se_c8_n, ↓se_c8_i, ↓se_c8_r, ↓se_c8_u, ↓se_c8_l, ↓wD_e dX2_isBox_0, ↓wD_e dX2_isBox_1, ↓wD_e dX2_isBox_4, ↓wD_e dX2_isBox_5, ↓wD_e dX2_isBox_6, ↓wD_e dX2_isBox_9, ↓wD_e dX2_isBox_10, ↓wD_e dX2_isBox_13, ↓wD_e dX2_isBox_14, cc_iconst_0, cc_iconst_1, cc_iconst_3, ↓tg_1_12, ↓tg_6_7, ↓tg_10_4, ↓opGI_r, ↓opGJ_r, ↓opGA_r, ↓opPI_r, ↓opPZ_r, ↓opPJ_r, ↓opCI_r, ↓opCJ_r, ↓rz_b, ↓rz_1, ↓rz_0, ↓rt_sIrZ_e, i32_10, i32_01, i32_m10, i32_03, i32_13, i32_23, Int32.reduceAdd, Int32.reduceSub, Int32.reduceMul, Int32.reduceLT, Int32.reduceLE, Int32.reduceToNatClampNeg, Int32.reduceOfInt, Int64.reduceAdd, Int64.reduceSub, Int64.reduceMul, Int64.reduceLT, Int64.reduceLE, lg_cmp_ge, lg_cmp_le, lg_cmp_gt, lg_cmp_lt, lg_cmp_eq, bI_0, bI_1, not_true_eq_false, not_false_eq_true, false_implies, Bool.not_eq_false, Bool.not_eq_true, and_self, Nat.reduceAdd, Int.reduceAdd, Nat.reduceEqDiff, reduceIte, true_and, and_true, implies_true, forall_const, fI_uI, fI_uJ, fI_sA, fI_sN, fI_uA, fI_uN, fJ_uI, fJ_uJ, fJ_sA, fJ_sN, fJ_uA, fJ_uN, fA_uI, fA_uJ, fA_sA, fA_sN, fA_uA, fA_uN, fN_uI, fN_uJ, fN_sA, fN_sN, fN_uA, fN_uN]
  clear hG
  (repeat' (first | apply And.intro | intro _))
  all_goals (first | rfl | (simp only [R_isBox, F_isBox, P_isBox, *, if_true, if_false, reduceIte, decide_true, decide_false, Bool.not_true, Bool.not_false, Bool.and_true, Bool.and_false, Bool.true_and, Bool.false_and, Bool.or_true, Bool.or_false, Bool.true_or, Bool.false_or, bI_t, bI_f, or_true, true_or, or_false, false_or, and_true, true_and, and_false, false_and, not_true_eq_false, not_false_eq_true, eq_self]; done) | (subst_vars; simp [R_isBox, F_isBox, P_isBox, bI, *]; done) | (simp only [R_isBox, F_isBox, P_isBox]; (repeat' split) <;> first | rfl | (exfalso; simp only [Int32.lt_iff_toInt_lt, Int32.le_iff_toInt_le, Int64.lt_iff_toInt_lt, Int64.le_iff_toInt_le, Int32.reduceToInt, Int64.reduceToInt] at *; omega)) | (simp_all [R_isBox, F_isBox, P_isBox, bI]; done))
theorem tg_1_8 {K : Nat → Prop} : se_tg 1 (8) K = K 9 := rfl
theorem tg_6_4 {K : Nat → Prop} : se_tg 6 (4) K = K 10 := rfl
def P_much : Int32 → mM → Prop := fun a0 M => True
def R_much : Int32 → mM → Int32 := fun a0 M => if a0 < 0 then -a0 else a0
def F_much : Int32 → mM → mM := fun a0 M => M
def T_much : Nat → Nat → se_Op mM := se_tb2 (se_tab []) mB
theorem T_much_ok (l : Launch) : mTS l cX2_much 1 (some .int) 0 0 T_much := fun g p e s m args below meth c Q H0 C hG hI k i => se_tb2_ok (se_tab_ok _ (fun _ h => absurd h List.not_mem_nil)) (fun k i => mB_ok C hG hI k i) k i
set_option maxHeartbeats 4000000 in
set_option maxRecDepth 20000 in
theorem mt_much (l : Launch) : mc_sIrI l yX2_much cX2_much 1 0 0 P_much (fun a0 M x M' => x = R_much a0 M ∧ M' = F_much a0 M) := by
  refine mc_sIrI_of (by decide +kernel) rfl (T_much_ok l) (by decide) fun a0 M hp G hG => ?_
  show G 0 [some (.int a0)] [] M
  refine hG [] 300 _ _ _ _ ?_
  simp only [wpN, ↓wq_goto, ↓wq_if_eq, ↓wq_if_ne, ↓wq_if_lt, ↓wq_if_ge, ↓wq_if_gt, ↓wq_if_le, ↓wq_iload_0, ↓wq_iload_1, ↓wq_iload_2, ↓wq_iload_3, ↓wq_ineg, ↓wq_iret, ↓se_get_0, ↓se_get_s, ↓se_set1_0, ↓se_set1_1, ↓se_set1_s, ↓se_set2_0, ↓se_set2_1, ↓se_set2_s, ↓se_k2_n, ↓se_k2_i, ↓se_k2_r, ↓se_k2_u, ↓se_k2_l, ↓se_k2_q, ↓se_in_0, ↓se_in_s, ↓gI_s, ↓gL_s, ↓gR_r, ↓gR_n, ↓gR_q, ↓sR_r, ↓sR_n, ↓sR_q, ↓se_sp_n, ↓se_sp_y, ↓se_sp_z, ↓se_ts_n, ↓se_ts_c, ↓se_c8_n, ↓se_c8_i, ↓se_c8_r, ↓se_c8_u, ↓se_c8_l, ↓wD_e dX2_much_0, ↓wD_e dX2_much_1, ↓wD_e dX2_much_4, ↓wD_e dX2_much_5, ↓wD_e dX2_much_6, ↓wD_e dX2_much_9, ↓wD_e dX2_much_10, ↓tg_1_8, ↓tg_6_4, ↓opGI_r, ↓opGJ_r, ↓opGA_r, ↓opPI_r, ↓opPZ_r, ↓opPJ_r, ↓opCI_r, ↓opCJ_r, ↓rz_b, ↓rz_1, ↓rz_0, ↓rt_sIrI_e, i32_10, i32_01, i32_m10, i32_03, i32_13, i32_23, Int32.reduceAdd, Int32.reduceSub, Int32.reduceMul, Int32.reduceLT, Int32.reduceLE, Int32.reduceToNatClampNeg, Int32.reduceOfInt, Int64.reduceAdd, Int64.reduceSub, Int64.reduceMul, Int64.reduceLT, Int64.reduceLE, lg_cmp_ge, lg_cmp_le, lg_cmp_gt, lg_cmp_lt, lg_cmp_eq, bI_0, bI_1, not_true_eq_false, not_false_eq_true, false_implies, Bool.not_eq_false, Bool.not_eq_true, and_self, Nat.reduceAdd, Int.reduceAdd, Nat.reduceEqDiff, reduceIte, true_and, and_true, implies_true, forall_const, fI_uI, fI_uJ, fI_sA, fI_sN, fI_uA, fI_uN, fJ_uI, fJ_uJ, fJ_sA, fJ_sN, fJ_uA, fJ_uN, fA_uI, fA_uJ, fA_sA, fA_sN, fA_uA, fA_uN, fN_uI, fN_uJ, fN_sA, fN_sN, fN_uA, fN_uN]
  clear hG
  (repeat' (first | apply And.intro | intro _))
  all_goals (first | rfl | (simp only [R_much, F_much, P_much, *, if_true, if_false, reduceIte, decide_true, decide_false, Bool.not_true, Bool.not_false, Bool.and_true, Bool.and_false, Bool.true_and, Bool.false_and, Bool.or_true, Bool.or_false, Bool.true_or, Bool.false_or, bI_t, bI_f, or_true, true_or, or_false, false_or, and_true, true_and, and_false, false_and, not_true_eq_false, not_false_eq_true, eq_self]; done) | (subst_vars; simp [R_much, F_much, P_much, bI, *]; done) | (simp only [R_much, F_much, P_much]; (repeat' split) <;> first | rfl | (exfalso; simp only [Int32.lt_iff_toInt_lt, Int32.le_iff_toInt_le, Int64.lt_iff_toInt_lt, Int64.le_iff_toInt_le, Int32.reduceToInt, Int64.reduceToInt] at *; omega)) | (simp_all [R_much, F_much, P_much, bI]; done))
theorem cc_lconst_0 : Int64.ofNat ((0 : Fin 2) : Nat) = 0 := by decide +kernel
theorem tg_3_8 {K : Nat → Prop} : se_tg 3 (8) K = K 11 := rfl
theorem tg_8_4 {K : Nat → Prop} : se_tg 8 (4) K = K 12 := rfl
def P_sized : Int64 → mM → Prop := fun a0 M => True
def R_sized : Int64 → mM → Int64 := fun a0 M => if a0 < 0 then -a0 else a0
def F_sized : Int64 → mM → mM := fun a0 M => M
def T_sized : Nat → Nat → se_Op mM := se_tb2 (se_tab []) mB
theorem T_sized_ok (l : Launch) : mTS l cX2_sized 2 (some .long) 0 0 T_sized := fun g p e s m args below meth c Q H0 C hG hI k i => se_tb2_ok (se_tab_ok _ (fun _ h => absurd h List.not_mem_nil)) (fun k i => mB_ok C hG hI k i) k i
set_option maxHeartbeats 4000000 in
set_option maxRecDepth 20000 in
theorem mt_sized (l : Launch) : mc_sJrJ l yX2_sized cX2_sized 2 0 0 P_sized (fun a0 M x M' => x = R_sized a0 M ∧ M' = F_sized a0 M) := by
  refine mc_sJrJ_of (by decide +kernel) rfl (T_sized_ok l) (by decide) fun a0 M hp G hG => ?_
  show G 0 [some (.long a0), none] [] M
  refine hG [] 300 _ _ _ _ ?_
  simp only [wpN, ↓wq_goto, ↓wq_if_eq, ↓wq_if_ne, ↓wq_if_lt, ↓wq_if_ge, ↓wq_if_gt, ↓wq_if_le, ↓wq_lcmp, ↓wq_lconst, ↓wq_lload_0, ↓wq_lload_1, ↓wq_lload_2, ↓wq_lload_3, ↓wq_lneg, ↓wq_lret, ↓se_get_0, ↓se_get_s, ↓se_set1_0, ↓se_set1_1, ↓se_set1_s, ↓se_set2_0, ↓se_set2_1, ↓se_set2_s, ↓se_k2_n, ↓se_k2_i, ↓se_k2_r, ↓se_k2_u, ↓se_k2_l, ↓se_k2_q, ↓se_in_0, ↓se_in_s, ↓gI_s, ↓gL_s, ↓gR_r, ↓gR_n, ↓gR_q, ↓sR_r, ↓sR_n, ↓sR_q, ↓se_sp_n, ↓se_sp_y, ↓se_sp_z, ↓se_ts_n, ↓se_ts_c, ↓se_c8_n, ↓se_c8_i, ↓se_c8_r, ↓se_c8_u, ↓se_c8_l, ↓wD_e dX2_sized_0, ↓wD_e dX2_sized_1, ↓wD_e dX2_sized_2, ↓wD_e dX2_sized_3, ↓wD_e dX2_sized_6, ↓wD_e dX2_sized_7, ↓wD_e dX2_sized_8, ↓wD_e dX2_sized_11, ↓wD_e dX2_sized_12, cc_lconst_0, ↓tg_3_8, ↓tg_8_4, ↓opGI_r, ↓opGJ_r, ↓opGA_r, ↓opPI_r, ↓opPZ_r, ↓opPJ_r, ↓opCI_r, ↓opCJ_r, ↓rz_b, ↓rz_1, ↓rz_0, ↓rt_sJrJ_e, i32_10, i32_01, i32_m10, i32_03, i32_13, i32_23, Int32.reduceAdd, Int32.reduceSub, Int32.reduceMul, Int32.reduceLT, Int32.reduceLE, Int32.reduceToNatClampNeg, Int32.reduceOfInt, Int64.reduceAdd, Int64.reduceSub, Int64.reduceMul, Int64.reduceLT, Int64.reduceLE, lg_cmp_ge, lg_cmp_le, lg_cmp_gt, lg_cmp_lt, lg_cmp_eq, bI_0, bI_1, not_true_eq_false, not_false_eq_true, false_implies, Bool.not_eq_false, Bool.not_eq_true, and_self, Nat.reduceAdd, Int.reduceAdd, Nat.reduceEqDiff, reduceIte, true_and, and_true, implies_true, forall_const, fI_uI, fI_uJ, fI_sA, fI_sN, fI_uA, fI_uN, fJ_uI, fJ_uJ, fJ_sA, fJ_sN, fJ_uA, fJ_uN, fA_uI, fA_uJ, fA_sA, fA_sN, fA_uA, fA_uN, fN_uI, fN_uJ, fN_sA, fN_sN, fN_uA, fN_uN]
  clear hG
  (repeat' (first | apply And.intro | intro _))
  all_goals (first | rfl | (simp only [R_sized, F_sized, P_sized, *, if_true, if_false, reduceIte, decide_true, decide_false, Bool.not_true, Bool.not_false, Bool.and_true, Bool.and_false, Bool.true_and, Bool.false_and, Bool.or_true, Bool.or_false, Bool.true_or, Bool.false_or, bI_t, bI_f, or_true, true_or, or_false, false_or, and_true, true_and, and_false, false_and, not_true_eq_false, not_false_eq_true, eq_self]; done) | (subst_vars; simp [R_sized, F_sized, P_sized, bI, *]; done) | (simp only [R_sized, F_sized, P_sized]; (repeat' split) <;> first | rfl | (exfalso; simp only [Int32.lt_iff_toInt_lt, Int32.le_iff_toInt_le, Int64.lt_iff_toInt_lt, Int64.le_iff_toInt_le, Int32.reduceToInt, Int64.reduceToInt] at *; omega)) | (simp_all [R_sized, F_sized, P_sized, bI]; done))
theorem cc_iconst_m1 : Int32.ofInt (-1) = -1 := by decide +kernel
theorem tg_3_7 {K : Nat → Prop} : se_tg 3 (7) K = K 10 := rfl
theorem tg_7_14 {K : Nat → Prop} : se_tg 7 (14) K = K 21 := rfl
theorem tg_13_7 {K : Nat → Prop} : se_tg 13 (7) K = K 20 := rfl
theorem tg_17_4 {K : Nat → Prop} : se_tg 17 (4) K = K 21 := rfl
def P_sign : Int64 → mM → Prop := fun a0 M => True
def R_sign : Int64 → mM → Int32 := fun a0 M => if 0 < a0 then 1 else if a0 < 0 then -1 else 0
def F_sign : Int64 → mM → mM := fun a0 M => M
def T_sign : Nat → Nat → se_Op mM := se_tb2 (se_tab []) mB
theorem T_sign_ok (l : Launch) : mTS l cX2_sign 2 (some .int) 0 0 T_sign := fun g p e s m args below meth c Q H0 C hG hI k i => se_tb2_ok (se_tab_ok _ (fun _ h => absurd h List.not_mem_nil)) (fun k i => mB_ok C hG hI k i) k i
set_option maxHeartbeats 4000000 in
set_option maxRecDepth 20000 in
theorem mt_sign (l : Launch) : mc_sJrI l yX2_sign cX2_sign 2 0 0 P_sign (fun a0 M x M' => x = R_sign a0 M ∧ M' = F_sign a0 M) := by
  refine mc_sJrI_of (by decide +kernel) rfl (T_sign_ok l) (by decide) fun a0 M hp G hG => ?_
  show G 0 [some (.long a0), none] [] M
  refine hG [] 300 _ _ _ _ ?_
  simp only [wpN, ↓wq_goto, ↓wq_iconst, ↓wq_if_eq, ↓wq_if_ne, ↓wq_if_lt, ↓wq_if_ge, ↓wq_if_gt, ↓wq_if_le, ↓wq_iret, ↓wq_lcmp, ↓wq_lconst, ↓wq_lload_0, ↓wq_lload_1, ↓wq_lload_2, ↓wq_lload_3, ↓se_get_0, ↓se_get_s, ↓se_set1_0, ↓se_set1_1, ↓se_set1_s, ↓se_set2_0, ↓se_set2_1, ↓se_set2_s, ↓se_k2_n, ↓se_k2_i, ↓se_k2_r, ↓se_k2_u, ↓se_k2_l, ↓se_k2_q, ↓se_in_0, ↓se_in_s, ↓gI_s, ↓gL_s, ↓gR_r, ↓gR_n, ↓gR_q, ↓sR_r, ↓sR_n, ↓sR_q, ↓se_sp_n, ↓se_sp_y, ↓se_sp_z, ↓se_ts_n, ↓se_ts_c, ↓se_c8_n, ↓se_c8_i, ↓se_c8_r, ↓se_c8_u, ↓se_c8_l, ↓wD_e dX2_sign_0, ↓wD_e dX2_sign_1, ↓wD_e dX2_sign_2, ↓wD_e dX2_sign_3, ↓wD_e dX2_sign_6, ↓wD_e dX2_sign_7, ↓wD_e dX2_sign_10, ↓wD_e dX2_sign_11, ↓wD_e dX2_sign_12, ↓wD_e dX2_sign_13, ↓wD_e dX2_sign_16, ↓wD_e dX2_sign_17, ↓wD_e dX2_sign_20, ↓wD_e dX2_sign_21, cc_iconst_m1, cc_iconst_0, cc_iconst_1, cc_lconst_0, ↓tg_3_7, ↓tg_7_14, ↓tg_13_7, ↓tg_17_4, ↓opGI_r, ↓opGJ_r, ↓opGA_r, ↓opPI_r, ↓opPZ_r, ↓opPJ_r, ↓opCI_r, ↓opCJ_r, ↓rz_b, ↓rz_1, ↓rz_0, ↓rt_sJrI_e, i32_10, i32_01, i32_m10, i32_03, i32_13, i32_23, Int32.reduceAdd, Int32.reduceSub, Int32.reduceMul, Int32.reduceLT, Int32.reduceLE, Int32.reduceToNatClampNeg, Int32.reduceOfInt, Int64.reduceAdd, Int64.reduceSub, Int64.reduceMul, Int64.reduceLT, Int64.reduceLE, lg_cmp_ge, lg_cmp_le, lg_cmp_gt, lg_cmp_lt, lg_cmp_eq, bI_0, bI_1, not_true_eq_false, not_false_eq_true, false_implies, Bool.not_eq_false, Bool.not_eq_true, and_self, Nat.reduceAdd, Int.reduceAdd, Nat.reduceEqDiff, reduceIte, true_and, and_true, implies_true, forall_const, fI_uI, fI_uJ, fI_sA, fI_sN, fI_uA, fI_uN, fJ_uI, fJ_uJ, fJ_sA, fJ_sN, fJ_uA, fJ_uN, fA_uI, fA_uJ, fA_sA, fA_sN, fA_uA, fA_uN, fN_uI, fN_uJ, fN_sA, fN_sN, fN_uA, fN_uN]
  clear hG
  (repeat' (first | apply And.intro | intro _))
  all_goals (first | rfl | (simp only [R_sign, F_sign, P_sign, *, if_true, if_false, reduceIte, decide_true, decide_false, Bool.not_true, Bool.not_false, Bool.and_true, Bool.and_false, Bool.true_and, Bool.false_and, Bool.or_true, Bool.or_false, Bool.true_or, Bool.false_or, bI_t, bI_f, or_true, true_or, or_false, false_or, and_true, true_and, and_false, false_and, not_true_eq_false, not_false_eq_true, eq_self]; done) | (subst_vars; simp [R_sign, F_sign, P_sign, bI, *]; done) | (simp only [R_sign, F_sign, P_sign]; (repeat' split) <;> first | rfl | (exfalso; simp only [Int32.lt_iff_toInt_lt, Int32.le_iff_toInt_le, Int64.lt_iff_toInt_lt, Int64.le_iff_toInt_le, Int32.reduceToInt, Int64.reduceToInt] at *; omega)) | (simp_all [R_sign, F_sign, P_sign, bI]; done))
def P_cross : Int64 → Int64 → Int64 → Int64 → mM → Prop := fun a0 a1 a2 a3 M => True
def R_cross : Int64 → Int64 → Int64 → Int64 → mM → Int64 := fun a0 a1 a2 a3 M => a0 * a3 - a1 * a2
def F_cross : Int64 → Int64 → Int64 → Int64 → mM → mM := fun a0 a1 a2 a3 M => M
def T_cross : Nat → Nat → se_Op mM := se_tb2 (se_tab []) mB
theorem T_cross_ok (l : Launch) : mTS l cX2_cross 8 (some .long) 0 0 T_cross := fun g p e s m args below meth c Q H0 C hG hI k i => se_tb2_ok (se_tab_ok _ (fun _ h => absurd h List.not_mem_nil)) (fun k i => mB_ok C hG hI k i) k i
set_option maxHeartbeats 4000000 in
set_option maxRecDepth 20000 in
theorem mt_cross (l : Launch) : mc_sJJJJrJ l yX2_cross cX2_cross 8 0 0 P_cross (fun a0 a1 a2 a3 M x M' => x = R_cross a0 a1 a2 a3 M ∧ M' = F_cross a0 a1 a2 a3 M) := by
  refine mc_sJJJJrJ_of (by decide +kernel) rfl (T_cross_ok l) (by decide) fun a0 a1 a2 a3 M hp G hG => ?_
  show G 0 [some (.long a0), none, some (.long a1), none, some (.long a2), none, some (.long a3), none] [] M
  refine hG [] 300 _ _ _ _ ?_
  simp only [wpN, ↓wq_lload, ↓wq_lload_0, ↓wq_lload_1, ↓wq_lload_2, ↓wq_lload_3, ↓wq_lmul, ↓wq_lret, ↓wq_lsub, ↓se_get_0, ↓se_get_s, ↓se_set1_0, ↓se_set1_1, ↓se_set1_s, ↓se_set2_0, ↓se_set2_1, ↓se_set2_s, ↓se_k2_n, ↓se_k2_i, ↓se_k2_r, ↓se_k2_u, ↓se_k2_l, ↓se_k2_q, ↓se_in_0, ↓se_in_s, ↓gI_s, ↓gL_s, ↓gR_r, ↓gR_n, ↓gR_q, ↓sR_r, ↓sR_n, ↓sR_q, ↓se_sp_n, ↓se_sp_y, ↓se_sp_z, ↓se_ts_n, ↓se_ts_c, ↓se_c8_n, ↓se_c8_i, ↓se_c8_r, ↓se_c8_u, ↓se_c8_l, ↓wD_e dX2_cross_0, ↓wD_e dX2_cross_1, ↓wD_e dX2_cross_3, ↓wD_e dX2_cross_4, ↓wD_e dX2_cross_5, ↓wD_e dX2_cross_7, ↓wD_e dX2_cross_8, ↓wD_e dX2_cross_9, ↓opGI_r, ↓opGJ_r, ↓opGA_r, ↓opPI_r, ↓opPZ_r, ↓opPJ_r, ↓opCI_r, ↓opCJ_r, ↓rz_b, ↓rz_1, ↓rz_0, ↓rt_sJJJJrJ_e, i32_10, i32_01, i32_m10, i32_03, i32_13, i32_23, Int32.reduceAdd, Int32.reduceSub, Int32.reduceMul, Int32.reduceLT, Int32.reduceLE, Int32.reduceToNatClampNeg, Int32.reduceOfInt, Int64.reduceAdd, Int64.reduceSub, Int64.reduceMul, Int64.reduceLT, Int64.reduceLE, lg_cmp_ge, lg_cmp_le, lg_cmp_gt, lg_cmp_lt, lg_cmp_eq, bI_0, bI_1, not_true_eq_false, not_false_eq_true, false_implies, Bool.not_eq_false, Bool.not_eq_true, and_self, Nat.reduceAdd, Int.reduceAdd, Nat.reduceEqDiff, reduceIte, true_and, and_true, implies_true, forall_const, fI_uI, fI_uJ, fI_sA, fI_sN, fI_uA, fI_uN, fJ_uI, fJ_uJ, fJ_sA, fJ_sN, fJ_uA, fJ_uN, fA_uI, fA_uJ, fA_sA, fA_sN, fA_uA, fA_uN, fN_uI, fN_uJ, fN_sA, fN_sN, fN_uA, fN_uN]
  clear hG
  (repeat' (first | apply And.intro | intro _))
  all_goals (first | rfl | (simp only [R_cross, F_cross, P_cross, *, if_true, if_false, reduceIte, decide_true, decide_false, Bool.not_true, Bool.not_false, Bool.and_true, Bool.and_false, Bool.true_and, Bool.false_and, Bool.or_true, Bool.or_false, Bool.true_or, Bool.false_or, bI_t, bI_f, or_true, true_or, or_false, false_or, and_true, true_and, and_false, false_and, not_true_eq_false, not_false_eq_true, eq_self]; done) | (subst_vars; simp [R_cross, F_cross, P_cross, bI, *]; done) | (simp only [R_cross, F_cross, P_cross]; (repeat' split) <;> first | rfl | (exfalso; simp only [Int32.lt_iff_toInt_lt, Int32.le_iff_toInt_le, Int64.lt_iff_toInt_lt, Int64.le_iff_toInt_le, Int32.reduceToInt, Int64.reduceToInt] at *; omega)) | (simp_all [R_cross, F_cross, P_cross, bI]; done))
theorem cc_bipush_32 : (Int8.ofInt (32)).toInt32 = 32 := by decide +kernel
theorem cc_bipush_33 : (Int8.ofInt (33)).toInt32 = 33 := by decide +kernel
theorem tg_4_9 {K : Nat → Prop} : se_tg 4 (9) K = K 13 := rfl
theorem tg_10_16 {K : Nat → Prop} : se_tg 10 (16) K = K 26 := rfl
theorem tg_16_8 {K : Nat → Prop} : se_tg 16 (8) K = K 24 := rfl
theorem tg_21_5 {K : Nat → Prop} : se_tg 21 (5) K = K 26 := rfl
def P_following : Int32 → Int32 → mM → Prop := fun a0 a1 M => True
def R_following : Int32 → Int32 → mM → Int32 := fun a0 a1 M => if a0 + 1 < a1 then a0 + 1 else if a0 < 32 then 32 else 33
def F_following : Int32 → Int32 → mM → mM := fun a0 a1 M => M
def T_following : Nat → Nat → se_Op mM := se_tb2 (se_tab []) mB
theorem T_following_ok (l : Launch) : mTS l cX2_following 2 (some .int) 0 0 T_following := fun g p e s m args below meth c Q H0 C hG hI k i => se_tb2_ok (se_tab_ok _ (fun _ h => absurd h List.not_mem_nil)) (fun k i => mB_ok C hG hI k i) k i
set_option maxHeartbeats 4000000 in
set_option maxRecDepth 20000 in
theorem mt_following (l : Launch) : mc_sIIrI l yX2_following cX2_following 2 0 0 P_following (fun a0 a1 M x M' => x = R_following a0 a1 M ∧ M' = F_following a0 a1 M) := by
  refine mc_sIIrI_of (by decide +kernel) rfl (T_following_ok l) (by decide) fun a0 a1 M hp G hG => ?_
  show G 0 [some (.int a0), some (.int a1)] [] M
  refine hG [] 300 _ _ _ _ ?_
  simp only [wpN, ↓wq_bipush, ↓wq_goto, ↓wq_iadd, ↓wq_iconst, ↓wq_icmp_eq, ↓wq_icmp_ne, ↓wq_icmp_lt, ↓wq_icmp_ge, ↓wq_icmp_gt, ↓wq_icmp_le, ↓wq_iload_0, ↓wq_iload_1, ↓wq_iload_2, ↓wq_iload_3, ↓wq_iret, ↓se_get_0, ↓se_get_s, ↓se_set1_0, ↓se_set1_1, ↓se_set1_s, ↓se_set2_0, ↓se_set2_1, ↓se_set2_s, ↓se_k2_n, ↓se_k2_i, ↓se_k2_r, ↓se_k2_u, ↓se_k2_l, ↓se_k2_q, ↓se_in_0, ↓se_in_s, ↓gI_s, ↓gL_s, ↓gR_r, ↓gR_n, ↓gR_q, ↓sR_r, ↓sR_n, ↓sR_q, ↓se_sp_n, ↓se_sp_y, ↓se_sp_z, ↓se_ts_n, ↓se_ts_c, ↓se_c8_n, ↓se_c8_i, ↓se_c8_r, ↓se_c8_u, ↓se_c8_l, ↓wD_e dX2_following_0, ↓wD_e dX2_following_1, ↓wD_e dX2_following_2, ↓wD_e dX2_following_3, ↓wD_e dX2_following_4, ↓wD_e dX2_following_7, ↓wD_e dX2_following_8, ↓wD_e dX2_following_9, ↓wD_e dX2_following_10, ↓wD_e dX2_following_13, ↓wD_e dX2_following_14, ↓wD_e dX2_following_16, ↓wD_e dX2_following_19, ↓wD_e dX2_following_21, ↓wD_e dX2_following_24, ↓wD_e dX2_following_26, cc_bipush_32, cc_bipush_33, cc_iconst_1, ↓tg_4_9, ↓tg_10_16, ↓tg_16_8, ↓tg_21_5, ↓opGI_r, ↓opGJ_r, ↓opGA_r, ↓opPI_r, ↓opPZ_r, ↓opPJ_r, ↓opCI_r, ↓opCJ_r, ↓rz_b, ↓rz_1, ↓rz_0, ↓rt_sIIrI_e, i32_10, i32_01, i32_m10, i32_03, i32_13, i32_23, Int32.reduceAdd, Int32.reduceSub, Int32.reduceMul, Int32.reduceLT, Int32.reduceLE, Int32.reduceToNatClampNeg, Int32.reduceOfInt, Int64.reduceAdd, Int64.reduceSub, Int64.reduceMul, Int64.reduceLT, Int64.reduceLE, lg_cmp_ge, lg_cmp_le, lg_cmp_gt, lg_cmp_lt, lg_cmp_eq, bI_0, bI_1, not_true_eq_false, not_false_eq_true, false_implies, Bool.not_eq_false, Bool.not_eq_true, and_self, Nat.reduceAdd, Int.reduceAdd, Nat.reduceEqDiff, reduceIte, true_and, and_true, implies_true, forall_const, fI_uI, fI_uJ, fI_sA, fI_sN, fI_uA, fI_uN, fJ_uI, fJ_uJ, fJ_sA, fJ_sN, fJ_uA, fJ_uN, fA_uI, fA_uJ, fA_sA, fA_sN, fA_uA, fA_uN, fN_uI, fN_uJ, fN_sA, fN_sN, fN_uA, fN_uN]
  clear hG
  (repeat' (first | apply And.intro | intro _))
  all_goals (first | rfl | (simp only [R_following, F_following, P_following, *, if_true, if_false, reduceIte, decide_true, decide_false, Bool.not_true, Bool.not_false, Bool.and_true, Bool.and_false, Bool.true_and, Bool.false_and, Bool.or_true, Bool.or_false, Bool.true_or, Bool.false_or, bI_t, bI_f, or_true, true_or, or_false, false_or, and_true, true_and, and_false, false_and, not_true_eq_false, not_false_eq_true, eq_self]; done) | (subst_vars; simp [R_following, F_following, P_following, bI, *]; done) | (simp only [R_following, F_following, P_following]; (repeat' split) <;> first | rfl | (exfalso; simp only [Int32.lt_iff_toInt_lt, Int32.le_iff_toInt_le, Int64.lt_iff_toInt_lt, Int64.le_iff_toInt_le, Int32.reduceToInt, Int64.reduceToInt] at *; omega)) | (simp_all [R_following, F_following, P_following, bI]; done))
theorem cc_bipush_23 : (Int8.ofInt (23)).toInt32 = 23 := by decide +kernel
theorem cc_bipush_24 : (Int8.ofInt (24)).toInt32 = 24 := by decide +kernel
theorem cc_bipush_25 : (Int8.ofInt (25)).toInt32 = 25 := by decide +kernel
theorem cc_bipush_26 : (Int8.ofInt (26)).toInt32 = 26 := by decide +kernel
theorem cc_bipush_27 : (Int8.ofInt (27)).toInt32 = 27 := by decide +kernel
theorem tg_8_21 {K : Nat → Prop} : se_tg 8 (21) K = K 29 := rfl
theorem tg_14_9 {K : Nat → Prop} : se_tg 14 (9) K = K 23 := rfl
theorem tg_20_8 {K : Nat → Prop} : se_tg 20 (8) K = K 28 := rfl
theorem tg_25_4 {K : Nat → Prop} : se_tg 25 (4) K = K 29 := rfl
def P_rank : Int32 → mM → Prop := fun a0 M => True
def R_rank : Int32 → mM → Int32 := fun a0 M => if a0 = 27 then 26 else if a0 = 24 ∨ a0 = 25 then 23 else a0
def F_rank : Int32 → mM → mM := fun a0 M => M
def T_rank : Nat → Nat → se_Op mM := se_tb2 (se_tab []) mB
theorem T_rank_ok (l : Launch) : mTS l cX2_rank 1 (some .int) 0 0 T_rank := fun g p e s m args below meth c Q H0 C hG hI k i => se_tb2_ok (se_tab_ok _ (fun _ h => absurd h List.not_mem_nil)) (fun k i => mB_ok C hG hI k i) k i
set_option maxHeartbeats 4000000 in
set_option maxRecDepth 20000 in
theorem mt_rank (l : Launch) : mc_sIrI l yX2_rank cX2_rank 1 0 0 P_rank (fun a0 M x M' => x = R_rank a0 M ∧ M' = F_rank a0 M) := by
  refine mc_sIrI_of (by decide +kernel) rfl (T_rank_ok l) (by decide) fun a0 M hp G hG => ?_
  show G 0 [some (.int a0)] [] M
  refine hG [] 300 _ _ _ _ ?_
  simp only [wpN, ↓wq_bipush, ↓wq_goto, ↓wq_icmp_eq, ↓wq_icmp_ne, ↓wq_icmp_lt, ↓wq_icmp_ge, ↓wq_icmp_gt, ↓wq_icmp_le, ↓wq_iload_0, ↓wq_iload_1, ↓wq_iload_2, ↓wq_iload_3, ↓wq_iret, ↓se_get_0, ↓se_get_s, ↓se_set1_0, ↓se_set1_1, ↓se_set1_s, ↓se_set2_0, ↓se_set2_1, ↓se_set2_s, ↓se_k2_n, ↓se_k2_i, ↓se_k2_r, ↓se_k2_u, ↓se_k2_l, ↓se_k2_q, ↓se_in_0, ↓se_in_s, ↓gI_s, ↓gL_s, ↓gR_r, ↓gR_n, ↓gR_q, ↓sR_r, ↓sR_n, ↓sR_q, ↓se_sp_n, ↓se_sp_y, ↓se_sp_z, ↓se_ts_n, ↓se_ts_c, ↓se_c8_n, ↓se_c8_i, ↓se_c8_r, ↓se_c8_u, ↓se_c8_l, ↓wD_e dX2_rank_0, ↓wD_e dX2_rank_1, ↓wD_e dX2_rank_3, ↓wD_e dX2_rank_6, ↓wD_e dX2_rank_8, ↓wD_e dX2_rank_11, ↓wD_e dX2_rank_12, ↓wD_e dX2_rank_14, ↓wD_e dX2_rank_17, ↓wD_e dX2_rank_18, ↓wD_e dX2_rank_20, ↓wD_e dX2_rank_23, ↓wD_e dX2_rank_25, ↓wD_e dX2_rank_28, ↓wD_e dX2_rank_29, cc_bipush_23, cc_bipush_24, cc_bipush_25, cc_bipush_26, cc_bipush_27, ↓tg_3_8, ↓tg_8_21, ↓tg_14_9, ↓tg_20_8, ↓tg_25_4, ↓opGI_r, ↓opGJ_r, ↓opGA_r, ↓opPI_r, ↓opPZ_r, ↓opPJ_r, ↓opCI_r, ↓opCJ_r, ↓rz_b, ↓rz_1, ↓rz_0, ↓rt_sIrI_e, i32_10, i32_01, i32_m10, i32_03, i32_13, i32_23, Int32.reduceAdd, Int32.reduceSub, Int32.reduceMul, Int32.reduceLT, Int32.reduceLE, Int32.reduceToNatClampNeg, Int32.reduceOfInt, Int64.reduceAdd, Int64.reduceSub, Int64.reduceMul, Int64.reduceLT, Int64.reduceLE, lg_cmp_ge, lg_cmp_le, lg_cmp_gt, lg_cmp_lt, lg_cmp_eq, bI_0, bI_1, not_true_eq_false, not_false_eq_true, false_implies, Bool.not_eq_false, Bool.not_eq_true, and_self, Nat.reduceAdd, Int.reduceAdd, Nat.reduceEqDiff, reduceIte, true_and, and_true, implies_true, forall_const, fI_uI, fI_uJ, fI_sA, fI_sN, fI_uA, fI_uN, fJ_uI, fJ_uJ, fJ_sA, fJ_sN, fJ_uA, fJ_uN, fA_uI, fA_uJ, fA_sA, fA_sN, fA_uA, fA_uN, fN_uI, fN_uJ, fN_sA, fN_sN, fN_uA, fN_uN]
  clear hG
  (repeat' (first | apply And.intro | intro _))
  all_goals (first | rfl | (simp only [R_rank, F_rank, P_rank, *, if_true, if_false, reduceIte, decide_true, decide_false, Bool.not_true, Bool.not_false, Bool.and_true, Bool.and_false, Bool.true_and, Bool.false_and, Bool.or_true, Bool.or_false, Bool.true_or, Bool.false_or, bI_t, bI_f, or_true, true_or, or_false, false_or, and_true, true_and, and_false, false_and, not_true_eq_false, not_false_eq_true, eq_self]; done) | (subst_vars; simp [R_rank, F_rank, P_rank, bI, *]; done) | (simp only [R_rank, F_rank, P_rank]; (repeat' split) <;> first | rfl | (exfalso; simp only [Int32.lt_iff_toInt_lt, Int32.le_iff_toInt_le, Int64.lt_iff_toInt_lt, Int64.le_iff_toInt_le, Int32.reduceToInt, Int64.reduceToInt] at *; omega)) | (simp_all [R_rank, F_rank, P_rank, bI]; done))
theorem tg_1_43 {K : Nat → Prop} : se_tg 1 (43) K = K 44 := rfl
theorem tg_1_57 {K : Nat → Prop} : se_tg 1 (57) K = K 58 := rfl
theorem tg_1_71 {K : Nat → Prop} : se_tg 1 (71) K = K 72 := rfl
theorem tg_1_82 {K : Nat → Prop} : se_tg 1 (82) K = K 83 := rfl
theorem tg_1_93 {K : Nat → Prop} : se_tg 1 (93) K = K 94 := rfl
theorem tg_1_104 {K : Nat → Prop} : se_tg 1 (104) K = K 105 := rfl
theorem tg_1_108 {K : Nat → Prop} : se_tg 1 (108) K = K 109 := rfl
theorem tg_45_7 {K : Nat → Prop} : se_tg 45 (7) K = K 52 := rfl
theorem tg_49_7 {K : Nat → Prop} : se_tg 49 (7) K = K 56 := rfl
theorem tg_53_4 {K : Nat → Prop} : se_tg 53 (4) K = K 57 := rfl
theorem tg_59_11 {K : Nat → Prop} : se_tg 59 (11) K = K 70 := rfl
theorem tg_63_7 {K : Nat → Prop} : se_tg 63 (7) K = K 70 := rfl
theorem tg_67_4 {K : Nat → Prop} : se_tg 67 (4) K = K 71 := rfl
theorem tg_74_7 {K : Nat → Prop} : se_tg 74 (7) K = K 81 := rfl
theorem tg_78_4 {K : Nat → Prop} : se_tg 78 (4) K = K 82 := rfl
theorem tg_85_7 {K : Nat → Prop} : se_tg 85 (7) K = K 92 := rfl
theorem tg_89_4 {K : Nat → Prop} : se_tg 89 (4) K = K 93 := rfl
theorem tg_96_7 {K : Nat → Prop} : se_tg 96 (7) K = K 103 := rfl
theorem tg_100_4 {K : Nat → Prop} : se_tg 100 (4) K = K 104 := rfl
def P_worked : Int32 → Int32 → Int32 → mM → Prop := fun a0 a1 a2 M => True
def R_worked : Int32 → Int32 → Int32 → mM → Int32 := fun a0 a1 a2 M => if a0 = 20 then bI (decide (a1 ≠ 0 ∨ a2 ≠ 0)) else if a0 = 21 then bI (decide (a1 ≠ 0 ∧ a2 ≠ 0)) else if a0 = 23 then bI (decide (a1 = a2)) else if a0 = 24 then bI (decide (a1 < a2)) else if a0 = 25 then bI (decide (a2 < a1)) else if a0 = 26 then a1 + a2 else a1 - a2
def F_worked : Int32 → Int32 → Int32 → mM → mM := fun a0 a1 a2 M => M
def T_worked : Nat → Nat → se_Op mM := se_tb2 (se_tab []) mB
theorem T_worked_ok (l : Launch) : mTS l cX2_worked 3 (some .int) 0 0 T_worked := fun g p e s m args below meth c Q H0 C hG hI k i => se_tb2_ok (se_tab_ok _ (fun _ h => absurd h List.not_mem_nil)) (fun k i => mB_ok C hG hI k i) k i
set_option maxHeartbeats 4000000 in
set_option maxRecDepth 20000 in
theorem mt_worked (l : Launch) : mc_sIIIrI l yX2_worked cX2_worked 3 0 0 P_worked (fun a0 a1 a2 M x M' => x = R_worked a0 a1 a2 M ∧ M' = F_worked a0 a1 a2 M) := by
  refine mc_sIIIrI_of (by decide +kernel) rfl (T_worked_ok l) (by decide) fun a0 a1 a2 M hp G hG => ?_
  show G 0 [some (.int a0), some (.int a1), some (.int a2)] [] M
  refine hG [] 300 _ _ _ _ ?_
  simp only [wpN, ↓wq_goto, ↓wq_iadd, ↓wq_iconst, ↓wq_if_eq, ↓wq_if_ne, ↓wq_if_lt, ↓wq_if_ge, ↓wq_if_gt, ↓wq_if_le, ↓wq_icmp_eq, ↓wq_icmp_ne, ↓wq_icmp_lt, ↓wq_icmp_ge, ↓wq_icmp_gt, ↓wq_icmp_le, ↓wq_iload_0, ↓wq_iload_1, ↓wq_iload_2, ↓wq_iload_3, ↓wq_iret, ↓wq_isub, ↓wq_tsw, ↓se_get_0, ↓se_get_s, ↓se_set1_0, ↓se_set1_1, ↓se_set1_s, ↓se_set2_0, ↓se_set2_1, ↓se_set2_s, ↓se_k2_n, ↓se_k2_i, ↓se_k2_r, ↓se_k2_u, ↓se_k2_l, ↓se_k2_q, ↓se_in_0, ↓se_in_s, ↓gI_s, ↓gL_s, ↓gR_r, ↓gR_n, ↓gR_q, ↓sR_r, ↓sR_n, ↓sR_q, ↓se_sp_n, ↓se_sp_y, ↓se_sp_z, ↓se_ts_n, ↓se_ts_c, ↓se_c8_n, ↓se_c8_i, ↓se_c8_r, ↓se_c8_u, ↓se_c8_l, ↓wD_e dX2_worked_0, ↓wD_e dX2_worked_1, ↓wD_e dX2_worked_44, ↓wD_e dX2_worked_45, ↓wD_e dX2_worked_48, ↓wD_e dX2_worked_49, ↓wD_e dX2_worked_52, ↓wD_e dX2_worked_53, ↓wD_e dX2_worked_56, ↓wD_e dX2_worked_57, ↓wD_e dX2_worked_58, ↓wD_e dX2_worked_59, ↓wD_e dX2_worked_62, ↓wD_e dX2_worked_63, ↓wD_e dX2_worked_66, ↓wD_e dX2_worked_67, ↓wD_e dX2_worked_70, ↓wD_e dX2_worked_71, ↓wD_e dX2_worked_72, ↓wD_e dX2_worked_73, ↓wD_e dX2_worked_74, ↓wD_e dX2_worked_77, ↓wD_e dX2_worked_78, ↓wD_e dX2_worked_81, ↓wD_e dX2_worked_82, ↓wD_e dX2_worked_83, ↓wD_e dX2_worked_84, ↓wD_e dX2_worked_85, ↓wD_e dX2_worked_88, ↓wD_e dX2_worked_89, ↓wD_e dX2_worked_92, ↓wD_e dX2_worked_93, ↓wD_e dX2_worked_94, ↓wD_e dX2_worked_95, ↓wD_e dX2_worked_96, ↓wD_e dX2_worked_99, ↓wD_e dX2_worked_100, ↓wD_e dX2_worked_103, ↓wD_e dX2_worked_104, ↓wD_e dX2_worked_105, ↓wD_e dX2_worked_106, ↓wD_e dX2_worked_107, ↓wD_e dX2_worked_108, ↓wD_e dX2_worked_109, ↓wD_e dX2_worked_110, ↓wD_e dX2_worked_111, ↓wD_e dX2_worked_112, cc_iconst_0, cc_iconst_1, ↓tg_1_43, ↓tg_1_57, ↓tg_1_71, ↓tg_1_82, ↓tg_1_93, ↓tg_1_104, ↓tg_1_108, ↓tg_45_7, ↓tg_49_7, ↓tg_53_4, ↓tg_59_11, ↓tg_63_7, ↓tg_67_4, ↓tg_74_7, ↓tg_78_4, ↓tg_85_7, ↓tg_89_4, ↓tg_96_7, ↓tg_100_4, ↓opGI_r, ↓opGJ_r, ↓opGA_r, ↓opPI_r, ↓opPZ_r, ↓opPJ_r, ↓opCI_r, ↓opCJ_r, ↓rz_b, ↓rz_1, ↓rz_0, ↓rt_sIIIrI_e, i32_10, i32_01, i32_m10, i32_03, i32_13, i32_23, Int32.reduceAdd, Int32.reduceSub, Int32.reduceMul, Int32.reduceLT, Int32.reduceLE, Int32.reduceToNatClampNeg, Int32.reduceOfInt, Int64.reduceAdd, Int64.reduceSub, Int64.reduceMul, Int64.reduceLT, Int64.reduceLE, lg_cmp_ge, lg_cmp_le, lg_cmp_gt, lg_cmp_lt, lg_cmp_eq, bI_0, bI_1, not_true_eq_false, not_false_eq_true, false_implies, Bool.not_eq_false, Bool.not_eq_true, and_self, Nat.reduceAdd, Int.reduceAdd, Nat.reduceEqDiff, reduceIte, true_and, and_true, implies_true, forall_const, fI_uI, fI_uJ, fI_sA, fI_sN, fI_uA, fI_uN, fJ_uI, fJ_uJ, fJ_sA, fJ_sN, fJ_uA, fJ_uN, fA_uI, fA_uJ, fA_sA, fA_sN, fA_uA, fA_uN, fN_uI, fN_uJ, fN_sA, fN_sN, fN_uA, fN_uN]
  clear hG
  (repeat' (first | apply And.intro | intro _))
  all_goals (first | rfl | (simp only [R_worked, F_worked, P_worked, *, if_true, if_false, reduceIte, decide_true, decide_false, Bool.not_true, Bool.not_false, Bool.and_true, Bool.and_false, Bool.true_and, Bool.false_and, Bool.or_true, Bool.or_false, Bool.true_or, Bool.false_or, bI_t, bI_f, or_true, true_or, or_false, false_or, and_true, true_and, and_false, false_and, not_true_eq_false, not_false_eq_true, eq_self]; done) | (subst_vars; simp [R_worked, F_worked, P_worked, bI, *]; done) | (simp only [R_worked, F_worked, P_worked]; (repeat' split) <;> first | rfl | (exfalso; simp only [Int32.lt_iff_toInt_lt, Int32.le_iff_toInt_le, Int64.lt_iff_toInt_lt, Int64.le_iff_toInt_le, Int32.reduceToInt, Int64.reduceToInt] at *; omega)) | (simp_all [R_worked, F_worked, P_worked, bI]; done))
theorem cc_bipush_6 : (Int8.ofInt (6)).toInt32 = 6 := by decide +kernel
theorem cc_bipush_8 : (Int8.ofInt (8)).toInt32 = 8 := by decide +kernel
theorem cc_bipush_40 : (Int8.ofInt (40)).toInt32 = 40 := by decide +kernel
theorem cc_bipush_100 : (Int8.ofInt (100)).toInt32 = 100 := by decide +kernel
theorem cc_iconst_2 : Int32.ofInt (2) = 2 := by decide +kernel
theorem cc_iconst_4 : Int32.ofInt (4) = 4 := by decide +kernel
theorem cc_iconst_5 : Int32.ofInt (5) = 5 := by decide +kernel
theorem tg_1_63 {K : Nat → Prop} : se_tg 1 (63) K = K 64 := rfl
theorem tg_1_66 {K : Nat → Prop} : se_tg 1 (66) K = K 67 := rfl
theorem tg_1_68 {K : Nat → Prop} : se_tg 1 (68) K = K 69 := rfl
theorem tg_1_73 {K : Nat → Prop} : se_tg 1 (73) K = K 74 := rfl
theorem tg_1_76 {K : Nat → Prop} : se_tg 1 (76) K = K 77 := rfl
theorem tg_1_78 {K : Nat → Prop} : se_tg 1 (78) K = K 79 := rfl
theorem tg_1_81 {K : Nat → Prop} : se_tg 1 (81) K = K 82 := rfl
theorem tg_1_83 {K : Nat → Prop} : se_tg 1 (83) K = K 84 := rfl
def P_plainOf : Int32 → mM → Prop := fun a0 M => True
def R_plainOf : Int32 → mM → Int32 := fun a0 M => if a0 = 0 then 8 else if a0 = 1 then 5 else if a0 = 2 then 40 else if a0 = 3 ∨ a0 = 4 then 2 else if a0 = 5 ∨ a0 = 6 then 100 else if a0 = 7 then 3 else if a0 = 10 then 6 else if a0 = 11 then 4 else 0
def F_plainOf : Int32 → mM → mM := fun a0 M => M
def T_plainOf : Nat → Nat → se_Op mM := se_tb2 (se_tab []) mB
theorem T_plainOf_ok (l : Launch) : mTS l cX2_plainOf 1 (some .int) 0 0 T_plainOf := fun g p e s m args below meth c Q H0 C hG hI k i => se_tb2_ok (se_tab_ok _ (fun _ h => absurd h List.not_mem_nil)) (fun k i => mB_ok C hG hI k i) k i
set_option maxHeartbeats 4000000 in
set_option maxRecDepth 20000 in
theorem mt_plainOf (l : Launch) : mc_sIrI l yX2_plainOf cX2_plainOf 1 0 0 P_plainOf (fun a0 M x M' => x = R_plainOf a0 M ∧ M' = F_plainOf a0 M) := by
  refine mc_sIrI_of (by decide +kernel) rfl (T_plainOf_ok l) (by decide) fun a0 M hp G hG => ?_
  show G 0 [some (.int a0)] [] M
  refine hG [] 300 _ _ _ _ ?_
  simp only [wpN, ↓wq_bipush, ↓wq_iconst, ↓wq_iload_0, ↓wq_iload_1, ↓wq_iload_2, ↓wq_iload_3, ↓wq_iret, ↓wq_tsw, ↓se_get_0, ↓se_get_s, ↓se_set1_0, ↓se_set1_1, ↓se_set1_s, ↓se_set2_0, ↓se_set2_1, ↓se_set2_s, ↓se_k2_n, ↓se_k2_i, ↓se_k2_r, ↓se_k2_u, ↓se_k2_l, ↓se_k2_q, ↓se_in_0, ↓se_in_s, ↓gI_s, ↓gL_s, ↓gR_r, ↓gR_n, ↓gR_q, ↓sR_r, ↓sR_n, ↓sR_q, ↓se_sp_n, ↓se_sp_y, ↓se_sp_z, ↓se_ts_n, ↓se_ts_c, ↓se_c8_n, ↓se_c8_i, ↓se_c8_r, ↓se_c8_u, ↓se_c8_l, ↓wD_e dX2_plainOf_0, ↓wD_e dX2_plainOf_1, ↓wD_e dX2_plainOf_64, ↓wD_e dX2_plainOf_66, ↓wD_e dX2_plainOf_67, ↓wD_e dX2_plainOf_68, ↓wD_e dX2_plainOf_69, ↓wD_e dX2_plainOf_71, ↓wD_e dX2_plainOf_72, ↓wD_e dX2_plainOf_73, ↓wD_e dX2_plainOf_74, ↓wD_e dX2_plainOf_76, ↓wD_e dX2_plainOf_77, ↓wD_e dX2_plainOf_78, ↓wD_e dX2_plainOf_79, ↓wD_e dX2_plainOf_81, ↓wD_e dX2_plainOf_82, ↓wD_e dX2_plainOf_83, ↓wD_e dX2_plainOf_84, ↓wD_e dX2_plainOf_85, cc_bipush_6, cc_bipush_8, cc_bipush_40, cc_bipush_100, cc_iconst_0, cc_iconst_2, cc_iconst_3, cc_iconst_4, cc_iconst_5, ↓tg_1_63, ↓tg_1_66, ↓tg_1_68, ↓tg_1_71, ↓tg_1_73, ↓tg_1_76, ↓tg_1_78, ↓tg_1_81, ↓tg_1_83, ↓opGI_r, ↓opGJ_r, ↓opGA_r, ↓opPI_r, ↓opPZ_r, ↓opPJ_r, ↓opCI_r, ↓opCJ_r, ↓rz_b, ↓rz_1, ↓rz_0, ↓rt_sIrI_e, i32_10, i32_01, i32_m10, i32_03, i32_13, i32_23, Int32.reduceAdd, Int32.reduceSub, Int32.reduceMul, Int32.reduceLT, Int32.reduceLE, Int32.reduceToNatClampNeg, Int32.reduceOfInt, Int64.reduceAdd, Int64.reduceSub, Int64.reduceMul, Int64.reduceLT, Int64.reduceLE, lg_cmp_ge, lg_cmp_le, lg_cmp_gt, lg_cmp_lt, lg_cmp_eq, bI_0, bI_1, not_true_eq_false, not_false_eq_true, false_implies, Bool.not_eq_false, Bool.not_eq_true, and_self, Nat.reduceAdd, Int.reduceAdd, Nat.reduceEqDiff, reduceIte, true_and, and_true, implies_true, forall_const, fI_uI, fI_uJ, fI_sA, fI_sN, fI_uA, fI_uN, fJ_uI, fJ_uJ, fJ_sA, fJ_sN, fJ_uA, fJ_uN, fA_uI, fA_uJ, fA_sA, fA_sN, fA_uA, fA_uN, fN_uI, fN_uJ, fN_sA, fN_sN, fN_uA, fN_uN]
  clear hG
  (repeat' (first | apply And.intro | intro _))
  all_goals (first | rfl | (simp only [R_plainOf, F_plainOf, P_plainOf, *, if_true, if_false, reduceIte, decide_true, decide_false, Bool.not_true, Bool.not_false, Bool.and_true, Bool.and_false, Bool.true_and, Bool.false_and, Bool.or_true, Bool.or_false, Bool.true_or, Bool.false_or, bI_t, bI_f, or_true, true_or, or_false, false_or, and_true, true_and, and_false, false_and, not_true_eq_false, not_false_eq_true, eq_self]; done) | (subst_vars; simp [R_plainOf, F_plainOf, P_plainOf, bI, *]; done) | (simp only [R_plainOf, F_plainOf, P_plainOf]; (repeat' split) <;> first | rfl | (exfalso; simp only [Int32.lt_iff_toInt_lt, Int32.le_iff_toInt_le, Int64.lt_iff_toInt_lt, Int64.le_iff_toInt_le, Int32.reduceToInt, Int64.reduceToInt] at *; omega)) | (simp_all [R_plainOf, F_plainOf, P_plainOf, bI]; done))
theorem cc_iconst_m8 : Int32.ofInt (-8) = -8 := by decide +kernel
theorem cc_sipush_255 : (Int16.ofInt (255)).toInt32 = 255 := by decide +kernel
theorem tg_4_35 {K : Nat → Prop} : se_tg 4 (35) K = K 39 := rfl
theorem tg_36_m33 {K : Nat → Prop} : se_tg 36 (-33) K = K 3 := rfl
def fourT (t : Nat → Int32) (n : Nat) (v : Int32) : Nat → Int32 := upd (upd (upd (upd t n (v >>> (24 &&& 31) &&& 255)) (n + 1) (v >>> (16 &&& 31) &&& 255)) (n + 2) (v >>> (8 &&& 31) &&& 255)) (n + 3) (v >>> (0 &&& 31) &&& 255)
def P_four : Int32 → mM → Prop := fun a0 M => ∃ n : Nat, n ≤ 1496 ∧ (fI M 1) = nI n
def F_four : Int32 → mM → mM := fun a0 M => (uI (sA M 0 (fourT ((fA M 0)) ((fI M 1)).toNatClampNeg a0)) 1 ((fI M 1) + 1 + 1 + 1 + 1))
def T_four : Nat → Nat → se_Op mM := se_tb2 (se_tab []) mB
theorem T_four_ok (l : Launch) : mTS l cX2_four 3 none 0 0 T_four := fun g p e s m args below meth c Q H0 C hG hI k i => se_tb2_ok (se_tab_ok _ (fun _ h => absurd h List.not_mem_nil)) (fun k i => mB_ok C hG hI k i) k i
theorem T_four_0 {i : Nat} : T_four 0 i = mB 0 i := rfl
theorem T_four_1 {i : Nat} : T_four 1 i = mB 1 i := rfl
theorem T_four_14 {i : Nat} : T_four 14 i = mB 14 i := rfl
set_option maxHeartbeats 4000000 in
set_option maxRecDepth 20000 in
theorem mt_four (l : Launch) : mc_vIrV l yX2_four cX2_four 3 0 0 P_four (fun a0 M M' => M' = F_four a0 M) := by
  refine mc_vIrV_of (by decide +kernel) rfl (T_four_ok l) (by decide) fun a0 M hp G hG => ?_
  show G 0 [some (.ref 0), some (.int a0), none] [] M
  refine hG [] 300 _ _ _ _ ?_
  simp only [wpN, ↓wq_aload_0, ↓wq_aload_1, ↓wq_aload_2, ↓wq_aload_3, ↓wq_aload_0n, ↓wq_aload_1n, ↓wq_aload_2n, ↓wq_aload_3n, ↓wq_bipush, ↓wq_dupi, ↓wq_dupr, ↓wq_dupn, ↓wq_getfield, ↓wq_goto, ↓wq_iadd, ↓wq_iand, ↓wq_iastore, ↓wq_iconst, ↓wq_if_eq, ↓wq_if_ne, ↓wq_if_lt, ↓wq_if_ge, ↓wq_if_gt, ↓wq_if_le, ↓wq_iinc, ↓wq_iload_0, ↓wq_iload_1, ↓wq_iload_2, ↓wq_iload_3, ↓wq_ishr, ↓wq_istore_0, ↓wq_istore_1, ↓wq_istore_2, ↓wq_istore_3, ↓wq_putfield, ↓wq_ret, ↓wq_sipush, ↓se_get_0, ↓se_get_s, ↓se_set1_0, ↓se_set1_1, ↓se_set1_s, ↓se_set2_0, ↓se_set2_1, ↓se_set2_s, ↓se_k2_n, ↓se_k2_i, ↓se_k2_r, ↓se_k2_u, ↓se_k2_l, ↓se_k2_q, ↓se_in_0, ↓se_in_s, ↓gI_s, ↓gL_s, ↓gR_r, ↓gR_n, ↓gR_q, ↓sR_r, ↓sR_n, ↓sR_q, ↓se_sp_n, ↓se_sp_y, ↓se_sp_z, ↓se_ts_n, ↓se_ts_c, ↓se_c8_n, ↓se_c8_i, ↓se_c8_r, ↓se_c8_u, ↓se_c8_l, ↓wD_e dX2_four_0, ↓wD_e dX2_four_2, ↓wD_e dX2_four_3, ↓wD_e dX2_four_4, ↓wD_e dX2_four_7, ↓wD_e dX2_four_8, ↓wD_e dX2_four_11, ↓wD_e dX2_four_12, ↓wD_e dX2_four_15, ↓wD_e dX2_four_16, ↓wD_e dX2_four_17, ↓wD_e dX2_four_18, ↓wD_e dX2_four_21, ↓wD_e dX2_four_22, ↓wD_e dX2_four_23, ↓wD_e dX2_four_24, ↓wD_e dX2_four_25, ↓wD_e dX2_four_28, ↓wD_e dX2_four_29, ↓wD_e dX2_four_30, ↓wD_e dX2_four_33, ↓wD_e dX2_four_36, ↓wD_e dX2_four_39, cc_bipush_24, cc_iconst_m8, cc_iconst_1, cc_sipush_255, ↓tg_4_35, ↓tg_36_m33, ↓mB_0_7, ↓opIald_0, ↓opIast_0, ↓mB_0_181, ↓mB_14_0, ↓mB_1_181, ↓opGI_r, ↓opGJ_r, ↓opGA_r, ↓opPI_r, ↓opPZ_r, ↓opPJ_r, ↓opCI_r, ↓opCJ_r, ↓rz_b, ↓rz_1, ↓rz_0, ↓rt_vIrV_e, ↓T_four_0, ↓T_four_1, ↓T_four_14, i32_10, i32_01, i32_m10, i32_03, i32_13, i32_23, Int32.reduceAdd, Int32.reduceSub, Int32.reduceMul, Int32.reduceLT, Int32.reduceLE, Int32.reduceToNatClampNeg, Int32.reduceOfInt, Int64.reduceAdd, Int64.reduceSub, Int64.reduceMul, Int64.reduceLT, Int64.reduceLE, lg_cmp_ge, lg_cmp_le, lg_cmp_gt, lg_cmp_lt, lg_cmp_eq, bI_0, bI_1, not_true_eq_false, not_false_eq_true, false_implies, Bool.not_eq_false, Bool.not_eq_true, and_self, Nat.reduceAdd, Int.reduceAdd, Nat.reduceEqDiff, reduceIte, true_and, and_true, implies_true, forall_const, fI_uI, fI_uJ, fI_sA, fI_sN, fI_uA, fI_uN, fJ_uI, fJ_uJ, fJ_sA, fJ_sN, fJ_uA, fJ_uN, fA_uI, fA_uJ, fA_sA, fA_sN, fA_uA, fA_uN, fN_uI, fN_uJ, fN_sA, fN_sN, fN_uA, fN_uN]
  obtain ⟨n, hn, e⟩ := hp
  simp only [F_four, e, nI_1, nI_clamp (show n < 2 ^ 31 by omega), nI_clamp (show n + 1 < 2 ^ 31 by omega), nI_clamp (show n + 1 + 1 < 2 ^ 31 by omega), nI_clamp (show n + 1 + 1 + 1 < 2 ^ 31 by omega)]
  refine ⟨vp_in_nI (by omega) (by omega), vp_in_nI (by omega) (by omega), vp_in_nI (by omega) (by omega), vp_in_nI (by omega) (by omega), ?_⟩
  refine mM_ext (fun k => ?_) (fun k => rfl) (fun k j => ?_) (fun j => rfl)
  · simp only [fI_uI, fI_uA, fI_sA, nI_add]
    by_cases h : k = 1 <;> simp only [h, if_true, if_false]
  · simp only [fA_uI, fA_uA, fA_sA]
    by_cases h : k = 0 <;> simp only [h, if_true, if_false, fourT]
theorem tg_1_11 {K : Nat → Prop} : se_tg 1 (11) K = K 12 := rfl
theorem tg_9_5 {K : Nat → Prop} : se_tg 9 (5) K = K 14 := rfl
def P_end : Int32 → mM → Prop := fun a0 M => True
def R_end : Int32 → mM → Int32 := fun a0 M => if a0 < 0 then -1 else if (fI M 1) < a0 then -1 else a0
def F_end : Int32 → mM → mM := fun a0 M => if a0 < 0 then M else if (fI M 1) < a0 then M else (uI M 1 (a0))
def T_end : Nat → Nat → se_Op mM := se_tb2 (se_tab []) mB
theorem T_end_ok (l : Launch) : mTS l cX2_end 2 (some .int) 0 0 T_end := fun g p e s m args below meth c Q H0 C hG hI k i => se_tb2_ok (se_tab_ok _ (fun _ h => absurd h List.not_mem_nil)) (fun k i => mB_ok C hG hI k i) k i
theorem T_end_0 {i : Nat} : T_end 0 i = mB 0 i := rfl
theorem T_end_1 {i : Nat} : T_end 1 i = mB 1 i := rfl
set_option maxHeartbeats 4000000 in
set_option maxRecDepth 20000 in
theorem mt_end (l : Launch) : mc_vIrI l yX2_end cX2_end 2 0 0 P_end (fun a0 M x M' => x = R_end a0 M ∧ M' = F_end a0 M) := by
  refine mc_vIrI_of (by decide +kernel) rfl (T_end_ok l) (by decide) fun a0 M hp G hG => ?_
  show G 0 [some (.ref 0), some (.int a0)] [] M
  refine hG [] 300 _ _ _ _ ?_
  simp only [wpN, ↓wq_aload_0, ↓wq_aload_1, ↓wq_aload_2, ↓wq_aload_3, ↓wq_aload_0n, ↓wq_aload_1n, ↓wq_aload_2n, ↓wq_aload_3n, ↓wq_getfield, ↓wq_iconst, ↓wq_if_eq, ↓wq_if_ne, ↓wq_if_lt, ↓wq_if_ge, ↓wq_if_gt, ↓wq_if_le, ↓wq_icmp_eq, ↓wq_icmp_ne, ↓wq_icmp_lt, ↓wq_icmp_ge, ↓wq_icmp_gt, ↓wq_icmp_le, ↓wq_iload_0, ↓wq_iload_1, ↓wq_iload_2, ↓wq_iload_3, ↓wq_iret, ↓wq_putfield, ↓se_get_0, ↓se_get_s, ↓se_set1_0, ↓se_set1_1, ↓se_set1_s, ↓se_set2_0, ↓se_set2_1, ↓se_set2_s, ↓se_k2_n, ↓se_k2_i, ↓se_k2_r, ↓se_k2_u, ↓se_k2_l, ↓se_k2_q, ↓se_in_0, ↓se_in_s, ↓gI_s, ↓gL_s, ↓gR_r, ↓gR_n, ↓gR_q, ↓sR_r, ↓sR_n, ↓sR_q, ↓se_sp_n, ↓se_sp_y, ↓se_sp_z, ↓se_ts_n, ↓se_ts_c, ↓se_c8_n, ↓se_c8_i, ↓se_c8_r, ↓se_c8_u, ↓se_c8_l, ↓wD_e dX2_end_0, ↓wD_e dX2_end_1, ↓wD_e dX2_end_4, ↓wD_e dX2_end_5, ↓wD_e dX2_end_6, ↓wD_e dX2_end_9, ↓wD_e dX2_end_12, ↓wD_e dX2_end_13, ↓wD_e dX2_end_14, ↓wD_e dX2_end_15, ↓wD_e dX2_end_16, ↓wD_e dX2_end_19, ↓wD_e dX2_end_20, cc_iconst_m1, ↓tg_1_11, ↓tg_9_5, ↓mB_0_181, ↓mB_1_181, ↓opGI_r, ↓opGJ_r, ↓opGA_r, ↓opPI_r, ↓opPZ_r, ↓opPJ_r, ↓opCI_r, ↓opCJ_r, ↓rz_b, ↓rz_1, ↓rz_0, ↓rt_vIrI_e, ↓T_end_0, ↓T_end_1, i32_10, i32_01, i32_m10, i32_03, i32_13, i32_23, Int32.reduceAdd, Int32.reduceSub, Int32.reduceMul, Int32.reduceLT, Int32.reduceLE, Int32.reduceToNatClampNeg, Int32.reduceOfInt, Int64.reduceAdd, Int64.reduceSub, Int64.reduceMul, Int64.reduceLT, Int64.reduceLE, lg_cmp_ge, lg_cmp_le, lg_cmp_gt, lg_cmp_lt, lg_cmp_eq, bI_0, bI_1, not_true_eq_false, not_false_eq_true, false_implies, Bool.not_eq_false, Bool.not_eq_true, and_self, Nat.reduceAdd, Int.reduceAdd, Nat.reduceEqDiff, reduceIte, true_and, and_true, implies_true, forall_const, fI_uI, fI_uJ, fI_sA, fI_sN, fI_uA, fI_uN, fJ_uI, fJ_uJ, fJ_sA, fJ_sN, fJ_uA, fJ_uN, fA_uI, fA_uJ, fA_sA, fA_sN, fA_uA, fA_uN, fN_uI, fN_uJ, fN_sA, fN_sN, fN_uA, fN_uN]
  clear hG
  (repeat' (first | apply And.intro | intro _))
  all_goals (first | rfl | (simp only [R_end, F_end, P_end, *, if_true, if_false, reduceIte, decide_true, decide_false, Bool.not_true, Bool.not_false, Bool.and_true, Bool.and_false, Bool.true_and, Bool.false_and, Bool.or_true, Bool.or_false, Bool.true_or, Bool.false_or, bI_t, bI_f, or_true, true_or, or_false, false_or, and_true, true_and, and_false, false_and, not_true_eq_false, not_false_eq_true, eq_self]; done) | (subst_vars; simp [R_end, F_end, P_end, bI, *]; done) | (simp only [R_end, F_end, P_end]; (repeat' split) <;> first | rfl | (exfalso; simp only [Int32.lt_iff_toInt_lt, Int32.le_iff_toInt_le, Int64.lt_iff_toInt_lt, Int64.le_iff_toInt_le, Int32.reduceToInt, Int64.reduceToInt] at *; omega)) | (simp_all [R_end, F_end, P_end, bI]; done))
