/-! THE REFERENCE: bits, brackets -/
def onS (a : Int32) : Nat → Int32
  | 0 => 0
  | k + 1 => onS a k + (a >>> (nI k &&& 31) &&& 1)

theorem tg_7_17 {K : Nat → Prop} : se_tg 7 (17) K = K 24 := rfl
theorem tg_21_m17 {K : Nat → Prop} : se_tg 21 (-17) K = K 4 := rfl
def P_ones : Int32 → mM → Prop := fun a0 M => True
def R_ones : Int32 → mM → Int32 := fun a0 M => onS a0 16
def F_ones : Int32 → mM → mM := fun a0 M => M
def T_ones : Nat → Nat → se_Op mM := se_tb2 (se_tab []) mB
theorem T_ones_ok (l : Launch) : mTS l cX2_ones 3 (some .int) 0 0 T_ones := fun g p e s m args below meth c Q H0 C hG hI k i => se_tb2_ok (se_tab_ok _ (fun _ h => absurd h List.not_mem_nil)) (fun k i => mB_ok C hG hI k i) k i
set_option maxHeartbeats 4000000 in
set_option maxRecDepth 20000 in
theorem mt_ones (l : Launch) : mc_sIrI l yX2_ones cX2_ones 3 0 0 P_ones (fun a0 M x M' => x = R_ones a0 M ∧ M' = F_ones a0 M) := by
  refine mc_sIrI_of (by decide +kernel) rfl (T_ones_ok l) (by decide) fun a0 M hp G hG => ?_
  show G 0 [some (.int a0), none, none] [] M
  have L : ∀ f k, f = 16 - k → k ≤ 16 → G 4 [some (.int a0), some (.int (onS a0 k)), some (.int (nI k))] [] M := by
    intro f
    induction f with
    | zero =>
      intro k hf hk
      obtain rfl : k = 16 := by omega
      refine hG [4] 60 _ _ _ _ ?_
      simp only [wpN, ↓wq_bipush, ↓wq_goto, ↓wq_iadd, ↓wq_iand, ↓wq_iconst, ↓wq_icmp_eq, ↓wq_icmp_ne, ↓wq_icmp_lt, ↓wq_icmp_ge, ↓wq_icmp_gt, ↓wq_icmp_le, ↓wq_iinc, ↓wq_iload_0, ↓wq_iload_1, ↓wq_iload_2, ↓wq_iload_3, ↓wq_iret, ↓wq_ishr, ↓wq_istore_0, ↓wq_istore_1, ↓wq_istore_2, ↓wq_istore_3, ↓se_get_0, ↓se_get_s, ↓se_set1_0, ↓se_set1_1, ↓se_set1_s, ↓se_set2_0, ↓se_set2_1, ↓se_set2_s, ↓se_k2_n, ↓se_k2_i, ↓se_k2_r, ↓se_k2_u, ↓se_k2_l, ↓se_k2_q, ↓se_in_0, ↓se_in_s, ↓gI_s, ↓gL_s, ↓gR_r, ↓gR_n, ↓gR_q, ↓sR_r, ↓sR_n, ↓sR_q, ↓se_sp_n, ↓se_sp_y, ↓se_sp_z, ↓se_ts_n, ↓se_ts_c, ↓se_c8_n, ↓se_c8_i, ↓se_c8_r, ↓se_c8_u, ↓se_c8_l, ↓wD_e dX2_ones_0, ↓wD_e dX2_ones_1, ↓wD_e dX2_ones_2, ↓wD_e dX2_ones_3, ↓wD_e dX2_ones_4, ↓wD_e dX2_ones_5, ↓wD_e dX2_ones_7, ↓wD_e dX2_ones_10, ↓wD_e dX2_ones_11, ↓wD_e dX2_ones_12, ↓wD_e dX2_ones_13, ↓wD_e dX2_ones_14, ↓wD_e dX2_ones_15, ↓wD_e dX2_ones_16, ↓wD_e dX2_ones_17, ↓wD_e dX2_ones_18, ↓wD_e dX2_ones_21, ↓wD_e dX2_ones_24, ↓wD_e dX2_ones_25, cc_bipush_16, cc_iconst_0, cc_iconst_1, ↓tg_7_17, ↓tg_21_m17, ↓opGI_r, ↓opGJ_r, ↓opGA_r, ↓opPI_r, ↓opPZ_r, ↓opPJ_r, ↓opCI_r, ↓opCJ_r, ↓rz_b, ↓rz_1, ↓rz_0, ↓rt_sIrI_e, i32_10, i32_01, i32_m10, i32_03, i32_13, i32_23, Int32.reduceAdd, Int32.reduceSub, Int32.reduceMul, Int32.reduceLT, Int32.reduceLE, Int32.reduceToNatClampNeg, Int32.reduceOfInt, Int64.reduceAdd, Int64.reduceSub, Int64.reduceMul, Int64.reduceLT, Int64.reduceLE, lg_cmp_ge, lg_cmp_le, lg_cmp_gt, lg_cmp_lt, lg_cmp_eq, bI_0, bI_1, not_true_eq_false, not_false_eq_true, false_implies, Bool.not_eq_false, Bool.not_eq_true, and_self, Nat.reduceAdd, Int.reduceAdd, Nat.reduceEqDiff, reduceIte, true_and, and_true, implies_true, forall_const, fI_uI, fI_uJ, fI_sA, fI_sN, fI_uA, fI_uN, fJ_uI, fJ_uJ, fJ_sA, fJ_sN, fJ_uA, fJ_uN, fA_uI, fA_uJ, fA_sA, fA_sN, fA_uA, fA_uN, fN_uI, fN_uJ, fN_sA, fN_sN, fN_uA, fN_uN]
      exact ⟨fun _ => ⟨rfl, rfl⟩, fun h => absurd (Int32.le_refl _) h⟩
    | succ f ih =>
      intro k hf hk
      have hi := ih (k + 1) (by omega) (by omega)
      refine hG [4] 60 _ _ _ _ ?_
      simp only [wpN, ↓wq_bipush, ↓wq_goto, ↓wq_iadd, ↓wq_iand, ↓wq_iconst, ↓wq_icmp_eq, ↓wq_icmp_ne, ↓wq_icmp_lt, ↓wq_icmp_ge, ↓wq_icmp_gt, ↓wq_icmp_le, ↓wq_iinc, ↓wq_iload_0, ↓wq_iload_1, ↓wq_iload_2, ↓wq_iload_3, ↓wq_iret, ↓wq_ishr, ↓wq_istore_0, ↓wq_istore_1, ↓wq_istore_2, ↓wq_istore_3, ↓se_get_0, ↓se_get_s, ↓se_set1_0, ↓se_set1_1, ↓se_set1_s, ↓se_set2_0, ↓se_set2_1, ↓se_set2_s, ↓se_k2_n, ↓se_k2_i, ↓se_k2_r, ↓se_k2_u, ↓se_k2_l, ↓se_k2_q, ↓se_in_0, ↓se_in_s, ↓gI_s, ↓gL_s, ↓gR_r, ↓gR_n, ↓gR_q, ↓sR_r, ↓sR_n, ↓sR_q, ↓se_sp_n, ↓se_sp_y, ↓se_sp_z, ↓se_ts_n, ↓se_ts_c, ↓se_c8_n, ↓se_c8_i, ↓se_c8_r, ↓se_c8_u, ↓se_c8_l, ↓wD_e dX2_ones_0, ↓wD_e dX2_ones_1, ↓wD_e dX2_ones_2, ↓wD_e dX2_ones_3, ↓wD_e dX2_ones_4, ↓wD_e dX2_ones_5, ↓wD_e dX2_ones_7, ↓wD_e dX2_ones_10, ↓wD_e dX2_ones_11, ↓wD_e dX2_ones_12, ↓wD_e dX2_ones_13, ↓wD_e dX2_ones_14, ↓wD_e dX2_ones_15, ↓wD_e dX2_ones_16, ↓wD_e dX2_ones_17, ↓wD_e dX2_ones_18, ↓wD_e dX2_ones_21, ↓wD_e dX2_ones_24, ↓wD_e dX2_ones_25, cc_bipush_16, cc_iconst_0, cc_iconst_1, ↓tg_7_17, ↓tg_21_m17, ↓opGI_r, ↓opGJ_r, ↓opGA_r, ↓opPI_r, ↓opPZ_r, ↓opPJ_r, ↓opCI_r, ↓opCJ_r, ↓rz_b, ↓rz_1, ↓rz_0, ↓rt_sIrI_e, i32_10, i32_01, i32_m10, i32_03, i32_13, i32_23, Int32.reduceAdd, Int32.reduceSub, Int32.reduceMul, Int32.reduceLT, Int32.reduceLE, Int32.reduceToNatClampNeg, Int32.reduceOfInt, Int64.reduceAdd, Int64.reduceSub, Int64.reduceMul, Int64.reduceLT, Int64.reduceLE, lg_cmp_ge, lg_cmp_le, lg_cmp_gt, lg_cmp_lt, lg_cmp_eq, bI_0, bI_1, not_true_eq_false, not_false_eq_true, false_implies, Bool.not_eq_false, Bool.not_eq_true, and_self, Nat.reduceAdd, Int.reduceAdd, Nat.reduceEqDiff, reduceIte, true_and, and_true, implies_true, forall_const, fI_uI, fI_uJ, fI_sA, fI_sN, fI_uA, fI_uN, fJ_uI, fJ_uJ, fJ_sA, fJ_sN, fJ_uA, fJ_uN, fA_uI, fA_uJ, fA_sA, fA_sN, fA_uA, fA_uN, fN_uI, fN_uJ, fN_sA, fN_sN, fN_uA, fN_uN, nI_1]
      exact ⟨fun h => absurd h (fun h => by rw [show ((16 : Int32) ≤ nI k) = (16 ≤ k) from nI_leL (k := 16) (by omega) (by omega)] at h; omega), fun _ => hi⟩
  refine hG [4] 60 _ _ _ _ ?_
  simp only [wpN, ↓wq_bipush, ↓wq_goto, ↓wq_iadd, ↓wq_iand, ↓wq_iconst, ↓wq_icmp_eq, ↓wq_icmp_ne, ↓wq_icmp_lt, ↓wq_icmp_ge, ↓wq_icmp_gt, ↓wq_icmp_le, ↓wq_iinc, ↓wq_iload_0, ↓wq_iload_1, ↓wq_iload_2, ↓wq_iload_3, ↓wq_iret, ↓wq_ishr, ↓wq_istore_0, ↓wq_istore_1, ↓wq_istore_2, ↓wq_istore_3, ↓se_get_0, ↓se_get_s, ↓se_set1_0, ↓se_set1_1, ↓se_set1_s, ↓se_set2_0, ↓se_set2_1, ↓se_set2_s, ↓se_k2_n, ↓se_k2_i, ↓se_k2_r, ↓se_k2_u, ↓se_k2_l, ↓se_k2_q, ↓se_in_0, ↓se_in_s, ↓gI_s, ↓gL_s, ↓gR_r, ↓gR_n, ↓gR_q, ↓sR_r, ↓sR_n, ↓sR_q, ↓se_sp_n, ↓se_sp_y, ↓se_sp_z, ↓se_ts_n, ↓se_ts_c, ↓se_c8_n, ↓se_c8_i, ↓se_c8_r, ↓se_c8_u, ↓se_c8_l, ↓wD_e dX2_ones_0, ↓wD_e dX2_ones_1, ↓wD_e dX2_ones_2, ↓wD_e dX2_ones_3, ↓wD_e dX2_ones_4, ↓wD_e dX2_ones_5, ↓wD_e dX2_ones_7, ↓wD_e dX2_ones_10, ↓wD_e dX2_ones_11, ↓wD_e dX2_ones_12, ↓wD_e dX2_ones_13, ↓wD_e dX2_ones_14, ↓wD_e dX2_ones_15, ↓wD_e dX2_ones_16, ↓wD_e dX2_ones_17, ↓wD_e dX2_ones_18, ↓wD_e dX2_ones_21, ↓wD_e dX2_ones_24, ↓wD_e dX2_ones_25, cc_bipush_16, cc_iconst_0, cc_iconst_1, ↓tg_7_17, ↓tg_21_m17, ↓opGI_r, ↓opGJ_r, ↓opGA_r, ↓opPI_r, ↓opPZ_r, ↓opPJ_r, ↓opCI_r, ↓opCJ_r, ↓rz_b, ↓rz_1, ↓rz_0, ↓rt_sIrI_e, i32_10, i32_01, i32_m10, i32_03, i32_13, i32_23, Int32.reduceAdd, Int32.reduceSub, Int32.reduceMul, Int32.reduceLT, Int32.reduceLE, Int32.reduceToNatClampNeg, Int32.reduceOfInt, Int64.reduceAdd, Int64.reduceSub, Int64.reduceMul, Int64.reduceLT, Int64.reduceLE, lg_cmp_ge, lg_cmp_le, lg_cmp_gt, lg_cmp_lt, lg_cmp_eq, bI_0, bI_1, not_true_eq_false, not_false_eq_true, false_implies, Bool.not_eq_false, Bool.not_eq_true, and_self, Nat.reduceAdd, Int.reduceAdd, Nat.reduceEqDiff, reduceIte, true_and, and_true, implies_true, forall_const, fI_uI, fI_uJ, fI_sA, fI_sN, fI_uA, fI_uN, fJ_uI, fJ_uJ, fJ_sA, fJ_sN, fJ_uA, fJ_uN, fA_uI, fA_uJ, fA_sA, fA_sN, fA_uA, fA_uN, fN_uI, fN_uJ, fN_sA, fN_sN, fN_uA, fN_uN]
  exact L 16 0 rfl (Nat.zero_le _)
  theorem i32_01' : ((0 : Int32) = 0) = True := by decide
theorem tg_9_30 {K : Nat → Prop} : se_tg 9 (30) K = K 39 := rfl
theorem tg_13_14 {K : Nat → Prop} : se_tg 13 (14) K = K 27 := rfl
theorem tg_24_7 {K : Nat → Prop} : se_tg 24 (7) K = K 31 := rfl
theorem tg_36_m32 {K : Nat → Prop} : se_tg 36 (-32) K = K 4 := rfl
def P_isOpen : mM → Prop := fun M => ∃ n : Nat, n ≤ 300 ∧ (fI M 85) = nI n
def R_isOpen : mM → Bool := fun M => decide (0 < cn (fun d => decide ((fA M 77) d = 30)) ((fI M 85)).toNatClampNeg)
def F_isOpen : mM → mM := fun M => M
def T_isOpen : Nat → Nat → se_Op mM := se_tb2 (se_tab []) mB
theorem T_isOpen_ok (l : Launch) : mTS l cX2_isOpen 3 (some .boolean) 0 0 T_isOpen := fun g p e s m args below meth c Q H0 C hG hI k i => se_tb2_ok (se_tab_ok _ (fun _ h => absurd h List.not_mem_nil)) (fun k i => mB_ok C hG hI k i) k i
theorem T_isOpen_0 {i : Nat} : T_isOpen 0 i = mB 0 i := rfl
theorem T_isOpen_13 {i : Nat} : T_isOpen 13 i = mB 13 i := rfl
set_option maxHeartbeats 4000000 in
set_option maxRecDepth 20000 in
theorem mt_isOpen (l : Launch) : mc_vrZ l yX2_isOpen cX2_isOpen 3 0 0 P_isOpen (fun M x M' => x = R_isOpen M ∧ M' = F_isOpen M) := by
  refine mc_vrZ_of (by decide +kernel) rfl (T_isOpen_ok l) (by decide) fun M hp G hG => ?_
  show G 0 [some (.ref 0), none, none] [] M
  obtain ⟨n, hn, e⟩ := hp
  have eR : R_isOpen M = decide (0 < cn (fun d => decide ((fA M 77) d = 30)) n) := by rw [R_isOpen, e, nI_clamp (by omega)]
  have L : ∀ f k, f = n - k → k ≤ n → G 4 [some (.ref 0), some (.int (bI (decide (0 < cn (fun d => decide ((fA M 77) d = 30)) k)))), some (.int (nI k))] [] M := by
    intro f
    induction f with
    | zero =>
      intro k hf hk
      obtain rfl : k = n := by omega
      refine hG [4] 60 _ _ _ _ ?_
      simp only [wpN, ↓wq_aload_0, ↓wq_aload_1, ↓wq_aload_2, ↓wq_aload_3, ↓wq_aload_0n, ↓wq_aload_1n, ↓wq_aload_2n, ↓wq_aload_3n, ↓wq_bipush, ↓wq_getfield, ↓wq_goto, ↓wq_iaload, ↓wq_iconst, ↓wq_if_eq, ↓wq_if_ne, ↓wq_if_lt, ↓wq_if_ge, ↓wq_if_gt, ↓wq_if_le, ↓wq_icmp_eq, ↓wq_icmp_ne, ↓wq_icmp_lt, ↓wq_icmp_ge, ↓wq_icmp_gt, ↓wq_icmp_le, ↓wq_iinc, ↓wq_iload_0, ↓wq_iload_1, ↓wq_iload_2, ↓wq_iload_3, ↓wq_iret, ↓wq_istore_0, ↓wq_istore_1, ↓wq_istore_2, ↓wq_istore_3, ↓se_get_0, ↓se_get_s, ↓se_set1_0, ↓se_set1_1, ↓se_set1_s, ↓se_set2_0, ↓se_set2_1, ↓se_set2_s, ↓se_k2_n, ↓se_k2_i, ↓se_k2_r, ↓se_k2_u, ↓se_k2_l, ↓se_k2_q, ↓se_in_0, ↓se_in_s, ↓gI_s, ↓gL_s, ↓gR_r, ↓gR_n, ↓gR_q, ↓sR_r, ↓sR_n, ↓sR_q, ↓se_sp_n, ↓se_sp_y, ↓se_sp_z, ↓se_ts_n, ↓se_ts_c, ↓se_c8_n, ↓se_c8_i, ↓se_c8_r, ↓se_c8_u, ↓se_c8_l, ↓wD_e dX2_isOpen_0, ↓wD_e dX2_isOpen_1, ↓wD_e dX2_isOpen_2, ↓wD_e dX2_isOpen_3, ↓wD_e dX2_isOpen_4, ↓wD_e dX2_isOpen_5, ↓wD_e dX2_isOpen_6, ↓wD_e dX2_isOpen_9, ↓wD_e dX2_isOpen_12, ↓wD_e dX2_isOpen_13, ↓wD_e dX2_isOpen_16, ↓wD_e dX2_isOpen_17, ↓wD_e dX2_isOpen_20, ↓wD_e dX2_isOpen_21, ↓wD_e dX2_isOpen_22, ↓wD_e dX2_isOpen_24, ↓wD_e dX2_isOpen_27, ↓wD_e dX2_isOpen_28, ↓wD_e dX2_isOpen_31, ↓wD_e dX2_isOpen_32, ↓wD_e dX2_isOpen_33, ↓wD_e dX2_isOpen_36, ↓wD_e dX2_isOpen_39, ↓wD_e dX2_isOpen_40, cc_bipush_30, cc_iconst_0, cc_iconst_1, ↓tg_9_30, ↓tg_13_14, ↓tg_24_7, ↓tg_28_4, ↓tg_36_m32, ↓mB_0_572, ↓mB_0_148, ↓opIald_77, ↓opIast_77, ↓mB_13_0, ↓opGI_r, ↓opGJ_r, ↓opGA_r, ↓opPI_r, ↓opPZ_r, ↓opPJ_r, ↓opCI_r, ↓opCJ_r, ↓rz_b, ↓rz_1, ↓rz_0, ↓rt_vrZ_e, ↓T_isOpen_0, ↓T_isOpen_13, i32_10, i32_01, i32_m10, i32_03, i32_13, i32_23, Int32.reduceAdd, Int32.reduceSub, Int32.reduceMul, Int32.reduceLT, Int32.reduceLE, Int32.reduceToNatClampNeg, Int32.reduceOfInt, Int64.reduceAdd, Int64.reduceSub, Int64.reduceMul, Int64.reduceLT, Int64.reduceLE, lg_cmp_ge, lg_cmp_le, lg_cmp_gt, lg_cmp_lt, lg_cmp_eq, bI_0, bI_1, not_true_eq_false, not_false_eq_true, false_implies, Bool.not_eq_false, Bool.not_eq_true, and_self, Nat.reduceAdd, Int.reduceAdd, Nat.reduceEqDiff, reduceIte, true_and, and_true, implies_true, forall_const, fI_uI, fI_uJ, fI_sA, fI_sN, fI_uA, fI_uN, fJ_uI, fJ_uJ, fJ_sA, fJ_sN, fJ_uA, fJ_uN, fA_uI, fA_uJ, fA_sA, fA_sN, fA_uA, fA_uN, fN_uI, fN_uJ, fN_sA, fN_sN, fN_uA, fN_uN, e]
      exact ⟨fun _ => ⟨eR.symm, rfl⟩, fun h => absurd (Int32.le_refl _) h⟩
    | succ f ih =>
      intro k hf hk
      have hi := ih (k + 1) (by omega) (by omega)
      refine hG [4] 60 _ _ _ _ ?_
      simp only [wpN, ↓wq_aload_0, ↓wq_aload_1, ↓wq_aload_2, ↓wq_aload_3, ↓wq_aload_0n, ↓wq_aload_1n, ↓wq_aload_2n, ↓wq_aload_3n, ↓wq_bipush, ↓wq_getfield, ↓wq_goto, ↓wq_iaload, ↓wq_iconst, ↓wq_if_eq, ↓wq_if_ne, ↓wq_if_lt, ↓wq_if_ge, ↓wq_if_gt, ↓wq_if_le, ↓wq_icmp_eq, ↓wq_icmp_ne, ↓wq_icmp_lt, ↓wq_icmp_ge, ↓wq_icmp_gt, ↓wq_icmp_le, ↓wq_iinc, ↓wq_iload_0, ↓wq_iload_1, ↓wq_iload_2, ↓wq_iload_3, ↓wq_iret, ↓wq_istore_0, ↓wq_istore_1, ↓wq_istore_2, ↓wq_istore_3, ↓se_get_0, ↓se_get_s, ↓se_set1_0, ↓se_set1_1, ↓se_set1_s, ↓se_set2_0, ↓se_set2_1, ↓se_set2_s, ↓se_k2_n, ↓se_k2_i, ↓se_k2_r, ↓se_k2_u, ↓se_k2_l, ↓se_k2_q, ↓se_in_0, ↓se_in_s, ↓gI_s, ↓gL_s, ↓gR_r, ↓gR_n, ↓gR_q, ↓sR_r, ↓sR_n, ↓sR_q, ↓se_sp_n, ↓se_sp_y, ↓se_sp_z, ↓se_ts_n, ↓se_ts_c, ↓se_c8_n, ↓se_c8_i, ↓se_c8_r, ↓se_c8_u, ↓se_c8_l, ↓wD_e dX2_isOpen_0, ↓wD_e dX2_isOpen_1, ↓wD_e dX2_isOpen_2, ↓wD_e dX2_isOpen_3, ↓wD_e dX2_isOpen_4, ↓wD_e dX2_isOpen_5, ↓wD_e dX2_isOpen_6, ↓wD_e dX2_isOpen_9, ↓wD_e dX2_isOpen_12, ↓wD_e dX2_isOpen_13, ↓wD_e dX2_isOpen_16, ↓wD_e dX2_isOpen_17, ↓wD_e dX2_isOpen_20, ↓wD_e dX2_isOpen_21, ↓wD_e dX2_isOpen_22, ↓wD_e dX2_isOpen_24, ↓wD_e dX2_isOpen_27, ↓wD_e dX2_isOpen_28, ↓wD_e dX2_isOpen_31, ↓wD_e dX2_isOpen_32, ↓wD_e dX2_isOpen_33, ↓wD_e dX2_isOpen_36, ↓wD_e dX2_isOpen_39, ↓wD_e dX2_isOpen_40, cc_bipush_30, cc_iconst_0, cc_iconst_1, ↓tg_9_30, ↓tg_13_14, ↓tg_24_7, ↓tg_28_4, ↓tg_36_m32, ↓mB_0_572, ↓mB_0_148, ↓opIald_77, ↓opIast_77, ↓mB_13_0, ↓opGI_r, ↓opGJ_r, ↓opGA_r, ↓opPI_r, ↓opPZ_r, ↓opPJ_r, ↓opCI_r, ↓opCJ_r, ↓rz_b, ↓rz_1, ↓rz_0, ↓rt_vrZ_e, ↓T_isOpen_0, ↓T_isOpen_13, i32_10, i32_01, i32_m10, i32_03, i32_13, i32_23, Int32.reduceAdd, Int32.reduceSub, Int32.reduceMul, Int32.reduceLT, Int32.reduceLE, Int32.reduceToNatClampNeg, Int32.reduceOfInt, Int64.reduceAdd, Int64.reduceSub, Int64.reduceMul, Int64.reduceLT, Int64.reduceLE, lg_cmp_ge, lg_cmp_le, lg_cmp_gt, lg_cmp_lt, lg_cmp_eq, bI_0, bI_1, not_true_eq_false, not_false_eq_true, false_implies, Bool.not_eq_false, Bool.not_eq_true, and_self, Nat.reduceAdd, Int.reduceAdd, Nat.reduceEqDiff, reduceIte, true_and, and_true, implies_true, forall_const, fI_uI, fI_uJ, fI_sA, fI_sN, fI_uA, fI_uN, fJ_uI, fJ_uJ, fJ_sA, fJ_sN, fJ_uA, fJ_uN, fA_uI, fA_uJ, fA_sA, fA_sN, fA_uA, fA_uN, fN_uI, fN_uJ, fN_sA, fN_sN, fN_uA, fN_uN, e, nI_clamp (show k < 2 ^ 31 by omega), nI_1, nI_leL (show n < 2 ^ 31 by omega) (show k < 2 ^ 31 by omega)]
      refine ⟨fun h => absurd h (by omega), fun _ => ⟨fun h => ?_, fun h => ⟨vp_in_nI (by omega) (by omega), fun h2 => ?_, fun h2 => ?_⟩⟩⟩
      · have h3 : 0 < cn (fun d => decide (fA M 77 d = 30)) (k + 1) := by
          rw [cn]
          simp only [decide_eq_true_eq] at h
          omega
        rw [decide_eq_true h3] at hi
        exact hi
      · have h3 : ¬ 0 < cn (fun d => decide (fA M 77 d = 30)) (k + 1) := by
          rw [cn, if_neg (by simp only [h2, decide_false]; exact Bool.false_ne_true)]
          simp only [decide_eq_false_iff_not] at h
          exact h
        rw [decide_eq_false h3] at hi
        exact hi
      · have h3 : 0 < cn (fun d => decide (fA M 77 d = 30)) (k + 1) := by
          rw [cn, if_pos (by simp only [h2, decide_true])]
          omega
        rw [decide_eq_true h3] at hi
        exact hi
  refine hG [4] 60 _ _ _ _ ?_
  simp only [wpN, ↓wq_aload_0, ↓wq_aload_1, ↓wq_aload_2, ↓wq_aload_3, ↓wq_aload_0n, ↓wq_aload_1n, ↓wq_aload_2n, ↓wq_aload_3n, ↓wq_bipush, ↓wq_getfield, ↓wq_goto, ↓wq_iaload, ↓wq_iconst, ↓wq_if_eq, ↓wq_if_ne, ↓wq_if_lt, ↓wq_if_ge, ↓wq_if_gt, ↓wq_if_le, ↓wq_icmp_eq, ↓wq_icmp_ne, ↓wq_icmp_lt, ↓wq_icmp_ge, ↓wq_icmp_gt, ↓wq_icmp_le, ↓wq_iinc, ↓wq_iload_0, ↓wq_iload_1, ↓wq_iload_2, ↓wq_iload_3, ↓wq_iret, ↓wq_istore_0, ↓wq_istore_1, ↓wq_istore_2, ↓wq_istore_3, ↓se_get_0, ↓se_get_s, ↓se_set1_0, ↓se_set1_1, ↓se_set1_s, ↓se_set2_0, ↓se_set2_1, ↓se_set2_s, ↓se_k2_n, ↓se_k2_i, ↓se_k2_r, ↓se_k2_u, ↓se_k2_l, ↓se_k2_q, ↓se_in_0, ↓se_in_s, ↓gI_s, ↓gL_s, ↓gR_r, ↓gR_n, ↓gR_q, ↓sR_r, ↓sR_n, ↓sR_q, ↓se_sp_n, ↓se_sp_y, ↓se_sp_z, ↓se_ts_n, ↓se_ts_c, ↓se_c8_n, ↓se_c8_i, ↓se_c8_r, ↓se_c8_u, ↓se_c8_l, ↓wD_e dX2_isOpen_0, ↓wD_e dX2_isOpen_1, ↓wD_e dX2_isOpen_2, ↓wD_e dX2_isOpen_3, ↓wD_e dX2_isOpen_4, ↓wD_e dX2_isOpen_5, ↓wD_e dX2_isOpen_6, ↓wD_e dX2_isOpen_9, ↓wD_e dX2_isOpen_12, ↓wD_e dX2_isOpen_13, ↓wD_e dX2_isOpen_16, ↓wD_e dX2_isOpen_17, ↓wD_e dX2_isOpen_20, ↓wD_e dX2_isOpen_21, ↓wD_e dX2_isOpen_22, ↓wD_e dX2_isOpen_24, ↓wD_e dX2_isOpen_27, ↓wD_e dX2_isOpen_28, ↓wD_e dX2_isOpen_31, ↓wD_e dX2_isOpen_32, ↓wD_e dX2_isOpen_33, ↓wD_e dX2_isOpen_36, ↓wD_e dX2_isOpen_39, ↓wD_e dX2_isOpen_40, cc_bipush_30, cc_iconst_0, cc_iconst_1, ↓tg_9_30, ↓tg_13_14, ↓tg_24_7, ↓tg_28_4, ↓tg_36_m32, ↓mB_0_572, ↓mB_0_148, ↓opIald_77, ↓opIast_77, ↓mB_13_0, ↓opGI_r, ↓opGJ_r, ↓opGA_r, ↓opPI_r, ↓opPZ_r, ↓opPJ_r, ↓opCI_r, ↓opCJ_r, ↓rz_b, ↓rz_1, ↓rz_0, ↓rt_vrZ_e, ↓T_isOpen_0, ↓T_isOpen_13, i32_10, i32_01, i32_m10, i32_03, i32_13, i32_23, Int32.reduceAdd, Int32.reduceSub, Int32.reduceMul, Int32.reduceLT, Int32.reduceLE, Int32.reduceToNatClampNeg, Int32.reduceOfInt, Int64.reduceAdd, Int64.reduceSub, Int64.reduceMul, Int64.reduceLT, Int64.reduceLE, lg_cmp_ge, lg_cmp_le, lg_cmp_gt, lg_cmp_lt, lg_cmp_eq, bI_0, bI_1, not_true_eq_false, not_false_eq_true, false_implies, Bool.not_eq_false, Bool.not_eq_true, and_self, Nat.reduceAdd, Int.reduceAdd, Nat.reduceEqDiff, reduceIte, true_and, and_true, implies_true, forall_const, fI_uI, fI_uJ, fI_sA, fI_sN, fI_uA, fI_uN, fJ_uI, fJ_uJ, fJ_sA, fJ_sN, fJ_uA, fJ_uN, fA_uI, fA_uJ, fA_sA, fA_sN, fA_uA, fA_uN, fN_uI, fN_uJ, fN_sA, fN_sN, fN_uA, fN_uN]
  exact L n 0 rfl (Nat.zero_le _)
