/-! THE REFERENCE: small changes, greatest common parts -/

theorem cc_sipush_1000 : (Int16.ofInt (1000)).toInt32 = 1000 := by decide +kernel
theorem tg_1_22 {K : Nat → Prop} : se_tg 1 (22) K = K 23 := rfl
theorem tg_8_15 {K : Nat → Prop} : se_tg 8 (15) K = K 23 := rfl
theorem tg_20_5 {K : Nat → Prop} : se_tg 20 (5) K = K 25 := rfl
def P_later : Int32 → mM → Prop := fun a0 M => True
def R_later : Int32 → mM → Int32 := fun a0 M => if a0 < 0 then -1 else if 1000 < a0 then -1 else if (fI M 29) + a0 ≤ 100000 then (fI M 29) + a0 else -1
def F_later : Int32 → mM → mM := fun a0 M => if a0 < 0 then M else if 1000 < a0 then M else if (fI M 29) + a0 ≤ 100000 then (uI M 29 ((fI M 29) + a0)) else M
def T_later : Nat → Nat → se_Op mM := se_tb2 (se_tab []) mB
theorem T_later_ok (l : Launch) : mTS l cX2_later 2 (some .int) 0 0 T_later := fun g p e s m args below meth c Q H0 C hG hI k i => se_tb2_ok (se_tab_ok _ (fun _ h => absurd h List.not_mem_nil)) (fun k i => mB_ok C hG hI k i) k i
theorem T_later_0 {i : Nat} : T_later 0 i = mB 0 i := rfl
theorem T_later_1 {i : Nat} : T_later 1 i = mB 1 i := rfl
theorem T_later_10 {i : Nat} : T_later 10 i = mB 10 i := rfl
set_option maxHeartbeats 4000000 in
set_option maxRecDepth 20000 in
theorem mt_later (l : Launch) : mc_vIrI l yX2_later cX2_later 2 0 0 P_later (fun a0 M x M' => x = R_later a0 M ∧ M' = F_later a0 M) := by
  refine mc_vIrI_of (by decide +kernel) rfl (T_later_ok l) (by decide) fun a0 M hp G hG => ?_
  show G 0 [some (.ref 0), some (.int a0)] [] M
  refine hG [] 300 _ _ _ _ ?_
  simp only [wpN, ↓wq_aload_0, ↓wq_aload_1, ↓wq_aload_2, ↓wq_aload_3, ↓wq_aload_0n, ↓wq_aload_1n, ↓wq_aload_2n, ↓wq_aload_3n, ↓wq_dupi, ↓wq_dupr, ↓wq_dupn, ↓wq_getfield, ↓wq_iadd, ↓wq_iconst, ↓wq_if_eq, ↓wq_if_ne, ↓wq_if_lt, ↓wq_if_ge, ↓wq_if_gt, ↓wq_if_le, ↓wq_icmp_eq, ↓wq_icmp_ne, ↓wq_icmp_lt, ↓wq_icmp_ge, ↓wq_icmp_gt, ↓wq_icmp_le, ↓wq_iload_0, ↓wq_iload_1, ↓wq_iload_2, ↓wq_iload_3, ↓wq_iret, ↓wq_ldc_w, ↓wq_putfield, ↓wq_sipush, ↓se_get_0, ↓se_get_s, ↓se_set1_0, ↓se_set1_1, ↓se_set1_s, ↓se_set2_0, ↓se_set2_1, ↓se_set2_s, ↓se_k2_n, ↓se_k2_i, ↓se_k2_r, ↓se_k2_u, ↓se_k2_l, ↓se_k2_q, ↓se_in_0, ↓se_in_s, ↓gI_s, ↓gL_s, ↓gR_r, ↓gR_n, ↓gR_q, ↓sR_r, ↓sR_n, ↓sR_q, ↓se_sp_n, ↓se_sp_y, ↓se_sp_z, ↓se_ts_n, ↓se_ts_c, ↓se_c8_n, ↓se_c8_i, ↓se_c8_r, ↓se_c8_u, ↓se_c8_l, ↓wD_e dX2_later_0, ↓wD_e dX2_later_1, ↓wD_e dX2_later_4, ↓wD_e dX2_later_5, ↓wD_e dX2_later_8, ↓wD_e dX2_later_11, ↓wD_e dX2_later_12, ↓wD_e dX2_later_15, ↓wD_e dX2_later_16, ↓wD_e dX2_later_17, ↓wD_e dX2_later_20, ↓wD_e dX2_later_23, ↓wD_e dX2_later_24, ↓wD_e dX2_later_25, ↓wD_e dX2_later_26, ↓wD_e dX2_later_27, ↓wD_e dX2_later_30, ↓wD_e dX2_later_31, ↓wD_e dX2_later_32, ↓wD_e dX2_later_35, ↓wD_e dX2_later_36, ↓wD_e dX2_later_39, cc_iconst_m1, cc_sipush_1000, ↓tg_1_22, ↓tg_8_15, ↓tg_20_5, ↓mB_0_345, ↓mB_10_348, ↓mB_1_345, ↓opGI_r, ↓opGJ_r, ↓opGA_r, ↓opPI_r, ↓opPZ_r, ↓opPJ_r, ↓opCI_r, ↓opCJ_r, ↓rz_b, ↓rz_1, ↓rz_0, ↓rt_vIrI_e, ↓T_later_0, ↓T_later_1, ↓T_later_10, i32_10, i32_01, i32_m10, i32_03, i32_13, i32_23, Int32.reduceAdd, Int32.reduceSub, Int32.reduceMul, Int32.reduceLT, Int32.reduceLE, Int32.reduceToNatClampNeg, Int32.reduceOfInt, Int64.reduceAdd, Int64.reduceSub, Int64.reduceMul, Int64.reduceLT, Int64.reduceLE, lg_cmp_ge, lg_cmp_le, lg_cmp_gt, lg_cmp_lt, lg_cmp_eq, bI_0, bI_1, not_true_eq_false, not_false_eq_true, false_implies, Bool.not_eq_false, Bool.not_eq_true, and_self, Nat.reduceAdd, Int.reduceAdd, Nat.reduceEqDiff, reduceIte, true_and, and_true, implies_true, forall_const, fI_uI, fI_uJ, fI_sA, fI_sN, fI_uA, fI_uN, fJ_uI, fJ_uJ, fJ_sA, fJ_sN, fJ_uA, fJ_uN, fA_uI, fA_uJ, fA_sA, fA_sN, fA_uA, fA_uN, fN_uI, fN_uJ, fN_sA, fN_sN, fN_uA, fN_uN]
  clear hG
  (repeat' (first | apply And.intro | intro _))
  all_goals (first | rfl | (simp only [R_later, F_later, P_later, *, if_true, if_false, reduceIte, decide_true, decide_false, Bool.not_true, Bool.not_false, Bool.and_true, Bool.and_false, Bool.true_and, Bool.false_and, Bool.or_true, Bool.or_false, Bool.true_or, Bool.false_or, bI_t, bI_f, or_true, true_or, or_false, false_or, and_true, true_and, and_false, false_and, not_true_eq_false, not_false_eq_true, eq_self]; done) | (subst_vars; simp [R_later, F_later, P_later, bI, *]; done) | (simp only [R_later, F_later, P_later]; (repeat' split) <;> first | rfl | (exfalso; simp only [Int32.lt_iff_toInt_lt, Int32.le_iff_toInt_le, Int64.lt_iff_toInt_lt, Int64.le_iff_toInt_le, Int32.reduceToInt, Int64.reduceToInt] at *; omega)) | (simp_all [R_later, F_later, P_later, bI]; done))
theorem tg_1_20 {K : Nat → Prop} : se_tg 1 (20) K = K 21 := rfl
theorem tg_9_12 {K : Nat → Prop} : se_tg 9 (12) K = K 21 := rfl
theorem tg_18_5 {K : Nat → Prop} : se_tg 18 (5) K = K 23 := rfl
def P_untell : Int32 → mM → Prop := fun a0 M => ∃ n : Nat, n ≤ 12 ∧ (fI M 28) = nI n
def R_untell : Int32 → mM → Bool := fun a0 M => !(decide (a0 < 0)) && (!(decide ((fI M 28) ≤ a0)) && decide ((fA M 26) a0.toNatClampNeg < 0))
def F_untell : Int32 → mM → mM := fun a0 M => if a0 < 0 then M else if (fI M 28) ≤ a0 then M else if (fA M 26) a0.toNatClampNeg < 0 then (uA M 26 (a0.toNatClampNeg) ((fI M 29))) else M
def T_untell : Nat → Nat → se_Op mM := se_tb2 (se_tab []) mB
theorem T_untell_ok (l : Launch) : mTS l cX2_untell 2 (some .boolean) 0 0 T_untell := fun g p e s m args below meth c Q H0 C hG hI k i => se_tb2_ok (se_tab_ok _ (fun _ h => absurd h List.not_mem_nil)) (fun k i => mB_ok C hG hI k i) k i
theorem T_untell_0 {i : Nat} : T_untell 0 i = mB 0 i := rfl
theorem T_untell_13 {i : Nat} : T_untell 13 i = mB 13 i := rfl
theorem T_untell_14 {i : Nat} : T_untell 14 i = mB 14 i := rfl
set_option maxHeartbeats 4000000 in
set_option maxRecDepth 20000 in
theorem mt_untell (l : Launch) : mc_vIrZ l yX2_untell cX2_untell 2 0 0 P_untell (fun a0 M x M' => x = R_untell a0 M ∧ M' = F_untell a0 M) := by
  refine mc_vIrZ_of (by decide +kernel) rfl (T_untell_ok l) (by decide) fun a0 M hp G hG => ?_
  show G 0 [some (.ref 0), some (.int a0)] [] M
  obtain ⟨n, hn, e⟩ := hp
  have hv : ¬ a0 < 0 → ¬ fI M 28 ≤ a0 → vp_in a0 12 := fun h1 h2 => by
    obtain ⟨j, hj, rfl⟩ := nI_of h1
    rw [e, nI_leI (by omega) hj] at h2
    exact vp_in_nI (by omega) (by omega)
  clear e
  refine hG [] 300 _ _ _ _ ?_
  simp only [wpN, ↓wq_aload_0, ↓wq_aload_1, ↓wq_aload_2, ↓wq_aload_3, ↓wq_aload_0n, ↓wq_aload_1n, ↓wq_aload_2n, ↓wq_aload_3n, ↓wq_getfield, ↓wq_iaload, ↓wq_iastore, ↓wq_iconst, ↓wq_if_eq, ↓wq_if_ne, ↓wq_if_lt, ↓wq_if_ge, ↓wq_if_gt, ↓wq_if_le, ↓wq_icmp_eq, ↓wq_icmp_ne, ↓wq_icmp_lt, ↓wq_icmp_ge, ↓wq_icmp_gt, ↓wq_icmp_le, ↓wq_iload_0, ↓wq_iload_1, ↓wq_iload_2, ↓wq_iload_3, ↓wq_iret, ↓se_get_0, ↓se_get_s, ↓se_set1_0, ↓se_set1_1, ↓se_set1_s, ↓se_set2_0, ↓se_set2_1, ↓se_set2_s, ↓se_k2_n, ↓se_k2_i, ↓se_k2_r, ↓se_k2_u, ↓se_k2_l, ↓se_k2_q, ↓se_in_0, ↓se_in_s, ↓gI_s, ↓gL_s, ↓gR_r, ↓gR_n, ↓gR_q, ↓sR_r, ↓sR_n, ↓sR_q, ↓se_sp_n, ↓se_sp_y, ↓se_sp_z, ↓se_ts_n, ↓se_ts_c, ↓se_c8_n, ↓se_c8_i, ↓se_c8_r, ↓se_c8_u, ↓se_c8_l, ↓wD_e dX2_untell_0, ↓wD_e dX2_untell_1, ↓wD_e dX2_untell_4, ↓wD_e dX2_untell_5, ↓wD_e dX2_untell_6, ↓wD_e dX2_untell_9, ↓wD_e dX2_untell_12, ↓wD_e dX2_untell_13, ↓wD_e dX2_untell_16, ↓wD_e dX2_untell_17, ↓wD_e dX2_untell_18, ↓wD_e dX2_untell_21, ↓wD_e dX2_untell_22, ↓wD_e dX2_untell_23, ↓wD_e dX2_untell_24, ↓wD_e dX2_untell_27, ↓wD_e dX2_untell_28, ↓wD_e dX2_untell_29, ↓wD_e dX2_untell_32, ↓wD_e dX2_untell_33, ↓wD_e dX2_untell_34, cc_iconst_0, cc_iconst_1, ↓tg_1_20, ↓tg_9_12, ↓tg_18_5, ↓mB_0_333, ↓mB_0_58, ↓opIald_26, ↓opIast_26, ↓mB_13_0, ↓mB_0_345, ↓mB_14_0, ↓opGI_r, ↓opGJ_r, ↓opGA_r, ↓opPI_r, ↓opPZ_r, ↓opPJ_r, ↓opCI_r, ↓opCJ_r, ↓rz_b, ↓rz_1, ↓rz_0, ↓rt_vIrZ_e, ↓T_untell_0, ↓T_untell_13, ↓T_untell_14, i32_10, i32_01, i32_m10, i32_03, i32_13, i32_23, Int32.reduceAdd, Int32.reduceSub, Int32.reduceMul, Int32.reduceLT, Int32.reduceLE, Int32.reduceToNatClampNeg, Int32.reduceOfInt, Int64.reduceAdd, Int64.reduceSub, Int64.reduceMul, Int64.reduceLT, Int64.reduceLE, lg_cmp_ge, lg_cmp_le, lg_cmp_gt, lg_cmp_lt, lg_cmp_eq, bI_0, bI_1, not_true_eq_false, not_false_eq_true, false_implies, Bool.not_eq_false, Bool.not_eq_true, and_self, Nat.reduceAdd, Int.reduceAdd, Nat.reduceEqDiff, reduceIte, true_and, and_true, implies_true, forall_const, fI_uI, fI_uJ, fI_sA, fI_sN, fI_uA, fI_uN, fJ_uI, fJ_uJ, fJ_sA, fJ_sN, fJ_uA, fJ_uN, fA_uI, fA_uJ, fA_sA, fA_sN, fA_uA, fA_uN, fN_uI, fN_uJ, fN_sA, fN_sN, fN_uA, fN_uN]
  by_cases h1 : a0 < 0
  · simp only [h1, R_untell, F_untell, if_true, decide_true, Bool.not_true, Bool.false_and, not_true_eq_false, false_implies, true_implies, and_true, true_and]
  · by_cases h2 : fI M 28 ≤ a0
    · simp only [h1, h2, R_untell, F_untell, if_true, if_false, decide_true, decide_false, Bool.not_true, Bool.not_false, Bool.true_and, Bool.false_and, not_true_eq_false, not_false_eq_true, false_implies, true_implies, and_true, true_and]
    · have h3 := hv h1 h2
      by_cases h4 : fA M 26 a0.toNatClampNeg < 0 <;> simp only [h1, h2, h3, h4, R_untell, F_untell, if_true, if_false, decide_true, decide_false, Bool.not_true, Bool.not_false, Bool.true_and, Bool.false_and, not_true_eq_false, not_false_eq_true, false_implies, true_implies, and_true, true_and, and_self]
theorem tg_8_23 {K : Nat → Prop} : se_tg 8 (23) K = K 31 := rfl
theorem tg_19_12 {K : Nat → Prop} : se_tg 19 (12) K = K 31 := rfl
theorem tg_28_4 {K : Nat → Prop} : se_tg 28 (4) K = K 32 := rfl
def P_length : Int32 → Int32 → mM → Prop := fun a0 a1 M => ∃ n : Nat, n ≤ 32 ∧ (fI M 22) = nI n
def R_length : Int32 → Int32 → mM → Int32 := fun a0 a1 M => if R_isIn a0 ((fI M 22)) M = true then (if R_isIn a1 ((fI M 22)) M = true then R_starLength a0 a1 M else -1) else -1
def F_length : Int32 → Int32 → mM → mM := fun a0 a1 M => M
def T_length : Nat → Nat → se_Op mM := se_tb2 (se_tab [(5, 349, of_sIIrZ P_isIn R_isIn F_isIn), (3, 408, of_vIIrI P_starLength R_starLength F_starLength)]) mB
theorem T_length_ok (l : Launch) : mTS l cX2_length 3 (some .int) 3 70 T_length := fun g p e s m args below meth c Q H0 C hG hI k i => se_tb2_ok (se_tab_ok _ (List.forall_mem_cons.mpr ⟨of_sIIrZ_ok (fr := 3) (lo := 70) (maxL' := 2) (fr' := 0) (lo' := 0) (mt_isIn l) q2210 q2211 q102 q2212 (by decide +kernel) ⟨by decide, by decide⟩ C hG hI, List.forall_mem_cons.mpr ⟨of_vIIrI_ok (fr := 3) (lo := 70) (maxL' := 3) (fr' := 2) (lo' := 48) (mt_starLength l) q2265 q2267 qs58 q102 q2268 (by decide +kernel) ⟨by decide, by decide⟩ C hG hI, fun _ h => absurd h List.not_mem_nil⟩⟩)) (fun k i => mB_ok C hG hI k i) k i
theorem T_length_0 {i : Nat} : T_length 0 i = mB 0 i := rfl
theorem T_length_5_349 : T_length 5 349 = of_sIIrZ P_isIn R_isIn F_isIn := rfl
theorem T_length_3_408 : T_length 3 408 = of_vIIrI P_starLength R_starLength F_starLength := rfl
set_option maxHeartbeats 4000000 in
set_option maxRecDepth 20000 in
theorem mt_length (l : Launch) : mc_vIIrI l yX2_length cX2_length 3 3 70 P_length (fun a0 a1 M x M' => x = R_length a0 a1 M ∧ M' = F_length a0 a1 M) := by
  refine mc_vIIrI_of (by decide +kernel) rfl (T_length_ok l) (by decide) fun a0 a1 M hp G hG => ?_
  show G 0 [some (.ref 0), some (.int a0), some (.int a1)] [] M
  obtain ⟨n, hn, e⟩ := hp
  have hv : ∀ a : Int32, R_isIn a (fI M 22) M = true → vp_in a 32 := fun a h => by
    simp only [R_isIn, Bool.and_eq_true, Bool.not_eq_true', decide_eq_false_iff_not] at h
    obtain ⟨j, hj, rfl⟩ := nI_of h.1
    rw [e, nI_leI (by omega) hj] at h
    exact vp_in_nI (by omega) (by omega)
  clear e
  refine hG [] 300 _ _ _ _ ?_
  simp only [wpN, ↓wq_aload_0, ↓wq_aload_1, ↓wq_aload_2, ↓wq_aload_3, ↓wq_aload_0n, ↓wq_aload_1n, ↓wq_aload_2n, ↓wq_aload_3n, ↓wq_getfield, ↓wq_goto, ↓wq_iconst, ↓wq_if_eq, ↓wq_if_ne, ↓wq_if_lt, ↓wq_if_ge, ↓wq_if_gt, ↓wq_if_le, ↓wq_iload_0, ↓wq_iload_1, ↓wq_iload_2, ↓wq_iload_3, ↓wq_invokestatic, ↓wq_invokevirtual, ↓wq_iret, ↓se_get_0, ↓se_get_s, ↓se_set1_0, ↓se_set1_1, ↓se_set1_s, ↓se_set2_0, ↓se_set2_1, ↓se_set2_s, ↓se_k2_n, ↓se_k2_i, ↓se_k2_r, ↓se_k2_u, ↓se_k2_l, ↓se_k2_q, ↓se_in_0, ↓se_in_s, ↓gI_s, ↓gL_s, ↓gR_r, ↓gR_n, ↓gR_q, ↓sR_r, ↓sR_n, ↓sR_q, ↓se_sp_n, ↓se_sp_y, ↓se_sp_z, ↓se_ts_n, ↓se_ts_c, ↓se_c8_n, ↓se_c8_i, ↓se_c8_r, ↓se_c8_u, ↓se_c8_l, ↓wD_e dX2_length_0, ↓wD_e dX2_length_1, ↓wD_e dX2_length_2, ↓wD_e dX2_length_5, ↓wD_e dX2_length_8, ↓wD_e dX2_length_11, ↓wD_e dX2_length_12, ↓wD_e dX2_length_13, ↓wD_e dX2_length_16, ↓wD_e dX2_length_19, ↓wD_e dX2_length_22, ↓wD_e dX2_length_23, ↓wD_e dX2_length_24, ↓wD_e dX2_length_25, ↓wD_e dX2_length_28, ↓wD_e dX2_length_31, ↓wD_e dX2_length_32, cc_iconst_m1, ↓tg_8_23, ↓tg_19_12, ↓tg_28_4, ↓mB_0_330, ↓opGI_r, ↓opGJ_r, ↓opGA_r, ↓opPI_r, ↓opPZ_r, ↓opPJ_r, ↓opCI_r, ↓opCJ_r, ↓rz_b, ↓rz_1, ↓rz_0, ↓rt_vIIrI_e, ↓T_length_0, ↓T_length_5_349, ↓of_sIIrZ_r, ↓ov_sIIrZ_r, ↓F_isIn, ↓P_isIn, ↓T_length_3_408, ↓of_vIIrI_r, ↓ov_vIIrI_r, ↓F_starLength, i32_10, i32_01, i32_m10, i32_03, i32_13, i32_23, Int32.reduceAdd, Int32.reduceSub, Int32.reduceMul, Int32.reduceLT, Int32.reduceLE, Int32.reduceToNatClampNeg, Int32.reduceOfInt, Int64.reduceAdd, Int64.reduceSub, Int64.reduceMul, Int64.reduceLT, Int64.reduceLE, lg_cmp_ge, lg_cmp_le, lg_cmp_gt, lg_cmp_lt, lg_cmp_eq, bI_0, bI_1, not_true_eq_false, not_false_eq_true, false_implies, Bool.not_eq_false, Bool.not_eq_true, and_self, Nat.reduceAdd, Int.reduceAdd, Nat.reduceEqDiff, reduceIte, true_and, and_true, implies_true, forall_const, fI_uI, fI_uJ, fI_sA, fI_sN, fI_uA, fI_uN, fJ_uI, fJ_uJ, fJ_sA, fJ_sN, fJ_uA, fJ_uN, fA_uI, fA_uJ, fA_sA, fA_sN, fA_uA, fA_uN, fN_uI, fN_uJ, fN_sA, fN_sN, fN_uA, fN_uN]
  by_cases h1 : R_isIn a0 (fI M 22) M = true
  · by_cases h2 : R_isIn a1 (fI M 22) M = true
    · have h3 : P_starLength a0 a1 M := ⟨hv _ h1, hv _ h2⟩
      simp only [R_length, F_length, h1, h2, h3, if_true, true_implies, and_true, true_and, Bool.true_eq_false, false_implies, and_self]
    · simp only [Bool.not_eq_true] at h2
      simp only [R_length, F_length, h1, h2, if_true, if_false, true_implies, and_true, true_and, Bool.true_eq_false, Bool.false_eq_true, false_implies, and_self]
  · simp only [Bool.not_eq_true] at h1
    simp only [R_length, F_length, h1, if_true, if_false, true_implies, and_true, true_and, Bool.true_eq_false, Bool.false_eq_true, false_implies, and_self]
theorem tg_132_7 {K : Nat → Prop} : se_tg 132 (7) K = K 139 := rfl
theorem tg_136_4 {K : Nat → Prop} : se_tg 136 (4) K = K 140 := rfl
def P_lieAlike : Int32 → Int32 → Int32 → Int32 → Int32 → Int32 → mM → Prop := fun a0 a1 a2 a3 a4 a5 M => (P_pointX a0 M ∧ P_pointX a1 M ∧ P_pointX a2 M) ∧ vp_in a3 32 ∧ vp_in a4 32 ∧ vp_in a5 32
def R_lieAlike : Int32 → Int32 → Int32 → Int32 → Int32 → Int32 → mM → Bool := fun a0 a1 a2 a3 a4 a5 M => decide (R_sign (R_cross (R_pointX a1 M - R_pointX a0 M).toInt64 (R_pointY a1 M - R_pointY a0 M).toInt64 (R_pointX a2 M - R_pointX a0 M).toInt64 (R_pointY a2 M - R_pointY a0 M).toInt64 M) M = R_sign (R_cross ((fA M 16) a4.toNatClampNeg - (fA M 16) a3.toNatClampNeg).toInt64 ((fA M 17) a4.toNatClampNeg - (fA M 17) a3.toNatClampNeg).toInt64 ((fA M 16) a5.toNatClampNeg - (fA M 16) a3.toNatClampNeg).toInt64 ((fA M 17) a5.toNatClampNeg - (fA M 17) a3.toNatClampNeg).toInt64 M) M)
def F_lieAlike : Int32 → Int32 → Int32 → Int32 → Int32 → Int32 → mM → mM := fun a0 a1 a2 a3 a4 a5 M => M
def T_lieAlike : Nat → Nat → se_Op mM := se_tb2 (se_tab [(3, 402, of_vIrI P_pointX R_pointX F_pointX), (3, 405, of_vIrI P_pointY R_pointY F_pointY), (5, 417, of_sJJJJrJ P_cross R_cross F_cross), (5, 421, of_sJrI P_sign R_sign F_sign)]) mB
theorem T_lieAlike_ok (l : Launch) : mTS l cX2_lieAlike 11 (some .boolean) 1 27 T_lieAlike := fun g p e s m args below meth c Q H0 C hG hI k i => se_tb2_ok (se_tab_ok _ (List.forall_mem_cons.mpr ⟨of_vIrI_ok (fr := 1) (lo := 27) (maxL' := 2) (fr' := 0) (lo' := 0) (mt_pointX l) q2293 q2295 qs62 q102 q2296 (by decide +kernel) ⟨by decide, by decide⟩ C hG hI, List.forall_mem_cons.mpr ⟨of_vIrI_ok (fr := 1) (lo := 27) (maxL' := 2) (fr' := 0) (lo' := 0) (mt_pointY l) q2297 q2299 qs63 q102 q2300 (by decide +kernel) ⟨by decide, by decide⟩ C hG hI, List.forall_mem_cons.mpr ⟨of_sJJJJrJ_ok (fr := 1) (lo := 27) (maxL' := 8) (fr' := 0) (lo' := 0) (mt_cross l) q2327 q2328 q102 q2329 (by decide +kernel) ⟨by decide, by decide⟩ C hG hI, List.forall_mem_cons.mpr ⟨of_sJrI_ok (fr := 1) (lo := 27) (maxL' := 2) (fr' := 0) (lo' := 0) (mt_sign l) q2330 q2331 q102 q2332 (by decide +kernel) ⟨by decide, by decide⟩ C hG hI, fun _ h => absurd h List.not_mem_nil⟩⟩⟩⟩)) (fun k i => mB_ok C hG hI k i) k i
theorem T_lieAlike_0 {i : Nat} : T_lieAlike 0 i = mB 0 i := rfl
theorem T_lieAlike_13 {i : Nat} : T_lieAlike 13 i = mB 13 i := rfl
theorem T_lieAlike_3_402 : T_lieAlike 3 402 = of_vIrI P_pointX R_pointX F_pointX := rfl
theorem T_lieAlike_3_405 : T_lieAlike 3 405 = of_vIrI P_pointY R_pointY F_pointY := rfl
theorem T_lieAlike_5_417 : T_lieAlike 5 417 = of_sJJJJrJ P_cross R_cross F_cross := rfl
theorem T_lieAlike_5_421 : T_lieAlike 5 421 = of_sJrI P_sign R_sign F_sign := rfl
set_option maxHeartbeats 4000000 in
set_option maxRecDepth 20000 in
theorem mt_lieAlike (l : Launch) : mc_vIIIIIIrZ l yX2_lieAlike cX2_lieAlike 11 1 27 P_lieAlike (fun a0 a1 a2 a3 a4 a5 M x M' => x = R_lieAlike a0 a1 a2 a3 a4 a5 M ∧ M' = F_lieAlike a0 a1 a2 a3 a4 a5 M) := by
  refine mc_vIIIIIIrZ_of (by decide +kernel) rfl (T_lieAlike_ok l) (by decide) fun a0 a1 a2 a3 a4 a5 M hp G hG => ?_
  show G 0 [some (.ref 0), some (.int a0), some (.int a1), some (.int a2), some (.int a3), some (.int a4), some (.int a5), none, none, none, none] [] M
  refine hG [] 300 _ _ _ _ ?_
  simp only [wpN, ↓wq_aload_0, ↓wq_aload_1, ↓wq_aload_2, ↓wq_aload_3, ↓wq_aload_0n, ↓wq_aload_1n, ↓wq_aload_2n, ↓wq_aload_3n, ↓wq_getfield, ↓wq_goto, ↓wq_i2l, ↓wq_iaload, ↓wq_iconst, ↓wq_icmp_eq, ↓wq_icmp_ne, ↓wq_icmp_lt, ↓wq_icmp_ge, ↓wq_icmp_gt, ↓wq_icmp_le, ↓wq_iload, ↓wq_iload_0, ↓wq_iload_1, ↓wq_iload_2, ↓wq_iload_3, ↓wq_invokestatic, ↓wq_invokevirtual, ↓wq_iret, ↓wq_isub, ↓wq_lload, ↓wq_lstore, ↓se_get_0, ↓se_get_s, ↓se_set1_0, ↓se_set1_1, ↓se_set1_s, ↓se_set2_0, ↓se_set2_1, ↓se_set2_s, ↓se_k2_n, ↓se_k2_i, ↓se_k2_r, ↓se_k2_u, ↓se_k2_l, ↓se_k2_q, ↓se_in_0, ↓se_in_s, ↓gI_s, ↓gL_s, ↓gR_r, ↓gR_n, ↓gR_q, ↓sR_r, ↓sR_n, ↓sR_q, ↓se_sp_n, ↓se_sp_y, ↓se_sp_z, ↓se_ts_n, ↓se_ts_c, ↓se_c8_n, ↓se_c8_i, ↓se_c8_r, ↓se_c8_u, ↓se_c8_l, ↓wD_e dX2_lieAlike_0, ↓wD_e dX2_lieAlike_1, ↓wD_e dX2_lieAlike_2, ↓wD_e dX2_lieAlike_5, ↓wD_e dX2_lieAlike_6, ↓wD_e dX2_lieAlike_7, ↓wD_e dX2_lieAlike_10, ↓wD_e dX2_lieAlike_11, ↓wD_e dX2_lieAlike_12, ↓wD_e dX2_lieAlike_13, ↓wD_e dX2_lieAlike_14, ↓wD_e dX2_lieAlike_17, ↓wD_e dX2_lieAlike_18, ↓wD_e dX2_lieAlike_19, ↓wD_e dX2_lieAlike_22, ↓wD_e dX2_lieAlike_23, ↓wD_e dX2_lieAlike_24, ↓wD_e dX2_lieAlike_25, ↓wD_e dX2_lieAlike_26, ↓wD_e dX2_lieAlike_29, ↓wD_e dX2_lieAlike_30, ↓wD_e dX2_lieAlike_31, ↓wD_e dX2_lieAlike_34, ↓wD_e dX2_lieAlike_35, ↓wD_e dX2_lieAlike_36, ↓wD_e dX2_lieAlike_37, ↓wD_e dX2_lieAlike_38, ↓wD_e dX2_lieAlike_41, ↓wD_e dX2_lieAlike_42, ↓wD_e dX2_lieAlike_43, ↓wD_e dX2_lieAlike_46, ↓wD_e dX2_lieAlike_47, ↓wD_e dX2_lieAlike_48, ↓wD_e dX2_lieAlike_51, ↓wD_e dX2_lieAlike_53, ↓wD_e dX2_lieAlike_54, ↓wD_e dX2_lieAlike_57, ↓wD_e dX2_lieAlike_59, ↓wD_e dX2_lieAlike_60, ↓wD_e dX2_lieAlike_61, ↓wD_e dX2_lieAlike_64, ↓wD_e dX2_lieAlike_66, ↓wD_e dX2_lieAlike_67, ↓wD_e dX2_lieAlike_68, ↓wD_e dX2_lieAlike_69, ↓wD_e dX2_lieAlike_70, ↓wD_e dX2_lieAlike_73, ↓wD_e dX2_lieAlike_75, ↓wD_e dX2_lieAlike_76, ↓wD_e dX2_lieAlike_77, ↓wD_e dX2_lieAlike_80, ↓wD_e dX2_lieAlike_82, ↓wD_e dX2_lieAlike_83, ↓wD_e dX2_lieAlike_84, ↓wD_e dX2_lieAlike_85, ↓wD_e dX2_lieAlike_86, ↓wD_e dX2_lieAlike_89, ↓wD_e dX2_lieAlike_91, ↓wD_e dX2_lieAlike_92, ↓wD_e dX2_lieAlike_93, ↓wD_e dX2_lieAlike_96, ↓wD_e dX2_lieAlike_98, ↓wD_e dX2_lieAlike_99, ↓wD_e dX2_lieAlike_100, ↓wD_e dX2_lieAlike_101, ↓wD_e dX2_lieAlike_102, ↓wD_e dX2_lieAlike_105, ↓wD_e dX2_lieAlike_107, ↓wD_e dX2_lieAlike_108, ↓wD_e dX2_lieAlike_109, ↓wD_e dX2_lieAlike_112, ↓wD_e dX2_lieAlike_114, ↓wD_e dX2_lieAlike_115, ↓wD_e dX2_lieAlike_116, ↓wD_e dX2_lieAlike_117, ↓wD_e dX2_lieAlike_120, ↓wD_e dX2_lieAlike_122, ↓wD_e dX2_lieAlike_124, ↓wD_e dX2_lieAlike_127, ↓wD_e dX2_lieAlike_129, ↓wD_e dX2_lieAlike_132, ↓wD_e dX2_lieAlike_135, ↓wD_e dX2_lieAlike_136, ↓wD_e dX2_lieAlike_139, ↓wD_e dX2_lieAlike_140, cc_iconst_0, cc_iconst_1, ↓tg_132_7, ↓tg_136_4, ↓mB_0_32, ↓opIald_16, ↓opIast_16, ↓mB_13_0, ↓mB_0_35, ↓opIald_17, ↓opIast_17, ↓opGI_r, ↓opGJ_r, ↓opGA_r, ↓opPI_r, ↓opPZ_r, ↓opPJ_r, ↓opCI_r, ↓opCJ_r, ↓rz_b, ↓rz_1, ↓rz_0, ↓rt_vIIIIIIrZ_e, ↓T_lieAlike_0, ↓T_lieAlike_13, ↓T_lieAlike_3_402, ↓of_vIrI_r, ↓ov_vIrI_r, ↓F_pointX, ↓T_lieAlike_3_405, ↓F_pointY, ↓T_lieAlike_5_417, ↓of_sJJJJrJ_r, ↓ov_sJJJJrJ_r, ↓F_cross, ↓P_cross, ↓T_lieAlike_5_421, ↓of_sJrI_r, ↓ov_sJrI_r, ↓F_sign, ↓P_sign, i32_10, i32_01, i32_m10, i32_03, i32_13, i32_23, Int32.reduceAdd, Int32.reduceSub, Int32.reduceMul, Int32.reduceLT, Int32.reduceLE, Int32.reduceToNatClampNeg, Int32.reduceOfInt, Int64.reduceAdd, Int64.reduceSub, Int64.reduceMul, Int64.reduceLT, Int64.reduceLE, lg_cmp_ge, lg_cmp_le, lg_cmp_gt, lg_cmp_lt, lg_cmp_eq, bI_0, bI_1, not_true_eq_false, not_false_eq_true, false_implies, Bool.not_eq_false, Bool.not_eq_true, and_self, Nat.reduceAdd, Int.reduceAdd, Nat.reduceEqDiff, reduceIte, true_and, and_true, implies_true, forall_const, fI_uI, fI_uJ, fI_sA, fI_sN, fI_uA, fI_uN, fJ_uI, fJ_uJ, fJ_sA, fJ_sN, fJ_uA, fJ_uN, fA_uI, fA_uJ, fA_sA, fA_sN, fA_uA, fA_uN, fN_uI, fN_uJ, fN_sA, fN_sN, fN_uA, fN_uN]
  obtain ⟨⟨h1, h2, h3⟩, h4, h5, h6⟩ := hp
  have g1 : P_pointY a0 M := h1
  have g2 : P_pointY a1 M := h2
  have g3 : P_pointY a2 M := h3
  clear hG
  (repeat' (first | assumption | apply And.intro | intro _))
  all_goals (first | rfl | (simp only [R_lieAlike, F_lieAlike, P_lieAlike, *, if_true, if_false, reduceIte, decide_true, decide_false, Bool.not_true, Bool.not_false, Bool.and_true, Bool.and_false, Bool.true_and, Bool.false_and, Bool.or_true, Bool.or_false, Bool.true_or, Bool.false_or, bI_t, bI_f, or_true, true_or, or_false, false_or, and_true, true_and, and_false, false_and, not_true_eq_false, not_false_eq_true, eq_self]; done) | (simp only [R_lieAlike, F_lieAlike, P_lieAlike, *, if_true, if_false, reduceIte, decide_true, decide_false, Bool.not_true, Bool.not_false, Bool.and_true, Bool.and_false, Bool.true_and, Bool.false_and, Bool.or_true, Bool.or_false, Bool.true_or, Bool.false_or, bI_t, bI_f, or_true, true_or, or_false, false_or, and_true, true_and, and_false, false_and, not_true_eq_false, not_false_eq_true, eq_self]; rfl))
