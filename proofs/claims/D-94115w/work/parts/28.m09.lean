/-! THE REFERENCE: counts -/
def cn (p : Nat → Bool) : Nat → Nat
  | 0 => 0
  | k + 1 => cn p k + (if p k = true then 1 else 0)
theorem cn_le {p : Nat → Bool} : ∀ k, cn p k ≤ k
  | 0 => Nat.le_refl 0
  | k + 1 => by
    have := cn_le (p := p) k
    unfold cn
    split <;> omega

theorem tg_9_27 {K : Nat → Prop} : se_tg 9 (27) K = K 36 := rfl
theorem tg_33_m29 {K : Nat → Prop} : se_tg 33 (-29) K = K 4 := rfl
def P_kinds : Int32 → mM → Prop := fun a0 M => ∃ n : Nat, n ≤ 12 ∧ (fI M 39) = nI n
def R_kinds : Int32 → mM → Int32 := fun a0 M => nI (cn (fun d => decide ((fA M 34) d = a0)) ((fI M 39)).toNatClampNeg)
def F_kinds : Int32 → mM → mM := fun a0 M => M
def T_kinds : Nat → Nat → se_Op mM := se_tb2 (se_tab []) mB
theorem T_kinds_ok (l : Launch) : mTS l cX2_kinds 4 (some .int) 0 0 T_kinds := fun g p e s m args below meth c Q H0 C hG hI k i => se_tb2_ok (se_tab_ok _ (fun _ h => absurd h List.not_mem_nil)) (fun k i => mB_ok C hG hI k i) k i
theorem T_kinds_0 {i : Nat} : T_kinds 0 i = mB 0 i := rfl
theorem T_kinds_13 {i : Nat} : T_kinds 13 i = mB 13 i := rfl
set_option maxHeartbeats 4000000 in
set_option maxRecDepth 20000 in
theorem mt_kinds (l : Launch) : mc_vIrI l yX2_kinds cX2_kinds 4 0 0 P_kinds (fun a0 M x M' => x = R_kinds a0 M ∧ M' = F_kinds a0 M) := by
  refine mc_vIrI_of (by decide +kernel) rfl (T_kinds_ok l) (by decide) fun a0 M hp G hG => ?_
  show G 0 [some (.ref 0), some (.int a0), none, none] [] M
  obtain ⟨n, hn, e⟩ := hp
  have eR : R_kinds a0 M = nI (cn (fun d => decide ((fA M 34) d = a0)) n) := by rw [R_kinds, e, nI_clamp (by omega)]
  have L : ∀ f k, f = n - k → k ≤ n → G 4 [some (.ref 0), some (.int a0), some (.int (nI (cn (fun d => decide ((fA M 34) d = a0)) k))), some (.int (nI k))] [] M := by
    intro f
    induction f with
    | zero =>
      intro k hf hk
      obtain rfl : k = n := by omega
      refine hG [4] 60 _ _ _ _ ?_
      simp only [wpN, ↓wq_aload_0, ↓wq_aload_1, ↓wq_aload_2, ↓wq_aload_3, ↓wq_aload_0n, ↓wq_aload_1n, ↓wq_aload_2n, ↓wq_aload_3n, ↓wq_getfield, ↓wq_goto, ↓wq_iadd, ↓wq_iaload, ↓wq_iconst, ↓wq_icmp_eq, ↓wq_icmp_ne, ↓wq_icmp_lt, ↓wq_icmp_ge, ↓wq_icmp_gt, ↓wq_icmp_le, ↓wq_iinc, ↓wq_iload_0, ↓wq_iload_1, ↓wq_iload_2, ↓wq_iload_3, ↓wq_iret, ↓wq_istore_0, ↓wq_istore_1, ↓wq_istore_2, ↓wq_istore_3, ↓se_get_0, ↓se_get_s, ↓se_set1_0, ↓se_set1_1, ↓se_set1_s, ↓se_set2_0, ↓se_set2_1, ↓se_set2_s, ↓se_k2_n, ↓se_k2_i, ↓se_k2_r, ↓se_k2_u, ↓se_k2_l, ↓se_k2_q, ↓se_in_0, ↓se_in_s, ↓gI_s, ↓gL_s, ↓gR_r, ↓gR_n, ↓gR_q, ↓sR_r, ↓sR_n, ↓sR_q, ↓se_sp_n, ↓se_sp_y, ↓se_sp_z, ↓se_ts_n, ↓se_ts_c, ↓se_c8_n, ↓se_c8_i, ↓se_c8_r, ↓se_c8_u, ↓se_c8_l, ↓wD_e dX2_kinds_0, ↓wD_e dX2_kinds_1, ↓wD_e dX2_kinds_2, ↓wD_e dX2_kinds_3, ↓wD_e dX2_kinds_4, ↓wD_e dX2_kinds_5, ↓wD_e dX2_kinds_6, ↓wD_e dX2_kinds_9, ↓wD_e dX2_kinds_12, ↓wD_e dX2_kinds_13, ↓wD_e dX2_kinds_14, ↓wD_e dX2_kinds_17, ↓wD_e dX2_kinds_18, ↓wD_e dX2_kinds_19, ↓wD_e dX2_kinds_20, ↓wD_e dX2_kinds_23, ↓wD_e dX2_kinds_24, ↓wD_e dX2_kinds_27, ↓wD_e dX2_kinds_28, ↓wD_e dX2_kinds_29, ↓wD_e dX2_kinds_30, ↓wD_e dX2_kinds_33, ↓wD_e dX2_kinds_36, ↓wD_e dX2_kinds_37, cc_iconst_0, cc_iconst_1, ↓tg_9_27, ↓tg_20_7, ↓tg_24_4, ↓tg_33_m29, ↓mB_0_370, ↓mB_0_76, ↓opIald_34, ↓opIast_34, ↓mB_13_0, ↓opGI_r, ↓opGJ_r, ↓opGA_r, ↓opPI_r, ↓opPZ_r, ↓opPJ_r, ↓opCI_r, ↓opCJ_r, ↓rz_b, ↓rz_1, ↓rz_0, ↓rt_vIrI_e, ↓T_kinds_0, ↓T_kinds_13, i32_10, i32_01, i32_m10, i32_03, i32_13, i32_23, Int32.reduceAdd, Int32.reduceSub, Int32.reduceMul, Int32.reduceLT, Int32.reduceLE, Int32.reduceToNatClampNeg, Int32.reduceOfInt, Int64.reduceAdd, Int64.reduceSub, Int64.reduceMul, Int64.reduceLT, Int64.reduceLE, lg_cmp_ge, lg_cmp_le, lg_cmp_gt, lg_cmp_lt, lg_cmp_eq, bI_0, bI_1, not_true_eq_false, not_false_eq_true, false_implies, Bool.not_eq_false, Bool.not_eq_true, and_self, Nat.reduceAdd, Int.reduceAdd, Nat.reduceEqDiff, reduceIte, true_and, and_true, implies_true, forall_const, fI_uI, fI_uJ, fI_sA, fI_sN, fI_uA, fI_uN, fJ_uI, fJ_uJ, fJ_sA, fJ_sN, fJ_uA, fJ_uN, fA_uI, fA_uJ, fA_sA, fA_sN, fA_uA, fA_uN, fN_uI, fN_uJ, fN_sA, fN_sN, fN_uA, fN_uN, e]
      exact ⟨fun _ => ⟨eR.symm, rfl⟩, fun h => absurd (Int32.le_refl _) h⟩
    | succ f ih =>
      intro k hf hk
      have hi := ih (k + 1) (by omega) (by omega)
      refine hG [4] 60 _ _ _ _ ?_
      simp only [wpN, ↓wq_aload_0, ↓wq_aload_1, ↓wq_aload_2, ↓wq_aload_3, ↓wq_aload_0n, ↓wq_aload_1n, ↓wq_aload_2n, ↓wq_aload_3n, ↓wq_getfield, ↓wq_goto, ↓wq_iadd, ↓wq_iaload, ↓wq_iconst, ↓wq_icmp_eq, ↓wq_icmp_ne, ↓wq_icmp_lt, ↓wq_icmp_ge, ↓wq_icmp_gt, ↓wq_icmp_le, ↓wq_iinc, ↓wq_iload_0, ↓wq_iload_1, ↓wq_iload_2, ↓wq_iload_3, ↓wq_iret, ↓wq_istore_0, ↓wq_istore_1, ↓wq_istore_2, ↓wq_istore_3, ↓se_get_0, ↓se_get_s, ↓se_set1_0, ↓se_set1_1, ↓se_set1_s, ↓se_set2_0, ↓se_set2_1, ↓se_set2_s, ↓se_k2_n, ↓se_k2_i, ↓se_k2_r, ↓se_k2_u, ↓se_k2_l, ↓se_k2_q, ↓se_in_0, ↓se_in_s, ↓gI_s, ↓gL_s, ↓gR_r, ↓gR_n, ↓gR_q, ↓sR_r, ↓sR_n, ↓sR_q, ↓se_sp_n, ↓se_sp_y, ↓se_sp_z, ↓se_ts_n, ↓se_ts_c, ↓se_c8_n, ↓se_c8_i, ↓se_c8_r, ↓se_c8_u, ↓se_c8_l, ↓wD_e dX2_kinds_0, ↓wD_e dX2_kinds_1, ↓wD_e dX2_kinds_2, ↓wD_e dX2_kinds_3, ↓wD_e dX2_kinds_4, ↓wD_e dX2_kinds_5, ↓wD_e dX2_kinds_6, ↓wD_e dX2_kinds_9, ↓wD_e dX2_kinds_12, ↓wD_e dX2_kinds_13, ↓wD_e dX2_kinds_14, ↓wD_e dX2_kinds_17, ↓wD_e dX2_kinds_18, ↓wD_e dX2_kinds_19, ↓wD_e dX2_kinds_20, ↓wD_e dX2_kinds_23, ↓wD_e dX2_kinds_24, ↓wD_e dX2_kinds_27, ↓wD_e dX2_kinds_28, ↓wD_e dX2_kinds_29, ↓wD_e dX2_kinds_30, ↓wD_e dX2_kinds_33, ↓wD_e dX2_kinds_36, ↓wD_e dX2_kinds_37, cc_iconst_0, cc_iconst_1, ↓tg_9_27, ↓tg_20_7, ↓tg_24_4, ↓tg_33_m29, ↓mB_0_370, ↓mB_0_76, ↓opIald_34, ↓opIast_34, ↓mB_13_0, ↓opGI_r, ↓opGJ_r, ↓opGA_r, ↓opPI_r, ↓opPZ_r, ↓opPJ_r, ↓opCI_r, ↓opCJ_r, ↓rz_b, ↓rz_1, ↓rz_0, ↓rt_vIrI_e, ↓T_kinds_0, ↓T_kinds_13, i32_10, i32_01, i32_m10, i32_03, i32_13, i32_23, Int32.reduceAdd, Int32.reduceSub, Int32.reduceMul, Int32.reduceLT, Int32.reduceLE, Int32.reduceToNatClampNeg, Int32.reduceOfInt, Int64.reduceAdd, Int64.reduceSub, Int64.reduceMul, Int64.reduceLT, Int64.reduceLE, lg_cmp_ge, lg_cmp_le, lg_cmp_gt, lg_cmp_lt, lg_cmp_eq, bI_0, bI_1, not_true_eq_false, not_false_eq_true, false_implies, Bool.not_eq_false, Bool.not_eq_true, and_self, Nat.reduceAdd, Int.reduceAdd, Nat.reduceEqDiff, reduceIte, true_and, and_true, implies_true, forall_const, fI_uI, fI_uJ, fI_sA, fI_sN, fI_uA, fI_uN, fJ_uI, fJ_uJ, fJ_sA, fJ_sN, fJ_uA, fJ_uN, fA_uI, fA_uJ, fA_sA, fA_sN, fA_uA, fA_uN, fN_uI, fN_uJ, fN_sA, fN_sN, fN_uA, fN_uN, e, nI_clamp (show k < 2 ^ 31 by omega), nI_1, nI_leL (show n < 2 ^ 31 by omega) (show k < 2 ^ 31 by omega), nI_a0]
      refine ⟨fun h => absurd h (by omega), fun _ => ⟨vp_in_nI (by omega) (by omega), fun h => ?_, fun h => ?_⟩⟩
      · simpa only [cn, h, decide_true, decide_false, if_true, if_false, Bool.false_eq_true, Nat.add_zero] using hi
      · simpa only [cn, h, decide_true, decide_false, if_true, if_false, Bool.false_eq_true, Nat.add_zero] using hi
  refine hG [4] 60 _ _ _ _ ?_
  simp only [wpN, ↓wq_aload_0, ↓wq_aload_1, ↓wq_aload_2, ↓wq_aload_3, ↓wq_aload_0n, ↓wq_aload_1n, ↓wq_aload_2n, ↓wq_aload_3n, ↓wq_getfield, ↓wq_goto, ↓wq_iadd, ↓wq_iaload, ↓wq_iconst, ↓wq_icmp_eq, ↓wq_icmp_ne, ↓wq_icmp_lt, ↓wq_icmp_ge, ↓wq_icmp_gt, ↓wq_icmp_le, ↓wq_iinc, ↓wq_iload_0, ↓wq_iload_1, ↓wq_iload_2, ↓wq_iload_3, ↓wq_iret, ↓wq_istore_0, ↓wq_istore_1, ↓wq_istore_2, ↓wq_istore_3, ↓se_get_0, ↓se_get_s, ↓se_set1_0, ↓se_set1_1, ↓se_set1_s, ↓se_set2_0, ↓se_set2_1, ↓se_set2_s, ↓se_k2_n, ↓se_k2_i, ↓se_k2_r, ↓se_k2_u, ↓se_k2_l, ↓se_k2_q, ↓se_in_0, ↓se_in_s, ↓gI_s, ↓gL_s, ↓gR_r, ↓gR_n, ↓gR_q, ↓sR_r, ↓sR_n, ↓sR_q, ↓se_sp_n, ↓se_sp_y, ↓se_sp_z, ↓se_ts_n, ↓se_ts_c, ↓se_c8_n, ↓se_c8_i, ↓se_c8_r, ↓se_c8_u, ↓se_c8_l, ↓wD_e dX2_kinds_0, ↓wD_e dX2_kinds_1, ↓wD_e dX2_kinds_2, ↓wD_e dX2_kinds_3, ↓wD_e dX2_kinds_4, ↓wD_e dX2_kinds_5, ↓wD_e dX2_kinds_6, ↓wD_e dX2_kinds_9, ↓wD_e dX2_kinds_12, ↓wD_e dX2_kinds_13, ↓wD_e dX2_kinds_14, ↓wD_e dX2_kinds_17, ↓wD_e dX2_kinds_18, ↓wD_e dX2_kinds_19, ↓wD_e dX2_kinds_20, ↓wD_e dX2_kinds_23, ↓wD_e dX2_kinds_24, ↓wD_e dX2_kinds_27, ↓wD_e dX2_kinds_28, ↓wD_e dX2_kinds_29, ↓wD_e dX2_kinds_30, ↓wD_e dX2_kinds_33, ↓wD_e dX2_kinds_36, ↓wD_e dX2_kinds_37, cc_iconst_0, cc_iconst_1, ↓tg_9_27, ↓tg_20_7, ↓tg_24_4, ↓tg_33_m29, ↓mB_0_370, ↓mB_0_76, ↓opIald_34, ↓opIast_34, ↓mB_13_0, ↓opGI_r, ↓opGJ_r, ↓opGA_r, ↓opPI_r, ↓opPZ_r, ↓opPJ_r, ↓opCI_r, ↓opCJ_r, ↓rz_b, ↓rz_1, ↓rz_0, ↓rt_vIrI_e, ↓T_kinds_0, ↓T_kinds_13, i32_10, i32_01, i32_m10, i32_03, i32_13, i32_23, Int32.reduceAdd, Int32.reduceSub, Int32.reduceMul, Int32.reduceLT, Int32.reduceLE, Int32.reduceToNatClampNeg, Int32.reduceOfInt, Int64.reduceAdd, Int64.reduceSub, Int64.reduceMul, Int64.reduceLT, Int64.reduceLE, lg_cmp_ge, lg_cmp_le, lg_cmp_gt, lg_cmp_lt, lg_cmp_eq, bI_0, bI_1, not_true_eq_false, not_false_eq_true, false_implies, Bool.not_eq_false, Bool.not_eq_true, and_self, Nat.reduceAdd, Int.reduceAdd, Nat.reduceEqDiff, reduceIte, true_and, and_true, implies_true, forall_const, fI_uI, fI_uJ, fI_sA, fI_sN, fI_uA, fI_uN, fJ_uI, fJ_uJ, fJ_sA, fJ_sN, fJ_uA, fJ_uN, fA_uI, fA_uJ, fA_sA, fA_sN, fA_uA, fA_uN, fN_uI, fN_uJ, fN_sA, fN_sN, fN_uA, fN_uN]
  exact L n 0 rfl (Nat.zero_le _)
