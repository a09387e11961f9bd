/-! THE REFERENCE: the tape, signed numerals, the plain book -/
theorem tkS_len {o : Bool} {t : Nat → Int32} {n p : Nat} (h : p ≤ n) : p + (tkS o t n p).2.1 ≤ n := by
  have h1 := rn_le (p := isLe) (t := t) (n - p) p
  have h2 := rn_le (p := isDi) (t := t) (n - p) p
  unfold tkS
  split
  · exact h
  · split
    · show p + rn isLe t (n - p) p ≤ n
      omega
    · split
      · show p + rn isDi t (n - p) p ≤ n
        omega
      · show p + 1 ≤ n
        omega
theorem F_token_e {M : mM} {a n : Nat} (h : tkR a n M) (han : a ≤ n) : F_token M = tkM M a n := by
  obtain ⟨ha, hn, hn'⟩ := h
  simp only [F_token, ha, hn, nI_clamp (show a < 2 ^ 31 by omega), nI_clamp (show n < 2 ^ 31 by omega)]
theorem P_token_F {M : mM} (h : P_token M) : P_token (F_token M) := by
  obtain ⟨a, n, h1, han, hpos⟩ := h
  rw [F_token_e h1 han]
  obtain ⟨ha, hn, hn'⟩ := h1
  have h2 := tkP_le (t := fA M 0) han
  have h3 := tkS_len (o := decide (fI M 10 ≠ 0)) (t := fA M 0) h2
  refine ⟨if (tkS (decide (fI M 10 ≠ 0)) (fA M 0) n (tkP (fA M 0) n a)).1 = 3 then tkP (fA M 0) n a else tkP (fA M 0) n a + (tkS (decide (fI M 10 ≠ 0)) (fA M 0) n (tkP (fA M 0) n a)).2.1, n, ⟨?_, ?_, hn'⟩, ?_, hpos⟩
  · show (if (tkS (decide (fI M 10 ≠ 0)) (fA M 0) n (tkP (fA M 0) n a)).1 = 3 then nI _ else nI _) = nI _
    split <;> rfl
  · exact hn
  · split <;> assumption
theorem P_token_wrong {k : Int32} {M : mM} (h : P_token M) : P_token (F_wrong k M) := by
  unfold F_wrong
  split
  · exact h
  · exact h

theorem cc_bipush_20 : (Int8.ofInt (20)).toInt32 = 20 := by decide +kernel
theorem cc_sipush_1500 : (Int16.ofInt (1500)).toInt32 = 1500 := by decide +kernel
theorem tg_10_5 {K : Nat → Prop} : se_tg 10 (5) K = K 15 := rfl
def P_feed : Int32 → Int32 → Int32 → Int32 → Int32 → mM → Prop := fun a0 a1 a2 a3 a4 M => ∃ n : Nat, n ≤ 1500 ∧ (fI M 1) = nI n
def R_feed : Int32 → Int32 → Int32 → Int32 → Int32 → mM → Int32 := fun a0 a1 a2 a3 a4 M => if (fI M 1) + 20 ≤ 1500 then (fI M 1) + 20 else -1
def F_feed : Int32 → Int32 → Int32 → Int32 → Int32 → mM → mM := fun a0 a1 a2 a3 a4 M => if (fI M 1) + 20 ≤ 1500 then F_four a4 (F_four a3 (F_four a2 (F_four a1 (F_four a0 M)))) else M
def T_feed : Nat → Nat → se_Op mM := se_tb2 (se_tab [(3, 184, of_vIrV P_four F_four)]) mB
theorem T_feed_ok (l : Launch) : mTS l cX2_feed 6 (some .int) 1 22 T_feed := fun g p e s m args below meth c Q H0 C hG hI k i => se_tb2_ok (se_tab_ok _ (List.forall_mem_cons.mpr ⟨of_vIrV_ok (fr := 1) (lo := 22) (maxL' := 3) (fr' := 0) (lo' := 0) (mt_four l) q2084 q2086 qs33 q102 q2087 (by decide +kernel) ⟨by decide, by decide⟩ C hG hI, fun _ h => absurd h List.not_mem_nil⟩)) (fun k i => mB_ok C hG hI k i) k i
theorem T_feed_0 {i : Nat} : T_feed 0 i = mB 0 i := rfl
theorem T_feed_3_184 : T_feed 3 184 = of_vIrV P_four F_four := rfl
set_option maxHeartbeats 4000000 in
set_option maxRecDepth 20000 in
theorem mt_feed (l : Launch) : mc_vIIIIIrI l yX2_feed cX2_feed 6 1 22 P_feed (fun a0 a1 a2 a3 a4 M x M' => x = R_feed a0 a1 a2 a3 a4 M ∧ M' = F_feed a0 a1 a2 a3 a4 M) := by
  refine mc_vIIIIIrI_of (by decide +kernel) rfl (T_feed_ok l) (by decide) fun a0 a1 a2 a3 a4 M hp G hG => ?_
  show G 0 [some (.ref 0), some (.int a0), some (.int a1), some (.int a2), some (.int a3), some (.int a4)] [] M
  refine hG [] 300 _ _ _ _ ?_
  simp only [wpN, ↓wq_aload_0, ↓wq_aload_1, ↓wq_aload_2, ↓wq_aload_3, ↓wq_aload_0n, ↓wq_aload_1n, ↓wq_aload_2n, ↓wq_aload_3n, ↓wq_bipush, ↓wq_getfield, ↓wq_iadd, ↓wq_iconst, ↓wq_icmp_eq, ↓wq_icmp_ne, ↓wq_icmp_lt, ↓wq_icmp_ge, ↓wq_icmp_gt, ↓wq_icmp_le, ↓wq_iload, ↓wq_iload_0, ↓wq_iload_1, ↓wq_iload_2, ↓wq_iload_3, ↓wq_invokevirtual, ↓wq_iret, ↓wq_sipush, ↓se_get_0, ↓se_get_s, ↓se_set1_0, ↓se_set1_1, ↓se_set1_s, ↓se_set2_0, ↓se_set2_1, ↓se_set2_s, ↓se_k2_n, ↓se_k2_i, ↓se_k2_r, ↓se_k2_u, ↓se_k2_l, ↓se_k2_q, ↓se_in_0, ↓se_in_s, ↓gI_s, ↓gL_s, ↓gR_r, ↓gR_n, ↓gR_q, ↓sR_r, ↓sR_n, ↓sR_q, ↓se_sp_n, ↓se_sp_y, ↓se_sp_z, ↓se_ts_n, ↓se_ts_c, ↓se_c8_n, ↓se_c8_i, ↓se_c8_r, ↓se_c8_u, ↓se_c8_l, ↓wD_e dX2_feed_0, ↓wD_e dX2_feed_1, ↓wD_e dX2_feed_4, ↓wD_e dX2_feed_6, ↓wD_e dX2_feed_7, ↓wD_e dX2_feed_10, ↓wD_e dX2_feed_13, ↓wD_e dX2_feed_14, ↓wD_e dX2_feed_15, ↓wD_e dX2_feed_16, ↓wD_e dX2_feed_17, ↓wD_e dX2_feed_20, ↓wD_e dX2_feed_21, ↓wD_e dX2_feed_22, ↓wD_e dX2_feed_25, ↓wD_e dX2_feed_26, ↓wD_e dX2_feed_27, ↓wD_e dX2_feed_30, ↓wD_e dX2_feed_31, ↓wD_e dX2_feed_33, ↓wD_e dX2_feed_36, ↓wD_e dX2_feed_37, ↓wD_e dX2_feed_39, ↓wD_e dX2_feed_42, ↓wD_e dX2_feed_43, ↓wD_e dX2_feed_46, cc_bipush_20, cc_iconst_m1, cc_sipush_1500, ↓tg_10_5, ↓mB_0_181, ↓opGI_r, ↓opGJ_r, ↓opGA_r, ↓opPI_r, ↓opPZ_r, ↓opPJ_r, ↓opCI_r, ↓opCJ_r, ↓rz_b, ↓rz_1, ↓rz_0, ↓rt_vIIIIIrI_e, ↓T_feed_0, ↓T_feed_3_184, ↓of_vIrV_r, ↓ov_vIrV_r, i32_10, i32_01, i32_m10, i32_03, i32_13, i32_23, Int32.reduceAdd, Int32.reduceSub, Int32.reduceMul, Int32.reduceLT, Int32.reduceLE, Int32.reduceToNatClampNeg, Int32.reduceOfInt, Int64.reduceAdd, Int64.reduceSub, Int64.reduceMul, Int64.reduceLT, Int64.reduceLE, lg_cmp_ge, lg_cmp_le, lg_cmp_gt, lg_cmp_lt, lg_cmp_eq, bI_0, bI_1, not_true_eq_false, not_false_eq_true, false_implies, Bool.not_eq_false, Bool.not_eq_true, and_self, Nat.reduceAdd, Int.reduceAdd, Nat.reduceEqDiff, reduceIte, true_and, and_true, implies_true, forall_const, fI_uI, fI_uJ, fI_sA, fI_sN, fI_uA, fI_uN, fJ_uI, fJ_uJ, fJ_sA, fJ_sN, fJ_uA, fJ_uN, fA_uI, fA_uJ, fA_sA, fA_sN, fA_uA, fA_uN, fN_uI, fN_uJ, fN_sA, fN_sN, fN_uA, fN_uN]
  obtain ⟨n, hn, e⟩ := hp
  have f4 : ∀ (v : Int32) (N : mM), fI (F_four v N) 1 = fI N 1 + 1 + 1 + 1 + 1 := fun v N => rfl
  have h20 : nI n + 20 = nI (n + 20) := (nI_add n 20)
  have hle : (nI (n + 20) ≤ 1500) = (n + 20 ≤ 1500) := nI_leL (c := 1500) (by omega) (by omega)
  refine ⟨fun h => ?_, fun h => ⟨(if_neg h).symm, (if_neg h).symm⟩⟩
  have h' := h
  rw [e, h20, hle] at h'
  have p4 : ∀ (k : Nat) (N : mM), k + 4 ≤ 20 → fI N 1 = nI (n + k) → ∃ j : Nat, j ≤ 1496 ∧ fI N 1 = nI j := fun k N hk hN => ⟨n + k, by omega, hN⟩
  have s4 : ∀ (k : Nat) (N : mM) (v : Int32), fI N 1 = nI (n + k) → fI (F_four v N) 1 = nI (n + (k + 4)) := fun k N v hN => by
    rw [f4, hN, nI_1, nI_1, nI_1, nI_1]; rfl
  have q0 : fI M 1 = nI (n + 0) := e
  have q1 := s4 0 M a0 q0
  have q2 := s4 _ _ a1 q1
  have q3 := s4 _ _ a2 q2
  have q4 := s4 _ _ a3 q3
  have q5 := s4 _ _ a4 q4
  refine ⟨p4 _ _ (by omega) q0, p4 _ _ (by omega) q1, p4 _ _ (by omega) q2, p4 _ _ (by omega) q3, p4 _ _ (by omega) q4, ?_, ?_⟩
  · rw [R_feed, if_pos h, e, h20]; exact q5
  · rw [F_feed, if_pos h]
  theorem fill_s {M : mM} {f k : Nat} {g h : Nat → Int32} : uA (sA M f (fun i => if i < k then g i else h i)) f k (g k) = sA M f (fun i => if i < k + 1 then g i else h i) := by
    refine mM_ext (fun j => rfl) (fun j => rfl) (fun j i => ?_) (fun j => rfl)
    simp only [fA_uA, fA_sA, upd]
    by_cases hj : j = f
    · simp only [hj, if_true]
      show (if i = k then g k else if i < k then g i else h i) = if i < k + 1 then g i else h i
      by_cases hi : i = k
      · simp only [hi, if_true, if_pos (Nat.lt_succ_self k)]
      · by_cases h1 : i < k
        · simp only [hi, if_false, if_pos h1, if_pos (Nat.lt_succ_of_lt h1)]
        · simp only [hi, if_false, if_neg h1, if_neg (show ¬ i < k + 1 by omega)]
    · simp only [hj, if_false]
  theorem fill_0 {M : mM} {f : Nat} {g : Nat → Int32} : sA M f (fun i => if i < 0 then g i else fA M f i) = M := by
    refine mM_ext (fun j => rfl) (fun j => rfl) (fun j i => ?_) (fun j => rfl)
    simp only [fA_sA, Nat.not_lt_zero, if_false]
    split
    · rename_i h; rw [h]
    · rfl
theorem cc_bipush_12 : (Int8.ofInt (12)).toInt32 = 12 := by decide +kernel
theorem tg_5_19 {K : Nat → Prop} : se_tg 5 (19) K = K 24 := rfl
theorem tg_21_m19 {K : Nat → Prop} : se_tg 21 (-19) K = K 2 := rfl
def P_plain : mM → Prop := fun M => True
def F_plain : mM → mM := fun M => (sA M 12 (fun i => if i < 12 then R_plainOf (nI i) M else (fA M 12) i))
def T_plain : Nat → Nat → se_Op mM := se_tb2 (se_tab [(5, 292, of_sIrI P_plainOf R_plainOf F_plainOf)]) mB
theorem T_plain_ok (l : Launch) : mTS l cX2_plain 2 none 1 20 T_plain := fun g p e s m args below meth c Q H0 C hG hI k i => se_tb2_ok (se_tab_ok _ (List.forall_mem_cons.mpr ⟨of_sIrI_ok (fr := 1) (lo := 20) (maxL' := 1) (fr' := 0) (lo' := 0) (mt_plainOf l) q1794 q1795 q102 q1796 (by decide +kernel) ⟨by decide, by decide⟩ C hG hI, fun _ h => absurd h List.not_mem_nil⟩)) (fun k i => mB_ok C hG hI k i) k i
theorem T_plain_0 {i : Nat} : T_plain 0 i = mB 0 i := rfl
theorem T_plain_14 {i : Nat} : T_plain 14 i = mB 14 i := rfl
theorem T_plain_5_292 : T_plain 5 292 = of_sIrI P_plainOf R_plainOf F_plainOf := rfl
set_option maxHeartbeats 4000000 in
set_option maxRecDepth 20000 in
theorem mt_plain (l : Launch) : mc_vrV l yX2_plain cX2_plain 2 1 20 P_plain (fun M M' => M' = F_plain M) := by
  refine mc_vrV_of (by decide +kernel) rfl (T_plain_ok l) (by decide) fun M hp G hG => ?_
  show G 0 [some (.ref 0), none] [] M
  have L : ∀ f k, f = 12 - k → k ≤ 12 → G 2 [some (.ref 0), some (.int (nI k))] [] (sA M 12 (fun i => if i < k then R_plainOf (nI i) M else fA M 12 i)) := by
    intro f
    induction f with
    | zero =>
      intro k hf hk
      obtain rfl : k = 12 := by omega
      refine hG [2] 60 _ _ _ _ ?_
      simp only [wpN, ↓wq_aload_0, ↓wq_aload_1, ↓wq_aload_2, ↓wq_aload_3, ↓wq_aload_0n, ↓wq_aload_1n, ↓wq_aload_2n, ↓wq_aload_3n, ↓wq_bipush, ↓wq_getfield, ↓wq_goto, ↓wq_iastore, ↓wq_iconst, ↓wq_icmp_eq, ↓wq_icmp_ne, ↓wq_icmp_lt, ↓wq_icmp_ge, ↓wq_icmp_gt, ↓wq_icmp_le, ↓wq_iinc, ↓wq_iload_0, ↓wq_iload_1, ↓wq_iload_2, ↓wq_iload_3, ↓wq_invokestatic, ↓wq_istore_0, ↓wq_istore_1, ↓wq_istore_2, ↓wq_istore_3, ↓wq_ret, ↓se_get_0, ↓se_get_s, ↓se_set1_0, ↓se_set1_1, ↓se_set1_s, ↓se_set2_0, ↓se_set2_1, ↓se_set2_s, ↓se_k2_n, ↓se_k2_i, ↓se_k2_r, ↓se_k2_u, ↓se_k2_l, ↓se_k2_q, ↓se_in_0, ↓se_in_s, ↓gI_s, ↓gL_s, ↓gR_r, ↓gR_n, ↓gR_q, ↓sR_r, ↓sR_n, ↓sR_q, ↓se_sp_n, ↓se_sp_y, ↓se_sp_z, ↓se_ts_n, ↓se_ts_c, ↓se_c8_n, ↓se_c8_i, ↓se_c8_r, ↓se_c8_u, ↓se_c8_l, ↓wD_e dX2_plain_0, ↓wD_e dX2_plain_1, ↓wD_e dX2_plain_2, ↓wD_e dX2_plain_3, ↓wD_e dX2_plain_5, ↓wD_e dX2_plain_8, ↓wD_e dX2_plain_9, ↓wD_e dX2_plain_12, ↓wD_e dX2_plain_13, ↓wD_e dX2_plain_14, ↓wD_e dX2_plain_17, ↓wD_e dX2_plain_18, ↓wD_e dX2_plain_21, ↓wD_e dX2_plain_24, cc_bipush_12, cc_iconst_0, cc_iconst_1, ↓tg_5_19, ↓tg_21_m19, ↓mB_0_20, ↓opIald_12, ↓opIast_12, ↓mB_14_0, ↓opGI_r, ↓opGJ_r, ↓opGA_r, ↓opPI_r, ↓opPZ_r, ↓opPJ_r, ↓opCI_r, ↓opCJ_r, ↓rz_b, ↓rz_1, ↓rz_0, ↓rt_vrV_e, ↓T_plain_0, ↓T_plain_14, ↓T_plain_5_292, ↓of_sIrI_r, ↓ov_sIrI_r, ↓F_plainOf, ↓P_plainOf, i32_10, i32_01, i32_m10, i32_03, i32_13, i32_23, Int32.reduceAdd, Int32.reduceSub, Int32.reduceMul, Int32.reduceLT, Int32.reduceLE, Int32.reduceToNatClampNeg, Int32.reduceOfInt, Int64.reduceAdd, Int64.reduceSub, Int64.reduceMul, Int64.reduceLT, Int64.reduceLE, lg_cmp_ge, lg_cmp_le, lg_cmp_gt, lg_cmp_lt, lg_cmp_eq, bI_0, bI_1, not_true_eq_false, not_false_eq_true, false_implies, Bool.not_eq_false, Bool.not_eq_true, and_self, Nat.reduceAdd, Int.reduceAdd, Nat.reduceEqDiff, reduceIte, true_and, and_true, implies_true, forall_const, fI_uI, fI_uJ, fI_sA, fI_sN, fI_uA, fI_uN, fJ_uI, fJ_uJ, fJ_sA, fJ_sN, fJ_uA, fJ_uN, fA_uI, fA_uJ, fA_sA, fA_sN, fA_uA, fA_uN, fN_uI, fN_uJ, fN_sA, fN_sN, fN_uA, fN_uN]
      exact ⟨fun _ => rfl, fun h => absurd (Int32.le_refl _) h⟩
    | succ f ih =>
      intro k hf hk
      refine hG [2] 60 _ _ _ _ ?_
      simp only [wpN, ↓wq_aload_0, ↓wq_aload_1, ↓wq_aload_2, ↓wq_aload_3, ↓wq_aload_0n, ↓wq_aload_1n, ↓wq_aload_2n, ↓wq_aload_3n, ↓wq_bipush, ↓wq_getfield, ↓wq_goto, ↓wq_iastore, ↓wq_iconst, ↓wq_icmp_eq, ↓wq_icmp_ne, ↓wq_icmp_lt, ↓wq_icmp_ge, ↓wq_icmp_gt, ↓wq_icmp_le, ↓wq_iinc, ↓wq_iload_0, ↓wq_iload_1, ↓wq_iload_2, ↓wq_iload_3, ↓wq_invokestatic, ↓wq_istore_0, ↓wq_istore_1, ↓wq_istore_2, ↓wq_istore_3, ↓wq_ret, ↓se_get_0, ↓se_get_s, ↓se_set1_0, ↓se_set1_1, ↓se_set1_s, ↓se_set2_0, ↓se_set2_1, ↓se_set2_s, ↓se_k2_n, ↓se_k2_i, ↓se_k2_r, ↓se_k2_u, ↓se_k2_l, ↓se_k2_q, ↓se_in_0, ↓se_in_s, ↓gI_s, ↓gL_s, ↓gR_r, ↓gR_n, ↓gR_q, ↓sR_r, ↓sR_n, ↓sR_q, ↓se_sp_n, ↓se_sp_y, ↓se_sp_z, ↓se_ts_n, ↓se_ts_c, ↓se_c8_n, ↓se_c8_i, ↓se_c8_r, ↓se_c8_u, ↓se_c8_l, ↓wD_e dX2_plain_0, ↓wD_e dX2_plain_1, ↓wD_e dX2_plain_2, ↓wD_e dX2_plain_3, ↓wD_e dX2_plain_5, ↓wD_e dX2_plain_8, ↓wD_e dX2_plain_9, ↓wD_e dX2_plain_12, ↓wD_e dX2_plain_13, ↓wD_e dX2_plain_14, ↓wD_e dX2_plain_17, ↓wD_e dX2_plain_18, ↓wD_e dX2_plain_21, ↓wD_e dX2_plain_24, cc_bipush_12, cc_iconst_0, cc_iconst_1, ↓tg_5_19, ↓tg_21_m19, ↓mB_0_20, ↓opIald_12, ↓opIast_12, ↓mB_14_0, ↓opGI_r, ↓opGJ_r, ↓opGA_r, ↓opPI_r, ↓opPZ_r, ↓opPJ_r, ↓opCI_r, ↓opCJ_r, ↓rz_b, ↓rz_1, ↓rz_0, ↓rt_vrV_e, ↓T_plain_0, ↓T_plain_14, ↓T_plain_5_292, ↓of_sIrI_r, ↓ov_sIrI_r, ↓F_plainOf, ↓P_plainOf, i32_10, i32_01, i32_m10, i32_03, i32_13, i32_23, Int32.reduceAdd, Int32.reduceSub, Int32.reduceMul, Int32.reduceLT, Int32.reduceLE, Int32.reduceToNatClampNeg, Int32.reduceOfInt, Int64.reduceAdd, Int64.reduceSub, Int64.reduceMul, Int64.reduceLT, Int64.reduceLE, lg_cmp_ge, lg_cmp_le, lg_cmp_gt, lg_cmp_lt, lg_cmp_eq, bI_0, bI_1, not_true_eq_false, not_false_eq_true, false_implies, Bool.not_eq_false, Bool.not_eq_true, and_self, Nat.reduceAdd, Int.reduceAdd, Nat.reduceEqDiff, reduceIte, true_and, and_true, implies_true, forall_const, fI_uI, fI_uJ, fI_sA, fI_sN, fI_uA, fI_uN, fJ_uI, fJ_uJ, fJ_sA, fJ_sN, fJ_uA, fJ_uN, fA_uI, fA_uJ, fA_sA, fA_sN, fA_uA, fA_uN, fN_uI, fN_uJ, fN_sA, fN_sN, fN_uA, fN_uN, nI_clamp (show k < 2 ^ 31 by omega), nI_1]
      refine ⟨fun h => absurd h (fun h => by rw [show ((12 : Int32) ≤ nI k) = (12 ≤ k) from nI_leL (k := 12) (by omega) (by omega)] at h; omega), fun _ => ⟨vp_in_nI (by omega) (by omega), ?_⟩⟩
      have := ih (k + 1) (by omega) (by omega)
      rw [← fill_s] at this
      exact this
  have h0 := L 12 0 rfl (by omega)
  rw [fill_0] at h0
  refine hG [2] 60 _ _ _ _ ?_
  simp only [wpN, ↓wq_aload_0, ↓wq_aload_1, ↓wq_aload_2, ↓wq_aload_3, ↓wq_aload_0n, ↓wq_aload_1n, ↓wq_aload_2n, ↓wq_aload_3n, ↓wq_bipush, ↓wq_getfield, ↓wq_goto, ↓wq_iastore, ↓wq_iconst, ↓wq_icmp_eq, ↓wq_icmp_ne, ↓wq_icmp_lt, ↓wq_icmp_ge, ↓wq_icmp_gt, ↓wq_icmp_le, ↓wq_iinc, ↓wq_iload_0, ↓wq_iload_1, ↓wq_iload_2, ↓wq_iload_3, ↓wq_invokestatic, ↓wq_istore_0, ↓wq_istore_1, ↓wq_istore_2, ↓wq_istore_3, ↓wq_ret, ↓se_get_0, ↓se_get_s, ↓se_set1_0, ↓se_set1_1, ↓se_set1_s, ↓se_set2_0, ↓se_set2_1, ↓se_set2_s, ↓se_k2_n, ↓se_k2_i, ↓se_k2_r, ↓se_k2_u, ↓se_k2_l, ↓se_k2_q, ↓se_in_0, ↓se_in_s, ↓gI_s, ↓gL_s, ↓gR_r, ↓gR_n, ↓gR_q, ↓sR_r, ↓sR_n, ↓sR_q, ↓se_sp_n, ↓se_sp_y, ↓se_sp_z, ↓se_ts_n, ↓se_ts_c, ↓se_c8_n, ↓se_c8_i, ↓se_c8_r, ↓se_c8_u, ↓se_c8_l, ↓wD_e dX2_plain_0, ↓wD_e dX2_plain_1, ↓wD_e dX2_plain_2, ↓wD_e dX2_plain_3, ↓wD_e dX2_plain_5, ↓wD_e dX2_plain_8, ↓wD_e dX2_plain_9, ↓wD_e dX2_plain_12, ↓wD_e dX2_plain_13, ↓wD_e dX2_plain_14, ↓wD_e dX2_plain_17, ↓wD_e dX2_plain_18, ↓wD_e dX2_plain_21, ↓wD_e dX2_plain_24, cc_bipush_12, cc_iconst_0, cc_iconst_1, ↓tg_5_19, ↓tg_21_m19, ↓mB_0_20, ↓opIald_12, ↓opIast_12, ↓mB_14_0, ↓opGI_r, ↓opGJ_r, ↓opGA_r, ↓opPI_r, ↓opPZ_r, ↓opPJ_r, ↓opCI_r, ↓opCJ_r, ↓rz_b, ↓rz_1, ↓rz_0, ↓rt_vrV_e, ↓T_plain_0, ↓T_plain_14, ↓T_plain_5_292, ↓of_sIrI_r, ↓ov_sIrI_r, ↓F_plainOf, ↓P_plainOf, i32_10, i32_01, i32_m10, i32_03, i32_13, i32_23, Int32.reduceAdd, Int32.reduceSub, Int32.reduceMul, Int32.reduceLT, Int32.reduceLE, Int32.reduceToNatClampNeg, Int32.reduceOfInt, Int64.reduceAdd, Int64.reduceSub, Int64.reduceMul, Int64.reduceLT, Int64.reduceLE, lg_cmp_ge, lg_cmp_le, lg_cmp_gt, lg_cmp_lt, lg_cmp_eq, bI_0, bI_1, not_true_eq_false, not_false_eq_true, false_implies, Bool.not_eq_false, Bool.not_eq_true, and_self, Nat.reduceAdd, Int.reduceAdd, Nat.reduceEqDiff, reduceIte, true_and, and_true, implies_true, forall_const, fI_uI, fI_uJ, fI_sA, fI_sN, fI_uA, fI_uN, fJ_uI, fJ_uJ, fJ_sA, fJ_sN, fJ_uA, fJ_uN, fA_uI, fA_uJ, fA_sA, fA_sN, fA_uA, fA_uN, fN_uI, fN_uJ, fN_sA, fN_sN, fN_uA, fN_uN]
  exact h0
  theorem i32_2_45 : ((2 : Int32) = 45) = False := by decide
theorem tg_20_7 {K : Nat → Prop} : se_tg 20 (7) K = K 27 := rfl
theorem tg_32_7 {K : Nat → Prop} : se_tg 32 (7) K = K 39 := rfl
theorem tg_44_10 {K : Nat → Prop} : se_tg 44 (10) K = K 54 := rfl
theorem tg_56_11 {K : Nat → Prop} : se_tg 56 (11) K = K 67 := rfl
theorem tg_64_7 {K : Nat → Prop} : se_tg 64 (7) K = K 71 := rfl
theorem tg_76_9 {K : Nat → Prop} : se_tg 76 (9) K = K 85 := rfl
theorem tg_82_16 {K : Nat → Prop} : se_tg 82 (16) K = K 98 := rfl
theorem tg_95_7 {K : Nat → Prop} : se_tg 95 (7) K = K 102 := rfl
def P_signed : Int32 → Int32 → mM → Prop := fun a0 a1 M => P_token M
def R_signed : Int32 → Int32 → mM → Int32 := fun a0 a1 M => if (fI M 2) ≤ 0 then (let N := if (fI M 6) = 45 then F_token M else M; if (fI N 6) = 2 then (if (fI M 6) = 45 then - (fI N 8) else (fI N 8)) else 0) else 0
def F_signed : Int32 → Int32 → mM → mM := fun a0 a1 M => if (fI M 2) ≤ 0 then (let N := if (fI M 6) = 45 then F_token M else M; if (fI N 6) = 2 then (let v := if (fI M 6) = 45 then - (fI N 8) else (fI N 8); if v < a0 then (uI (uI N 2 (4)) 3 ((fI M 7))) else if v ≤ a1 then F_token N else (uI (uI N 2 (4)) 3 ((fI M 7)))) else F_wrong 2 N) else M
def T_signed : Nat → Nat → se_Op mM := se_tb2 (se_tab [(3, 289, of_vrV P_token F_token), (3, 286, of_vIrV P_wrong F_wrong)]) mB
theorem T_signed_ok (l : Launch) : mTS l cX2_signed 6 (some .int) 2 43 T_signed := fun g p e s m args below meth c Q H0 C hG hI k i => se_tb2_ok (se_tab_ok _ (List.forall_mem_cons.mpr ⟨of_vrV_ok (fr := 2) (lo := 43) (maxL' := 3) (fr' := 1) (lo' := 21) (mt_token l) q2100 q2102 qs35 q102 q2103 (by decide +kernel) ⟨by decide, by decide⟩ C hG hI, List.forall_mem_cons.mpr ⟨of_vIrV_ok (fr := 2) (lo := 43) (maxL' := 2) (fr' := 0) (lo' := 0) (mt_wrong l) q2161 q2163 qs42 q102 q2164 (by decide +kernel) ⟨by decide, by decide⟩ C hG hI, fun _ h => absurd h List.not_mem_nil⟩⟩)) (fun k i => mB_ok C hG hI k i) k i
theorem T_signed_0 {i : Nat} : T_signed 0 i = mB 0 i := rfl
theorem T_signed_1 {i : Nat} : T_signed 1 i = mB 1 i := rfl
theorem T_signed_3_289 : T_signed 3 289 = of_vrV P_token F_token := rfl
theorem T_signed_3_286 : T_signed 3 286 = of_vIrV P_wrong F_wrong := rfl
set_option maxHeartbeats 4000000 in
set_option maxRecDepth 20000 in
theorem mt_signed (l : Launch) : mc_vIIrI l yX2_signed cX2_signed 6 2 43 P_signed (fun a0 a1 M x M' => x = R_signed a0 a1 M ∧ M' = F_signed a0 a1 M) := by
  refine mc_vIIrI_of (by decide +kernel) rfl (T_signed_ok l) (by decide) fun a0 a1 M hp G hG => ?_
  show G 0 [some (.ref 0), some (.int a0), some (.int a1), none, none, none] [] M
  refine hG [] 300 _ _ _ _ ?_
  simp only [wpN, ↓wq_aload_0, ↓wq_aload_1, ↓wq_aload_2, ↓wq_aload_3, ↓wq_aload_0n, ↓wq_aload_1n, ↓wq_aload_2n, ↓wq_aload_3n, ↓wq_bipush, ↓wq_getfield, ↓wq_goto, ↓wq_iconst, ↓wq_if_eq, ↓wq_if_ne, ↓wq_if_lt, ↓wq_if_ge, ↓wq_if_gt, ↓wq_if_le, ↓wq_icmp_eq, ↓wq_icmp_ne, ↓wq_icmp_lt, ↓wq_icmp_ge, ↓wq_icmp_gt, ↓wq_icmp_le, ↓wq_iload, ↓wq_iload_0, ↓wq_iload_1, ↓wq_iload_2, ↓wq_iload_3, ↓wq_ineg, ↓wq_invokevirtual, ↓wq_iret, ↓wq_istore, ↓wq_istore_0, ↓wq_istore_1, ↓wq_istore_2, ↓wq_istore_3, ↓wq_putfield, ↓se_get_0, ↓se_get_s, ↓se_set1_0, ↓se_set1_1, ↓se_set1_s, ↓se_set2_0, ↓se_set2_1, ↓se_set2_s, ↓se_k2_n, ↓se_k2_i, ↓se_k2_r, ↓se_k2_u, ↓se_k2_l, ↓se_k2_q, ↓se_in_0, ↓se_in_s, ↓gI_s, ↓gL_s, ↓gR_r, ↓gR_n, ↓gR_q, ↓sR_r, ↓sR_n, ↓sR_q, ↓se_sp_n, ↓se_sp_y, ↓se_sp_z, ↓se_ts_n, ↓se_ts_c, ↓se_c8_n, ↓se_c8_i, ↓se_c8_r, ↓se_c8_u, ↓se_c8_l, ↓wD_e dX2_signed_0, ↓wD_e dX2_signed_1, ↓wD_e dX2_signed_4, ↓wD_e dX2_signed_7, ↓wD_e dX2_signed_8, ↓wD_e dX2_signed_9, ↓wD_e dX2_signed_10, ↓wD_e dX2_signed_13, ↓wD_e dX2_signed_14, ↓wD_e dX2_signed_15, ↓wD_e dX2_signed_18, ↓wD_e dX2_signed_20, ↓wD_e dX2_signed_23, ↓wD_e dX2_signed_24, ↓wD_e dX2_signed_27, ↓wD_e dX2_signed_28, ↓wD_e dX2_signed_30, ↓wD_e dX2_signed_32, ↓wD_e dX2_signed_35, ↓wD_e dX2_signed_36, ↓wD_e dX2_signed_39, ↓wD_e dX2_signed_40, ↓wD_e dX2_signed_43, ↓wD_e dX2_signed_44, ↓wD_e dX2_signed_47, ↓wD_e dX2_signed_48, ↓wD_e dX2_signed_49, ↓wD_e dX2_signed_52, ↓wD_e dX2_signed_53, ↓wD_e dX2_signed_54, ↓wD_e dX2_signed_56, ↓wD_e dX2_signed_59, ↓wD_e dX2_signed_60, ↓wD_e dX2_signed_63, ↓wD_e dX2_signed_64, ↓wD_e dX2_signed_67, ↓wD_e dX2_signed_68, ↓wD_e dX2_signed_71, ↓wD_e dX2_signed_73, ↓wD_e dX2_signed_75, ↓wD_e dX2_signed_76, ↓wD_e dX2_signed_79, ↓wD_e dX2_signed_81, ↓wD_e dX2_signed_82, ↓wD_e dX2_signed_85, ↓wD_e dX2_signed_86, ↓wD_e dX2_signed_87, ↓wD_e dX2_signed_90, ↓wD_e dX2_signed_91, ↓wD_e dX2_signed_92, ↓wD_e dX2_signed_95, ↓wD_e dX2_signed_98, ↓wD_e dX2_signed_99, ↓wD_e dX2_signed_102, ↓wD_e dX2_signed_104, cc_bipush_45, cc_iconst_0, cc_iconst_1, cc_iconst_2, cc_iconst_4, ↓tg_4_5, ↓tg_20_7, ↓tg_24_4, ↓tg_32_7, ↓tg_44_10, ↓tg_56_11, ↓tg_64_7, ↓tg_76_9, ↓tg_82_16, ↓tg_95_7, ↓mB_0_225, ↓mB_0_202, ↓mB_0_212, ↓mB_0_209, ↓mB_1_225, ↓mB_1_13, ↓opGI_r, ↓opGJ_r, ↓opGA_r, ↓opPI_r, ↓opPZ_r, ↓opPJ_r, ↓opCI_r, ↓opCJ_r, ↓rz_b, ↓rz_1, ↓rz_0, ↓rt_vIIrI_e, ↓T_signed_0, ↓T_signed_1, ↓T_signed_3_289, ↓of_vrV_r, ↓ov_vrV_r, ↓T_signed_3_286, ↓of_vIrV_r, ↓ov_vIrV_r, ↓P_wrong, i32_10, i32_01, i32_m10, i32_03, i32_13, i32_23, Int32.reduceAdd, Int32.reduceSub, Int32.reduceMul, Int32.reduceLT, Int32.reduceLE, Int32.reduceToNatClampNeg, Int32.reduceOfInt, Int64.reduceAdd, Int64.reduceSub, Int64.reduceMul, Int64.reduceLT, Int64.reduceLE, lg_cmp_ge, lg_cmp_le, lg_cmp_gt, lg_cmp_lt, lg_cmp_eq, bI_0, bI_1, not_true_eq_false, not_false_eq_true, false_implies, Bool.not_eq_false, Bool.not_eq_true, and_self, Nat.reduceAdd, Int.reduceAdd, Nat.reduceEqDiff, reduceIte, true_and, and_true, implies_true, forall_const, fI_uI, fI_uJ, fI_sA, fI_sN, fI_uA, fI_uN, fJ_uI, fJ_uJ, fJ_sA, fJ_sN, fJ_uA, fJ_uN, fA_uI, fA_uJ, fA_sA, fA_sN, fA_uA, fA_uN, fN_uI, fN_uJ, fN_sA, fN_sN, fN_uA, fN_uN]
  clear hG
  have hp' := P_token_F hp
  (repeat' (first | apply And.intro | intro _))
  all_goals (first | rfl | assumption | (simp only [R_signed, F_signed, *, if_true, if_false, i32_2_45]; done))
theorem tg_1_44 {K : Nat → Prop} : se_tg 1 (44) K = K 45 := rfl
theorem tg_9_36 {K : Nat → Prop} : se_tg 9 (36) K = K 45 := rfl
theorem tg_19_26 {K : Nat → Prop} : se_tg 19 (26) K = K 45 := rfl
theorem tg_28_13 {K : Nat → Prop} : se_tg 28 (13) K = K 41 := rfl
theorem tg_38_7 {K : Nat → Prop} : se_tg 38 (7) K = K 45 := rfl
theorem tg_42_4 {K : Nat → Prop} : se_tg 42 (4) K = K 46 := rfl
def P_counts : Int32 → Int32 → mM → Prop := fun a0 a1 M => ∃ n : Nat, n ≤ 12 ∧ (fI M 28) = nI n
def R_counts : Int32 → Int32 → mM → Bool := fun a0 a1 M => !(decide (a0 < 0)) && (!(decide ((fI M 28) ≤ a0)) && (!(decide (a1 < (fA M 25) a0.toNatClampNeg)) && (decide ((fA M 26) a0.toNatClampNeg < 0) || !(decide ((fA M 26) a0.toNatClampNeg ≤ a1)))))
def F_counts : Int32 → Int32 → mM → mM := fun a0 a1 M => M
def T_counts : Nat → Nat → se_Op mM := se_tb2 (se_tab []) mB
theorem T_counts_ok (l : Launch) : mTS l cX2_counts 3 (some .boolean) 0 0 T_counts := fun g p e s m args below meth c Q H0 C hG hI k i => se_tb2_ok (se_tab_ok _ (fun _ h => absurd h List.not_mem_nil)) (fun k i => mB_ok C hG hI k i) k i
theorem T_counts_0 {i : Nat} : T_counts 0 i = mB 0 i := rfl
theorem T_counts_13 {i : Nat} : T_counts 13 i = mB 13 i := rfl
set_option maxHeartbeats 4000000 in
set_option maxRecDepth 20000 in
theorem mt_counts (l : Launch) : mc_vIIrZ l yX2_counts cX2_counts 3 0 0 P_counts (fun a0 a1 M x M' => x = R_counts a0 a1 M ∧ M' = F_counts a0 a1 M) := by
  refine mc_vIIrZ_of (by decide +kernel) rfl (T_counts_ok l) (by decide) fun a0 a1 M hp G hG => ?_
  show G 0 [some (.ref 0), some (.int a0), some (.int a1)] [] M
  refine hG [] 300 _ _ _ _ ?_
  simp only [wpN, ↓wq_aload_0, ↓wq_aload_1, ↓wq_aload_2, ↓wq_aload_3, ↓wq_aload_0n, ↓wq_aload_1n, ↓wq_aload_2n, ↓wq_aload_3n, ↓wq_getfield, ↓wq_goto, ↓wq_iaload, ↓wq_iconst, ↓wq_if_eq, ↓wq_if_ne, ↓wq_if_lt, ↓wq_if_ge, ↓wq_if_gt, ↓wq_if_le, ↓wq_icmp_eq, ↓wq_icmp_ne, ↓wq_icmp_lt, ↓wq_icmp_ge, ↓wq_icmp_gt, ↓wq_icmp_le, ↓wq_iload_0, ↓wq_iload_1, ↓wq_iload_2, ↓wq_iload_3, ↓wq_iret, ↓se_get_0, ↓se_get_s, ↓se_set1_0, ↓se_set1_1, ↓se_set1_s, ↓se_set2_0, ↓se_set2_1, ↓se_set2_s, ↓se_k2_n, ↓se_k2_i, ↓se_k2_r, ↓se_k2_u, ↓se_k2_l, ↓se_k2_q, ↓se_in_0, ↓se_in_s, ↓gI_s, ↓gL_s, ↓gR_r, ↓gR_n, ↓gR_q, ↓sR_r, ↓sR_n, ↓sR_q, ↓se_sp_n, ↓se_sp_y, ↓se_sp_z, ↓se_ts_n, ↓se_ts_c, ↓se_c8_n, ↓se_c8_i, ↓se_c8_r, ↓se_c8_u, ↓se_c8_l, ↓wD_e dX2_counts_0, ↓wD_e dX2_counts_1, ↓wD_e dX2_counts_4, ↓wD_e dX2_counts_5, ↓wD_e dX2_counts_6, ↓wD_e dX2_counts_9, ↓wD_e dX2_counts_12, ↓wD_e dX2_counts_13, ↓wD_e dX2_counts_16, ↓wD_e dX2_counts_17, ↓wD_e dX2_counts_18, ↓wD_e dX2_counts_19, ↓wD_e dX2_counts_22, ↓wD_e dX2_counts_23, ↓wD_e dX2_counts_26, ↓wD_e dX2_counts_27, ↓wD_e dX2_counts_28, ↓wD_e dX2_counts_31, ↓wD_e dX2_counts_32, ↓wD_e dX2_counts_35, ↓wD_e dX2_counts_36, ↓wD_e dX2_counts_37, ↓wD_e dX2_counts_38, ↓wD_e dX2_counts_41, ↓wD_e dX2_counts_42, ↓wD_e dX2_counts_45, ↓wD_e dX2_counts_46, cc_iconst_0, cc_iconst_1, ↓tg_1_44, ↓tg_9_36, ↓tg_19_26, ↓tg_28_13, ↓tg_38_7, ↓tg_42_4, ↓mB_0_333, ↓mB_0_55, ↓opIald_25, ↓opIast_25, ↓mB_13_0, ↓mB_0_58, ↓opIald_26, ↓opIast_26, ↓opGI_r, ↓opGJ_r, ↓opGA_r, ↓opPI_r, ↓opPZ_r, ↓opPJ_r, ↓opCI_r, ↓opCJ_r, ↓rz_b, ↓rz_1, ↓rz_0, ↓rt_vIIrZ_e, ↓T_counts_0, ↓T_counts_13, i32_10, i32_01, i32_m10, i32_03, i32_13, i32_23, Int32.reduceAdd, Int32.reduceSub, Int32.reduceMul, Int32.reduceLT, Int32.reduceLE, Int32.reduceToNatClampNeg, Int32.reduceOfInt, Int64.reduceAdd, Int64.reduceSub, Int64.reduceMul, Int64.reduceLT, Int64.reduceLE, lg_cmp_ge, lg_cmp_le, lg_cmp_gt, lg_cmp_lt, lg_cmp_eq, bI_0, bI_1, not_true_eq_false, not_false_eq_true, false_implies, Bool.not_eq_false, Bool.not_eq_true, and_self, Nat.reduceAdd, Int.reduceAdd, Nat.reduceEqDiff, reduceIte, true_and, and_true, implies_true, forall_const, fI_uI, fI_uJ, fI_sA, fI_sN, fI_uA, fI_uN, fJ_uI, fJ_uJ, fJ_sA, fJ_sN, fJ_uA, fJ_uN, fA_uI, fA_uJ, fA_sA, fA_sN, fA_uA, fA_uN, fN_uI, fN_uJ, fN_sA, fN_sN, fN_uA, fN_uN]
  clear hG
  obtain ⟨n, hn, e⟩ := hp
  have hv : ¬ a0 < 0 → ¬ fI M 28 ≤ a0 → vp_in a0 12 := fun h1 h2 => by
    obtain ⟨j, hj, rfl⟩ := nI_of h1
    rw [e, nI_leI (by omega) hj] at h2
    exact vp_in_nI (by omega) (by omega)
  clear e
  refine ⟨fun h1 => ⟨?_, rfl⟩, fun h1 => ⟨fun h2 => ⟨?_, rfl⟩, fun h2 => ⟨hv h1 h2, fun h3 => ⟨?_, rfl⟩, fun h3 => ⟨hv h1 h2, fun h4 => ⟨?_, rfl⟩, fun h4 => ⟨hv h1 h2, fun h5 => ⟨?_, rfl⟩, fun h5 => ⟨?_, rfl⟩⟩⟩⟩⟩⟩
  all_goals (simp only [R_counts, h1, decide_true, decide_false, Bool.not_true, Bool.not_false, Bool.true_and, Bool.false_and, Bool.and_true, Bool.and_false, Bool.true_or, Bool.false_or]; try simp only [*, decide_true, decide_false, Bool.not_true, Bool.not_false, Bool.true_and, Bool.false_and, Bool.and_true, Bool.and_false, Bool.true_or, Bool.false_or])
