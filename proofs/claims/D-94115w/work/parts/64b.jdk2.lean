
theorem tg_17_28 {K : Nat → Prop} : se_tg 17 (28) K = K 45 := rfl
def P_L_grow_I (mc ms : Nat) : hG → Nat → Int32 → hH → Nat → Prop := fun g a0 a1 m n => ∃ E k F, hLst g m a0 E k k F ∧ a1 = nI (k + 1) ∧ k ≤ 40000 ∧ hEls g m k F ∧ 1 ≤ mc ∧ lNc k k ≤ ms
def Q_L_grow_I (mc ms : Nat) : hG → Nat → Int32 → hH → Nat → Option Nat → hH → Nat → Prop := fun g a0 a1 m n x m' n' => n' = n + 1 ∧ x = some n ∧ ∀ E k F o, hLst g m a0 E k k F → m a0 = some (.inl (23, o)) → m' = hU (hU m n (hA4 (lNc k k) (hCut F k))) a0 (.inl (23, updV o 1 (.ref n)))
def T_L_grow_I (mc ms : Nat) (mc ms : Nat) (g : hG) : Nat → Nat → se_Op hW := se_tab [(0, 9, hGet [(23, 1)]), (21, 0, hAlE g), (2, 39, hGst g 0), (1, 9, hPut [(23, 1)] 3), (7, 7, hNewA mc ms 4), (5, 73, hp_IIIrI g mc ms P_AS_newLength R_AS_newLength), (5, 66, ho_LIrL g mc ms mc ms (P_AR_copyOf_LI mc ms) (Q_AR_copyOf_LI mc ms)), (5, 79, hMx mc ms)]
set_option maxRecDepth 20000 in
theorem T_L_grow_I_ok (l : Launch) (hl : l.stackTraces = false) (mc ms : Nat) (mc ms : Nat) : hTS l yJ2_grow_2.cls yJ2_grow_2.name cJ2_grow_2 4 (some (.array (.object "java/lang/Object"))) 3 104 mc ms (T_L_grow_I mc ms mc ms) := fun g p e s m args below meth c Q H0 C hnm hG hS k i => se_tab_ok _ (List.forall_mem_cons.mpr ⟨hGet_ok (F := [(23, 1)]) (List.forall_mem_cons.mpr ⟨⟨(RJ2, TJ2, 3), "java/util/ArrayList", rfl, by decide, .inl q171, .inl rfl⟩, fun _ h => absurd h List.not_mem_nil⟩) C hG, List.forall_mem_cons.mpr ⟨hAlE_ok C hG hS, List.forall_mem_cons.mpr ⟨hGst_ok (i := 0) rfl (.inl q169) C hG hS, List.forall_mem_cons.mpr ⟨hPut_ok (F := [(23, 1)]) (t := 3) (List.forall_mem_cons.mpr ⟨⟨(RJ2, TJ2, 3), "java/util/ArrayList", rfl, by decide, .inl q171, .inl rfl⟩, fun _ h => absurd h List.not_mem_nil⟩) (List.forall_mem_cons.mpr ⟨fun r ty h1 h2 => by cases h1; cases h2; exact ⟨rfl, rfl⟩, fun _ h => absurd h List.not_mem_nil⟩) C hG, List.forall_mem_cons.mpr ⟨hNewR_ok (t := 4) (E := "java/lang/Object") (by decide) rfl (by decide) q845 C hG, List.forall_mem_cons.mpr ⟨hp_IIIrI_ok <| ho_IIIrI_ok (hCS_ok (maxL' := 4) (fr' := 1) (lo' := 60) (yt_AS_newLength l hl) q793 q794 q118 q795 (by decide +kernel) ⟨by decide, by decide⟩ C hG hS), List.forall_mem_cons.mpr ⟨ho_LIrL_ok (hCS_ok (maxL' := 2) (fr' := 2) (lo' := 83) (yt_AR_copyOf_LI l hl mc ms) q801 q802 q119 q803 (by decide +kernel) ⟨by decide, by decide⟩ C hG hS), List.forall_mem_cons.mpr ⟨hMx_ok q844 (by decide) (by decide) C, fun _ h => absurd h List.not_mem_nil⟩⟩⟩⟩⟩⟩⟩⟩) k i
set_option maxRecDepth 20000 in
theorem T_L_grow_I_0_9 {mc ms : Nat} {mc ms : Nat} {g : hG} : T_L_grow_I mc ms mc ms g 0 9 = hGet [(23, 1)] := rfl
set_option maxRecDepth 20000 in
theorem T_L_grow_I_21_0 {mc ms : Nat} {mc ms : Nat} {g : hG} : T_L_grow_I mc ms mc ms g 21 0 = hAlE g := rfl
set_option maxRecDepth 20000 in
theorem T_L_grow_I_2_39 {mc ms : Nat} {mc ms : Nat} {g : hG} : T_L_grow_I mc ms mc ms g 2 39 = hGst g 0 := rfl
set_option maxRecDepth 20000 in
theorem T_L_grow_I_1_9 {mc ms : Nat} {mc ms : Nat} {g : hG} : T_L_grow_I mc ms mc ms g 1 9 = hPut [(23, 1)] 3 := rfl
set_option maxRecDepth 20000 in
theorem T_L_grow_I_7_7 {mc ms : Nat} {mc ms : Nat} {g : hG} : T_L_grow_I mc ms mc ms g 7 7 = hNewA mc ms 4 := rfl
set_option maxRecDepth 20000 in
theorem T_L_grow_I_5_73 {mc ms : Nat} {mc ms : Nat} {g : hG} : T_L_grow_I mc ms mc ms g 5 73 = hp_IIIrI g mc ms P_AS_newLength R_AS_newLength := rfl
set_option maxRecDepth 20000 in
theorem T_L_grow_I_5_66 {mc ms : Nat} {mc ms : Nat} {g : hG} : T_L_grow_I mc ms mc ms g 5 66 = ho_LIrL g mc ms mc ms (P_AR_copyOf_LI mc ms) (Q_AR_copyOf_LI mc ms) := rfl
set_option maxRecDepth 20000 in
theorem T_L_grow_I_5_79 {mc ms : Nat} {mc ms : Nat} {g : hG} : T_L_grow_I mc ms mc ms g 5 79 = hMx mc ms := rfl
set_option maxHeartbeats 1000000 in
set_option maxRecDepth 20000 in
theorem yt_L_grow_I (l : Launch) (hl : l.stackTraces = false) (mc ms : Nat) : hm_LIrL l yJ2_grow_2 (ws_ yJ2_grow_2 cJ2_grow_2 4 (some (.array (.object "java/lang/Object")))) 3 104 mc ms (P_L_grow_I mc ms) (Q_L_grow_I mc ms) := by
  refine hm_LIrL_of (rty := (.array (.object "java/lang/Object"))) (by decide +kernel) rfl (T_L_grow_I_ok l hl mc ms mc ms) (by decide) fun g a0 a1 m n hin hv hp G hG => ?_
  show G 0 [some (.ref a0), some (.int a1), none, none] [] (m, n, 0, 0)
  obtain ⟨E, k, F, hL, rfl, hk, hE, hm1, hm2⟩ := hp
  have hL0 := hL
  obtain ⟨⟨o, md, e1, e2, e3, e4⟩, h1, h2, h3⟩ := hL
  have ha : a0 < n := (hin a0 _ e1).1
  have hmn : m n = none := by
    cases e : m n with
    | none => rfl
    | some ob => exact absurd (hin n ob e).1 (Nat.lt_irrefl _)
  have hun : ∀ E' k' F', hLst g m a0 E' k' k' F' → E' = E ∧ nI k' = nI k ∧ k' ≤ 65536 := by
    intro E' k' F' ⟨⟨o', md', f1, f2, f3, f4⟩, g1, g2, g3⟩
    rw [e1] at f1; cases f1; rw [e3] at f3; cases f3; rw [e4] at f4
    exact ⟨rfl, (Value.int.inj f4).symm, g2⟩
  have hkk : ∀ k', nI k' = nI k → k' ≤ 65536 → k' = k := fun k' q1 q2 => by
    have := congrArg Int32.toNatClampNeg q1
    rw [nI_clamp (by omega), nI_clamp (by omega)] at this
    exact this
  rcases h3 with ⟨rfl, rfl, h3⟩ | ⟨h3, h30⟩
  · have e9 : gV g 0 = .ref (gSa g 0) := hv.1
    have z1 : nI (0 + 1) = 1 := rfl
    have z3 : lNc 0 0 = 10 := rfl
    rw [z3] at hm2
    rw [z1]
    refine hG [20, 45] 300 _ _ _ _ ?_
    simp only [wpN, ↓wq_aload_0, ↓wq_aload_1, ↓wq_aload_2, ↓wq_aload_3, ↓wq_aload_0n, ↓wq_aload_1n, ↓wq_aload_2n, ↓wq_aload_3n, ↓wq_anewarray, ↓wq_aretr, ↓wq_aretn, ↓wq_arraylength, ↓wq_bipush, ↓wq_dup_x1ii, ↓wq_dup_x1ri, ↓wq_dup_x1ni, ↓wq_dup_x1ir, ↓wq_dup_x1rr, ↓wq_dup_x1nr, ↓wq_dup_x1in, ↓wq_dup_x1rn, ↓wq_dup_x1nn, ↓wq_getfield, ↓wq_getstatic, ↓wq_iconst, ↓wq_if_eq, ↓wq_if_ne, ↓wq_if_lt, ↓wq_if_ge, ↓wq_if_gt, ↓wq_if_le, ↓wq_acmp_eq, ↓wq_acmp_ne, ↓wq_iload_0, ↓wq_iload_1, ↓wq_iload_2, ↓wq_iload_3, ↓wq_invokestatic, ↓wq_ishr, ↓wq_istore_0, ↓wq_istore_1, ↓wq_istore_2, ↓wq_istore_3, ↓wq_isub, ↓wq_putfield, ↓se_get_0, ↓se_get_s, ↓se_set1_0, ↓se_set1_1, ↓se_set1_s, ↓se_set2_0, ↓se_set2_1, ↓se_set2_s, ↓se_k2_n, ↓se_k2_i, ↓se_k2_r, ↓se_k2_u, ↓se_k2_l, ↓se_k2_q, ↓se_in_0, ↓se_in_s, ↓gI_s, ↓gL_s, ↓gR_r, ↓gR_n, ↓gR_q, ↓sR_r, ↓sR_n, ↓sR_q, ↓se_sp_n, ↓se_sp_y, ↓se_sp_z, ↓se_ts_n, ↓se_ts_c, ↓se_c8_n, ↓se_c8_i, ↓se_c8_r, ↓se_c8_u, ↓se_c8_l, ↓wD_e dJ2_grow_2_0, ↓wD_e dJ2_grow_2_1, ↓wD_e dJ2_grow_2_4, ↓wD_e dJ2_grow_2_5, ↓wD_e dJ2_grow_2_6, ↓wD_e dJ2_grow_2_7, ↓wD_e dJ2_grow_2_10, ↓wD_e dJ2_grow_2_11, ↓wD_e dJ2_grow_2_14, ↓wD_e dJ2_grow_2_17, ↓wD_e dJ2_grow_2_20, ↓wD_e dJ2_grow_2_21, ↓wD_e dJ2_grow_2_22, ↓wD_e dJ2_grow_2_23, ↓wD_e dJ2_grow_2_24, ↓wD_e dJ2_grow_2_25, ↓wD_e dJ2_grow_2_26, ↓wD_e dJ2_grow_2_27, ↓wD_e dJ2_grow_2_30, ↓wD_e dJ2_grow_2_31, ↓wD_e dJ2_grow_2_32, ↓wD_e dJ2_grow_2_33, ↓wD_e dJ2_grow_2_36, ↓wD_e dJ2_grow_2_37, ↓wD_e dJ2_grow_2_40, ↓wD_e dJ2_grow_2_41, ↓wD_e dJ2_grow_2_44, ↓wD_e dJ2_grow_2_45, ↓wD_e dJ2_grow_2_46, ↓wD_e dJ2_grow_2_48, ↓wD_e dJ2_grow_2_49, ↓wD_e dJ2_grow_2_52, ↓wD_e dJ2_grow_2_55, ↓wD_e dJ2_grow_2_56, ↓wD_e dJ2_grow_2_59, cc_bipush_10, cc_iconst_1, ↓tg_7_13, ↓tg_17_28, ht_LIrL_e, ht_LIrL_n, ↓T_L_grow_I_0_9, ↓T_L_grow_I_21_0, ↓T_L_grow_I_2_39, ↓T_L_grow_I_1_9, ↓T_L_grow_I_7_7, ↓T_L_grow_I_5_73, ↓T_L_grow_I_5_66, ↓T_L_grow_I_5_79, hp_IIIrI_r, ho_LIrL_r, hMx_r, hGet_r, hPut_r, hTxV, hTxC, hTxB, hTxL, hBxA, hBxV, hGst, hLdM, hCpy_r, hGcl_r, hAald_r, hAlE_r, hAastO_r, hAastO_n, hNewA_r, hObj, List.mem_cons, List.not_mem_nil, yrf_s, yrf_n, hfl, hVk, updV_a, hUa_s, ht_LIrL_e (hr := (.inr ⟨_, rfl⟩)), ht_LIrL_n (hr := (.inr ⟨_, rfl⟩)), i32_10, i32_01, i32_m10, i32_03, i32_13, i32_23, Int32.reduceAdd, Int32.reduceSub, Int32.reduceMul, Int32.reduceLT, Int32.reduceLE, Int32.reduceToNatClampNeg, Int32.reduceOfInt, Int64.reduceAdd, Int64.reduceSub, Int64.reduceMul, Int64.reduceLT, Int64.reduceLE, lg_cmp_ge, lg_cmp_le, lg_cmp_gt, lg_cmp_lt, lg_cmp_eq, bI_0, bI_1, not_true_eq_false, not_false_eq_true, false_implies, Bool.not_eq_false, Bool.not_eq_true, and_self, Nat.reduceAdd, Int.reduceAdd, Nat.reduceEqDiff, reduceIte, true_and, and_true, implies_true, forall_const, Nat.zero_le, Nat.add_zero, Nat.zero_add, true_or, or_true, false_or, or_false, and_false, false_and, sCI_r, sCJ_r, Nat.reduceLeDiff, e1, e3, h3, e9]
    have hZ4 : hZero 4 10 = (10, .inr (.inr (.inr (.inr fun _ => none)))) := rfl
    have hna : n ≠ a0 := by omega
    have hM1 : ∀ x, hU m n x a0 = some (.inl (23, o)) := fun x => by rw [hUa_n hna.symm]; exact e1
    refine hG [20, 45] 300 _ _ _ _ ?_
    simp only [wpN, ↓wq_aload_0, ↓wq_aload_1, ↓wq_aload_2, ↓wq_aload_3, ↓wq_aload_0n, ↓wq_aload_1n, ↓wq_aload_2n, ↓wq_aload_3n, ↓wq_anewarray, ↓wq_aretr, ↓wq_aretn, ↓wq_arraylength, ↓wq_bipush, ↓wq_dup_x1ii, ↓wq_dup_x1ri, ↓wq_dup_x1ni, ↓wq_dup_x1ir, ↓wq_dup_x1rr, ↓wq_dup_x1nr, ↓wq_dup_x1in, ↓wq_dup_x1rn, ↓wq_dup_x1nn, ↓wq_getfield, ↓wq_getstatic, ↓wq_iconst, ↓wq_if_eq, ↓wq_if_ne, ↓wq_if_lt, ↓wq_if_ge, ↓wq_if_gt, ↓wq_if_le, ↓wq_acmp_eq, ↓wq_acmp_ne, ↓wq_iload_0, ↓wq_iload_1, ↓wq_iload_2, ↓wq_iload_3, ↓wq_invokestatic, ↓wq_ishr, ↓wq_istore_0, ↓wq_istore_1, ↓wq_istore_2, ↓wq_istore_3, ↓wq_isub, ↓wq_putfield, ↓se_get_0, ↓se_get_s, ↓se_set1_0, ↓se_set1_1, ↓se_set1_s, ↓se_set2_0, ↓se_set2_1, ↓se_set2_s, ↓se_k2_n, ↓se_k2_i, ↓se_k2_r, ↓se_k2_u, ↓se_k2_l, ↓se_k2_q, ↓se_in_0, ↓se_in_s, ↓gI_s, ↓gL_s, ↓gR_r, ↓gR_n, ↓gR_q, ↓sR_r, ↓sR_n, ↓sR_q, ↓se_sp_n, ↓se_sp_y, ↓se_sp_z, ↓se_ts_n, ↓se_ts_c, ↓se_c8_n, ↓se_c8_i, ↓se_c8_r, ↓se_c8_u, ↓se_c8_l, ↓wD_e dJ2_grow_2_0, ↓wD_e dJ2_grow_2_1, ↓wD_e dJ2_grow_2_4, ↓wD_e dJ2_grow_2_5, ↓wD_e dJ2_grow_2_6, ↓wD_e dJ2_grow_2_7, ↓wD_e dJ2_grow_2_10, ↓wD_e dJ2_grow_2_11, ↓wD_e dJ2_grow_2_14, ↓wD_e dJ2_grow_2_17, ↓wD_e dJ2_grow_2_20, ↓wD_e dJ2_grow_2_21, ↓wD_e dJ2_grow_2_22, ↓wD_e dJ2_grow_2_23, ↓wD_e dJ2_grow_2_24, ↓wD_e dJ2_grow_2_25, ↓wD_e dJ2_grow_2_26, ↓wD_e dJ2_grow_2_27, ↓wD_e dJ2_grow_2_30, ↓wD_e dJ2_grow_2_31, ↓wD_e dJ2_grow_2_32, ↓wD_e dJ2_grow_2_33, ↓wD_e dJ2_grow_2_36, ↓wD_e dJ2_grow_2_37, ↓wD_e dJ2_grow_2_40, ↓wD_e dJ2_grow_2_41, ↓wD_e dJ2_grow_2_44, ↓wD_e dJ2_grow_2_45, ↓wD_e dJ2_grow_2_46, ↓wD_e dJ2_grow_2_48, ↓wD_e dJ2_grow_2_49, ↓wD_e dJ2_grow_2_52, ↓wD_e dJ2_grow_2_55, ↓wD_e dJ2_grow_2_56, ↓wD_e dJ2_grow_2_59, cc_bipush_10, cc_iconst_1, ↓tg_7_13, ↓tg_17_28, ht_LIrL_e, ht_LIrL_n, ↓T_L_grow_I_0_9, ↓T_L_grow_I_21_0, ↓T_L_grow_I_2_39, ↓T_L_grow_I_1_9, ↓T_L_grow_I_7_7, ↓T_L_grow_I_5_73, ↓T_L_grow_I_5_66, ↓T_L_grow_I_5_79, hp_IIIrI_r, ho_LIrL_r, hMx_r, hGet_r, hPut_r, hTxV, hTxC, hTxB, hTxL, hBxA, hBxV, hGst, hLdM, hCpy_r, hGcl_r, hAald_r, hAlE_r, hAastO_r, hAastO_n, hNewA_r, hObj, List.mem_cons, List.not_mem_nil, yrf_s, yrf_n, hfl, hVk, updV_a, hUa_s, ht_LIrL_e (hr := (.inr ⟨_, rfl⟩)), ht_LIrL_n (hr := (.inr ⟨_, rfl⟩)), i32_10, i32_01, i32_m10, i32_03, i32_13, i32_23, Int32.reduceAdd, Int32.reduceSub, Int32.reduceMul, Int32.reduceLT, Int32.reduceLE, Int32.reduceToNatClampNeg, Int32.reduceOfInt, Int64.reduceAdd, Int64.reduceSub, Int64.reduceMul, Int64.reduceLT, Int64.reduceLE, lg_cmp_ge, lg_cmp_le, lg_cmp_gt, lg_cmp_lt, lg_cmp_eq, bI_0, bI_1, not_true_eq_false, not_false_eq_true, false_implies, Bool.not_eq_false, Bool.not_eq_true, and_self, Nat.reduceAdd, Int.reduceAdd, Nat.reduceEqDiff, reduceIte, true_and, and_true, implies_true, forall_const, Nat.zero_le, Nat.add_zero, Nat.zero_add, true_or, or_true, false_or, or_false, and_false, false_and, sCI_r, sCJ_r, Nat.reduceLeDiff, hM1, hm1, hm2, hZ4]
    refine ⟨rfl, rfl, fun E' k' F' o' hq1 hq2 => ?_⟩
    obtain ⟨rfl, q2, q3⟩ := hun E' k' F' hq1
    obtain rfl := hkk k' q2 q3
    rw [e1] at hq2
    cases hq2
    have : hCut F' 0 = fun _ => none := by funext j; simp [hCut]
    rw [this]
    rfl
  · have hpos : 0 < nI k := by
      have := nI_ltL (k := 0) (c := k) (by omega) (by omega)
      have z : nI 0 = 0 := rfl
      rw [z] at this
      rw [this]
      exact h30
    have hr1 : nI k >>> ((1 : Int32) &&& 31) = nI (k / 2) := nI_shr1 (by omega)
    have hs1 : nI (k + 1) - nI k = 1 := by
      rw [nI_subL (by omega)]
      have : k + 1 - k = 1 := by omega
      rw [this]
      rfl
    have hmx : (if (1 : Int32) < nI (k / 2) then nI (k / 2) else 1) = nI (max 1 (k / 2)) := by
      have z : (1 : Int32) = nI 1 := L32_1
      by_cases q : 1 < k / 2
      · have q' : (1 : Int32) < nI (k / 2) := by
          rw [z, nI_ltL (by omega) (by omega)]
          exact q
        rw [if_pos q', Nat.max_eq_right (by omega)]
      · have q' : ¬ (1 : Int32) < nI (k / 2) := by
          rw [z, nI_ltL (by omega) (by omega)]
          exact q
        rw [if_neg q', Nat.max_eq_left (by omega)]
        rfl
    have hlN : lNc k k = k + max 1 (k / 2) := by
      unfold lNc
      rw [if_neg (Nat.lt_irrefl _), if_neg (by omega)]
    have hb : lNc k k ≤ 65536 := by rw [hlN]; omega
    have hsum : nI k + nI (max 1 (k / 2)) = nI (lNc k k) := by rw [hlN, nI_add]
    have hgt : ¬ nI (lNc k k) ≤ 0 := by
      have z : (0 : Int32) = nI 0 := rfl
      rw [z, nI_leL (by omega) (by omega)]
      rw [hlN]
      omega
    have hlt : ¬ 2147483639 < nI (lNc k k) := by
      have z : (2147483639 : Int32) = nI 2147483639 := rfl
      rw [z, nI_ltL (by omega) (by omega)]
      omega
    have hoL : (Int32.ofNat k) = nI k := rfl
    have hAS : P_AS_newLength g (nI k) 1 (nI (k / 2)) m n := ⟨nI (lNc k k), by rw [hmx, ← hsum, Int32.add_comm], by rw [hmx, hsum], hgt, hlt, by rw [L32_0, nI_ltL (by omega) (by omega)]; omega, by
      have z : (2147483639 : Int32) = nI 2147483639 := rfl
      rw [z, nI_leL (by omega) (by omega)]
      omega⟩
    refine hG [20, 45] 300 _ _ _ _ ?_
    simp only [wpN, ↓wq_aload_0, ↓wq_aload_1, ↓wq_aload_2, ↓wq_aload_3, ↓wq_aload_0n, ↓wq_aload_1n, ↓wq_aload_2n, ↓wq_aload_3n, ↓wq_anewarray, ↓wq_aretr, ↓wq_aretn, ↓wq_arraylength, ↓wq_bipush, ↓wq_dup_x1ii, ↓wq_dup_x1ri, ↓wq_dup_x1ni, ↓wq_dup_x1ir, ↓wq_dup_x1rr, ↓wq_dup_x1nr, ↓wq_dup_x1in, ↓wq_dup_x1rn, ↓wq_dup_x1nn, ↓wq_getfield, ↓wq_getstatic, ↓wq_iconst, ↓wq_if_eq, ↓wq_if_ne, ↓wq_if_lt, ↓wq_if_ge, ↓wq_if_gt, ↓wq_if_le, ↓wq_acmp_eq, ↓wq_acmp_ne, ↓wq_iload_0, ↓wq_iload_1, ↓wq_iload_2, ↓wq_iload_3, ↓wq_invokestatic, ↓wq_ishr, ↓wq_istore_0, ↓wq_istore_1, ↓wq_istore_2, ↓wq_istore_3, ↓wq_isub, ↓wq_putfield, ↓se_get_0, ↓se_get_s, ↓se_set1_0, ↓se_set1_1, ↓se_set1_s, ↓se_set2_0, ↓se_set2_1, ↓se_set2_s, ↓se_k2_n, ↓se_k2_i, ↓se_k2_r, ↓se_k2_u, ↓se_k2_l, ↓se_k2_q, ↓se_in_0, ↓se_in_s, ↓gI_s, ↓gL_s, ↓gR_r, ↓gR_n, ↓gR_q, ↓sR_r, ↓sR_n, ↓sR_q, ↓se_sp_n, ↓se_sp_y, ↓se_sp_z, ↓se_ts_n, ↓se_ts_c, ↓se_c8_n, ↓se_c8_i, ↓se_c8_r, ↓se_c8_u, ↓se_c8_l, ↓wD_e dJ2_grow_2_0, ↓wD_e dJ2_grow_2_1, ↓wD_e dJ2_grow_2_4, ↓wD_e dJ2_grow_2_5, ↓wD_e dJ2_grow_2_6, ↓wD_e dJ2_grow_2_7, ↓wD_e dJ2_grow_2_10, ↓wD_e dJ2_grow_2_11, ↓wD_e dJ2_grow_2_14, ↓wD_e dJ2_grow_2_17, ↓wD_e dJ2_grow_2_20, ↓wD_e dJ2_grow_2_21, ↓wD_e dJ2_grow_2_22, ↓wD_e dJ2_grow_2_23, ↓wD_e dJ2_grow_2_24, ↓wD_e dJ2_grow_2_25, ↓wD_e dJ2_grow_2_26, ↓wD_e dJ2_grow_2_27, ↓wD_e dJ2_grow_2_30, ↓wD_e dJ2_grow_2_31, ↓wD_e dJ2_grow_2_32, ↓wD_e dJ2_grow_2_33, ↓wD_e dJ2_grow_2_36, ↓wD_e dJ2_grow_2_37, ↓wD_e dJ2_grow_2_40, ↓wD_e dJ2_grow_2_41, ↓wD_e dJ2_grow_2_44, ↓wD_e dJ2_grow_2_45, ↓wD_e dJ2_grow_2_46, ↓wD_e dJ2_grow_2_48, ↓wD_e dJ2_grow_2_49, ↓wD_e dJ2_grow_2_52, ↓wD_e dJ2_grow_2_55, ↓wD_e dJ2_grow_2_56, ↓wD_e dJ2_grow_2_59, cc_bipush_10, cc_iconst_1, ↓tg_7_13, ↓tg_17_28, ht_LIrL_e, ht_LIrL_n, ↓T_L_grow_I_0_9, ↓T_L_grow_I_21_0, ↓T_L_grow_I_2_39, ↓T_L_grow_I_1_9, ↓T_L_grow_I_7_7, ↓T_L_grow_I_5_73, ↓T_L_grow_I_5_66, ↓T_L_grow_I_5_79, hp_IIIrI_r, ho_LIrL_r, hMx_r, hGet_r, hPut_r, hTxV, hTxC, hTxB, hTxL, hBxA, hBxV, hGst, hLdM, hCpy_r, hGcl_r, hAald_r, hAlE_r, hAastO_r, hAastO_n, hNewA_r, hObj, List.mem_cons, List.not_mem_nil, yrf_s, yrf_n, hfl, hVk, updV_a, hUa_s, ht_LIrL_e (hr := (.inr ⟨_, rfl⟩)), ht_LIrL_n (hr := (.inr ⟨_, rfl⟩)), i32_10, i32_01, i32_m10, i32_03, i32_13, i32_23, Int32.reduceAdd, Int32.reduceSub, Int32.reduceMul, Int32.reduceLT, Int32.reduceLE, Int32.reduceToNatClampNeg, Int32.reduceOfInt, Int64.reduceAdd, Int64.reduceSub, Int64.reduceMul, Int64.reduceLT, Int64.reduceLE, lg_cmp_ge, lg_cmp_le, lg_cmp_gt, lg_cmp_lt, lg_cmp_eq, bI_0, bI_1, not_true_eq_false, not_false_eq_true, false_implies, Bool.not_eq_false, Bool.not_eq_true, and_self, Nat.reduceAdd, Int.reduceAdd, Nat.reduceEqDiff, reduceIte, true_and, and_true, implies_true, forall_const, Nat.zero_le, Nat.add_zero, Nat.zero_add, true_or, or_true, false_or, or_false, and_false, false_and, sCI_r, sCJ_r, Nat.reduceLeDiff, e1, e3, h3, hoL, hpos]
    refine hG [20, 45, 40] 300 _ _ _ _ ?_
    simp only [wpN, ↓wq_aload_0, ↓wq_aload_1, ↓wq_aload_2, ↓wq_aload_3, ↓wq_aload_0n, ↓wq_aload_1n, ↓wq_aload_2n, ↓wq_aload_3n, ↓wq_anewarray, ↓wq_aretr, ↓wq_aretn, ↓wq_arraylength, ↓wq_bipush, ↓wq_dup_x1ii, ↓wq_dup_x1ri, ↓wq_dup_x1ni, ↓wq_dup_x1ir, ↓wq_dup_x1rr, ↓wq_dup_x1nr, ↓wq_dup_x1in, ↓wq_dup_x1rn, ↓wq_dup_x1nn, ↓wq_getfield, ↓wq_getstatic, ↓wq_iconst, ↓wq_if_eq, ↓wq_if_ne, ↓wq_if_lt, ↓wq_if_ge, ↓wq_if_gt, ↓wq_if_le, ↓wq_acmp_eq, ↓wq_acmp_ne, ↓wq_iload_0, ↓wq_iload_1, ↓wq_iload_2, ↓wq_iload_3, ↓wq_invokestatic, ↓wq_ishr, ↓wq_istore_0, ↓wq_istore_1, ↓wq_istore_2, ↓wq_istore_3, ↓wq_isub, ↓wq_putfield, ↓se_get_0, ↓se_get_s, ↓se_set1_0, ↓se_set1_1, ↓se_set1_s, ↓se_set2_0, ↓se_set2_1, ↓se_set2_s, ↓se_k2_n, ↓se_k2_i, ↓se_k2_r, ↓se_k2_u, ↓se_k2_l, ↓se_k2_q, ↓se_in_0, ↓se_in_s, ↓gI_s, ↓gL_s, ↓gR_r, ↓gR_n, ↓gR_q, ↓sR_r, ↓sR_n, ↓sR_q, ↓se_sp_n, ↓se_sp_y, ↓se_sp_z, ↓se_ts_n, ↓se_ts_c, ↓se_c8_n, ↓se_c8_i, ↓se_c8_r, ↓se_c8_u, ↓se_c8_l, ↓wD_e dJ2_grow_2_0, ↓wD_e dJ2_grow_2_1, ↓wD_e dJ2_grow_2_4, ↓wD_e dJ2_grow_2_5, ↓wD_e dJ2_grow_2_6, ↓wD_e dJ2_grow_2_7, ↓wD_e dJ2_grow_2_10, ↓wD_e dJ2_grow_2_11, ↓wD_e dJ2_grow_2_14, ↓wD_e dJ2_grow_2_17, ↓wD_e dJ2_grow_2_20, ↓wD_e dJ2_grow_2_21, ↓wD_e dJ2_grow_2_22, ↓wD_e dJ2_grow_2_23, ↓wD_e dJ2_grow_2_24, ↓wD_e dJ2_grow_2_25, ↓wD_e dJ2_grow_2_26, ↓wD_e dJ2_grow_2_27, ↓wD_e dJ2_grow_2_30, ↓wD_e dJ2_grow_2_31, ↓wD_e dJ2_grow_2_32, ↓wD_e dJ2_grow_2_33, ↓wD_e dJ2_grow_2_36, ↓wD_e dJ2_grow_2_37, ↓wD_e dJ2_grow_2_40, ↓wD_e dJ2_grow_2_41, ↓wD_e dJ2_grow_2_44, ↓wD_e dJ2_grow_2_45, ↓wD_e dJ2_grow_2_46, ↓wD_e dJ2_grow_2_48, ↓wD_e dJ2_grow_2_49, ↓wD_e dJ2_grow_2_52, ↓wD_e dJ2_grow_2_55, ↓wD_e dJ2_grow_2_56, ↓wD_e dJ2_grow_2_59, cc_bipush_10, cc_iconst_1, ↓tg_7_13, ↓tg_17_28, ht_LIrL_e, ht_LIrL_n, ↓T_L_grow_I_0_9, ↓T_L_grow_I_21_0, ↓T_L_grow_I_2_39, ↓T_L_grow_I_1_9, ↓T_L_grow_I_7_7, ↓T_L_grow_I_5_73, ↓T_L_grow_I_5_66, ↓T_L_grow_I_5_79, hp_IIIrI_r, ho_LIrL_r, hMx_r, hGet_r, hPut_r, hTxV, hTxC, hTxB, hTxL, hBxA, hBxV, hGst, hLdM, hCpy_r, hGcl_r, hAald_r, hAlE_r, hAastO_r, hAastO_n, hNewA_r, hObj, List.mem_cons, List.not_mem_nil, yrf_s, yrf_n, hfl, hVk, updV_a, hUa_s, ht_LIrL_e (hr := (.inr ⟨_, rfl⟩)), ht_LIrL_n (hr := (.inr ⟨_, rfl⟩)), i32_10, i32_01, i32_m10, i32_03, i32_13, i32_23, Int32.reduceAdd, Int32.reduceSub, Int32.reduceMul, Int32.reduceLT, Int32.reduceLE, Int32.reduceToNatClampNeg, Int32.reduceOfInt, Int64.reduceAdd, Int64.reduceSub, Int64.reduceMul, Int64.reduceLT, Int64.reduceLE, lg_cmp_ge, lg_cmp_le, lg_cmp_gt, lg_cmp_lt, lg_cmp_eq, bI_0, bI_1, not_true_eq_false, not_false_eq_true, false_implies, Bool.not_eq_false, Bool.not_eq_true, and_self, Nat.reduceAdd, Int.reduceAdd, Nat.reduceEqDiff, reduceIte, true_and, and_true, implies_true, forall_const, Nat.zero_le, Nat.add_zero, Nat.zero_add, true_or, or_true, false_or, or_false, and_false, false_and, sCI_r, sCJ_r, Nat.reduceLeDiff, e1, e3, hr1, hs1, hAS, R_AS_newLength, hmx, hsum]
    refine ⟨⟨k, F, lNc k k, h3, rfl, by rw [hlN]; omega, hb, h30, hE, hm1, hm2⟩, by omega, by omega, ?_⟩
    intro x m1 n1 hq hd1 hn1
    obtain ⟨rfl, rfl, hq⟩ := hq
    have hq := hq k F (lNc k k) h3 rfl hb
    subst hq
    have hna : n ≠ a0 := by omega
    have hM1 : ∀ x, hU m n x a0 = some (.inl (23, o)) := fun x => by rw [hUa_n hna.symm]; exact e1
    refine hG [20, 45] 300 _ _ _ _ ?_
    simp only [wpN, ↓wq_aload_0, ↓wq_aload_1, ↓wq_aload_2, ↓wq_aload_3, ↓wq_aload_0n, ↓wq_aload_1n, ↓wq_aload_2n, ↓wq_aload_3n, ↓wq_anewarray, ↓wq_aretr, ↓wq_aretn, ↓wq_arraylength, ↓wq_bipush, ↓wq_dup_x1ii, ↓wq_dup_x1ri, ↓wq_dup_x1ni, ↓wq_dup_x1ir, ↓wq_dup_x1rr, ↓wq_dup_x1nr, ↓wq_dup_x1in, ↓wq_dup_x1rn, ↓wq_dup_x1nn, ↓wq_getfield, ↓wq_getstatic, ↓wq_iconst, ↓wq_if_eq, ↓wq_if_ne, ↓wq_if_lt, ↓wq_if_ge, ↓wq_if_gt, ↓wq_if_le, ↓wq_acmp_eq, ↓wq_acmp_ne, ↓wq_iload_0, ↓wq_iload_1, ↓wq_iload_2, ↓wq_iload_3, ↓wq_invokestatic, ↓wq_ishr, ↓wq_istore_0, ↓wq_istore_1, ↓wq_istore_2, ↓wq_istore_3, ↓wq_isub, ↓wq_putfield, ↓se_get_0, ↓se_get_s, ↓se_set1_0, ↓se_set1_1, ↓se_set1_s, ↓se_set2_0, ↓se_set2_1, ↓se_set2_s, ↓se_k2_n, ↓se_k2_i, ↓se_k2_r, ↓se_k2_u, ↓se_k2_l, ↓se_k2_q, ↓se_in_0, ↓se_in_s, ↓gI_s, ↓gL_s, ↓gR_r, ↓gR_n, ↓gR_q, ↓sR_r, ↓sR_n, ↓sR_q, ↓se_sp_n, ↓se_sp_y, ↓se_sp_z, ↓se_ts_n, ↓se_ts_c, ↓se_c8_n, ↓se_c8_i, ↓se_c8_r, ↓se_c8_u, ↓se_c8_l, ↓wD_e dJ2_grow_2_0, ↓wD_e dJ2_grow_2_1, ↓wD_e dJ2_grow_2_4, ↓wD_e dJ2_grow_2_5, ↓wD_e dJ2_grow_2_6, ↓wD_e dJ2_grow_2_7, ↓wD_e dJ2_grow_2_10, ↓wD_e dJ2_grow_2_11, ↓wD_e dJ2_grow_2_14, ↓wD_e dJ2_grow_2_17, ↓wD_e dJ2_grow_2_20, ↓wD_e dJ2_grow_2_21, ↓wD_e dJ2_grow_2_22, ↓wD_e dJ2_grow_2_23, ↓wD_e dJ2_grow_2_24, ↓wD_e dJ2_grow_2_25, ↓wD_e dJ2_grow_2_26, ↓wD_e dJ2_grow_2_27, ↓wD_e dJ2_grow_2_30, ↓wD_e dJ2_grow_2_31, ↓wD_e dJ2_grow_2_32, ↓wD_e dJ2_grow_2_33, ↓wD_e dJ2_grow_2_36, ↓wD_e dJ2_grow_2_37, ↓wD_e dJ2_grow_2_40, ↓wD_e dJ2_grow_2_41, ↓wD_e dJ2_grow_2_44, ↓wD_e dJ2_grow_2_45, ↓wD_e dJ2_grow_2_46, ↓wD_e dJ2_grow_2_48, ↓wD_e dJ2_grow_2_49, ↓wD_e dJ2_grow_2_52, ↓wD_e dJ2_grow_2_55, ↓wD_e dJ2_grow_2_56, ↓wD_e dJ2_grow_2_59, cc_bipush_10, cc_iconst_1, ↓tg_7_13, ↓tg_17_28, ht_LIrL_e, ht_LIrL_n, ↓T_L_grow_I_0_9, ↓T_L_grow_I_21_0, ↓T_L_grow_I_2_39, ↓T_L_grow_I_1_9, ↓T_L_grow_I_7_7, ↓T_L_grow_I_5_73, ↓T_L_grow_I_5_66, ↓T_L_grow_I_5_79, hp_IIIrI_r, ho_LIrL_r, hMx_r, hGet_r, hPut_r, hTxV, hTxC, hTxB, hTxL, hBxA, hBxV, hGst, hLdM, hCpy_r, hGcl_r, hAald_r, hAlE_r, hAastO_r, hAastO_n, hNewA_r, hObj, List.mem_cons, List.not_mem_nil, yrf_s, yrf_n, hfl, hVk, updV_a, hUa_s, ht_LIrL_e (hr := (.inr ⟨_, rfl⟩)), ht_LIrL_n (hr := (.inr ⟨_, rfl⟩)), i32_10, i32_01, i32_m10, i32_03, i32_13, i32_23, Int32.reduceAdd, Int32.reduceSub, Int32.reduceMul, Int32.reduceLT, Int32.reduceLE, Int32.reduceToNatClampNeg, Int32.reduceOfInt, Int64.reduceAdd, Int64.reduceSub, Int64.reduceMul, Int64.reduceLT, Int64.reduceLE, lg_cmp_ge, lg_cmp_le, lg_cmp_gt, lg_cmp_lt, lg_cmp_eq, bI_0, bI_1, not_true_eq_false, not_false_eq_true, false_implies, Bool.not_eq_false, Bool.not_eq_true, and_self, Nat.reduceAdd, Int.reduceAdd, Nat.reduceEqDiff, reduceIte, true_and, and_true, implies_true, forall_const, Nat.zero_le, Nat.add_zero, Nat.zero_add, true_or, or_true, false_or, or_false, and_false, false_and, sCI_r, sCJ_r, Nat.reduceLeDiff, hM1, Nat.le_refl]
    refine ⟨rfl, rfl, fun E' k' F' o' hq1 hq2 => ?_⟩
    obtain ⟨rfl, q2, q3⟩ := hun E' k' F' hq1
    obtain rfl := hkk k' q2 q3
    rw [e1] at hq2
    cases hq2
    obtain ⟨-, -, -, q⟩ := hq1
    rcases q with ⟨-, q, -⟩ | ⟨q, -⟩
    · omega
    · rw [h3] at q
      cases q
      rfl
def P_L_grow_ (mc ms : Nat) : hG → Nat → hH → Nat → Prop := fun g a0 m n => ∃ E k F, hLst g m a0 E k k F ∧ k ≤ 40000 ∧ hEls g m k F ∧ 1 ≤ mc ∧ lNc k k ≤ ms
def Q_L_grow_ (mc ms : Nat) : hG → Nat → hH → Nat → Option Nat → hH → Nat → Prop := fun g a0 m n x m' n' => n' = n + 1 ∧ x = some n ∧ ∀ E k F o, hLst g m a0 E k k F → m a0 = some (.inl (23, o)) → m' = hU (hU m n (hA4 (lNc k k) (hCut F k))) a0 (.inl (23, updV o 1 (.ref n)))
def T_L_grow_ (mc ms : Nat) (mc ms : Nat) (g : hG) : Nat → Nat → se_Op hW := se_tab [(0, 48, hGet [(23, 2)]), (3, 69, hov_LIrL g mc ms mc ms [23] (P_L_grow_I mc ms) (Q_L_grow_I mc ms))]
set_option maxRecDepth 20000 in
theorem T_L_grow__ok (l : Launch) (hl : l.stackTraces = false) (mc ms : Nat) (mc ms : Nat) : hTS l yJ2_grow.cls yJ2_grow.name cJ2_grow 1 (some (.array (.object "java/lang/Object"))) 4 127 mc ms (T_L_grow_ mc ms mc ms) := fun g p e s m args below meth c Q H0 C hnm hG hS k i => se_tab_ok _ (List.forall_mem_cons.mpr ⟨hGet_ok (F := [(23, 2)]) (List.forall_mem_cons.mpr ⟨⟨(RJ2, TJ2, 3), "java/util/ArrayList", rfl, by decide, .inl q172, .inl rfl⟩, fun _ h => absurd h List.not_mem_nil⟩) C hG, List.forall_mem_cons.mpr ⟨hov_LIrL_ok (hCVG_ok (maxL' := 4) (fr' := 3) (lo' := 104) (yt_L_grow_I l hl mc ms) (List.forall_mem_cons.mpr ⟨⟨_, rfl, hRunV_V (na := 1) C.1.2.2.2.2 q789 q791 qs7 q101 q792 (by decide +kernel) ⟨by decide, by decide⟩⟩, fun _ h => absurd h List.not_mem_nil⟩) C hG hS), fun _ h => absurd h List.not_mem_nil⟩⟩) k i
set_option maxRecDepth 20000 in
theorem T_L_grow__0_48 {mc ms : Nat} {mc ms : Nat} {g : hG} : T_L_grow_ mc ms mc ms g 0 48 = hGet [(23, 2)] := rfl
set_option maxRecDepth 20000 in
theorem T_L_grow__3_69 {mc ms : Nat} {mc ms : Nat} {g : hG} : T_L_grow_ mc ms mc ms g 3 69 = hov_LIrL g mc ms mc ms [23] (P_L_grow_I mc ms) (Q_L_grow_I mc ms) := rfl
set_option maxHeartbeats 1000000 in
set_option maxRecDepth 20000 in
theorem yt_L_grow_ (l : Launch) (hl : l.stackTraces = false) (mc ms : Nat) : hm_LrL l yJ2_grow (ws_ yJ2_grow cJ2_grow 1 (some (.array (.object "java/lang/Object")))) 4 127 mc ms (P_L_grow_ mc ms) (Q_L_grow_ mc ms) := by
  refine hm_LrL_of (rty := (.array (.object "java/lang/Object"))) (by decide +kernel) rfl (T_L_grow__ok l hl mc ms mc ms) (by decide) fun g a0 m n hin hv hp G hG => ?_
  show G 0 [some (.ref a0)] [] (m, n, 0, 0)
  obtain ⟨E, k, F, hL, hk, hE, hm1, hm2⟩ := hp
  have hL0 := hL
  obtain ⟨⟨o, md, e1, e2, e3, e4⟩, h1, h2, h3⟩ := hL
  have hs1 : nI k + 1 = nI (k + 1) := nI_1 _
  refine hG [10] 300 _ _ _ _ ?_
  simp only [wpN, ↓wq_aload_0, ↓wq_aload_1, ↓wq_aload_2, ↓wq_aload_3, ↓wq_aload_0n, ↓wq_aload_1n, ↓wq_aload_2n, ↓wq_aload_3n, ↓wq_aretr, ↓wq_aretn, ↓wq_getfield, ↓wq_iadd, ↓wq_iconst, ↓wq_invokevirtual, ↓se_get_0, ↓se_get_s, ↓se_set1_0, ↓se_set1_1, ↓se_set1_s, ↓se_set2_0, ↓se_set2_1, ↓se_set2_s, ↓se_k2_n, ↓se_k2_i, ↓se_k2_r, ↓se_k2_u, ↓se_k2_l, ↓se_k2_q, ↓se_in_0, ↓se_in_s, ↓gI_s, ↓gL_s, ↓gR_r, ↓gR_n, ↓gR_q, ↓sR_r, ↓sR_n, ↓sR_q, ↓se_sp_n, ↓se_sp_y, ↓se_sp_z, ↓se_ts_n, ↓se_ts_c, ↓se_c8_n, ↓se_c8_i, ↓se_c8_r, ↓se_c8_u, ↓se_c8_l, ↓wD_e dJ2_grow_0, ↓wD_e dJ2_grow_1, ↓wD_e dJ2_grow_2, ↓wD_e dJ2_grow_5, ↓wD_e dJ2_grow_6, ↓wD_e dJ2_grow_7, ↓wD_e dJ2_grow_10, cc_iconst_1, ht_LrL_e, ht_LrL_n, ↓T_L_grow__0_48, ↓T_L_grow__3_69, hov_LIrL_r, hGet_r, hPut_r, hTxV, hTxC, hTxB, hTxL, hBxA, hBxV, hGst, hLdM, hCpy_r, hGcl_r, hAald_r, hAlE_r, hAastO_r, hAastO_n, hNewA_r, hObj, List.mem_cons, List.not_mem_nil, yrf_s, yrf_n, hfl, hVk, updV_a, hUa_s, ht_LrL_e (hr := (.inr ⟨_, rfl⟩)), ht_LrL_n (hr := (.inr ⟨_, rfl⟩)), i32_10, i32_01, i32_m10, i32_03, i32_13, i32_23, Int32.reduceAdd, Int32.reduceSub, Int32.reduceMul, Int32.reduceLT, Int32.reduceLE, Int32.reduceToNatClampNeg, Int32.reduceOfInt, Int64.reduceAdd, Int64.reduceSub, Int64.reduceMul, Int64.reduceLT, Int64.reduceLE, lg_cmp_ge, lg_cmp_le, lg_cmp_gt, lg_cmp_lt, lg_cmp_eq, bI_0, bI_1, not_true_eq_false, not_false_eq_true, false_implies, Bool.not_eq_false, Bool.not_eq_true, and_self, Nat.reduceAdd, Int.reduceAdd, Nat.reduceEqDiff, reduceIte, true_and, and_true, implies_true, forall_const, Nat.zero_le, Nat.add_zero, Nat.zero_add, true_or, or_true, false_or, or_false, and_false, false_and, sCI_r, sCJ_r, Nat.reduceLeDiff, e1, e4, hs1, hRcv]
  refine ⟨⟨E, k, F, hL0, rfl, hk, hE, hm1, hm2⟩, by omega, by omega, ?_⟩
  intro x m1 n1 hq hd1 hn1
  obtain ⟨rfl, rfl, hq⟩ := hq
  refine hG [] 300 _ _ _ _ ?_
  simp only [wpN, ↓wq_aload_0, ↓wq_aload_1, ↓wq_aload_2, ↓wq_aload_3, ↓wq_aload_0n, ↓wq_aload_1n, ↓wq_aload_2n, ↓wq_aload_3n, ↓wq_aretr, ↓wq_aretn, ↓wq_getfield, ↓wq_iadd, ↓wq_iconst, ↓wq_invokevirtual, ↓se_get_0, ↓se_get_s, ↓se_set1_0, ↓se_set1_1, ↓se_set1_s, ↓se_set2_0, ↓se_set2_1, ↓se_set2_s, ↓se_k2_n, ↓se_k2_i, ↓se_k2_r, ↓se_k2_u, ↓se_k2_l, ↓se_k2_q, ↓se_in_0, ↓se_in_s, ↓gI_s, ↓gL_s, ↓gR_r, ↓gR_n, ↓gR_q, ↓sR_r, ↓sR_n, ↓sR_q, ↓se_sp_n, ↓se_sp_y, ↓se_sp_z, ↓se_ts_n, ↓se_ts_c, ↓se_c8_n, ↓se_c8_i, ↓se_c8_r, ↓se_c8_u, ↓se_c8_l, ↓wD_e dJ2_grow_0, ↓wD_e dJ2_grow_1, ↓wD_e dJ2_grow_2, ↓wD_e dJ2_grow_5, ↓wD_e dJ2_grow_6, ↓wD_e dJ2_grow_7, ↓wD_e dJ2_grow_10, cc_iconst_1, ht_LrL_e, ht_LrL_n, ↓T_L_grow__0_48, ↓T_L_grow__3_69, hov_LIrL_r, hGet_r, hPut_r, hTxV, hTxC, hTxB, hTxL, hBxA, hBxV, hGst, hLdM, hCpy_r, hGcl_r, hAald_r, hAlE_r, hAastO_r, hAastO_n, hNewA_r, hObj, List.mem_cons, List.not_mem_nil, yrf_s, yrf_n, hfl, hVk, updV_a, hUa_s, ht_LrL_e (hr := (.inr ⟨_, rfl⟩)), ht_LrL_n (hr := (.inr ⟨_, rfl⟩)), i32_10, i32_01, i32_m10, i32_03, i32_13, i32_23, Int32.reduceAdd, Int32.reduceSub, Int32.reduceMul, Int32.reduceLT, Int32.reduceLE, Int32.reduceToNatClampNeg, Int32.reduceOfInt, Int64.reduceAdd, Int64.reduceSub, Int64.reduceMul, Int64.reduceLT, Int64.reduceLE, lg_cmp_ge, lg_cmp_le, lg_cmp_gt, lg_cmp_lt, lg_cmp_eq, bI_0, bI_1, not_true_eq_false, not_false_eq_true, false_implies, Bool.not_eq_false, Bool.not_eq_true, and_self, Nat.reduceAdd, Int.reduceAdd, Nat.reduceEqDiff, reduceIte, true_and, and_true, implies_true, forall_const, Nat.zero_le, Nat.add_zero, Nat.zero_add, true_or, or_true, false_or, or_false, and_false, false_and, sCI_r, sCJ_r, Nat.reduceLeDiff, Nat.le_refl]
  exact ⟨rfl, rfl, hq⟩
