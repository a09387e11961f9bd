/-! JDK METHODS OVER THE HEAP: lists, numbers, texts -/
/-- a list object: its array, its size -/
def hLi (h : hH) (a E k : Nat) : Prop := ∃ (o : Nat → Value) (md : Int32), h a = some (.inl (23, o)) ∧ o 0 = .int md ∧ o 1 = .ref E ∧ o 2 = .int (nI k)
abbrev hA4 (L : Nat) (F : Nat → Option Nat) : hO := .inr (4, (L, .inr (.inr (.inr (.inr F)))))
/-- .. with its elements -/
def hLst (g : hG) (h : hH) (a E k L : Nat) (F : Nat → Option Nat) : Prop := hLi h a E k ∧ k ≤ L ∧ L ≤ 65536 ∧ ((E = gSa g 0 ∧ L = 0 ∧ h E = none) ∨ (h E = some (hA4 L F) ∧ 0 < L))
def hEls (g : hG) (h : hH) (k : Nat) (F : Nat → Option Nat) : Prop := ∀ j, j < k → ∀ y, F j = some y → hAnyO g h y
/-- the room of a list that grows: its next capacity, cells, slots -/
def lNc (k c : Nat) : Nat := if k < c then c else if c = 0 then 10 else c + max 1 (c / 2)
def lG (k c : Nat) : Nat := if k < c then 0 else 1
def lS (k c : Nat) : Nat := if k < c then 0 else lNc k c
def hCut (F : Nat → Option Nat) (L : Nat) : Nat → Option Nat := fun j => if j < L then F j else none
theorem nI_nn {k : Nat} (h : k < 2 ^ 31) : ¬ nI k < 0 := by
  have z : (0 : Int32) = nI 0 := L32_0
  rw [z, nI_ltL h (by omega)]
  omega
theorem hLi_ne {h : hH} {a E k : Nat} {x : Nat × vp_A} (hl : hLi h a E k) {b : Nat} (hb : h b = some (.inr x)) : b ≠ a := by
  obtain ⟨o, md, e, -⟩ := hl
  intro q
  rw [q, e] at hb
  cases hb

theorem tg_6_10 {K : Nat → Prop} : se_tg 6 (10) K = K 16 := rfl
def P_PC_checkIndex  : hG → Int32 → Int32 → Option Nat → hH → Nat → Prop := fun g a0 a1 a2 m n => ¬ a0 < 0 ∧ a0 < a1
noncomputable def R_PC_checkIndex  : hG → Int32 → Int32 → Option Nat → hH → Nat → Int32 := fun g a0 a1 a2 m n => a0
def T_PC_checkIndex (mc ms : Nat) (g : hG) : Nat → Nat → se_Op hW := se_tab []
set_option maxRecDepth 20000 in
theorem T_PC_checkIndex_ok (l : Launch) (hl : l.stackTraces = false) (mc ms : Nat) : hTS l yJ9_checkIndex.cls yJ9_checkIndex.name cJ9_checkIndex 3 (some .int) 0 0 mc ms (T_PC_checkIndex mc ms) := fun g p e s m args below meth c Q H0 C hnm hG hS k i => se_tab_ok _ (fun _ h => absurd h List.not_mem_nil) k i
set_option maxHeartbeats 1000000 in
set_option maxRecDepth 20000 in
theorem yt_PC_checkIndex (l : Launch) (hl : l.stackTraces = false) : hm_IINrI l yJ9_checkIndex (ws_ yJ9_checkIndex cJ9_checkIndex 3 (some .int)) 0 0 0 0 P_PC_checkIndex (fun g a0 a1 a2 m n x m' n' => x = R_PC_checkIndex g a0 a1 a2 m n ∧ m' = m ∧ n' = n) := by
  refine hm_IINrI_of (by decide +kernel) rfl (T_PC_checkIndex_ok l hl 0 0) (by decide) fun g a0 a1 a2 m n hin hv hp G hG => ?_
  obtain ⟨h1, h2⟩ := hp
  cases a2 with
  | none =>
    show G 0 [some (.int a0), some (.int a1), some .null] [] (m, n, 0, 0)
    refine hG [] 300 _ _ _ _ ?_
    simp only [wpN, ↓wq_aload_0, ↓wq_aload_1, ↓wq_aload_2, ↓wq_aload_3, ↓wq_aload_0n, ↓wq_aload_1n, ↓wq_aload_2n, ↓wq_aload_3n, ↓wq_athrow, ↓wq_if_eq, ↓wq_if_ne, ↓wq_if_lt, ↓wq_if_ge, ↓wq_if_gt, ↓wq_if_le, ↓wq_icmp_eq, ↓wq_icmp_ne, ↓wq_icmp_lt, ↓wq_icmp_ge, ↓wq_icmp_gt, ↓wq_icmp_le, ↓wq_iload_0, ↓wq_iload_1, ↓wq_iload_2, ↓wq_iload_3, ↓wq_invokestatic, ↓wq_iret, ↓se_get_0, ↓se_get_s, ↓se_set1_0, ↓se_set1_1, ↓se_set1_s, ↓se_set2_0, ↓se_set2_1, ↓se_set2_s, ↓se_k2_n, ↓se_k2_i, ↓se_k2_r, ↓se_k2_u, ↓se_k2_l, ↓se_k2_q, ↓se_in_0, ↓se_in_s, ↓gI_s, ↓gL_s, ↓gR_r, ↓gR_n, ↓gR_q, ↓sR_r, ↓sR_n, ↓sR_q, ↓se_sp_n, ↓se_sp_y, ↓se_sp_z, ↓se_ts_n, ↓se_ts_c, ↓se_c8_n, ↓se_c8_i, ↓se_c8_r, ↓se_c8_u, ↓se_c8_l, ↓wD_e dJ9_checkIndex_0, ↓wD_e dJ9_checkIndex_1, ↓wD_e dJ9_checkIndex_4, ↓wD_e dJ9_checkIndex_5, ↓wD_e dJ9_checkIndex_6, ↓wD_e dJ9_checkIndex_9, ↓wD_e dJ9_checkIndex_10, ↓wD_e dJ9_checkIndex_11, ↓wD_e dJ9_checkIndex_12, ↓wD_e dJ9_checkIndex_15, ↓wD_e dJ9_checkIndex_16, ↓wD_e dJ9_checkIndex_17, ↓tg_1_8, ↓tg_6_10, ht_IINrI_e, hGet_r, hPut_r, hTxV, hTxC, hTxB, hTxL, hBxA, hBxV, hGst, hLdM, hCpy_r, hGcl_r, hAald_r, hAlE_r, hAastO_r, hAastO_n, hNewA_r, hObj, List.mem_cons, List.not_mem_nil, yrf_s, yrf_n, hfl, hVk, updV_a, hUa_s, i32_10, i32_01, i32_m10, i32_03, i32_13, i32_23, Int32.reduceAdd, Int32.reduceSub, Int32.reduceMul, Int32.reduceLT, Int32.reduceLE, Int32.reduceToNatClampNeg, Int32.reduceOfInt, Int64.reduceAdd, Int64.reduceSub, Int64.reduceMul, Int64.reduceLT, Int64.reduceLE, lg_cmp_ge, lg_cmp_le, lg_cmp_gt, lg_cmp_lt, lg_cmp_eq, bI_0, bI_1, not_true_eq_false, not_false_eq_true, false_implies, Bool.not_eq_false, Bool.not_eq_true, and_self, Nat.reduceAdd, Int.reduceAdd, Nat.reduceEqDiff, reduceIte, true_and, and_true, implies_true, forall_const, Nat.zero_le, Nat.add_zero, Nat.zero_add, true_or, or_true, false_or, or_false, and_false, false_and, sCI_r, sCJ_r, Nat.reduceLeDiff, h1, h2]
    clear hG
    (repeat' (first | apply And.intro | intro _))
    all_goals (first | rfl | assumption | (simp only [R_PC_checkIndex, P_PC_checkIndex, *, if_true, if_false, reduceIte, decide_true, decide_false, Bool.not_true, Bool.not_false, Bool.and_true, Bool.and_false, Bool.true_and, Bool.false_and, Bool.or_true, Bool.or_false, Bool.true_or, Bool.false_or, bI_t, bI_f, or_true, true_or, or_false, false_or, and_true, true_and, and_false, false_and, not_true_eq_false, not_false_eq_true, eq_self]; done) | (subst_vars; simp [R_PC_checkIndex, P_PC_checkIndex, bI, *]; done) | (simp only [R_PC_checkIndex, P_PC_checkIndex]; (repeat' split) <;> first | rfl | (exfalso; simp only [Int32.lt_iff_toInt_lt, Int32.le_iff_toInt_le, Int64.lt_iff_toInt_lt, Int64.le_iff_toInt_le, Int32.reduceToInt, Int64.reduceToInt] at *; omega)) | (simp_all [R_PC_checkIndex, P_PC_checkIndex, bI]; done))
  | some a2 =>
    show G 0 [some (.int a0), some (.int a1), some (.ref a2)] [] (m, n, 0, 0)
    refine hG [] 300 _ _ _ _ ?_
    simp only [wpN, ↓wq_aload_0, ↓wq_aload_1, ↓wq_aload_2, ↓wq_aload_3, ↓wq_aload_0n, ↓wq_aload_1n, ↓wq_aload_2n, ↓wq_aload_3n, ↓wq_athrow, ↓wq_if_eq, ↓wq_if_ne, ↓wq_if_lt, ↓wq_if_ge, ↓wq_if_gt, ↓wq_if_le, ↓wq_icmp_eq, ↓wq_icmp_ne, ↓wq_icmp_lt, ↓wq_icmp_ge, ↓wq_icmp_gt, ↓wq_icmp_le, ↓wq_iload_0, ↓wq_iload_1, ↓wq_iload_2, ↓wq_iload_3, ↓wq_invokestatic, ↓wq_iret, ↓se_get_0, ↓se_get_s, ↓se_set1_0, ↓se_set1_1, ↓se_set1_s, ↓se_set2_0, ↓se_set2_1, ↓se_set2_s, ↓se_k2_n, ↓se_k2_i, ↓se_k2_r, ↓se_k2_u, ↓se_k2_l, ↓se_k2_q, ↓se_in_0, ↓se_in_s, ↓gI_s, ↓gL_s, ↓gR_r, ↓gR_n, ↓gR_q, ↓sR_r, ↓sR_n, ↓sR_q, ↓se_sp_n, ↓se_sp_y, ↓se_sp_z, ↓se_ts_n, ↓se_ts_c, ↓se_c8_n, ↓se_c8_i, ↓se_c8_r, ↓se_c8_u, ↓se_c8_l, ↓wD_e dJ9_checkIndex_0, ↓wD_e dJ9_checkIndex_1, ↓wD_e dJ9_checkIndex_4, ↓wD_e dJ9_checkIndex_5, ↓wD_e dJ9_checkIndex_6, ↓wD_e dJ9_checkIndex_9, ↓wD_e dJ9_checkIndex_10, ↓wD_e dJ9_checkIndex_11, ↓wD_e dJ9_checkIndex_12, ↓wD_e dJ9_checkIndex_15, ↓wD_e dJ9_checkIndex_16, ↓wD_e dJ9_checkIndex_17, ↓tg_1_8, ↓tg_6_10, ht_IINrI_e, hGet_r, hPut_r, hTxV, hTxC, hTxB, hTxL, hBxA, hBxV, hGst, hLdM, hCpy_r, hGcl_r, hAald_r, hAlE_r, hAastO_r, hAastO_n, hNewA_r, hObj, List.mem_cons, List.not_mem_nil, yrf_s, yrf_n, hfl, hVk, updV_a, hUa_s, i32_10, i32_01, i32_m10, i32_03, i32_13, i32_23, Int32.reduceAdd, Int32.reduceSub, Int32.reduceMul, Int32.reduceLT, Int32.reduceLE, Int32.reduceToNatClampNeg, Int32.reduceOfInt, Int64.reduceAdd, Int64.reduceSub, Int64.reduceMul, Int64.reduceLT, Int64.reduceLE, lg_cmp_ge, lg_cmp_le, lg_cmp_gt, lg_cmp_lt, lg_cmp_eq, bI_0, bI_1, not_true_eq_false, not_false_eq_true, false_implies, Bool.not_eq_false, Bool.not_eq_true, and_self, Nat.reduceAdd, Int.reduceAdd, Nat.reduceEqDiff, reduceIte, true_and, and_true, implies_true, forall_const, Nat.zero_le, Nat.add_zero, Nat.zero_add, true_or, or_true, false_or, or_false, and_false, false_and, sCI_r, sCJ_r, Nat.reduceLeDiff, h1, h2]
    clear hG
    (repeat' (first | apply And.intro | intro _))
    all_goals (first | rfl | assumption | (simp only [R_PC_checkIndex, P_PC_checkIndex, *, if_true, if_false, reduceIte, decide_true, decide_false, Bool.not_true, Bool.not_false, Bool.and_true, Bool.and_false, Bool.true_and, Bool.false_and, Bool.or_true, Bool.or_false, Bool.true_or, Bool.false_or, bI_t, bI_f, or_true, true_or, or_false, false_or, and_true, true_and, and_false, false_and, not_true_eq_false, not_false_eq_true, eq_self]; done) | (subst_vars; simp [R_PC_checkIndex, P_PC_checkIndex, bI, *]; done) | (simp only [R_PC_checkIndex, P_PC_checkIndex]; (repeat' split) <;> first | rfl | (exfalso; simp only [Int32.lt_iff_toInt_lt, Int32.le_iff_toInt_le, Int64.lt_iff_toInt_lt, Int64.le_iff_toInt_le, Int32.reduceToInt, Int64.reduceToInt] at *; omega)) | (simp_all [R_PC_checkIndex, P_PC_checkIndex, bI]; done))
def P_OB_checkIndex  : hG → Int32 → Int32 → hH → Nat → Prop := fun g a0 a1 m n => ¬ a0 < 0 ∧ a0 < a1
noncomputable def R_OB_checkIndex  : hG → Int32 → Int32 → hH → Nat → Int32 := fun g a0 a1 m n => a0
def T_OB_checkIndex (mc ms : Nat) (g : hG) : Nat → Nat → se_Op hW := se_tab [(5, 105, hp_IINrI g mc ms P_PC_checkIndex R_PC_checkIndex)]
set_option maxRecDepth 20000 in
theorem T_OB_checkIndex_ok (l : Launch) (hl : l.stackTraces = false) (mc ms : Nat) : hTS l yJ11_checkIndex.cls yJ11_checkIndex.name cJ11_checkIndex 2 (some .int) 1 22 mc ms (T_OB_checkIndex mc ms) := fun g p e s m args below meth c Q H0 C hnm hG hS k i => se_tab_ok _ (List.forall_mem_cons.mpr ⟨hp_IINrI_ok <| ho_IINrI_ok (hCS_ok (maxL' := 3) (fr' := 0) (lo' := 0) (yt_PC_checkIndex l hl) q706 q613 q113 q614 (by decide +kernel) ⟨by decide, by decide⟩ C hG hS), fun _ h => absurd h List.not_mem_nil⟩) k i
set_option maxRecDepth 20000 in
theorem T_OB_checkIndex_5_105 {mc ms : Nat} {g : hG} : T_OB_checkIndex mc ms g 5 105 = hp_IINrI g mc ms P_PC_checkIndex R_PC_checkIndex := rfl
set_option maxHeartbeats 1000000 in
set_option maxRecDepth 20000 in
theorem yt_OB_checkIndex (l : Launch) (hl : l.stackTraces = false) : hm_IIrI l yJ11_checkIndex (ws_ yJ11_checkIndex cJ11_checkIndex 2 (some .int)) 1 22 0 0 P_OB_checkIndex (fun g a0 a1 m n x m' n' => x = R_OB_checkIndex g a0 a1 m n ∧ m' = m ∧ n' = n) := by
  refine hm_IIrI_of (by decide +kernel) rfl (T_OB_checkIndex_ok l hl 0 0) (by decide) fun g a0 a1 m n hin hv hp G hG => ?_
  show G 0 [some (.int a0), some (.int a1)] [] (m, n, 0, 0)
  obtain ⟨h1, h2⟩ := hp
  refine hG [] 300 _ _ _ _ ?_
  simp only [wpN, ↓wq_null, ↓wq_iload_0, ↓wq_iload_1, ↓wq_iload_2, ↓wq_iload_3, ↓wq_invokestatic, ↓wq_iret, ↓se_get_0, ↓se_get_s, ↓se_set1_0, ↓se_set1_1, ↓se_set1_s, ↓se_set2_0, ↓se_set2_1, ↓se_set2_s, ↓se_k2_n, ↓se_k2_i, ↓se_k2_r, ↓se_k2_u, ↓se_k2_l, ↓se_k2_q, ↓se_in_0, ↓se_in_s, ↓gI_s, ↓gL_s, ↓gR_r, ↓gR_n, ↓gR_q, ↓sR_r, ↓sR_n, ↓sR_q, ↓se_sp_n, ↓se_sp_y, ↓se_sp_z, ↓se_ts_n, ↓se_ts_c, ↓se_c8_n, ↓se_c8_i, ↓se_c8_r, ↓se_c8_u, ↓se_c8_l, ↓wD_e dJ11_checkIndex_0, ↓wD_e dJ11_checkIndex_1, ↓wD_e dJ11_checkIndex_2, ↓wD_e dJ11_checkIndex_3, ↓wD_e dJ11_checkIndex_6, ht_IIrI_e, ↓T_OB_checkIndex_5_105, hp_IINrI_r, hp_IINrI_n, hGet_r, hPut_r, hTxV, hTxC, hTxB, hTxL, hBxA, hBxV, hGst, hLdM, hCpy_r, hGcl_r, hAald_r, hAlE_r, hAastO_r, hAastO_n, hNewA_r, hObj, List.mem_cons, List.not_mem_nil, yrf_s, yrf_n, hfl, hVk, updV_a, hUa_s, i32_10, i32_01, i32_m10, i32_03, i32_13, i32_23, Int32.reduceAdd, Int32.reduceSub, Int32.reduceMul, Int32.reduceLT, Int32.reduceLE, Int32.reduceToNatClampNeg, Int32.reduceOfInt, Int64.reduceAdd, Int64.reduceSub, Int64.reduceMul, Int64.reduceLT, Int64.reduceLE, lg_cmp_ge, lg_cmp_le, lg_cmp_gt, lg_cmp_lt, lg_cmp_eq, bI_0, bI_1, not_true_eq_false, not_false_eq_true, false_implies, Bool.not_eq_false, Bool.not_eq_true, and_self, Nat.reduceAdd, Int.reduceAdd, Nat.reduceEqDiff, reduceIte, true_and, and_true, implies_true, forall_const, Nat.zero_le, Nat.add_zero, Nat.zero_add, true_or, or_true, false_or, or_false, and_false, false_and, sCI_r, sCJ_r, Nat.reduceLeDiff, P_PC_checkIndex, R_PC_checkIndex, h1, h2]
  clear hG
  (repeat' (first | apply And.intro | intro _))
  all_goals (first | rfl | assumption | (simp only [R_OB_checkIndex, P_OB_checkIndex, *, if_true, if_false, reduceIte, decide_true, decide_false, Bool.not_true, Bool.not_false, Bool.and_true, Bool.and_false, Bool.true_and, Bool.false_and, Bool.or_true, Bool.or_false, Bool.true_or, Bool.false_or, bI_t, bI_f, or_true, true_or, or_false, false_or, and_true, true_and, and_false, false_and, not_true_eq_false, not_false_eq_true, eq_self]; done) | (subst_vars; simp [R_OB_checkIndex, P_OB_checkIndex, bI, *]; done) | (simp only [R_OB_checkIndex, P_OB_checkIndex]; (repeat' split) <;> first | rfl | (exfalso; simp only [Int32.lt_iff_toInt_lt, Int32.le_iff_toInt_le, Int64.lt_iff_toInt_lt, Int64.le_iff_toInt_le, Int32.reduceToInt, Int64.reduceToInt] at *; omega)) | (simp_all [R_OB_checkIndex, P_OB_checkIndex, bI]; done))
def P_S_checkIndex  : hG → Int32 → Int32 → hH → Nat → Prop := fun g a0 a1 m n => ¬ a0 < 0 ∧ a0 < a1
noncomputable def F_S_checkIndex  : hG → Int32 → Int32 → hH → Nat → hH := fun g a0 a1 m n => m
def T_S_checkIndex (mc ms : Nat) (g : hG) : Nat → Nat → se_Op hW := se_tab [(2, 1053, hGst g 9), (5, 1059, hp_IINrI g mc ms P_PC_checkIndex R_PC_checkIndex)]
set_option maxRecDepth 20000 in
theorem T_S_checkIndex_ok (l : Launch) (hl : l.stackTraces = false) (mc ms : Nat) : hTS l yJ5_checkIndex.cls yJ5_checkIndex.name cJ5_checkIndex 2 none 1 22 mc ms (T_S_checkIndex mc ms) := fun g p e s m args below meth c Q H0 C hnm hG hS k i => se_tab_ok _ (List.forall_mem_cons.mpr ⟨hGst_ok (i := 9) rfl (.inl q558) C hG hS, List.forall_mem_cons.mpr ⟨hp_IINrI_ok <| ho_IINrI_ok (hCS_ok (maxL' := 3) (fr' := 0) (lo' := 0) (yt_PC_checkIndex l hl) q612 q613 q113 q614 (by decide +kernel) ⟨by decide, by decide⟩ C hG hS), fun _ h => absurd h List.not_mem_nil⟩⟩) k i
set_option maxRecDepth 20000 in
theorem T_S_checkIndex_2_1053 {mc ms : Nat} {g : hG} : T_S_checkIndex mc ms g 2 1053 = hGst g 9 := rfl
set_option maxRecDepth 20000 in
theorem T_S_checkIndex_5_1059 {mc ms : Nat} {g : hG} : T_S_checkIndex mc ms g 5 1059 = hp_IINrI g mc ms P_PC_checkIndex R_PC_checkIndex := rfl
set_option maxHeartbeats 1000000 in
set_option maxRecDepth 20000 in
theorem yt_S_checkIndex (l : Launch) (hl : l.stackTraces = false) : hm_IIrV l yJ5_checkIndex (ws_ yJ5_checkIndex cJ5_checkIndex 2 none) 1 22 0 0 P_S_checkIndex (fun g a0 a1 m n m' n' => m' = F_S_checkIndex g a0 a1 m n ∧ n' = n) := by
  refine hm_IIrV_of (by decide +kernel) rfl (T_S_checkIndex_ok l hl 0 0) (by decide) fun g a0 a1 m n hin hv hp G hG => ?_
  show G 0 [some (.int a0), some (.int a1)] [] (m, n, 0, 0)
  obtain ⟨h1, h2⟩ := hp
  obtain ⟨z, hz⟩ : ∃ z, gV g 9 = va_rf z := by
    have h9 := hv.2.2.2.2.2.2.2.2.2
    cases e : gV g 9 with
    | ref a => exact ⟨some a, rfl⟩
    | null => exact ⟨none, rfl⟩
    | _ => rw [e] at h9; simp [hVk] at h9
  cases z with
  | none =>
    refine hG [] 300 _ _ _ _ ?_
    simp only [wpN, ↓wq_getstatic, ↓wq_iload_0, ↓wq_iload_1, ↓wq_iload_2, ↓wq_iload_3, ↓wq_invokestatic, ↓wq_popi, ↓wq_popr, ↓wq_popn, ↓wq_ret, ↓se_get_0, ↓se_get_s, ↓se_set1_0, ↓se_set1_1, ↓se_set1_s, ↓se_set2_0, ↓se_set2_1, ↓se_set2_s, ↓se_k2_n, ↓se_k2_i, ↓se_k2_r, ↓se_k2_u, ↓se_k2_l, ↓se_k2_q, ↓se_in_0, ↓se_in_s, ↓gI_s, ↓gL_s, ↓gR_r, ↓gR_n, ↓gR_q, ↓sR_r, ↓sR_n, ↓sR_q, ↓se_sp_n, ↓se_sp_y, ↓se_sp_z, ↓se_ts_n, ↓se_ts_c, ↓se_c8_n, ↓se_c8_i, ↓se_c8_r, ↓se_c8_u, ↓se_c8_l, ↓wD_e dJ5_checkIndex_0, ↓wD_e dJ5_checkIndex_1, ↓wD_e dJ5_checkIndex_2, ↓wD_e dJ5_checkIndex_5, ↓wD_e dJ5_checkIndex_8, ↓wD_e dJ5_checkIndex_9, ht_IIrV_e, ↓T_S_checkIndex_2_1053, ↓T_S_checkIndex_5_1059, hp_IINrI_r, hp_IINrI_n, hGet_r, hPut_r, hTxV, hTxC, hTxB, hTxL, hBxA, hBxV, hGst, hLdM, hCpy_r, hGcl_r, hAald_r, hAlE_r, hAastO_r, hAastO_n, hNewA_r, hObj, List.mem_cons, List.not_mem_nil, yrf_s, yrf_n, hfl, hVk, updV_a, hUa_s, i32_10, i32_01, i32_m10, i32_03, i32_13, i32_23, Int32.reduceAdd, Int32.reduceSub, Int32.reduceMul, Int32.reduceLT, Int32.reduceLE, Int32.reduceToNatClampNeg, Int32.reduceOfInt, Int64.reduceAdd, Int64.reduceSub, Int64.reduceMul, Int64.reduceLT, Int64.reduceLE, lg_cmp_ge, lg_cmp_le, lg_cmp_gt, lg_cmp_lt, lg_cmp_eq, bI_0, bI_1, not_true_eq_false, not_false_eq_true, false_implies, Bool.not_eq_false, Bool.not_eq_true, and_self, Nat.reduceAdd, Int.reduceAdd, Nat.reduceEqDiff, reduceIte, true_and, and_true, implies_true, forall_const, Nat.zero_le, Nat.add_zero, Nat.zero_add, true_or, or_true, false_or, or_false, and_false, false_and, sCI_r, sCJ_r, Nat.reduceLeDiff, hz, P_PC_checkIndex, R_PC_checkIndex, h1, h2]
    rfl
  | some z =>
    refine hG [] 300 _ _ _ _ ?_
    simp only [wpN, ↓wq_getstatic, ↓wq_iload_0, ↓wq_iload_1, ↓wq_iload_2, ↓wq_iload_3, ↓wq_invokestatic, ↓wq_popi, ↓wq_popr, ↓wq_popn, ↓wq_ret, ↓se_get_0, ↓se_get_s, ↓se_set1_0, ↓se_set1_1, ↓se_set1_s, ↓se_set2_0, ↓se_set2_1, ↓se_set2_s, ↓se_k2_n, ↓se_k2_i, ↓se_k2_r, ↓se_k2_u, ↓se_k2_l, ↓se_k2_q, ↓se_in_0, ↓se_in_s, ↓gI_s, ↓gL_s, ↓gR_r, ↓gR_n, ↓gR_q, ↓sR_r, ↓sR_n, ↓sR_q, ↓se_sp_n, ↓se_sp_y, ↓se_sp_z, ↓se_ts_n, ↓se_ts_c, ↓se_c8_n, ↓se_c8_i, ↓se_c8_r, ↓se_c8_u, ↓se_c8_l, ↓wD_e dJ5_checkIndex_0, ↓wD_e dJ5_checkIndex_1, ↓wD_e dJ5_checkIndex_2, ↓wD_e dJ5_checkIndex_5, ↓wD_e dJ5_checkIndex_8, ↓wD_e dJ5_checkIndex_9, ht_IIrV_e, ↓T_S_checkIndex_2_1053, ↓T_S_checkIndex_5_1059, hp_IINrI_r, hp_IINrI_n, hGet_r, hPut_r, hTxV, hTxC, hTxB, hTxL, hBxA, hBxV, hGst, hLdM, hCpy_r, hGcl_r, hAald_r, hAlE_r, hAastO_r, hAastO_n, hNewA_r, hObj, List.mem_cons, List.not_mem_nil, yrf_s, yrf_n, hfl, hVk, updV_a, hUa_s, i32_10, i32_01, i32_m10, i32_03, i32_13, i32_23, Int32.reduceAdd, Int32.reduceSub, Int32.reduceMul, Int32.reduceLT, Int32.reduceLE, Int32.reduceToNatClampNeg, Int32.reduceOfInt, Int64.reduceAdd, Int64.reduceSub, Int64.reduceMul, Int64.reduceLT, Int64.reduceLE, lg_cmp_ge, lg_cmp_le, lg_cmp_gt, lg_cmp_lt, lg_cmp_eq, bI_0, bI_1, not_true_eq_false, not_false_eq_true, false_implies, Bool.not_eq_false, Bool.not_eq_true, and_self, Nat.reduceAdd, Int.reduceAdd, Nat.reduceEqDiff, reduceIte, true_and, and_true, implies_true, forall_const, Nat.zero_le, Nat.add_zero, Nat.zero_add, true_or, or_true, false_or, or_false, and_false, false_and, sCI_r, sCJ_r, Nat.reduceLeDiff, hz, P_PC_checkIndex, R_PC_checkIndex, h1, h2]
    rfl
theorem tg_10_11 {K : Nat → Prop} : se_tg 10 (11) K = K 21 := rfl
theorem tg_16_5 {K : Nat → Prop} : se_tg 16 (5) K = K 21 := rfl
def P_AS_newLength  : hG → Int32 → Int32 → Int32 → hH → Nat → Prop := fun g a0 a1 a2 m n => ∃ z, (if a1 < a2 then a2 else a1) + a0 = z ∧ a0 + (if a1 < a2 then a2 else a1) = z ∧ ¬ z ≤ 0 ∧ ¬ 2147483639 < z ∧ 0 < z ∧ z ≤ 2147483639
noncomputable def R_AS_newLength  : hG → Int32 → Int32 → Int32 → hH → Nat → Int32 := fun g a0 a1 a2 m n => a0 + (if a1 < a2 then a2 else a1)
def T_AS_newLength (mc ms : Nat) (g : hG) : Nat → Nat → se_Op hW := se_tab [(9, 200, opCI (2147483639)), (5, 194, hMx mc ms)]
set_option maxRecDepth 20000 in
theorem T_AS_newLength_ok (l : Launch) (hl : l.stackTraces = false) (mc ms : Nat) : hTS l yJ12_newLength.cls yJ12_newLength.name cJ12_newLength 4 (some .int) 1 60 mc ms (T_AS_newLength mc ms) := fun g p e s m args below meth c Q H0 C hnm hG hS k i => se_tab_ok _ (List.forall_mem_cons.mpr ⟨opCI_ok q797 C, List.forall_mem_cons.mpr ⟨hMx_ok q796 (by decide) (by decide) C, fun _ h => absurd h List.not_mem_nil⟩⟩) k i
set_option maxRecDepth 20000 in
theorem T_AS_newLength_9_200 {mc ms : Nat} {g : hG} : T_AS_newLength mc ms g 9 200 = opCI (2147483639) := rfl
set_option maxRecDepth 20000 in
theorem T_AS_newLength_5_194 {mc ms : Nat} {g : hG} : T_AS_newLength mc ms g 5 194 = hMx mc ms := rfl
set_option maxHeartbeats 1000000 in
set_option maxRecDepth 20000 in
theorem yt_AS_newLength (l : Launch) (hl : l.stackTraces = false) : hm_IIIrI l yJ12_newLength (ws_ yJ12_newLength cJ12_newLength 4 (some .int)) 1 60 0 0 P_AS_newLength (fun g a0 a1 a2 m n x m' n' => x = R_AS_newLength g a0 a1 a2 m n ∧ m' = m ∧ n' = n) := by
  refine hm_IIIrI_of (by decide +kernel) rfl (T_AS_newLength_ok l hl 0 0) (by decide) fun g a0 a1 a2 m n hin hv hp G hG => ?_
  show G 0 [some (.int a0), some (.int a1), some (.int a2), none] [] (m, n, 0, 0)
  obtain ⟨z, h5, h6, h1, h2, h3, h4⟩ := hp
  refine hG [21] 300 _ _ _ _ ?_
  simp only [wpN, ↓wq_iadd, ↓wq_iconst, ↓wq_icmp_eq, ↓wq_icmp_ne, ↓wq_icmp_lt, ↓wq_icmp_ge, ↓wq_icmp_gt, ↓wq_icmp_le, ↓wq_iload_0, ↓wq_iload_1, ↓wq_iload_2, ↓wq_iload_3, ↓wq_invokestatic, ↓wq_iret, ↓wq_istore_0, ↓wq_istore_1, ↓wq_istore_2, ↓wq_istore_3, ↓wq_ldc, ↓se_get_0, ↓se_get_s, ↓se_set1_0, ↓se_set1_1, ↓se_set1_s, ↓se_set2_0, ↓se_set2_1, ↓se_set2_s, ↓se_k2_n, ↓se_k2_i, ↓se_k2_r, ↓se_k2_u, ↓se_k2_l, ↓se_k2_q, ↓se_in_0, ↓se_in_s, ↓gI_s, ↓gL_s, ↓gR_r, ↓gR_n, ↓gR_q, ↓sR_r, ↓sR_n, ↓sR_q, ↓se_sp_n, ↓se_sp_y, ↓se_sp_z, ↓se_ts_n, ↓se_ts_c, ↓se_c8_n, ↓se_c8_i, ↓se_c8_r, ↓se_c8_u, ↓se_c8_l, ↓wD_e dJ12_newLength_0, ↓wD_e dJ12_newLength_1, ↓wD_e dJ12_newLength_2, ↓wD_e dJ12_newLength_3, ↓wD_e dJ12_newLength_6, ↓wD_e dJ12_newLength_7, ↓wD_e dJ12_newLength_8, ↓wD_e dJ12_newLength_9, ↓wD_e dJ12_newLength_10, ↓wD_e dJ12_newLength_13, ↓wD_e dJ12_newLength_14, ↓wD_e dJ12_newLength_16, ↓wD_e dJ12_newLength_19, ↓wD_e dJ12_newLength_20, ↓wD_e dJ12_newLength_21, ↓wD_e dJ12_newLength_22, ↓wD_e dJ12_newLength_23, ↓wD_e dJ12_newLength_26, cc_iconst_0, ↓tg_10_11, ↓tg_16_5, ht_IIIrI_e, ↓T_AS_newLength_9_200, ↓T_AS_newLength_5_194, hMx_r, hGet_r, hPut_r, hTxV, hTxC, hTxB, hTxL, hBxA, hBxV, hGst, hLdM, hCpy_r, hGcl_r, hAald_r, hAlE_r, hAastO_r, hAastO_n, hNewA_r, hObj, List.mem_cons, List.not_mem_nil, yrf_s, yrf_n, hfl, hVk, updV_a, hUa_s, i32_10, i32_01, i32_m10, i32_03, i32_13, i32_23, Int32.reduceAdd, Int32.reduceSub, Int32.reduceMul, Int32.reduceLT, Int32.reduceLE, Int32.reduceToNatClampNeg, Int32.reduceOfInt, Int64.reduceAdd, Int64.reduceSub, Int64.reduceMul, Int64.reduceLT, Int64.reduceLE, lg_cmp_ge, lg_cmp_le, lg_cmp_gt, lg_cmp_lt, lg_cmp_eq, bI_0, bI_1, not_true_eq_false, not_false_eq_true, false_implies, Bool.not_eq_false, Bool.not_eq_true, and_self, Nat.reduceAdd, Int.reduceAdd, Nat.reduceEqDiff, reduceIte, true_and, and_true, implies_true, forall_const, Nat.zero_le, Nat.add_zero, Nat.zero_add, true_or, or_true, false_or, or_false, and_false, false_and, sCI_r, sCJ_r, Nat.reduceLeDiff, h1, h2, h3, h4, h5, h6]
  show z = R_AS_newLength g a0 a1 a2 m n
  exact h6.symm
def P_AC_init  : hG → Nat → hH → Nat → Prop := fun g a0 m n => ∃ o, m a0 = some (.inl (23, o))
def Q_AC_init  : hG → Nat → hH → Nat → hH → Nat → Prop := fun g a0 m n m' n' => m' = m ∧ n' = n
def T_AC_init (mc ms : Nat) (g : hG) : Nat → Nat → se_Op hW := se_tab [(4, 1, hObj)]
set_option maxRecDepth 20000 in
theorem T_AC_init_ok (l : Launch) (hl : l.stackTraces = false) (mc ms : Nat) : hTS l yJ0_init.cls yJ0_init.name cJ0_init 1 none 1 20 mc ms (T_AC_init mc ms) := fun g p e s m args below meth c Q H0 C hnm hG hS k i => se_tab_ok _ (List.forall_mem_cons.mpr ⟨hObj_ok q168 q149 q150 (by decide) (by decide) C, fun _ h => absurd h List.not_mem_nil⟩) k i
set_option maxRecDepth 20000 in
theorem T_AC_init_4_1 {mc ms : Nat} {g : hG} : T_AC_init mc ms g 4 1 = hObj := rfl
set_option maxHeartbeats 1000000 in
set_option maxRecDepth 20000 in
theorem yt_AC_init (l : Launch) (hl : l.stackTraces = false) : hm_LrV l yJ0_init (ws_ yJ0_init cJ0_init 1 none) 1 20 0 0 P_AC_init Q_AC_init := by
  refine hm_LrV_of (by decide +kernel) rfl (T_AC_init_ok l hl 0 0) (by decide) fun g a0 m n hin hv hp G hG => ?_
  show G 0 [some (.ref a0)] [] (m, n, 0, 0)
  obtain ⟨o, e⟩ := hp
  refine hG [] 300 _ _ _ _ ?_
  simp only [wpN, ↓wq_aload_0, ↓wq_aload_1, ↓wq_aload_2, ↓wq_aload_3, ↓wq_aload_0n, ↓wq_aload_1n, ↓wq_aload_2n, ↓wq_aload_3n, ↓wq_invokespecial, ↓wq_ret, ↓se_get_0, ↓se_get_s, ↓se_set1_0, ↓se_set1_1, ↓se_set1_s, ↓se_set2_0, ↓se_set2_1, ↓se_set2_s, ↓se_k2_n, ↓se_k2_i, ↓se_k2_r, ↓se_k2_u, ↓se_k2_l, ↓se_k2_q, ↓se_in_0, ↓se_in_s, ↓gI_s, ↓gL_s, ↓gR_r, ↓gR_n, ↓gR_q, ↓sR_r, ↓sR_n, ↓sR_q, ↓se_sp_n, ↓se_sp_y, ↓se_sp_z, ↓se_ts_n, ↓se_ts_c, ↓se_c8_n, ↓se_c8_i, ↓se_c8_r, ↓se_c8_u, ↓se_c8_l, ↓wD_e dJ0_init_0, ↓wD_e dJ0_init_1, ↓wD_e dJ0_init_4, ht_LrV_e, ↓T_AC_init_4_1, hObj, hGet_r, hPut_r, hTxV, hTxC, hTxB, hTxL, hBxA, hBxV, hGst, hLdM, hCpy_r, hGcl_r, hAald_r, hAlE_r, hAastO_r, hAastO_n, hNewA_r, List.mem_cons, List.not_mem_nil, yrf_s, yrf_n, hfl, hVk, updV_a, hUa_s, i32_10, i32_01, i32_m10, i32_03, i32_13, i32_23, Int32.reduceAdd, Int32.reduceSub, Int32.reduceMul, Int32.reduceLT, Int32.reduceLE, Int32.reduceToNatClampNeg, Int32.reduceOfInt, Int64.reduceAdd, Int64.reduceSub, Int64.reduceMul, Int64.reduceLT, Int64.reduceLE, lg_cmp_ge, lg_cmp_le, lg_cmp_gt, lg_cmp_lt, lg_cmp_eq, bI_0, bI_1, not_true_eq_false, not_false_eq_true, false_implies, Bool.not_eq_false, Bool.not_eq_true, and_self, Nat.reduceAdd, Int.reduceAdd, Nat.reduceEqDiff, reduceIte, true_and, and_true, implies_true, forall_const, Nat.zero_le, Nat.add_zero, Nat.zero_add, true_or, or_true, false_or, or_false, and_false, false_and, sCI_r, sCJ_r, Nat.reduceLeDiff, e]
  exact ⟨rfl, rfl⟩

def P_AL_init  : hG → Nat → hH → Nat → Prop := fun g a0 m n => ∃ o, m a0 = some (.inl (23, o))
def Q_AL_init  : hG → Nat → hH → Nat → hH → Nat → Prop := fun g a0 m n m' n' => n' = n ∧ ∀ o, m a0 = some (.inl (23, o)) → m' = hU m a0 (.inl (23, updV o 0 (.int 0)))
def T_AL_init (mc ms : Nat) (g : hG) : Nat → Nat → se_Op hW := se_tab [(1, 7, hPut [(23, 0)] 0), (4, 1, ho_LrV g mc ms 0 0 P_AC_init Q_AC_init)]
set_option maxRecDepth 20000 in
theorem T_AL_init_ok (l : Launch) (hl : l.stackTraces = false) (mc ms : Nat) : hTS l yJ1_init.cls yJ1_init.name cJ1_init 1 none 2 40 mc ms (T_AL_init mc ms) := fun g p e s m args below meth c Q H0 C hnm hG hS k i => se_tab_ok _ (List.forall_mem_cons.mpr ⟨hPut_ok (F := [(23, 0)]) (t := 0) (List.forall_mem_cons.mpr ⟨⟨(RJ2, TJ2, 3), "java/util/AbstractList", rfl, by decide, .inl q173, .inl rfl⟩, fun _ h => absurd h List.not_mem_nil⟩) (List.forall_mem_cons.mpr ⟨fun r ty h1 h2 => by cases h1; cases h2; exact ⟨rfl, rfl⟩, fun _ h => absurd h List.not_mem_nil⟩) C hG, List.forall_mem_cons.mpr ⟨ho_LrV_ok (hCI_ok (maxL' := 1) (fr' := 1) (lo' := 20) (yt_AC_init l hl) (fun g As h n hp => by obtain ⟨_, rfl, _⟩ := hp; exact ⟨_, _, rfl⟩) q165 q166 q99 q167 rfl (by decide +kernel) ⟨by decide, by decide⟩ C hG hS), fun _ h => absurd h List.not_mem_nil⟩⟩) k i
set_option maxRecDepth 20000 in
theorem T_AL_init_1_7 {mc ms : Nat} {g : hG} : T_AL_init mc ms g 1 7 = hPut [(23, 0)] 0 := rfl
set_option maxRecDepth 20000 in
theorem T_AL_init_4_1 {mc ms : Nat} {g : hG} : T_AL_init mc ms g 4 1 = ho_LrV g mc ms 0 0 P_AC_init Q_AC_init := rfl
set_option maxHeartbeats 1000000 in
set_option maxRecDepth 20000 in
theorem yt_AL_init (l : Launch) (hl : l.stackTraces = false) : hm_LrV l yJ1_init (ws_ yJ1_init cJ1_init 1 none) 2 40 0 0 P_AL_init Q_AL_init := by
  refine hm_LrV_of (by decide +kernel) rfl (T_AL_init_ok l hl 0 0) (by decide) fun g a0 m n hin hv hp G hG => ?_
  show G 0 [some (.ref a0)] [] (m, n, 0, 0)
  obtain ⟨o, e⟩ := hp
  refine hG [4] 300 _ _ _ _ ?_
  simp only [wpN, ↓wq_aload_0, ↓wq_aload_1, ↓wq_aload_2, ↓wq_aload_3, ↓wq_aload_0n, ↓wq_aload_1n, ↓wq_aload_2n, ↓wq_aload_3n, ↓wq_iconst, ↓wq_invokespecial, ↓wq_putfield, ↓wq_ret, ↓se_get_0, ↓se_get_s, ↓se_set1_0, ↓se_set1_1, ↓se_set1_s, ↓se_set2_0, ↓se_set2_1, ↓se_set2_s, ↓se_k2_n, ↓se_k2_i, ↓se_k2_r, ↓se_k2_u, ↓se_k2_l, ↓se_k2_q, ↓se_in_0, ↓se_in_s, ↓gI_s, ↓gL_s, ↓gR_r, ↓gR_n, ↓gR_q, ↓sR_r, ↓sR_n, ↓sR_q, ↓se_sp_n, ↓se_sp_y, ↓se_sp_z, ↓se_ts_n, ↓se_ts_c, ↓se_c8_n, ↓se_c8_i, ↓se_c8_r, ↓se_c8_u, ↓se_c8_l, ↓wD_e dJ1_init_0, ↓wD_e dJ1_init_1, ↓wD_e dJ1_init_4, ↓wD_e dJ1_init_5, ↓wD_e dJ1_init_6, ↓wD_e dJ1_init_9, cc_iconst_0, ht_LrV_e, ↓T_AL_init_1_7, ↓T_AL_init_4_1, ho_LrV_r, hGet_r, hPut_r, hTxV, hTxC, hTxB, hTxL, hBxA, hBxV, hGst, hLdM, hCpy_r, hGcl_r, hAald_r, hAlE_r, hAastO_r, hAastO_n, hNewA_r, hObj, List.mem_cons, List.not_mem_nil, yrf_s, yrf_n, hfl, hVk, updV_a, hUa_s, i32_10, i32_01, i32_m10, i32_03, i32_13, i32_23, Int32.reduceAdd, Int32.reduceSub, Int32.reduceMul, Int32.reduceLT, Int32.reduceLE, Int32.reduceToNatClampNeg, Int32.reduceOfInt, Int64.reduceAdd, Int64.reduceSub, Int64.reduceMul, Int64.reduceLT, Int64.reduceLE, lg_cmp_ge, lg_cmp_le, lg_cmp_gt, lg_cmp_lt, lg_cmp_eq, bI_0, bI_1, not_true_eq_false, not_false_eq_true, false_implies, Bool.not_eq_false, Bool.not_eq_true, and_self, Nat.reduceAdd, Int.reduceAdd, Nat.reduceEqDiff, reduceIte, true_and, and_true, implies_true, forall_const, Nat.zero_le, Nat.add_zero, Nat.zero_add, true_or, or_true, false_or, or_false, and_false, false_and, sCI_r, sCJ_r, Nat.reduceLeDiff]
  refine ⟨⟨o, e⟩, ?_⟩
  intro m1 n1 hq hd1 hn1
  obtain ⟨rfl, rfl⟩ := hq
  refine hG [] 300 _ _ _ _ ?_
  simp only [wpN, ↓wq_aload_0, ↓wq_aload_1, ↓wq_aload_2, ↓wq_aload_3, ↓wq_aload_0n, ↓wq_aload_1n, ↓wq_aload_2n, ↓wq_aload_3n, ↓wq_iconst, ↓wq_invokespecial, ↓wq_putfield, ↓wq_ret, ↓se_get_0, ↓se_get_s, ↓se_set1_0, ↓se_set1_1, ↓se_set1_s, ↓se_set2_0, ↓se_set2_1, ↓se_set2_s, ↓se_k2_n, ↓se_k2_i, ↓se_k2_r, ↓se_k2_u, ↓se_k2_l, ↓se_k2_q, ↓se_in_0, ↓se_in_s, ↓gI_s, ↓gL_s, ↓gR_r, ↓gR_n, ↓gR_q, ↓sR_r, ↓sR_n, ↓sR_q, ↓se_sp_n, ↓se_sp_y, ↓se_sp_z, ↓se_ts_n, ↓se_ts_c, ↓se_c8_n, ↓se_c8_i, ↓se_c8_r, ↓se_c8_u, ↓se_c8_l, ↓wD_e dJ1_init_0, ↓wD_e dJ1_init_1, ↓wD_e dJ1_init_4, ↓wD_e dJ1_init_5, ↓wD_e dJ1_init_6, ↓wD_e dJ1_init_9, cc_iconst_0, ht_LrV_e, ↓T_AL_init_1_7, ↓T_AL_init_4_1, ho_LrV_r, hGet_r, hPut_r, hTxV, hTxC, hTxB, hTxL, hBxA, hBxV, hGst, hLdM, hCpy_r, hGcl_r, hAald_r, hAlE_r, hAastO_r, hAastO_n, hNewA_r, hObj, List.mem_cons, List.not_mem_nil, yrf_s, yrf_n, hfl, hVk, updV_a, hUa_s, i32_10, i32_01, i32_m10, i32_03, i32_13, i32_23, Int32.reduceAdd, Int32.reduceSub, Int32.reduceMul, Int32.reduceLT, Int32.reduceLE, Int32.reduceToNatClampNeg, Int32.reduceOfInt, Int64.reduceAdd, Int64.reduceSub, Int64.reduceMul, Int64.reduceLT, Int64.reduceLE, lg_cmp_ge, lg_cmp_le, lg_cmp_gt, lg_cmp_lt, lg_cmp_eq, bI_0, bI_1, not_true_eq_false, not_false_eq_true, false_implies, Bool.not_eq_false, Bool.not_eq_true, and_self, Nat.reduceAdd, Int.reduceAdd, Nat.reduceEqDiff, reduceIte, true_and, and_true, implies_true, forall_const, Nat.zero_le, Nat.add_zero, Nat.zero_add, true_or, or_true, false_or, or_false, and_false, false_and, sCI_r, sCJ_r, Nat.reduceLeDiff, e]
  refine ⟨rfl, fun o' e' => ?_⟩
  rw [e] at e'
  cases e'
  rfl
def P_L_init  : hG → Nat → hH → Nat → Prop := fun g a0 m n => ∃ o, m a0 = some (.inl (23, o))
def Q_L_init  : hG → Nat → hH → Nat → hH → Nat → Prop := fun g a0 m n m' n' => n' = n ∧ ∀ o, m a0 = some (.inl (23, o)) → m' = hU m a0 (.inl (23, updV (updV o 0 (.int 0)) 1 (.ref (gSa g 0))))
def T_L_init (mc ms : Nat) (g : hG) : Nat → Nat → se_Op hW := se_tab [(2, 39, hGst g 0), (1, 9, hPut [(23, 1)] 3), (4, 1, ho_LrV g mc ms 0 0 P_AL_init Q_AL_init)]
set_option maxRecDepth 20000 in
theorem T_L_init_ok (l : Launch) (hl : l.stackTraces = false) (mc ms : Nat) : hTS l yJ2_init.cls yJ2_init.name cJ2_init 1 none 3 60 mc ms (T_L_init mc ms) := fun g p e s m args below meth c Q H0 C hnm hG hS k i => se_tab_ok _ (List.forall_mem_cons.mpr ⟨hGst_ok (i := 0) rfl (.inl q169) C hG hS, List.forall_mem_cons.mpr ⟨hPut_ok (F := [(23, 1)]) (t := 3) (List.forall_mem_cons.mpr ⟨⟨(RJ2, TJ2, 3), "java/util/ArrayList", rfl, by decide, .inl q171, .inl rfl⟩, fun _ h => absurd h List.not_mem_nil⟩) (List.forall_mem_cons.mpr ⟨fun r ty h1 h2 => by cases h1; cases h2; exact ⟨rfl, rfl⟩, fun _ h => absurd h List.not_mem_nil⟩) C hG, List.forall_mem_cons.mpr ⟨ho_LrV_ok (hCI_ok (maxL' := 1) (fr' := 2) (lo' := 40) (yt_AL_init l hl) (fun g As h n hp => by obtain ⟨_, rfl, _⟩ := hp; exact ⟨_, _, rfl⟩) q162 q163 q100 q164 rfl (by decide +kernel) ⟨by decide, by decide⟩ C hG hS), fun _ h => absurd h List.not_mem_nil⟩⟩⟩) k i
set_option maxRecDepth 20000 in
theorem T_L_init_2_39 {mc ms : Nat} {g : hG} : T_L_init mc ms g 2 39 = hGst g 0 := rfl
set_option maxRecDepth 20000 in
theorem T_L_init_1_9 {mc ms : Nat} {g : hG} : T_L_init mc ms g 1 9 = hPut [(23, 1)] 3 := rfl
set_option maxRecDepth 20000 in
theorem T_L_init_4_1 {mc ms : Nat} {g : hG} : T_L_init mc ms g 4 1 = ho_LrV g mc ms 0 0 P_AL_init Q_AL_init := rfl
set_option maxHeartbeats 1000000 in
set_option maxRecDepth 20000 in
theorem yt_L_init (l : Launch) (hl : l.stackTraces = false) : hm_LrV l yJ2_init (ws_ yJ2_init cJ2_init 1 none) 3 60 0 0 P_L_init Q_L_init := by
  refine hm_LrV_of (by decide +kernel) rfl (T_L_init_ok l hl 0 0) (by decide) fun g a0 m n hin hv hp G hG => ?_
  show G 0 [some (.ref a0)] [] (m, n, 0, 0)
  obtain ⟨o, e⟩ := hp
  refine hG [4] 300 _ _ _ _ ?_
  simp only [wpN, ↓wq_aload_0, ↓wq_aload_1, ↓wq_aload_2, ↓wq_aload_3, ↓wq_aload_0n, ↓wq_aload_1n, ↓wq_aload_2n, ↓wq_aload_3n, ↓wq_getstatic, ↓wq_invokespecial, ↓wq_putfield, ↓wq_ret, ↓se_get_0, ↓se_get_s, ↓se_set1_0, ↓se_set1_1, ↓se_set1_s, ↓se_set2_0, ↓se_set2_1, ↓se_set2_s, ↓se_k2_n, ↓se_k2_i, ↓se_k2_r, ↓se_k2_u, ↓se_k2_l, ↓se_k2_q, ↓se_in_0, ↓se_in_s, ↓gI_s, ↓gL_s, ↓gR_r, ↓gR_n, ↓gR_q, ↓sR_r, ↓sR_n, ↓sR_q, ↓se_sp_n, ↓se_sp_y, ↓se_sp_z, ↓se_ts_n, ↓se_ts_c, ↓se_c8_n, ↓se_c8_i, ↓se_c8_r, ↓se_c8_u, ↓se_c8_l, ↓wD_e dJ2_init_0, ↓wD_e dJ2_init_1, ↓wD_e dJ2_init_4, ↓wD_e dJ2_init_5, ↓wD_e dJ2_init_8, ↓wD_e dJ2_init_11, ht_LrV_e, ↓T_L_init_2_39, ↓T_L_init_1_9, ↓T_L_init_4_1, ho_LrV_r, hGet_r, hPut_r, hTxV, hTxC, hTxB, hTxL, hBxA, hBxV, hGst, hLdM, hCpy_r, hGcl_r, hAald_r, hAlE_r, hAastO_r, hAastO_n, hNewA_r, hObj, List.mem_cons, List.not_mem_nil, yrf_s, yrf_n, hfl, hVk, updV_a, hUa_s, i32_10, i32_01, i32_m10, i32_03, i32_13, i32_23, Int32.reduceAdd, Int32.reduceSub, Int32.reduceMul, Int32.reduceLT, Int32.reduceLE, Int32.reduceToNatClampNeg, Int32.reduceOfInt, Int64.reduceAdd, Int64.reduceSub, Int64.reduceMul, Int64.reduceLT, Int64.reduceLE, lg_cmp_ge, lg_cmp_le, lg_cmp_gt, lg_cmp_lt, lg_cmp_eq, bI_0, bI_1, not_true_eq_false, not_false_eq_true, false_implies, Bool.not_eq_false, Bool.not_eq_true, and_self, Nat.reduceAdd, Int.reduceAdd, Nat.reduceEqDiff, reduceIte, true_and, and_true, implies_true, forall_const, Nat.zero_le, Nat.add_zero, Nat.zero_add, true_or, or_true, false_or, or_false, and_false, false_and, sCI_r, sCJ_r, Nat.reduceLeDiff]
  refine ⟨⟨o, e⟩, ?_⟩
  intro m1 n1 hq hd1 hn1
  obtain ⟨rfl, hq⟩ := hq
  have hq := hq o e
  subst hq
  have e9 : gV g 0 = .ref (gSa g 0) := hv.1
  refine hG [] 300 _ _ _ _ ?_
  simp only [wpN, ↓wq_aload_0, ↓wq_aload_1, ↓wq_aload_2, ↓wq_aload_3, ↓wq_aload_0n, ↓wq_aload_1n, ↓wq_aload_2n, ↓wq_aload_3n, ↓wq_getstatic, ↓wq_invokespecial, ↓wq_putfield, ↓wq_ret, ↓se_get_0, ↓se_get_s, ↓se_set1_0, ↓se_set1_1, ↓se_set1_s, ↓se_set2_0, ↓se_set2_1, ↓se_set2_s, ↓se_k2_n, ↓se_k2_i, ↓se_k2_r, ↓se_k2_u, ↓se_k2_l, ↓se_k2_q, ↓se_in_0, ↓se_in_s, ↓gI_s, ↓gL_s, ↓gR_r, ↓gR_n, ↓gR_q, ↓sR_r, ↓sR_n, ↓sR_q, ↓se_sp_n, ↓se_sp_y, ↓se_sp_z, ↓se_ts_n, ↓se_ts_c, ↓se_c8_n, ↓se_c8_i, ↓se_c8_r, ↓se_c8_u, ↓se_c8_l, ↓wD_e dJ2_init_0, ↓wD_e dJ2_init_1, ↓wD_e dJ2_init_4, ↓wD_e dJ2_init_5, ↓wD_e dJ2_init_8, ↓wD_e dJ2_init_11, ht_LrV_e, ↓T_L_init_2_39, ↓T_L_init_1_9, ↓T_L_init_4_1, ho_LrV_r, hGet_r, hPut_r, hTxV, hTxC, hTxB, hTxL, hBxA, hBxV, hGst, hLdM, hCpy_r, hGcl_r, hAald_r, hAlE_r, hAastO_r, hAastO_n, hNewA_r, hObj, List.mem_cons, List.not_mem_nil, yrf_s, yrf_n, hfl, hVk, updV_a, hUa_s, i32_10, i32_01, i32_m10, i32_03, i32_13, i32_23, Int32.reduceAdd, Int32.reduceSub, Int32.reduceMul, Int32.reduceLT, Int32.reduceLE, Int32.reduceToNatClampNeg, Int32.reduceOfInt, Int64.reduceAdd, Int64.reduceSub, Int64.reduceMul, Int64.reduceLT, Int64.reduceLE, lg_cmp_ge, lg_cmp_le, lg_cmp_gt, lg_cmp_lt, lg_cmp_eq, bI_0, bI_1, not_true_eq_false, not_false_eq_true, false_implies, Bool.not_eq_false, Bool.not_eq_true, and_self, Nat.reduceAdd, Int.reduceAdd, Nat.reduceEqDiff, reduceIte, true_and, and_true, implies_true, forall_const, Nat.zero_le, Nat.add_zero, Nat.zero_add, true_or, or_true, false_or, or_false, and_false, false_and, sCI_r, sCJ_r, Nat.reduceLeDiff, e9, hUa_s]
  refine ⟨rfl, fun o' e' => ?_⟩
  rw [e] at e'
  cases e'
  funext b
  simp only [hU]
  split <;> rfl
def P_L_size  : hG → Nat → hH → Nat → Prop := fun g a0 m n => ∃ E k, hLi m a0 E k
def Q_L_size  : hG → Nat → hH → Nat → Int32 → hH → Nat → Prop := fun g a0 m n x m' n' => m' = m ∧ n' = n ∧ ∀ E k, hLi m a0 E k → x = nI k
def T_L_size (mc ms : Nat) (g : hG) : Nat → Nat → se_Op hW := se_tab [(0, 48, hGet [(23, 2)])]
set_option maxRecDepth 20000 in
theorem T_L_size_ok (l : Launch) (hl : l.stackTraces = false) (mc ms : Nat) : hTS l yJ2_size.cls yJ2_size.name cJ2_size 1 (some .int) 0 0 mc ms (T_L_size mc ms) := fun g p e s m args below meth c Q H0 C hnm hG hS k i => se_tab_ok _ (List.forall_mem_cons.mpr ⟨hGet_ok (F := [(23, 2)]) (List.forall_mem_cons.mpr ⟨⟨(RJ2, TJ2, 3), "java/util/ArrayList", rfl, by decide, .inl q172, .inl rfl⟩, fun _ h => absurd h List.not_mem_nil⟩) C hG, fun _ h => absurd h List.not_mem_nil⟩) k i
set_option maxRecDepth 20000 in
theorem T_L_size_0_48 {mc ms : Nat} {g : hG} : T_L_size mc ms g 0 48 = hGet [(23, 2)] := rfl
set_option maxHeartbeats 1000000 in
set_option maxRecDepth 20000 in
theorem yt_L_size (l : Launch) (hl : l.stackTraces = false) : hm_LrI l yJ2_size (ws_ yJ2_size cJ2_size 1 (some .int)) 0 0 0 0 P_L_size Q_L_size := by
  refine hm_LrI_of (by decide +kernel) rfl (T_L_size_ok l hl 0 0) (by decide) fun g a0 m n hin hv hp G hG => ?_
  show G 0 [some (.ref a0)] [] (m, n, 0, 0)
  obtain ⟨E, k, o, md, e1, e2, e3, e4⟩ := hp
  refine hG [] 300 _ _ _ _ ?_
  simp only [wpN, ↓wq_aload_0, ↓wq_aload_1, ↓wq_aload_2, ↓wq_aload_3, ↓wq_aload_0n, ↓wq_aload_1n, ↓wq_aload_2n, ↓wq_aload_3n, ↓wq_getfield, ↓wq_iret, ↓se_get_0, ↓se_get_s, ↓se_set1_0, ↓se_set1_1, ↓se_set1_s, ↓se_set2_0, ↓se_set2_1, ↓se_set2_s, ↓se_k2_n, ↓se_k2_i, ↓se_k2_r, ↓se_k2_u, ↓se_k2_l, ↓se_k2_q, ↓se_in_0, ↓se_in_s, ↓gI_s, ↓gL_s, ↓gR_r, ↓gR_n, ↓gR_q, ↓sR_r, ↓sR_n, ↓sR_q, ↓se_sp_n, ↓se_sp_y, ↓se_sp_z, ↓se_ts_n, ↓se_ts_c, ↓se_c8_n, ↓se_c8_i, ↓se_c8_r, ↓se_c8_u, ↓se_c8_l, ↓wD_e dJ2_size_0, ↓wD_e dJ2_size_1, ↓wD_e dJ2_size_4, ht_LrI_e, ↓T_L_size_0_48, hGet_r, hPut_r, hTxV, hTxC, hTxB, hTxL, hBxA, hBxV, hGst, hLdM, hCpy_r, hGcl_r, hAald_r, hAlE_r, hAastO_r, hAastO_n, hNewA_r, hObj, List.mem_cons, List.not_mem_nil, yrf_s, yrf_n, hfl, hVk, updV_a, hUa_s, i32_10, i32_01, i32_m10, i32_03, i32_13, i32_23, Int32.reduceAdd, Int32.reduceSub, Int32.reduceMul, Int32.reduceLT, Int32.reduceLE, Int32.reduceToNatClampNeg, Int32.reduceOfInt, Int64.reduceAdd, Int64.reduceSub, Int64.reduceMul, Int64.reduceLT, Int64.reduceLE, lg_cmp_ge, lg_cmp_le, lg_cmp_gt, lg_cmp_lt, lg_cmp_eq, bI_0, bI_1, not_true_eq_false, not_false_eq_true, false_implies, Bool.not_eq_false, Bool.not_eq_true, and_self, Nat.reduceAdd, Int.reduceAdd, Nat.reduceEqDiff, reduceIte, true_and, and_true, implies_true, forall_const, Nat.zero_le, Nat.add_zero, Nat.zero_add, true_or, or_true, false_or, or_false, and_false, false_and, sCI_r, sCJ_r, Nat.reduceLeDiff, e1, e4]
  refine ⟨rfl, rfl, fun E' k' ⟨o', md', f1, f2, f3, f4⟩ => ?_⟩
  rw [e1] at f1; cases f1; rw [e4] at f4; exact Value.int.inj f4
theorem tg_4_7 {K : Nat → Prop} : se_tg 4 (7) K = K 11 := rfl
def P_L_isEmpty  : hG → Nat → hH → Nat → Prop := fun g a0 m n => ∃ E k, hLi m a0 E k
def Q_L_isEmpty  : hG → Nat → hH → Nat → Bool → hH → Nat → Prop := fun g a0 m n x m' n' => m' = m ∧ n' = n ∧ ∀ E k, hLi m a0 E k → x = decide (nI k = 0)
def T_L_isEmpty (mc ms : Nat) (g : hG) : Nat → Nat → se_Op hW := se_tab [(0, 48, hGet [(23, 2)])]
set_option maxRecDepth 20000 in
theorem T_L_isEmpty_ok (l : Launch) (hl : l.stackTraces = false) (mc ms : Nat) : hTS l yJ2_isEmpty.cls yJ2_isEmpty.name cJ2_isEmpty 1 (some .boolean) 0 0 mc ms (T_L_isEmpty mc ms) := fun g p e s m args below meth c Q H0 C hnm hG hS k i => se_tab_ok _ (List.forall_mem_cons.mpr ⟨hGet_ok (F := [(23, 2)]) (List.forall_mem_cons.mpr ⟨⟨(RJ2, TJ2, 3), "java/util/ArrayList", rfl, by decide, .inl q172, .inl rfl⟩, fun _ h => absurd h List.not_mem_nil⟩) C hG, fun _ h => absurd h List.not_mem_nil⟩) k i
set_option maxRecDepth 20000 in
theorem T_L_isEmpty_0_48 {mc ms : Nat} {g : hG} : T_L_isEmpty mc ms g 0 48 = hGet [(23, 2)] := rfl
set_option maxHeartbeats 1000000 in
set_option maxRecDepth 20000 in
theorem yt_L_isEmpty (l : Launch) (hl : l.stackTraces = false) : hm_LrZ l yJ2_isEmpty (ws_ yJ2_isEmpty cJ2_isEmpty 1 (some .boolean)) 0 0 0 0 P_L_isEmpty Q_L_isEmpty := by
  refine hm_LrZ_of (by decide +kernel) rfl (T_L_isEmpty_ok l hl 0 0) (by decide) fun g a0 m n hin hv hp G hG => ?_
  show G 0 [some (.ref a0)] [] (m, n, 0, 0)
  obtain ⟨E, k, o, md, e1, e2, e3, e4⟩ := hp
  have hu : ∀ E' k', hLi m a0 E' k' → nI k' = nI k := fun E' k' ⟨o', md', f1, f2, f3, f4⟩ => by
    rw [e1] at f1; cases f1; rw [e4] at f4; exact (Value.int.inj f4).symm
  by_cases h0 : nI k = 0
  · skip
    refine hG [] 300 _ _ _ _ ?_
    simp only [wpN, ↓wq_aload_0, ↓wq_aload_1, ↓wq_aload_2, ↓wq_aload_3, ↓wq_aload_0n, ↓wq_aload_1n, ↓wq_aload_2n, ↓wq_aload_3n, ↓wq_getfield, ↓wq_goto, ↓wq_iconst, ↓wq_if_eq, ↓wq_if_ne, ↓wq_if_lt, ↓wq_if_ge, ↓wq_if_gt, ↓wq_if_le, ↓wq_iret, ↓se_get_0, ↓se_get_s, ↓se_set1_0, ↓se_set1_1, ↓se_set1_s, ↓se_set2_0, ↓se_set2_1, ↓se_set2_s, ↓se_k2_n, ↓se_k2_i, ↓se_k2_r, ↓se_k2_u, ↓se_k2_l, ↓se_k2_q, ↓se_in_0, ↓se_in_s, ↓gI_s, ↓gL_s, ↓gR_r, ↓gR_n, ↓gR_q, ↓sR_r, ↓sR_n, ↓sR_q, ↓se_sp_n, ↓se_sp_y, ↓se_sp_z, ↓se_ts_n, ↓se_ts_c, ↓se_c8_n, ↓se_c8_i, ↓se_c8_r, ↓se_c8_u, ↓se_c8_l, ↓wD_e dJ2_isEmpty_0, ↓wD_e dJ2_isEmpty_1, ↓wD_e dJ2_isEmpty_4, ↓wD_e dJ2_isEmpty_7, ↓wD_e dJ2_isEmpty_8, ↓wD_e dJ2_isEmpty_11, ↓wD_e dJ2_isEmpty_12, cc_iconst_0, cc_iconst_1, ↓tg_4_7, ↓tg_8_4, ↓rz_b, ↓rz_1, ↓rz_0, ht_LrZ_e, ↓T_L_isEmpty_0_48, hGet_r, hPut_r, hTxV, hTxC, hTxB, hTxL, hBxA, hBxV, hGst, hLdM, hCpy_r, hGcl_r, hAald_r, hAlE_r, hAastO_r, hAastO_n, hNewA_r, hObj, List.mem_cons, List.not_mem_nil, yrf_s, yrf_n, hfl, hVk, updV_a, hUa_s, i32_10, i32_01, i32_m10, i32_03, i32_13, i32_23, Int32.reduceAdd, Int32.reduceSub, Int32.reduceMul, Int32.reduceLT, Int32.reduceLE, Int32.reduceToNatClampNeg, Int32.reduceOfInt, Int64.reduceAdd, Int64.reduceSub, Int64.reduceMul, Int64.reduceLT, Int64.reduceLE, lg_cmp_ge, lg_cmp_le, lg_cmp_gt, lg_cmp_lt, lg_cmp_eq, bI_0, bI_1, not_true_eq_false, not_false_eq_true, false_implies, Bool.not_eq_false, Bool.not_eq_true, and_self, Nat.reduceAdd, Int.reduceAdd, Nat.reduceEqDiff, reduceIte, true_and, and_true, implies_true, forall_const, Nat.zero_le, Nat.add_zero, Nat.zero_add, true_or, or_true, false_or, or_false, and_false, false_and, sCI_r, sCJ_r, Nat.reduceLeDiff, e1, e4, h0]
    refine ⟨rfl, rfl, fun E' k' f => ?_⟩
    rw [hu E' k' f, h0]; rfl
  · skip
    refine hG [] 300 _ _ _ _ ?_
    simp only [wpN, ↓wq_aload_0, ↓wq_aload_1, ↓wq_aload_2, ↓wq_aload_3, ↓wq_aload_0n, ↓wq_aload_1n, ↓wq_aload_2n, ↓wq_aload_3n, ↓wq_getfield, ↓wq_goto, ↓wq_iconst, ↓wq_if_eq, ↓wq_if_ne, ↓wq_if_lt, ↓wq_if_ge, ↓wq_if_gt, ↓wq_if_le, ↓wq_iret, ↓se_get_0, ↓se_get_s, ↓se_set1_0, ↓se_set1_1, ↓se_set1_s, ↓se_set2_0, ↓se_set2_1, ↓se_set2_s, ↓se_k2_n, ↓se_k2_i, ↓se_k2_r, ↓se_k2_u, ↓se_k2_l, ↓se_k2_q, ↓se_in_0, ↓se_in_s, ↓gI_s, ↓gL_s, ↓gR_r, ↓gR_n, ↓gR_q, ↓sR_r, ↓sR_n, ↓sR_q, ↓se_sp_n, ↓se_sp_y, ↓se_sp_z, ↓se_ts_n, ↓se_ts_c, ↓se_c8_n, ↓se_c8_i, ↓se_c8_r, ↓se_c8_u, ↓se_c8_l, ↓wD_e dJ2_isEmpty_0, ↓wD_e dJ2_isEmpty_1, ↓wD_e dJ2_isEmpty_4, ↓wD_e dJ2_isEmpty_7, ↓wD_e dJ2_isEmpty_8, ↓wD_e dJ2_isEmpty_11, ↓wD_e dJ2_isEmpty_12, cc_iconst_0, cc_iconst_1, ↓tg_4_7, ↓tg_8_4, ↓rz_b, ↓rz_1, ↓rz_0, ht_LrZ_e, ↓T_L_isEmpty_0_48, hGet_r, hPut_r, hTxV, hTxC, hTxB, hTxL, hBxA, hBxV, hGst, hLdM, hCpy_r, hGcl_r, hAald_r, hAlE_r, hAastO_r, hAastO_n, hNewA_r, hObj, List.mem_cons, List.not_mem_nil, yrf_s, yrf_n, hfl, hVk, updV_a, hUa_s, i32_10, i32_01, i32_m10, i32_03, i32_13, i32_23, Int32.reduceAdd, Int32.reduceSub, Int32.reduceMul, Int32.reduceLT, Int32.reduceLE, Int32.reduceToNatClampNeg, Int32.reduceOfInt, Int64.reduceAdd, Int64.reduceSub, Int64.reduceMul, Int64.reduceLT, Int64.reduceLE, lg_cmp_ge, lg_cmp_le, lg_cmp_gt, lg_cmp_lt, lg_cmp_eq, bI_0, bI_1, not_true_eq_false, not_false_eq_true, false_implies, Bool.not_eq_false, Bool.not_eq_true, and_self, Nat.reduceAdd, Int.reduceAdd, Nat.reduceEqDiff, reduceIte, true_and, and_true, implies_true, forall_const, Nat.zero_le, Nat.add_zero, Nat.zero_add, true_or, or_true, false_or, or_false, and_false, false_and, sCI_r, sCJ_r, Nat.reduceLeDiff, e1, e4, h0]
    refine ⟨rfl, rfl, fun E' k' f => ?_⟩
    rw [hu E' k' f]; simp [h0]
def P_L_elementData  : hG → Nat → Int32 → hH → Nat → Prop := fun g a0 a1 m n => ∃ E k L F, hLi m a0 E k ∧ m E = some (hA4 L F) ∧ vp_in a1 L
def Q_L_elementData  : hG → Nat → Int32 → hH → Nat → Option Nat → hH → Nat → Prop := fun g a0 a1 m n x m' n' => m' = m ∧ n' = n ∧ ∀ E k L F, hLi m a0 E k → m E = some (hA4 L F) → x = F a1.toNatClampNeg
def T_L_elementData (mc ms : Nat) (g : hG) : Nat → Nat → se_Op hW := se_tab [(0, 9, hGet [(23, 1)]), (19, 0, hAald)]
set_option maxRecDepth 20000 in
theorem T_L_elementData_ok (l : Launch) (hl : l.stackTraces = false) (mc ms : Nat) : hTS l yJ2_elementData.cls yJ2_elementData.name cJ2_elementData 2 (some (.object "java/lang/Object")) 0 0 mc ms (T_L_elementData mc ms) := fun g p e s m args below meth c Q H0 C hnm hG hS k i => se_tab_ok _ (List.forall_mem_cons.mpr ⟨hGet_ok (F := [(23, 1)]) (List.forall_mem_cons.mpr ⟨⟨(RJ2, TJ2, 3), "java/util/ArrayList", rfl, by decide, .inl q171, .inl rfl⟩, fun _ h => absurd h List.not_mem_nil⟩) C hG, List.forall_mem_cons.mpr ⟨hAald_ok C hG, fun _ h => absurd h List.not_mem_nil⟩⟩) k i
set_option maxRecDepth 20000 in
theorem T_L_elementData_0_9 {mc ms : Nat} {g : hG} : T_L_elementData mc ms g 0 9 = hGet [(23, 1)] := rfl
set_option maxRecDepth 20000 in
theorem T_L_elementData_19_0 {mc ms : Nat} {g : hG} : T_L_elementData mc ms g 19 0 = hAald := rfl
set_option maxHeartbeats 1000000 in
set_option maxRecDepth 20000 in
theorem yt_L_elementData (l : Launch) (hl : l.stackTraces = false) : hm_LIrL l yJ2_elementData (ws_ yJ2_elementData cJ2_elementData 2 (some (.object "java/lang/Object"))) 0 0 0 0 P_L_elementData Q_L_elementData := by
  refine hm_LIrL_of (rty := (.object "java/lang/Object")) (by decide +kernel) rfl (T_L_elementData_ok l hl 0 0) (by decide) fun g a0 a1 m n hin hv hp G hG => ?_
  show G 0 [some (.ref a0), some (.int a1)] [] (m, n, 0, 0)
  obtain ⟨E, k, L, F, ⟨o, md, e1, e2, e3, e4⟩, e5, e6⟩ := hp
  have hu : ∀ E' k' L' F', hLi m a0 E' k' → m E' = some (hA4 L' F') → F a1.toNatClampNeg = F' a1.toNatClampNeg := fun E' k' L' F' ⟨o', md', f1, f2, f3, f4⟩ f5 => by
    rw [e1] at f1; cases f1; rw [e3] at f3; cases f3; rw [e5] at f5; cases f5; rfl
  generalize hz : F a1.toNatClampNeg = z at hu
  cases z with
  | none =>
    refine hG [] 300 _ _ _ _ ?_
    simp only [wpN, ↓wq_aaload, ↓wq_aload_0, ↓wq_aload_1, ↓wq_aload_2, ↓wq_aload_3, ↓wq_aload_0n, ↓wq_aload_1n, ↓wq_aload_2n, ↓wq_aload_3n, ↓wq_aretr, ↓wq_aretn, ↓wq_getfield, ↓wq_iload_0, ↓wq_iload_1, ↓wq_iload_2, ↓wq_iload_3, ↓se_get_0, ↓se_get_s, ↓se_set1_0, ↓se_set1_1, ↓se_set1_s, ↓se_set2_0, ↓se_set2_1, ↓se_set2_s, ↓se_k2_n, ↓se_k2_i, ↓se_k2_r, ↓se_k2_u, ↓se_k2_l, ↓se_k2_q, ↓se_in_0, ↓se_in_s, ↓gI_s, ↓gL_s, ↓gR_r, ↓gR_n, ↓gR_q, ↓sR_r, ↓sR_n, ↓sR_q, ↓se_sp_n, ↓se_sp_y, ↓se_sp_z, ↓se_ts_n, ↓se_ts_c, ↓se_c8_n, ↓se_c8_i, ↓se_c8_r, ↓se_c8_u, ↓se_c8_l, ↓wD_e dJ2_elementData_0, ↓wD_e dJ2_elementData_1, ↓wD_e dJ2_elementData_4, ↓wD_e dJ2_elementData_5, ↓wD_e dJ2_elementData_6, ht_LIrL_e, ht_LIrL_n, ↓T_L_elementData_0_9, ↓T_L_elementData_19_0, hGet_r, hPut_r, hTxV, hTxC, hTxB, hTxL, hBxA, hBxV, hGst, hLdM, hCpy_r, hGcl_r, hAald_r, hAlE_r, hAastO_r, hAastO_n, hNewA_r, hObj, List.mem_cons, List.not_mem_nil, yrf_s, yrf_n, hfl, hVk, updV_a, hUa_s, ht_LIrL_e (hr := (.inl ⟨_, rfl⟩)), ht_LIrL_n (hr := (.inl ⟨_, rfl⟩)), i32_10, i32_01, i32_m10, i32_03, i32_13, i32_23, Int32.reduceAdd, Int32.reduceSub, Int32.reduceMul, Int32.reduceLT, Int32.reduceLE, Int32.reduceToNatClampNeg, Int32.reduceOfInt, Int64.reduceAdd, Int64.reduceSub, Int64.reduceMul, Int64.reduceLT, Int64.reduceLE, lg_cmp_ge, lg_cmp_le, lg_cmp_gt, lg_cmp_lt, lg_cmp_eq, bI_0, bI_1, not_true_eq_false, not_false_eq_true, false_implies, Bool.not_eq_false, Bool.not_eq_true, and_self, Nat.reduceAdd, Int.reduceAdd, Nat.reduceEqDiff, reduceIte, true_and, and_true, implies_true, forall_const, Nat.zero_le, Nat.add_zero, Nat.zero_add, true_or, or_true, false_or, or_false, and_false, false_and, sCI_r, sCJ_r, Nat.reduceLeDiff, e1, e3, e5, e6, hz, Nat.le_refl]
    exact ⟨rfl, rfl, hu⟩
  | some z =>
    refine hG [] 300 _ _ _ _ ?_
    simp only [wpN, ↓wq_aaload, ↓wq_aload_0, ↓wq_aload_1, ↓wq_aload_2, ↓wq_aload_3, ↓wq_aload_0n, ↓wq_aload_1n, ↓wq_aload_2n, ↓wq_aload_3n, ↓wq_aretr, ↓wq_aretn, ↓wq_getfield, ↓wq_iload_0, ↓wq_iload_1, ↓wq_iload_2, ↓wq_iload_3, ↓se_get_0, ↓se_get_s, ↓se_set1_0, ↓se_set1_1, ↓se_set1_s, ↓se_set2_0, ↓se_set2_1, ↓se_set2_s, ↓se_k2_n, ↓se_k2_i, ↓se_k2_r, ↓se_k2_u, ↓se_k2_l, ↓se_k2_q, ↓se_in_0, ↓se_in_s, ↓gI_s, ↓gL_s, ↓gR_r, ↓gR_n, ↓gR_q, ↓sR_r, ↓sR_n, ↓sR_q, ↓se_sp_n, ↓se_sp_y, ↓se_sp_z, ↓se_ts_n, ↓se_ts_c, ↓se_c8_n, ↓se_c8_i, ↓se_c8_r, ↓se_c8_u, ↓se_c8_l, ↓wD_e dJ2_elementData_0, ↓wD_e dJ2_elementData_1, ↓wD_e dJ2_elementData_4, ↓wD_e dJ2_elementData_5, ↓wD_e dJ2_elementData_6, ht_LIrL_e, ht_LIrL_n, ↓T_L_elementData_0_9, ↓T_L_elementData_19_0, hGet_r, hPut_r, hTxV, hTxC, hTxB, hTxL, hBxA, hBxV, hGst, hLdM, hCpy_r, hGcl_r, hAald_r, hAlE_r, hAastO_r, hAastO_n, hNewA_r, hObj, List.mem_cons, List.not_mem_nil, yrf_s, yrf_n, hfl, hVk, updV_a, hUa_s, ht_LIrL_e (hr := (.inl ⟨_, rfl⟩)), ht_LIrL_n (hr := (.inl ⟨_, rfl⟩)), i32_10, i32_01, i32_m10, i32_03, i32_13, i32_23, Int32.reduceAdd, Int32.reduceSub, Int32.reduceMul, Int32.reduceLT, Int32.reduceLE, Int32.reduceToNatClampNeg, Int32.reduceOfInt, Int64.reduceAdd, Int64.reduceSub, Int64.reduceMul, Int64.reduceLT, Int64.reduceLE, lg_cmp_ge, lg_cmp_le, lg_cmp_gt, lg_cmp_lt, lg_cmp_eq, bI_0, bI_1, not_true_eq_false, not_false_eq_true, false_implies, Bool.not_eq_false, Bool.not_eq_true, and_self, Nat.reduceAdd, Int.reduceAdd, Nat.reduceEqDiff, reduceIte, true_and, and_true, implies_true, forall_const, Nat.zero_le, Nat.add_zero, Nat.zero_add, true_or, or_true, false_or, or_false, and_false, false_and, sCI_r, sCJ_r, Nat.reduceLeDiff, e1, e3, e5, e6, hz, Nat.le_refl]
    exact ⟨rfl, rfl, hu⟩
def P_L_get  : hG → Nat → Int32 → hH → Nat → Prop := fun g a0 a1 m n => ∃ E k L F, hLi m a0 E k ∧ m E = some (hA4 L F) ∧ k ≤ L ∧ vp_in a1 k ∧ ¬ a1 < 0 ∧ a1 < nI k
def Q_L_get  : hG → Nat → Int32 → hH → Nat → Option Nat → hH → Nat → Prop := fun g a0 a1 m n x m' n' => m' = m ∧ n' = n ∧ ∀ E k L F, hLi m a0 E k → m E = some (hA4 L F) → x = F a1.toNatClampNeg
def T_L_get (mc ms : Nat) (g : hG) : Nat → Nat → se_Op hW := se_tab [(0, 48, hGet [(23, 2)]), (5, 118, hp_IIrI g mc ms P_OB_checkIndex R_OB_checkIndex), (3, 123, hov_LIrL g mc ms 0 0 [23] P_L_elementData Q_L_elementData)]
set_option maxRecDepth 20000 in
theorem T_L_get_ok (l : Launch) (hl : l.stackTraces = false) (mc ms : Nat) : hTS l yJ2_get.cls yJ2_get.name cJ2_get 2 (some (.object "java/lang/Object")) 2 43 mc ms (T_L_get mc ms) := fun g p e s m args below meth c Q H0 C hnm hG hS k i => se_tab_ok _ (List.forall_mem_cons.mpr ⟨hGet_ok (F := [(23, 2)]) (List.forall_mem_cons.mpr ⟨⟨(RJ2, TJ2, 3), "java/util/ArrayList", rfl, by decide, .inl q172, .inl rfl⟩, fun _ h => absurd h List.not_mem_nil⟩) C hG, List.forall_mem_cons.mpr ⟨hp_IIrI_ok <| ho_IIrI_ok (hCS_ok (maxL' := 2) (fr' := 1) (lo' := 22) (yt_OB_checkIndex l hl) q703 q704 q115 q705 (by decide +kernel) ⟨by decide, by decide⟩ C hG hS), List.forall_mem_cons.mpr ⟨hov_LIrL_ok (hCVG_ok (maxL' := 2) (fr' := 0) (lo' := 0) (yt_L_elementData l hl) (List.forall_mem_cons.mpr ⟨⟨_, rfl, hRunV_V (na := 1) C.1.2.2.2.2 q707 q708 q709 q101 q710 (by decide +kernel) ⟨by decide, by decide⟩⟩, fun _ h => absurd h List.not_mem_nil⟩) C hG hS), fun _ h => absurd h List.not_mem_nil⟩⟩⟩) k i
set_option maxRecDepth 20000 in
theorem T_L_get_0_48 {mc ms : Nat} {g : hG} : T_L_get mc ms g 0 48 = hGet [(23, 2)] := rfl
set_option maxRecDepth 20000 in
theorem T_L_get_5_118 {mc ms : Nat} {g : hG} : T_L_get mc ms g 5 118 = hp_IIrI g mc ms P_OB_checkIndex R_OB_checkIndex := rfl
set_option maxRecDepth 20000 in
theorem T_L_get_3_123 {mc ms : Nat} {g : hG} : T_L_get mc ms g 3 123 = hov_LIrL g mc ms 0 0 [23] P_L_elementData Q_L_elementData := rfl
set_option maxHeartbeats 1000000 in
set_option maxRecDepth 20000 in
theorem yt_L_get (l : Launch) (hl : l.stackTraces = false) : hm_LIrL l yJ2_get (ws_ yJ2_get cJ2_get 2 (some (.object "java/lang/Object"))) 2 43 0 0 P_L_get Q_L_get := by
  refine hm_LIrL_of (rty := (.object "java/lang/Object")) (by decide +kernel) rfl (T_L_get_ok l hl 0 0) (by decide) fun g a0 a1 m n hin hv hp G hG => ?_
  show G 0 [some (.ref a0), some (.int a1)] [] (m, n, 0, 0)
  obtain ⟨E, k, L, F, ⟨o, md, e1, e2, e3, e4⟩, e5, e6, e7, e8, e9⟩ := hp
  have eL : vp_in a1 L := fun q => e7 (q.elim .inl fun q => .inr (Nat.le_trans e6 q))
  refine hG [14] 300 _ _ _ _ ?_
  simp only [wpN, ↓wq_aload_0, ↓wq_aload_1, ↓wq_aload_2, ↓wq_aload_3, ↓wq_aload_0n, ↓wq_aload_1n, ↓wq_aload_2n, ↓wq_aload_3n, ↓wq_aretr, ↓wq_aretn, ↓wq_getfield, ↓wq_iload_0, ↓wq_iload_1, ↓wq_iload_2, ↓wq_iload_3, ↓wq_invokestatic, ↓wq_invokevirtual, ↓wq_popi, ↓wq_popr, ↓wq_popn, ↓se_get_0, ↓se_get_s, ↓se_set1_0, ↓se_set1_1, ↓se_set1_s, ↓se_set2_0, ↓se_set2_1, ↓se_set2_s, ↓se_k2_n, ↓se_k2_i, ↓se_k2_r, ↓se_k2_u, ↓se_k2_l, ↓se_k2_q, ↓se_in_0, ↓se_in_s, ↓gI_s, ↓gL_s, ↓gR_r, ↓gR_n, ↓gR_q, ↓sR_r, ↓sR_n, ↓sR_q, ↓se_sp_n, ↓se_sp_y, ↓se_sp_z, ↓se_ts_n, ↓se_ts_c, ↓se_c8_n, ↓se_c8_i, ↓se_c8_r, ↓se_c8_u, ↓se_c8_l, ↓wD_e dJ2_get_0, ↓wD_e dJ2_get_1, ↓wD_e dJ2_get_2, ↓wD_e dJ2_get_5, ↓wD_e dJ2_get_8, ↓wD_e dJ2_get_9, ↓wD_e dJ2_get_10, ↓wD_e dJ2_get_11, ↓wD_e dJ2_get_14, ht_LIrL_e, ht_LIrL_n, ↓T_L_get_0_48, ↓T_L_get_5_118, ↓T_L_get_3_123, hp_IIrI_r, hov_LIrL_r, hGet_r, hPut_r, hTxV, hTxC, hTxB, hTxL, hBxA, hBxV, hGst, hLdM, hCpy_r, hGcl_r, hAald_r, hAlE_r, hAastO_r, hAastO_n, hNewA_r, hObj, List.mem_cons, List.not_mem_nil, yrf_s, yrf_n, hfl, hVk, updV_a, hUa_s, ht_LIrL_e (hr := (.inl ⟨_, rfl⟩)), ht_LIrL_n (hr := (.inl ⟨_, rfl⟩)), i32_10, i32_01, i32_m10, i32_03, i32_13, i32_23, Int32.reduceAdd, Int32.reduceSub, Int32.reduceMul, Int32.reduceLT, Int32.reduceLE, Int32.reduceToNatClampNeg, Int32.reduceOfInt, Int64.reduceAdd, Int64.reduceSub, Int64.reduceMul, Int64.reduceLT, Int64.reduceLE, lg_cmp_ge, lg_cmp_le, lg_cmp_gt, lg_cmp_lt, lg_cmp_eq, bI_0, bI_1, not_true_eq_false, not_false_eq_true, false_implies, Bool.not_eq_false, Bool.not_eq_true, and_self, Nat.reduceAdd, Int.reduceAdd, Nat.reduceEqDiff, reduceIte, true_and, and_true, implies_true, forall_const, Nat.zero_le, Nat.add_zero, Nat.zero_add, true_or, or_true, false_or, or_false, and_false, false_and, sCI_r, sCJ_r, Nat.reduceLeDiff, e1, e4, P_OB_checkIndex, R_OB_checkIndex, e8, e9, hRcv]
  refine ⟨⟨E, k, L, F, ⟨o, md, e1, e2, e3, e4⟩, e5, eL⟩, ?_⟩
  intro x m1 n1 hq hd1 hn1
  obtain ⟨rfl, rfl, hq⟩ := hq
  cases x with
  | none =>
    refine hG [] 300 _ _ _ _ ?_
    simp only [wpN, ↓wq_aload_0, ↓wq_aload_1, ↓wq_aload_2, ↓wq_aload_3, ↓wq_aload_0n, ↓wq_aload_1n, ↓wq_aload_2n, ↓wq_aload_3n, ↓wq_aretr, ↓wq_aretn, ↓wq_getfield, ↓wq_iload_0, ↓wq_iload_1, ↓wq_iload_2, ↓wq_iload_3, ↓wq_invokestatic, ↓wq_invokevirtual, ↓wq_popi, ↓wq_popr, ↓wq_popn, ↓se_get_0, ↓se_get_s, ↓se_set1_0, ↓se_set1_1, ↓se_set1_s, ↓se_set2_0, ↓se_set2_1, ↓se_set2_s, ↓se_k2_n, ↓se_k2_i, ↓se_k2_r, ↓se_k2_u, ↓se_k2_l, ↓se_k2_q, ↓se_in_0, ↓se_in_s, ↓gI_s, ↓gL_s, ↓gR_r, ↓gR_n, ↓gR_q, ↓sR_r, ↓sR_n, ↓sR_q, ↓se_sp_n, ↓se_sp_y, ↓se_sp_z, ↓se_ts_n, ↓se_ts_c, ↓se_c8_n, ↓se_c8_i, ↓se_c8_r, ↓se_c8_u, ↓se_c8_l, ↓wD_e dJ2_get_0, ↓wD_e dJ2_get_1, ↓wD_e dJ2_get_2, ↓wD_e dJ2_get_5, ↓wD_e dJ2_get_8, ↓wD_e dJ2_get_9, ↓wD_e dJ2_get_10, ↓wD_e dJ2_get_11, ↓wD_e dJ2_get_14, ht_LIrL_e, ht_LIrL_n, ↓T_L_get_0_48, ↓T_L_get_5_118, ↓T_L_get_3_123, hp_IIrI_r, hov_LIrL_r, hGet_r, hPut_r, hTxV, hTxC, hTxB, hTxL, hBxA, hBxV, hGst, hLdM, hCpy_r, hGcl_r, hAald_r, hAlE_r, hAastO_r, hAastO_n, hNewA_r, hObj, List.mem_cons, List.not_mem_nil, yrf_s, yrf_n, hfl, hVk, updV_a, hUa_s, ht_LIrL_e (hr := (.inl ⟨_, rfl⟩)), ht_LIrL_n (hr := (.inl ⟨_, rfl⟩)), i32_10, i32_01, i32_m10, i32_03, i32_13, i32_23, Int32.reduceAdd, Int32.reduceSub, Int32.reduceMul, Int32.reduceLT, Int32.reduceLE, Int32.reduceToNatClampNeg, Int32.reduceOfInt, Int64.reduceAdd, Int64.reduceSub, Int64.reduceMul, Int64.reduceLT, Int64.reduceLE, lg_cmp_ge, lg_cmp_le, lg_cmp_gt, lg_cmp_lt, lg_cmp_eq, bI_0, bI_1, not_true_eq_false, not_false_eq_true, false_implies, Bool.not_eq_false, Bool.not_eq_true, and_self, Nat.reduceAdd, Int.reduceAdd, Nat.reduceEqDiff, reduceIte, true_and, and_true, implies_true, forall_const, Nat.zero_le, Nat.add_zero, Nat.zero_add, true_or, or_true, false_or, or_false, and_false, false_and, sCI_r, sCJ_r, Nat.reduceLeDiff]
    exact ⟨rfl, rfl, hq⟩
  | some x =>
    refine hG [] 300 _ _ _ _ ?_
    simp only [wpN, ↓wq_aload_0, ↓wq_aload_1, ↓wq_aload_2, ↓wq_aload_3, ↓wq_aload_0n, ↓wq_aload_1n, ↓wq_aload_2n, ↓wq_aload_3n, ↓wq_aretr, ↓wq_aretn, ↓wq_getfield, ↓wq_iload_0, ↓wq_iload_1, ↓wq_iload_2, ↓wq_iload_3, ↓wq_invokestatic, ↓wq_invokevirtual, ↓wq_popi, ↓wq_popr, ↓wq_popn, ↓se_get_0, ↓se_get_s, ↓se_set1_0, ↓se_set1_1, ↓se_set1_s, ↓se_set2_0, ↓se_set2_1, ↓se_set2_s, ↓se_k2_n, ↓se_k2_i, ↓se_k2_r, ↓se_k2_u, ↓se_k2_l, ↓se_k2_q, ↓se_in_0, ↓se_in_s, ↓gI_s, ↓gL_s, ↓gR_r, ↓gR_n, ↓gR_q, ↓sR_r, ↓sR_n, ↓sR_q, ↓se_sp_n, ↓se_sp_y, ↓se_sp_z, ↓se_ts_n, ↓se_ts_c, ↓se_c8_n, ↓se_c8_i, ↓se_c8_r, ↓se_c8_u, ↓se_c8_l, ↓wD_e dJ2_get_0, ↓wD_e dJ2_get_1, ↓wD_e dJ2_get_2, ↓wD_e dJ2_get_5, ↓wD_e dJ2_get_8, ↓wD_e dJ2_get_9, ↓wD_e dJ2_get_10, ↓wD_e dJ2_get_11, ↓wD_e dJ2_get_14, ht_LIrL_e, ht_LIrL_n, ↓T_L_get_0_48, ↓T_L_get_5_118, ↓T_L_get_3_123, hp_IIrI_r, hov_LIrL_r, hGet_r, hPut_r, hTxV, hTxC, hTxB, hTxL, hBxA, hBxV, hGst, hLdM, hCpy_r, hGcl_r, hAald_r, hAlE_r, hAastO_r, hAastO_n, hNewA_r, hObj, List.mem_cons, List.not_mem_nil, yrf_s, yrf_n, hfl, hVk, updV_a, hUa_s, ht_LIrL_e (hr := (.inl ⟨_, rfl⟩)), ht_LIrL_n (hr := (.inl ⟨_, rfl⟩)), i32_10, i32_01, i32_m10, i32_03, i32_13, i32_23, Int32.reduceAdd, Int32.reduceSub, Int32.reduceMul, Int32.reduceLT, Int32.reduceLE, Int32.reduceToNatClampNeg, Int32.reduceOfInt, Int64.reduceAdd, Int64.reduceSub, Int64.reduceMul, Int64.reduceLT, Int64.reduceLE, lg_cmp_ge, lg_cmp_le, lg_cmp_gt, lg_cmp_lt, lg_cmp_eq, bI_0, bI_1, not_true_eq_false, not_false_eq_true, false_implies, Bool.not_eq_false, Bool.not_eq_true, and_self, Nat.reduceAdd, Int.reduceAdd, Nat.reduceEqDiff, reduceIte, true_and, and_true, implies_true, forall_const, Nat.zero_le, Nat.add_zero, Nat.zero_add, true_or, or_true, false_or, or_false, and_false, false_and, sCI_r, sCJ_r, Nat.reduceLeDiff]
    exact ⟨rfl, rfl, hq⟩
theorem tg_3_10 {K : Nat → Prop} : se_tg 3 (10) K = K 13 := rfl
theorem tg_10_14 {K : Nat → Prop} : se_tg 10 (14) K = K 24 := rfl
def P_AR_copyOf_LIL (mc ms : Nat) : hG → Nat → Int32 → Nat → hH → Nat → Prop := fun g a0 a1 a2 m n => ∃ L F N, m a0 = some (hA4 L F) ∧ a1 = nI N ∧ L ≤ N ∧ N ≤ 65536 ∧ 0 < L ∧ a2 = gSa g 5 ∧ hEls g m L F ∧ 1 ≤ mc ∧ N ≤ ms
def Q_AR_copyOf_LIL (mc ms : Nat) : hG → Nat → Int32 → Nat → hH → Nat → Option Nat → hH → Nat → Prop := fun g a0 a1 a2 m n x m' n' => n' = n + 1 ∧ x = some n ∧ ∀ L F N, m a0 = some (hA4 L F) → a1 = nI N → N ≤ 65536 → m' = hU m n (hA4 N (hCut F L))
def T_AR_copyOf_LIL (mc ms : Nat) (mc ms : Nat) (g : hG) : Nat → Nat → se_Op hW := se_tab [(9, 110, hLdM g), (7, 2, hNewA mc ms 4), (21, 0, hAlE g), (5, 304, hMn mc ms), (5, 150, hCpy g)]
set_option maxRecDepth 20000 in
theorem T_AR_copyOf_LIL_ok (l : Launch) (hl : l.stackTraces = false) (mc ms : Nat) (mc ms : Nat) : hTS l yJ13_copyOf_2.cls yJ13_copyOf_2.name cJ13_copyOf_2 4 (some (.array (.object "java/lang/Object"))) 1 60 mc ms (T_AR_copyOf_LIL mc ms mc ms) := fun g p e s m args below meth c Q H0 C hnm hG hS k i => se_tab_ok _ (List.forall_mem_cons.mpr ⟨hLdM_ok q837 C hG, List.forall_mem_cons.mpr ⟨hNewR_ok (t := 4) (E := "java/lang/Object") (by decide) rfl (by decide) q839 C hG, List.forall_mem_cons.mpr ⟨hAlE_ok C hG hS, List.forall_mem_cons.mpr ⟨hMn_ok q840 (by decide) (by decide) C, List.forall_mem_cons.mpr ⟨hCpy_ok q841 (by decide) (by decide) C hG hS, fun _ h => absurd h List.not_mem_nil⟩⟩⟩⟩⟩) k i
set_option maxRecDepth 20000 in
theorem T_AR_copyOf_LIL_9_110 {mc ms : Nat} {mc ms : Nat} {g : hG} : T_AR_copyOf_LIL mc ms mc ms g 9 110 = hLdM g := rfl
set_option maxRecDepth 20000 in
theorem T_AR_copyOf_LIL_7_2 {mc ms : Nat} {mc ms : Nat} {g : hG} : T_AR_copyOf_LIL mc ms mc ms g 7 2 = hNewA mc ms 4 := rfl
set_option maxRecDepth 20000 in
theorem T_AR_copyOf_LIL_21_0 {mc ms : Nat} {mc ms : Nat} {g : hG} : T_AR_copyOf_LIL mc ms mc ms g 21 0 = hAlE g := rfl
set_option maxRecDepth 20000 in
theorem T_AR_copyOf_LIL_5_304 {mc ms : Nat} {mc ms : Nat} {g : hG} : T_AR_copyOf_LIL mc ms mc ms g 5 304 = hMn mc ms := rfl
set_option maxRecDepth 20000 in
theorem T_AR_copyOf_LIL_5_150 {mc ms : Nat} {mc ms : Nat} {g : hG} : T_AR_copyOf_LIL mc ms mc ms g 5 150 = hCpy g := rfl
set_option maxHeartbeats 1000000 in
set_option maxRecDepth 20000 in
theorem yt_AR_copyOf_LIL (l : Launch) (hl : l.stackTraces = false) (mc ms : Nat) : hm_LILrL l yJ13_copyOf_2 (ws_ yJ13_copyOf_2 cJ13_copyOf_2 4 (some (.array (.object "java/lang/Object")))) 1 60 mc ms (P_AR_copyOf_LIL mc ms) (Q_AR_copyOf_LIL mc ms) := by
  refine hm_LILrL_of (rty := (.array (.object "java/lang/Object"))) (by decide +kernel) rfl (T_AR_copyOf_LIL_ok l hl mc ms mc ms) (by decide) fun g a0 a1 a2 m n hin hv hp G hG => ?_
  show G 0 [some (.ref a0), some (.int a1), some (.ref a2), none] [] (m, n, 0, 0)
  obtain ⟨L, F, N, e1, rfl, h1, h2, h0, rfl, hE, hm1, hm2⟩ := hp
  have hn1 : ¬ nI N < 0 := nI_nn (by omega)
  have hc : (nI N).toNatClampNeg = N := nI_clamp (by omega)
  have hcL : (nI L).toNatClampNeg = L := nI_clamp (by omega)
  have hne : a0 ≠ n := fun q => by have := (hin a0 _ e1).1; omega
  have hmn : m n = none := by
    cases e : m n with
    | none => rfl
    | some ob => exact absurd (hin n ob e).1 (Nat.lt_irrefl _)
  have hmin : (if nI N < nI L then nI N else nI L) = nI L := by
    rw [if_neg]
    rw [nI_ltL (by omega) (by omega)]
    omega
  have hpos : ¬ nI L < 0 := nI_nn (by omega)
  have hoL : (Int32.ofNat L) = nI L := rfl
  have z0 : Int32.toNatClampNeg 0 = 0 := rfl
  have z1 : ¬ (0 : Int32) < 0 := by decide
  have hany : ∀ i, i < L → ∀ y, F i = some y → hAnyO g (hU m n (hA4 N fun _ => none)) y := by
    intro i hi y hy
    rcases hE i hi y hy with ⟨o, ho, h23⟩ | hb
    · refine .inl ⟨o, ?_, h23⟩
      rw [hUa_n (fun q => by rw [q, hmn] at ho; cases ho)]
      exact ho
    · exact .inr hb
  have hZ4 : hZero 4 N = (N, .inr (.inr (.inr (.inr fun _ => none)))) := rfl
  refine hG [13, 24] 300 _ _ _ _ ?_
  simp (disch := first | assumption | omega) only [wpN, ↓wq_aload_0, ↓wq_aload_1, ↓wq_aload_2, ↓wq_aload_3, ↓wq_aload_0n, ↓wq_aload_1n, ↓wq_aload_2n, ↓wq_aload_3n, ↓wq_anewarray, ↓wq_aretr, ↓wq_aretn, ↓wq_arraylength, ↓wq_astore_0, ↓wq_astore_1, ↓wq_astore_2, ↓wq_astore_3, ↓wq_astore_0n, ↓wq_astore_1n, ↓wq_astore_2n, ↓wq_astore_3n, ↓wq_checkcast, ↓wq_goto, ↓wq_iconst, ↓wq_acmp_eq, ↓wq_acmp_ne, ↓wq_iload_0, ↓wq_iload_1, ↓wq_iload_2, ↓wq_iload_3, ↓wq_invokestatic, ↓wq_invokevirtual, ↓wq_ldc, ↓se_get_0, ↓se_get_s, ↓se_set1_0, ↓se_set1_1, ↓se_set1_s, ↓se_set2_0, ↓se_set2_1, ↓se_set2_s, ↓se_k2_n, ↓se_k2_i, ↓se_k2_r, ↓se_k2_u, ↓se_k2_l, ↓se_k2_q, ↓se_in_0, ↓se_in_s, ↓gI_s, ↓gL_s, ↓gR_r, ↓gR_n, ↓gR_q, ↓sR_r, ↓sR_n, ↓sR_q, ↓se_sp_n, ↓se_sp_y, ↓se_sp_z, ↓se_ts_n, ↓se_ts_c, ↓se_c8_n, ↓se_c8_i, ↓se_c8_r, ↓se_c8_u, ↓se_c8_l, ↓wD_e dJ13_copyOf_2_0, ↓wD_e dJ13_copyOf_2_1, ↓wD_e dJ13_copyOf_2_3, ↓wD_e dJ13_copyOf_2_6, ↓wD_e dJ13_copyOf_2_7, ↓wD_e dJ13_copyOf_2_10, ↓wD_e dJ13_copyOf_2_13, ↓wD_e dJ13_copyOf_2_14, ↓wD_e dJ13_copyOf_2_17, ↓wD_e dJ13_copyOf_2_18, ↓wD_e dJ13_copyOf_2_21, ↓wD_e dJ13_copyOf_2_24, ↓wD_e dJ13_copyOf_2_25, ↓wD_e dJ13_copyOf_2_26, ↓wD_e dJ13_copyOf_2_27, ↓wD_e dJ13_copyOf_2_28, ↓wD_e dJ13_copyOf_2_29, ↓wD_e dJ13_copyOf_2_30, ↓wD_e dJ13_copyOf_2_31, ↓wD_e dJ13_copyOf_2_32, ↓wD_e dJ13_copyOf_2_35, ↓wD_e dJ13_copyOf_2_38, ↓wD_e dJ13_copyOf_2_39, cc_iconst_0, ↓tg_3_10, ↓tg_10_14, ht_LILrL_e, ht_LILrL_n, ↓T_AR_copyOf_LIL_9_110, ↓T_AR_copyOf_LIL_7_2, ↓T_AR_copyOf_LIL_21_0, ↓T_AR_copyOf_LIL_5_304, ↓T_AR_copyOf_LIL_5_150, hMn_r, hCpy_r, hGet_r, hPut_r, hTxV, hTxC, hTxB, hTxL, hBxA, hBxV, hGst, hLdM, hGcl_r, hAald_r, hAlE_r, hAastO_r, hAastO_n, hNewA_r, hObj, List.mem_cons, List.not_mem_nil, yrf_s, yrf_n, hfl, hVk, updV_a, hUa_s, ht_LILrL_e (hr := (.inr ⟨_, rfl⟩)), ht_LILrL_n (hr := (.inr ⟨_, rfl⟩)), i32_10, i32_01, i32_m10, i32_03, i32_13, i32_23, Int32.reduceAdd, Int32.reduceSub, Int32.reduceMul, Int32.reduceLT, Int32.reduceLE, Int32.reduceToNatClampNeg, Int32.reduceOfInt, Int64.reduceAdd, Int64.reduceSub, Int64.reduceMul, Int64.reduceLT, Int64.reduceLE, lg_cmp_ge, lg_cmp_le, lg_cmp_gt, lg_cmp_lt, lg_cmp_eq, bI_0, bI_1, not_true_eq_false, not_false_eq_true, false_implies, Bool.not_eq_false, Bool.not_eq_true, and_self, Nat.reduceAdd, Int.reduceAdd, Nat.reduceEqDiff, reduceIte, true_and, and_true, implies_true, forall_const, Nat.zero_le, Nat.add_zero, Nat.zero_add, true_or, or_true, false_or, or_false, and_false, false_and, sCI_r, sCJ_r, Nat.reduceLeDiff, hUa_n, e1, hn1, hc, h2, hm1, hm2, hZ4]
  have hM0 : hU m n (hA4 N fun _ => none) a0 = some (hA4 L F) := by rw [hUa_n hne]; exact e1
  have hMn : hU m n (hA4 N fun _ => none) n = some (hA4 N fun _ => none) := hUa_s
  refine hG [35] 300 _ _ _ _ ?_
  simp only [wpN, ↓wq_aload_0, ↓wq_aload_1, ↓wq_aload_2, ↓wq_aload_3, ↓wq_aload_0n, ↓wq_aload_1n, ↓wq_aload_2n, ↓wq_aload_3n, ↓wq_anewarray, ↓wq_aretr, ↓wq_aretn, ↓wq_arraylength, ↓wq_astore_0, ↓wq_astore_1, ↓wq_astore_2, ↓wq_astore_3, ↓wq_astore_0n, ↓wq_astore_1n, ↓wq_astore_2n, ↓wq_astore_3n, ↓wq_checkcast, ↓wq_goto, ↓wq_iconst, ↓wq_acmp_eq, ↓wq_acmp_ne, ↓wq_iload_0, ↓wq_iload_1, ↓wq_iload_2, ↓wq_iload_3, ↓wq_invokestatic, ↓wq_invokevirtual, ↓wq_ldc, ↓se_get_0, ↓se_get_s, ↓se_set1_0, ↓se_set1_1, ↓se_set1_s, ↓se_set2_0, ↓se_set2_1, ↓se_set2_s, ↓se_k2_n, ↓se_k2_i, ↓se_k2_r, ↓se_k2_u, ↓se_k2_l, ↓se_k2_q, ↓se_in_0, ↓se_in_s, ↓gI_s, ↓gL_s, ↓gR_r, ↓gR_n, ↓gR_q, ↓sR_r, ↓sR_n, ↓sR_q, ↓se_sp_n, ↓se_sp_y, ↓se_sp_z, ↓se_ts_n, ↓se_ts_c, ↓se_c8_n, ↓se_c8_i, ↓se_c8_r, ↓se_c8_u, ↓se_c8_l, ↓wD_e dJ13_copyOf_2_0, ↓wD_e dJ13_copyOf_2_1, ↓wD_e dJ13_copyOf_2_3, ↓wD_e dJ13_copyOf_2_6, ↓wD_e dJ13_copyOf_2_7, ↓wD_e dJ13_copyOf_2_10, ↓wD_e dJ13_copyOf_2_13, ↓wD_e dJ13_copyOf_2_14, ↓wD_e dJ13_copyOf_2_17, ↓wD_e dJ13_copyOf_2_18, ↓wD_e dJ13_copyOf_2_21, ↓wD_e dJ13_copyOf_2_24, ↓wD_e dJ13_copyOf_2_25, ↓wD_e dJ13_copyOf_2_26, ↓wD_e dJ13_copyOf_2_27, ↓wD_e dJ13_copyOf_2_28, ↓wD_e dJ13_copyOf_2_29, ↓wD_e dJ13_copyOf_2_30, ↓wD_e dJ13_copyOf_2_31, ↓wD_e dJ13_copyOf_2_32, ↓wD_e dJ13_copyOf_2_35, ↓wD_e dJ13_copyOf_2_38, ↓wD_e dJ13_copyOf_2_39, cc_iconst_0, ↓tg_3_10, ↓tg_10_14, ht_LILrL_e, ht_LILrL_n, ↓T_AR_copyOf_LIL_9_110, ↓T_AR_copyOf_LIL_7_2, ↓T_AR_copyOf_LIL_21_0, ↓T_AR_copyOf_LIL_5_304, ↓T_AR_copyOf_LIL_5_150, hMn_r, hCpy_r, hGet_r, hPut_r, hTxV, hTxC, hTxB, hTxL, hBxA, hBxV, hGst, hLdM, hGcl_r, hAald_r, hAlE_r, hAastO_r, hAastO_n, hNewA_r, hObj, List.mem_cons, List.not_mem_nil, yrf_s, yrf_n, hfl, hVk, updV_a, hUa_s, ht_LILrL_e (hr := (.inr ⟨_, rfl⟩)), ht_LILrL_n (hr := (.inr ⟨_, rfl⟩)), i32_10, i32_01, i32_m10, i32_03, i32_13, i32_23, Int32.reduceAdd, Int32.reduceSub, Int32.reduceMul, Int32.reduceLT, Int32.reduceLE, Int32.reduceToNatClampNeg, Int32.reduceOfInt, Int64.reduceAdd, Int64.reduceSub, Int64.reduceMul, Int64.reduceLT, Int64.reduceLE, lg_cmp_ge, lg_cmp_le, lg_cmp_gt, lg_cmp_lt, lg_cmp_eq, bI_0, bI_1, not_true_eq_false, not_false_eq_true, false_implies, Bool.not_eq_false, Bool.not_eq_true, and_self, Nat.reduceAdd, Int.reduceAdd, Nat.reduceEqDiff, reduceIte, true_and, and_true, implies_true, forall_const, Nat.zero_le, Nat.add_zero, Nat.zero_add, true_or, or_true, false_or, or_false, and_false, false_and, sCI_r, sCJ_r, Nat.reduceLeDiff, hM0, hoL, hmin, hm1, hm2]
  refine hG [38] 300 _ _ _ _ ?_
  simp only [wpN, ↓wq_aload_0, ↓wq_aload_1, ↓wq_aload_2, ↓wq_aload_3, ↓wq_aload_0n, ↓wq_aload_1n, ↓wq_aload_2n, ↓wq_aload_3n, ↓wq_anewarray, ↓wq_aretr, ↓wq_aretn, ↓wq_arraylength, ↓wq_astore_0, ↓wq_astore_1, ↓wq_astore_2, ↓wq_astore_3, ↓wq_astore_0n, ↓wq_astore_1n, ↓wq_astore_2n, ↓wq_astore_3n, ↓wq_checkcast, ↓wq_goto, ↓wq_iconst, ↓wq_acmp_eq, ↓wq_acmp_ne, ↓wq_iload_0, ↓wq_iload_1, ↓wq_iload_2, ↓wq_iload_3, ↓wq_invokestatic, ↓wq_invokevirtual, ↓wq_ldc, ↓se_get_0, ↓se_get_s, ↓se_set1_0, ↓se_set1_1, ↓se_set1_s, ↓se_set2_0, ↓se_set2_1, ↓se_set2_s, ↓se_k2_n, ↓se_k2_i, ↓se_k2_r, ↓se_k2_u, ↓se_k2_l, ↓se_k2_q, ↓se_in_0, ↓se_in_s, ↓gI_s, ↓gL_s, ↓gR_r, ↓gR_n, ↓gR_q, ↓sR_r, ↓sR_n, ↓sR_q, ↓se_sp_n, ↓se_sp_y, ↓se_sp_z, ↓se_ts_n, ↓se_ts_c, ↓se_c8_n, ↓se_c8_i, ↓se_c8_r, ↓se_c8_u, ↓se_c8_l, ↓wD_e dJ13_copyOf_2_0, ↓wD_e dJ13_copyOf_2_1, ↓wD_e dJ13_copyOf_2_3, ↓wD_e dJ13_copyOf_2_6, ↓wD_e dJ13_copyOf_2_7, ↓wD_e dJ13_copyOf_2_10, ↓wD_e dJ13_copyOf_2_13, ↓wD_e dJ13_copyOf_2_14, ↓wD_e dJ13_copyOf_2_17, ↓wD_e dJ13_copyOf_2_18, ↓wD_e dJ13_copyOf_2_21, ↓wD_e dJ13_copyOf_2_24, ↓wD_e dJ13_copyOf_2_25, ↓wD_e dJ13_copyOf_2_26, ↓wD_e dJ13_copyOf_2_27, ↓wD_e dJ13_copyOf_2_28, ↓wD_e dJ13_copyOf_2_29, ↓wD_e dJ13_copyOf_2_30, ↓wD_e dJ13_copyOf_2_31, ↓wD_e dJ13_copyOf_2_32, ↓wD_e dJ13_copyOf_2_35, ↓wD_e dJ13_copyOf_2_38, ↓wD_e dJ13_copyOf_2_39, cc_iconst_0, ↓tg_3_10, ↓tg_10_14, ht_LILrL_e, ht_LILrL_n, ↓T_AR_copyOf_LIL_9_110, ↓T_AR_copyOf_LIL_7_2, ↓T_AR_copyOf_LIL_21_0, ↓T_AR_copyOf_LIL_5_304, ↓T_AR_copyOf_LIL_5_150, hMn_r, hCpy_r, hGet_r, hPut_r, hTxV, hTxC, hTxB, hTxL, hBxA, hBxV, hGst, hLdM, hGcl_r, hAald_r, hAlE_r, hAastO_r, hAastO_n, hNewA_r, hObj, List.mem_cons, List.not_mem_nil, yrf_s, yrf_n, hfl, hVk, updV_a, hUa_s, ht_LILrL_e (hr := (.inr ⟨_, rfl⟩)), ht_LILrL_n (hr := (.inr ⟨_, rfl⟩)), i32_10, i32_01, i32_m10, i32_03, i32_13, i32_23, Int32.reduceAdd, Int32.reduceSub, Int32.reduceMul, Int32.reduceLT, Int32.reduceLE, Int32.reduceToNatClampNeg, Int32.reduceOfInt, Int64.reduceAdd, Int64.reduceSub, Int64.reduceMul, Int64.reduceLT, Int64.reduceLE, lg_cmp_ge, lg_cmp_le, lg_cmp_gt, lg_cmp_lt, lg_cmp_eq, bI_0, bI_1, not_true_eq_false, not_false_eq_true, false_implies, Bool.not_eq_false, Bool.not_eq_true, and_self, Nat.reduceAdd, Int.reduceAdd, Nat.reduceEqDiff, reduceIte, true_and, and_true, implies_true, forall_const, Nat.zero_le, Nat.add_zero, Nat.zero_add, true_or, or_true, false_or, or_false, and_false, false_and, sCI_r, sCJ_r, Nat.reduceLeDiff, hM0, hMn, hcL, hpos, z0, z1, h1, Nat.le_refl]
  refine ⟨hany, ?_⟩
  refine hG [] 300 _ _ _ _ ?_
  simp only [wpN, ↓wq_aload_0, ↓wq_aload_1, ↓wq_aload_2, ↓wq_aload_3, ↓wq_aload_0n, ↓wq_aload_1n, ↓wq_aload_2n, ↓wq_aload_3n, ↓wq_anewarray, ↓wq_aretr, ↓wq_aretn, ↓wq_arraylength, ↓wq_astore_0, ↓wq_astore_1, ↓wq_astore_2, ↓wq_astore_3, ↓wq_astore_0n, ↓wq_astore_1n, ↓wq_astore_2n, ↓wq_astore_3n, ↓wq_checkcast, ↓wq_goto, ↓wq_iconst, ↓wq_acmp_eq, ↓wq_acmp_ne, ↓wq_iload_0, ↓wq_iload_1, ↓wq_iload_2, ↓wq_iload_3, ↓wq_invokestatic, ↓wq_invokevirtual, ↓wq_ldc, ↓se_get_0, ↓se_get_s, ↓se_set1_0, ↓se_set1_1, ↓se_set1_s, ↓se_set2_0, ↓se_set2_1, ↓se_set2_s, ↓se_k2_n, ↓se_k2_i, ↓se_k2_r, ↓se_k2_u, ↓se_k2_l, ↓se_k2_q, ↓se_in_0, ↓se_in_s, ↓gI_s, ↓gL_s, ↓gR_r, ↓gR_n, ↓gR_q, ↓sR_r, ↓sR_n, ↓sR_q, ↓se_sp_n, ↓se_sp_y, ↓se_sp_z, ↓se_ts_n, ↓se_ts_c, ↓se_c8_n, ↓se_c8_i, ↓se_c8_r, ↓se_c8_u, ↓se_c8_l, ↓wD_e dJ13_copyOf_2_0, ↓wD_e dJ13_copyOf_2_1, ↓wD_e dJ13_copyOf_2_3, ↓wD_e dJ13_copyOf_2_6, ↓wD_e dJ13_copyOf_2_7, ↓wD_e dJ13_copyOf_2_10, ↓wD_e dJ13_copyOf_2_13, ↓wD_e dJ13_copyOf_2_14, ↓wD_e dJ13_copyOf_2_17, ↓wD_e dJ13_copyOf_2_18, ↓wD_e dJ13_copyOf_2_21, ↓wD_e dJ13_copyOf_2_24, ↓wD_e dJ13_copyOf_2_25, ↓wD_e dJ13_copyOf_2_26, ↓wD_e dJ13_copyOf_2_27, ↓wD_e dJ13_copyOf_2_28, ↓wD_e dJ13_copyOf_2_29, ↓wD_e dJ13_copyOf_2_30, ↓wD_e dJ13_copyOf_2_31, ↓wD_e dJ13_copyOf_2_32, ↓wD_e dJ13_copyOf_2_35, ↓wD_e dJ13_copyOf_2_38, ↓wD_e dJ13_copyOf_2_39, cc_iconst_0, ↓tg_3_10, ↓tg_10_14, ht_LILrL_e, ht_LILrL_n, ↓T_AR_copyOf_LIL_9_110, ↓T_AR_copyOf_LIL_7_2, ↓T_AR_copyOf_LIL_21_0, ↓T_AR_copyOf_LIL_5_304, ↓T_AR_copyOf_LIL_5_150, hMn_r, hCpy_r, hGet_r, hPut_r, hTxV, hTxC, hTxB, hTxL, hBxA, hBxV, hGst, hLdM, hGcl_r, hAald_r, hAlE_r, hAastO_r, hAastO_n, hNewA_r, hObj, List.mem_cons, List.not_mem_nil, yrf_s, yrf_n, hfl, hVk, updV_a, hUa_s, ht_LILrL_e (hr := (.inr ⟨_, rfl⟩)), ht_LILrL_n (hr := (.inr ⟨_, rfl⟩)), i32_10, i32_01, i32_m10, i32_03, i32_13, i32_23, Int32.reduceAdd, Int32.reduceSub, Int32.reduceMul, Int32.reduceLT, Int32.reduceLE, Int32.reduceToNatClampNeg, Int32.reduceOfInt, Int64.reduceAdd, Int64.reduceSub, Int64.reduceMul, Int64.reduceLT, Int64.reduceLE, lg_cmp_ge, lg_cmp_le, lg_cmp_gt, lg_cmp_lt, lg_cmp_eq, bI_0, bI_1, not_true_eq_false, not_false_eq_true, false_implies, Bool.not_eq_false, Bool.not_eq_true, and_self, Nat.reduceAdd, Int.reduceAdd, Nat.reduceEqDiff, reduceIte, true_and, and_true, implies_true, forall_const, Nat.zero_le, Nat.add_zero, Nat.zero_add, true_or, or_true, false_or, or_false, and_false, false_and, sCI_r, sCJ_r, Nat.reduceLeDiff, hm1, hm2, Nat.le_refl]
  refine ⟨rfl, rfl, fun L' F' N' q1 q2 q3 => ?_⟩
  rw [e1] at q1
  cases q1
  have hNN : N' = N := by
    have := congrArg Int32.toNatClampNeg q2
    rw [hc, nI_clamp (by omega)] at this
    exact this.symm
  subst hNN
  have hcp : va_cpy F (fun _ => none) 0 0 L = hCut F L := by
    funext j
    simp [va_cpy, hCut]
  rw [hcp]
  funext b
  unfold hU
  split <;> rfl

def P_AR_copyOf_LI (mc ms : Nat) : hG → Nat → Int32 → hH → Nat → Prop := fun g a0 a1 m n => ∃ L F N, m a0 = some (hA4 L F) ∧ a1 = nI N ∧ L ≤ N ∧ N ≤ 65536 ∧ 0 < L ∧ hEls g m L F ∧ 1 ≤ mc ∧ N ≤ ms
def Q_AR_copyOf_LI (mc ms : Nat) : hG → Nat → Int32 → hH → Nat → Option Nat → hH → Nat → Prop := fun g a0 a1 m n x m' n' => n' = n + 1 ∧ x = some n ∧ ∀ L F N, m a0 = some (hA4 L F) → a1 = nI N → N ≤ 65536 → m' = hU m n (hA4 N (hCut F L))
def T_AR_copyOf_LI (mc ms : Nat) (mc ms : Nat) (g : hG) : Nat → Nat → se_Op hW := se_tab [(3, 86, hGcl g), (5, 300, ho_LILrL g mc ms mc ms (P_AR_copyOf_LIL mc ms) (Q_AR_copyOf_LIL mc ms))]
set_option maxRecDepth 20000 in
theorem T_AR_copyOf_LI_ok (l : Launch) (hl : l.stackTraces = false) (mc ms : Nat) (mc ms : Nat) : hTS l yJ13_copyOf.cls yJ13_copyOf.name cJ13_copyOf 2 (some (.array (.object "java/lang/Object"))) 2 83 mc ms (T_AR_copyOf_LI mc ms mc ms) := fun g p e s m args below meth c Q H0 C hnm hG hS k i => se_tab_ok _ (List.forall_mem_cons.mpr ⟨hGcl_ok q804 (by decide) (by decide) C hG, List.forall_mem_cons.mpr ⟨ho_LILrL_ok (hCS_ok (maxL' := 4) (fr' := 1) (lo' := 60) (yt_AR_copyOf_LIL l hl mc ms) q834 q835 q119 q836 (by decide +kernel) ⟨by decide, by decide⟩ C hG hS), fun _ h => absurd h List.not_mem_nil⟩⟩) k i
set_option maxRecDepth 20000 in
theorem T_AR_copyOf_LI_3_86 {mc ms : Nat} {mc ms : Nat} {g : hG} : T_AR_copyOf_LI mc ms mc ms g 3 86 = hGcl g := rfl
set_option maxRecDepth 20000 in
theorem T_AR_copyOf_LI_5_300 {mc ms : Nat} {mc ms : Nat} {g : hG} : T_AR_copyOf_LI mc ms mc ms g 5 300 = ho_LILrL g mc ms mc ms (P_AR_copyOf_LIL mc ms) (Q_AR_copyOf_LIL mc ms) := rfl
set_option maxHeartbeats 1000000 in
set_option maxRecDepth 20000 in
theorem yt_AR_copyOf_LI (l : Launch) (hl : l.stackTraces = false) (mc ms : Nat) : hm_LIrL l yJ13_copyOf (ws_ yJ13_copyOf cJ13_copyOf 2 (some (.array (.object "java/lang/Object")))) 2 83 mc ms (P_AR_copyOf_LI mc ms) (Q_AR_copyOf_LI mc ms) := by
  refine hm_LIrL_of (rty := (.array (.object "java/lang/Object"))) (by decide +kernel) rfl (T_AR_copyOf_LI_ok l hl mc ms mc ms) (by decide) fun g a0 a1 m n hin hv hp G hG => ?_
  show G 0 [some (.ref a0), some (.int a1)] [] (m, n, 0, 0)
  have hp0 := hp
  obtain ⟨L, F, N, e1, rfl, h1, h2, h0, hE, hm1, hm2⟩ := hp
  refine hG [9] 300 _ _ _ _ ?_
  simp only [wpN, ↓wq_aload_0, ↓wq_aload_1, ↓wq_aload_2, ↓wq_aload_3, ↓wq_aload_0n, ↓wq_aload_1n, ↓wq_aload_2n, ↓wq_aload_3n, ↓wq_aretr, ↓wq_aretn, ↓wq_iload_0, ↓wq_iload_1, ↓wq_iload_2, ↓wq_iload_3, ↓wq_invokestatic, ↓wq_invokevirtual, ↓se_get_0, ↓se_get_s, ↓se_set1_0, ↓se_set1_1, ↓se_set1_s, ↓se_set2_0, ↓se_set2_1, ↓se_set2_s, ↓se_k2_n, ↓se_k2_i, ↓se_k2_r, ↓se_k2_u, ↓se_k2_l, ↓se_k2_q, ↓se_in_0, ↓se_in_s, ↓gI_s, ↓gL_s, ↓gR_r, ↓gR_n, ↓gR_q, ↓sR_r, ↓sR_n, ↓sR_q, ↓se_sp_n, ↓se_sp_y, ↓se_sp_z, ↓se_ts_n, ↓se_ts_c, ↓se_c8_n, ↓se_c8_i, ↓se_c8_r, ↓se_c8_u, ↓se_c8_l, ↓wD_e dJ13_copyOf_0, ↓wD_e dJ13_copyOf_1, ↓wD_e dJ13_copyOf_2, ↓wD_e dJ13_copyOf_3, ↓wD_e dJ13_copyOf_6, ↓wD_e dJ13_copyOf_9, ht_LIrL_e, ht_LIrL_n, ↓T_AR_copyOf_LI_3_86, ↓T_AR_copyOf_LI_5_300, hGcl_r, ho_LILrL_r, hGet_r, hPut_r, hTxV, hTxC, hTxB, hTxL, hBxA, hBxV, hGst, hLdM, hCpy_r, hAald_r, hAlE_r, hAastO_r, hAastO_n, hNewA_r, hObj, List.mem_cons, List.not_mem_nil, yrf_s, yrf_n, hfl, hVk, updV_a, hUa_s, ht_LIrL_e (hr := (.inr ⟨_, rfl⟩)), ht_LIrL_n (hr := (.inr ⟨_, rfl⟩)), i32_10, i32_01, i32_m10, i32_03, i32_13, i32_23, Int32.reduceAdd, Int32.reduceSub, Int32.reduceMul, Int32.reduceLT, Int32.reduceLE, Int32.reduceToNatClampNeg, Int32.reduceOfInt, Int64.reduceAdd, Int64.reduceSub, Int64.reduceMul, Int64.reduceLT, Int64.reduceLE, lg_cmp_ge, lg_cmp_le, lg_cmp_gt, lg_cmp_lt, lg_cmp_eq, bI_0, bI_1, not_true_eq_false, not_false_eq_true, false_implies, Bool.not_eq_false, Bool.not_eq_true, and_self, Nat.reduceAdd, Int.reduceAdd, Nat.reduceEqDiff, reduceIte, true_and, and_true, implies_true, forall_const, Nat.zero_le, Nat.add_zero, Nat.zero_add, true_or, or_true, false_or, or_false, and_false, false_and, sCI_r, sCJ_r, Nat.reduceLeDiff, e1]
  refine ⟨⟨L, F, N, e1, rfl, h1, h2, h0, rfl, hE, hm1, hm2⟩, by omega, by omega, ?_⟩
  intro x m1 n1 hq hd1 hn1
  obtain ⟨rfl, rfl, hq⟩ := hq
  refine hG [] 300 _ _ _ _ ?_
  simp only [wpN, ↓wq_aload_0, ↓wq_aload_1, ↓wq_aload_2, ↓wq_aload_3, ↓wq_aload_0n, ↓wq_aload_1n, ↓wq_aload_2n, ↓wq_aload_3n, ↓wq_aretr, ↓wq_aretn, ↓wq_iload_0, ↓wq_iload_1, ↓wq_iload_2, ↓wq_iload_3, ↓wq_invokestatic, ↓wq_invokevirtual, ↓se_get_0, ↓se_get_s, ↓se_set1_0, ↓se_set1_1, ↓se_set1_s, ↓se_set2_0, ↓se_set2_1, ↓se_set2_s, ↓se_k2_n, ↓se_k2_i, ↓se_k2_r, ↓se_k2_u, ↓se_k2_l, ↓se_k2_q, ↓se_in_0, ↓se_in_s, ↓gI_s, ↓gL_s, ↓gR_r, ↓gR_n, ↓gR_q, ↓sR_r, ↓sR_n, ↓sR_q, ↓se_sp_n, ↓se_sp_y, ↓se_sp_z, ↓se_ts_n, ↓se_ts_c, ↓se_c8_n, ↓se_c8_i, ↓se_c8_r, ↓se_c8_u, ↓se_c8_l, ↓wD_e dJ13_copyOf_0, ↓wD_e dJ13_copyOf_1, ↓wD_e dJ13_copyOf_2, ↓wD_e dJ13_copyOf_3, ↓wD_e dJ13_copyOf_6, ↓wD_e dJ13_copyOf_9, ht_LIrL_e, ht_LIrL_n, ↓T_AR_copyOf_LI_3_86, ↓T_AR_copyOf_LI_5_300, hGcl_r, ho_LILrL_r, hGet_r, hPut_r, hTxV, hTxC, hTxB, hTxL, hBxA, hBxV, hGst, hLdM, hCpy_r, hAald_r, hAlE_r, hAastO_r, hAastO_n, hNewA_r, hObj, List.mem_cons, List.not_mem_nil, yrf_s, yrf_n, hfl, hVk, updV_a, hUa_s, ht_LIrL_e (hr := (.inr ⟨_, rfl⟩)), ht_LIrL_n (hr := (.inr ⟨_, rfl⟩)), i32_10, i32_01, i32_m10, i32_03, i32_13, i32_23, Int32.reduceAdd, Int32.reduceSub, Int32.reduceMul, Int32.reduceLT, Int32.reduceLE, Int32.reduceToNatClampNeg, Int32.reduceOfInt, Int64.reduceAdd, Int64.reduceSub, Int64.reduceMul, Int64.reduceLT, Int64.reduceLE, lg_cmp_ge, lg_cmp_le, lg_cmp_gt, lg_cmp_lt, lg_cmp_eq, bI_0, bI_1, not_true_eq_false, not_false_eq_true, false_implies, Bool.not_eq_false, Bool.not_eq_true, and_self, Nat.reduceAdd, Int.reduceAdd, Nat.reduceEqDiff, reduceIte, true_and, and_true, implies_true, forall_const, Nat.zero_le, Nat.add_zero, Nat.zero_add, true_or, or_true, false_or, or_false, and_false, false_and, sCI_r, sCJ_r, Nat.reduceLeDiff, Nat.le_refl]
  exact ⟨rfl, rfl, hq⟩
  theorem nI_shr1 {k : Nat} (h : k < 2 ^ 31) : nI k >>> ((1 : Int32) &&& 31) = nI (k / 2) := by
    have e : ((1 : Int32) &&& 31) = 1 := by decide
    rw [e]
    have hb : (nI k).toBitVec = BitVec.ofNat 32 k := rfl
    apply Int32.toBitVec_inj.mp
    rw [Int32.toBitVec_shiftRight]
    have hs : ((1 : Int32).toBitVec.smod 32) = 1#32 := by decide
    rw [hs]
    have hm : (nI k).toBitVec.msb = false := by
      rw [hb, BitVec.msb_eq_decide]
      simp [BitVec.toNat_ofNat, Nat.mod_eq_of_lt (show k < 2 ^ 32 by omega)]
      omega
    apply BitVec.eq_of_toNat_eq
    rw [BitVec.sshiftRight_eq', BitVec.sshiftRight_eq_of_msb_false hm]
    rw [BitVec.toNat_ushiftRight, hb]
    show (BitVec.ofNat 32 k).toNat >>> (1#32).toNat = (BitVec.ofNat 32 (k / 2)).toNat
    simp only [BitVec.toNat_ofNat]
    rw [Nat.mod_eq_of_lt (show k < 2 ^ 32 by omega), Nat.mod_eq_of_lt (show k / 2 < 2 ^ 32 by omega)]
    have : (1 : Nat) % 2 ^ 32 = 1 := by decide
    rw [this, Nat.shiftRight_eq_div_pow]
