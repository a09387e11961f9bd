
theorem tg_5_7 {K : Nat → Prop} : se_tg 5 (7) K = K 12 := rfl
theorem tg_9_16 {K : Nat → Prop} : se_tg 9 (16) K = K 25 := rfl
def P_L_rangeCheckForAdd  : hG → Nat → Int32 → hH → Nat → Prop := fun g a0 a1 m n => ∃ E k, hLi m a0 E k ∧ ¬ a1 < 0 ∧ 0 ≤ a1 ∧ ¬ nI k < a1
def Q_L_rangeCheckForAdd  : hG → Nat → Int32 → hH → Nat → hH → Nat → Prop := fun g a0 a1 m n m' n' => m' = m ∧ n' = n
def T_L_rangeCheckForAdd (mc ms : Nat) (g : hG) : Nat → Nat → se_Op hW := se_tab [(0, 48, hGet [(23, 2)])]
set_option maxRecDepth 20000 in
theorem T_L_rangeCheckForAdd_ok (l : Launch) (hl : l.stackTraces = false) (mc ms : Nat) : hTS l yJ2_rangeCheckForAdd.cls yJ2_rangeCheckForAdd.name cJ2_rangeCheckForAdd 2 none 0 0 mc ms (T_L_rangeCheckForAdd mc ms) := fun g p e s m args below meth c Q H0 C hnm hG hS k i => se_tab_ok _ (List.forall_mem_cons.mpr ⟨hGet_ok (F := [(23, 2)]) (List.forall_mem_cons.mpr ⟨⟨(RJ2, TJ2, 3), "java/util/ArrayList", rfl, by decide, .inl q172, .inl rfl⟩, fun _ h => absurd h List.not_mem_nil⟩) C hG, fun _ h => absurd h List.not_mem_nil⟩) k i
set_option maxRecDepth 20000 in
theorem T_L_rangeCheckForAdd_0_48 {mc ms : Nat} {g : hG} : T_L_rangeCheckForAdd mc ms g 0 48 = hGet [(23, 2)] := rfl
set_option maxHeartbeats 1000000 in
set_option maxRecDepth 20000 in
theorem yt_L_rangeCheckForAdd (l : Launch) (hl : l.stackTraces = false) : hm_LIrV l yJ2_rangeCheckForAdd (ws_ yJ2_rangeCheckForAdd cJ2_rangeCheckForAdd 2 none) 0 0 0 0 P_L_rangeCheckForAdd Q_L_rangeCheckForAdd := by
  refine hm_LIrV_of (by decide +kernel) rfl (T_L_rangeCheckForAdd_ok l hl 0 0) (by decide) fun g a0 a1 m n hin hv hp G hG => ?_
  show G 0 [some (.ref a0), some (.int a1)] [] (m, n, 0, 0)
  obtain ⟨E, k, ⟨o, md, e1, e2, e3, e4⟩, h1, h2, h3⟩ := hp
  refine hG [12, 25] 300 _ _ _ _ ?_
  simp only [wpN, ↓wq_aload_0, ↓wq_aload_1, ↓wq_aload_2, ↓wq_aload_3, ↓wq_aload_0n, ↓wq_aload_1n, ↓wq_aload_2n, ↓wq_aload_3n, ↓wq_athrow, ↓wq_dupi, ↓wq_dupr, ↓wq_dupn, ↓wq_getfield, ↓wq_if_eq, ↓wq_if_ne, ↓wq_if_lt, ↓wq_if_ge, ↓wq_if_gt, ↓wq_if_le, ↓wq_icmp_eq, ↓wq_icmp_ne, ↓wq_icmp_lt, ↓wq_icmp_ge, ↓wq_icmp_gt, ↓wq_icmp_le, ↓wq_iload_0, ↓wq_iload_1, ↓wq_iload_2, ↓wq_iload_3, ↓wq_invokespecial, ↓wq_invokevirtual, ↓wq_new, ↓wq_ret, ↓se_get_0, ↓se_get_s, ↓se_set1_0, ↓se_set1_1, ↓se_set1_s, ↓se_set2_0, ↓se_set2_1, ↓se_set2_s, ↓se_k2_n, ↓se_k2_i, ↓se_k2_r, ↓se_k2_u, ↓se_k2_l, ↓se_k2_q, ↓se_in_0, ↓se_in_s, ↓gI_s, ↓gL_s, ↓gR_r, ↓gR_n, ↓gR_q, ↓sR_r, ↓sR_n, ↓sR_q, ↓se_sp_n, ↓se_sp_y, ↓se_sp_z, ↓se_ts_n, ↓se_ts_c, ↓se_c8_n, ↓se_c8_i, ↓se_c8_r, ↓se_c8_u, ↓se_c8_l, ↓wD_e dJ2_rangeCheckForAdd_0, ↓wD_e dJ2_rangeCheckForAdd_1, ↓wD_e dJ2_rangeCheckForAdd_2, ↓wD_e dJ2_rangeCheckForAdd_5, ↓wD_e dJ2_rangeCheckForAdd_8, ↓wD_e dJ2_rangeCheckForAdd_9, ↓wD_e dJ2_rangeCheckForAdd_12, ↓wD_e dJ2_rangeCheckForAdd_15, ↓wD_e dJ2_rangeCheckForAdd_16, ↓wD_e dJ2_rangeCheckForAdd_17, ↓wD_e dJ2_rangeCheckForAdd_18, ↓wD_e dJ2_rangeCheckForAdd_21, ↓wD_e dJ2_rangeCheckForAdd_24, ↓wD_e dJ2_rangeCheckForAdd_25, ↓tg_5_7, ↓tg_9_16, ht_LIrV_e, ↓T_L_rangeCheckForAdd_0_48, hGet_r, hPut_r, hTxV, hTxC, hTxB, hTxL, hBxA, hBxV, hGst, hLdM, hCpy_r, hGcl_r, hAald_r, hAlE_r, hAastO_r, hAastO_n, hNewA_r, hObj, List.mem_cons, List.not_mem_nil, yrf_s, yrf_n, hfl, hVk, updV_a, hUa_s, i32_10, i32_01, i32_m10, i32_03, i32_13, i32_23, Int32.reduceAdd, Int32.reduceSub, Int32.reduceMul, Int32.reduceLT, Int32.reduceLE, Int32.reduceToNatClampNeg, Int32.reduceOfInt, Int64.reduceAdd, Int64.reduceSub, Int64.reduceMul, Int64.reduceLT, Int64.reduceLE, lg_cmp_ge, lg_cmp_le, lg_cmp_gt, lg_cmp_lt, lg_cmp_eq, bI_0, bI_1, not_true_eq_false, not_false_eq_true, false_implies, Bool.not_eq_false, Bool.not_eq_true, and_self, Nat.reduceAdd, Int.reduceAdd, Nat.reduceEqDiff, reduceIte, true_and, and_true, implies_true, forall_const, Nat.zero_le, Nat.add_zero, Nat.zero_add, true_or, or_true, false_or, or_false, and_false, false_and, sCI_r, sCJ_r, Nat.reduceLeDiff, e1, e4, h1, h2, h3]
  refine hG [] 300 _ _ _ _ ?_
  simp only [wpN, ↓wq_aload_0, ↓wq_aload_1, ↓wq_aload_2, ↓wq_aload_3, ↓wq_aload_0n, ↓wq_aload_1n, ↓wq_aload_2n, ↓wq_aload_3n, ↓wq_athrow, ↓wq_dupi, ↓wq_dupr, ↓wq_dupn, ↓wq_getfield, ↓wq_if_eq, ↓wq_if_ne, ↓wq_if_lt, ↓wq_if_ge, ↓wq_if_gt, ↓wq_if_le, ↓wq_icmp_eq, ↓wq_icmp_ne, ↓wq_icmp_lt, ↓wq_icmp_ge, ↓wq_icmp_gt, ↓wq_icmp_le, ↓wq_iload_0, ↓wq_iload_1, ↓wq_iload_2, ↓wq_iload_3, ↓wq_invokespecial, ↓wq_invokevirtual, ↓wq_new, ↓wq_ret, ↓se_get_0, ↓se_get_s, ↓se_set1_0, ↓se_set1_1, ↓se_set1_s, ↓se_set2_0, ↓se_set2_1, ↓se_set2_s, ↓se_k2_n, ↓se_k2_i, ↓se_k2_r, ↓se_k2_u, ↓se_k2_l, ↓se_k2_q, ↓se_in_0, ↓se_in_s, ↓gI_s, ↓gL_s, ↓gR_r, ↓gR_n, ↓gR_q, ↓sR_r, ↓sR_n, ↓sR_q, ↓se_sp_n, ↓se_sp_y, ↓se_sp_z, ↓se_ts_n, ↓se_ts_c, ↓se_c8_n, ↓se_c8_i, ↓se_c8_r, ↓se_c8_u, ↓se_c8_l, ↓wD_e dJ2_rangeCheckForAdd_0, ↓wD_e dJ2_rangeCheckForAdd_1, ↓wD_e dJ2_rangeCheckForAdd_2, ↓wD_e dJ2_rangeCheckForAdd_5, ↓wD_e dJ2_rangeCheckForAdd_8, ↓wD_e dJ2_rangeCheckForAdd_9, ↓wD_e dJ2_rangeCheckForAdd_12, ↓wD_e dJ2_rangeCheckForAdd_15, ↓wD_e dJ2_rangeCheckForAdd_16, ↓wD_e dJ2_rangeCheckForAdd_17, ↓wD_e dJ2_rangeCheckForAdd_18, ↓wD_e dJ2_rangeCheckForAdd_21, ↓wD_e dJ2_rangeCheckForAdd_24, ↓wD_e dJ2_rangeCheckForAdd_25, ↓tg_5_7, ↓tg_9_16, ht_LIrV_e, ↓T_L_rangeCheckForAdd_0_48, hGet_r, hPut_r, hTxV, hTxC, hTxB, hTxL, hBxA, hBxV, hGst, hLdM, hCpy_r, hGcl_r, hAald_r, hAlE_r, hAastO_r, hAastO_n, hNewA_r, hObj, List.mem_cons, List.not_mem_nil, yrf_s, yrf_n, hfl, hVk, updV_a, hUa_s, i32_10, i32_01, i32_m10, i32_03, i32_13, i32_23, Int32.reduceAdd, Int32.reduceSub, Int32.reduceMul, Int32.reduceLT, Int32.reduceLE, Int32.reduceToNatClampNeg, Int32.reduceOfInt, Int64.reduceAdd, Int64.reduceSub, Int64.reduceMul, Int64.reduceLT, Int64.reduceLE, lg_cmp_ge, lg_cmp_le, lg_cmp_gt, lg_cmp_lt, lg_cmp_eq, bI_0, bI_1, not_true_eq_false, not_false_eq_true, false_implies, Bool.not_eq_false, Bool.not_eq_true, and_self, Nat.reduceAdd, Int.reduceAdd, Nat.reduceEqDiff, reduceIte, true_and, and_true, implies_true, forall_const, Nat.zero_le, Nat.add_zero, Nat.zero_add, true_or, or_true, false_or, or_false, and_false, false_and, sCI_r, sCJ_r, Nat.reduceLeDiff]
  exact ⟨rfl, rfl⟩
theorem tg_29_9 {K : Nat → Prop} : se_tg 29 (9) K = K 38 := rfl
def P_L_add_IL (mc ms : Nat) : hG → Nat → Int32 → Nat → hH → Nat → Prop := fun g a0 a1 a2 m n => ∃ E k L F i, hLst g m a0 E k L F ∧ a1 = nI i ∧ i ≤ k ∧ k ≤ 40000 ∧ hEls g m k F ∧ hAnyO g m a2 ∧ (k < L ∨ (1 ≤ mc ∧ lNc k L ≤ ms))
def Q_L_add_IL (mc ms : Nat) : hG → Nat → Int32 → Nat → hH → Nat → hH → Nat → Prop := fun g a0 a1 a2 m n m' n' => ∀ E k L F i, hLst g m a0 E k L F → a1 = nI i → i ≤ k → ∃ F', hAdQ g m n a0 k L F F' m' n' ∧ (∀ j, j < i → F' j = F j) ∧ F' i = some a2 ∧ ∀ j, i < j → j ≤ k → F' j = F (j - 1)
def T_L_add_IL (mc ms : Nat) (mc ms : Nat) (g : hG) : Nat → Nat → se_Op hW := se_tab [(0, 63, hGet [(23, 0)]), (1, 63, hPut [(23, 0)] 0), (0, 48, hGet [(23, 2)]), (0, 9, hGet [(23, 1)]), (21, 0, hAlE g), (20, 0, hAastO g), (1, 48, hPut [(23, 2)] 0), (3, 135, hov_LIrV g mc ms 0 0 [23] P_L_rangeCheckForAdd Q_L_rangeCheckForAdd), (3, 129, hov_LrL g mc ms mc ms [23] (P_L_grow_ mc ms) (Q_L_grow_ mc ms)), (5, 112, hCpy g)]
set_option maxRecDepth 20000 in
theorem T_L_add_IL_ok (l : Launch) (hl : l.stackTraces = false) (mc ms : Nat) (mc ms : Nat) : hTS l yJ2_add_3.cls yJ2_add_3.name cJ2_add_3 5 none 5 147 mc ms (T_L_add_IL mc ms mc ms) := fun g p e s m args below meth c Q H0 C hnm hG hS k i => se_tab_ok _ (List.forall_mem_cons.mpr ⟨hGet_ok (F := [(23, 0)]) (List.forall_mem_cons.mpr ⟨⟨(RJ2, TJ2, 3), "java/util/ArrayList", rfl, by decide, .inl q174, .inr q175⟩, fun _ h => absurd h List.not_mem_nil⟩) C hG, List.forall_mem_cons.mpr ⟨hPut_ok (F := [(23, 0)]) (t := 0) (List.forall_mem_cons.mpr ⟨⟨(RJ2, TJ2, 3), "java/util/ArrayList", rfl, by decide, .inl q174, .inr q175⟩, fun _ h => absurd h List.not_mem_nil⟩) (List.forall_mem_cons.mpr ⟨fun r ty h1 h2 => by cases h1; cases h2; exact ⟨rfl, rfl⟩, fun _ h => absurd h List.not_mem_nil⟩) C hG, List.forall_mem_cons.mpr ⟨hGet_ok (F := [(23, 2)]) (List.forall_mem_cons.mpr ⟨⟨(RJ2, TJ2, 3), "java/util/ArrayList", rfl, by decide, .inl q172, .inl rfl⟩, fun _ h => absurd h List.not_mem_nil⟩) C hG, List.forall_mem_cons.mpr ⟨hGet_ok (F := [(23, 1)]) (List.forall_mem_cons.mpr ⟨⟨(RJ2, TJ2, 3), "java/util/ArrayList", rfl, by decide, .inl q171, .inl rfl⟩, fun _ h => absurd h List.not_mem_nil⟩) C hG, List.forall_mem_cons.mpr ⟨hAlE_ok C hG hS, List.forall_mem_cons.mpr ⟨hAastO_ok C hG hS, List.forall_mem_cons.mpr ⟨hPut_ok (F := [(23, 2)]) (t := 0) (List.forall_mem_cons.mpr ⟨⟨(RJ2, TJ2, 3), "java/util/ArrayList", rfl, by decide, .inl q172, .inl rfl⟩, fun _ h => absurd h List.not_mem_nil⟩) (List.forall_mem_cons.mpr ⟨fun r ty h1 h2 => by cases h1; cases h2; exact ⟨rfl, rfl⟩, fun _ h => absurd h List.not_mem_nil⟩) C hG, List.forall_mem_cons.mpr ⟨hov_LIrV_ok (hCVG_ok (maxL' := 2) (fr' := 0) (lo' := 0) (yt_L_rangeCheckForAdd l hl) (List.forall_mem_cons.mpr ⟨⟨_, rfl, hRunV_V (na := 1) C.1.2.2.2.2 q1097 q1099 qs19 q101 q1100 (by decide +kernel) ⟨by decide, by decide⟩⟩, fun _ h => absurd h List.not_mem_nil⟩) C hG hS), List.forall_mem_cons.mpr ⟨hov_LrL_ok (hCVG_ok (maxL' := 1) (fr' := 4) (lo' := 127) (yt_L_grow_ l hl mc ms) (List.forall_mem_cons.mpr ⟨⟨_, rfl, hRunV_V (na := 0) C.1.2.2.2.2 q785 q787 qs6 q101 q788 (by decide +kernel) ⟨by decide, by decide⟩⟩, fun _ h => absurd h List.not_mem_nil⟩) C hG hS), List.forall_mem_cons.mpr ⟨hCpy_ok q1101 (by decide) (by decide) C hG hS, fun _ h => absurd h List.not_mem_nil⟩⟩⟩⟩⟩⟩⟩⟩⟩⟩) k i
set_option maxRecDepth 20000 in
theorem T_L_add_IL_0_63 {mc ms : Nat} {mc ms : Nat} {g : hG} : T_L_add_IL mc ms mc ms g 0 63 = hGet [(23, 0)] := rfl
set_option maxRecDepth 20000 in
theorem T_L_add_IL_1_63 {mc ms : Nat} {mc ms : Nat} {g : hG} : T_L_add_IL mc ms mc ms g 1 63 = hPut [(23, 0)] 0 := rfl
set_option maxRecDepth 20000 in
theorem T_L_add_IL_0_48 {mc ms : Nat} {mc ms : Nat} {g : hG} : T_L_add_IL mc ms mc ms g 0 48 = hGet [(23, 2)] := rfl
set_option maxRecDepth 20000 in
theorem T_L_add_IL_0_9 {mc ms : Nat} {mc ms : Nat} {g : hG} : T_L_add_IL mc ms mc ms g 0 9 = hGet [(23, 1)] := rfl
set_option maxRecDepth 20000 in
theorem T_L_add_IL_21_0 {mc ms : Nat} {mc ms : Nat} {g : hG} : T_L_add_IL mc ms mc ms g 21 0 = hAlE g := rfl
set_option maxRecDepth 20000 in
theorem T_L_add_IL_20_0 {mc ms : Nat} {mc ms : Nat} {g : hG} : T_L_add_IL mc ms mc ms g 20 0 = hAastO g := rfl
set_option maxRecDepth 20000 in
theorem T_L_add_IL_1_48 {mc ms : Nat} {mc ms : Nat} {g : hG} : T_L_add_IL mc ms mc ms g 1 48 = hPut [(23, 2)] 0 := rfl
set_option maxRecDepth 20000 in
theorem T_L_add_IL_3_135 {mc ms : Nat} {mc ms : Nat} {g : hG} : T_L_add_IL mc ms mc ms g 3 135 = hov_LIrV g mc ms 0 0 [23] P_L_rangeCheckForAdd Q_L_rangeCheckForAdd := rfl
set_option maxRecDepth 20000 in
theorem T_L_add_IL_3_129 {mc ms : Nat} {mc ms : Nat} {g : hG} : T_L_add_IL mc ms mc ms g 3 129 = hov_LrL g mc ms mc ms [23] (P_L_grow_ mc ms) (Q_L_grow_ mc ms) := rfl
set_option maxRecDepth 20000 in
theorem T_L_add_IL_5_112 {mc ms : Nat} {mc ms : Nat} {g : hG} : T_L_add_IL mc ms mc ms g 5 112 = hCpy g := rfl
set_option maxHeartbeats 1000000 in
set_option maxRecDepth 20000 in
theorem yt_L_add_IL (l : Launch) (hl : l.stackTraces = false) (mc ms : Nat) : hm_LILrV l yJ2_add_3 (ws_ yJ2_add_3 cJ2_add_3 5 none) 5 147 mc ms (P_L_add_IL mc ms) (Q_L_add_IL mc ms) := by
  refine hm_LILrV_of (by decide +kernel) rfl (T_L_add_IL_ok l hl mc ms mc ms) (by decide) fun g a0 a1 a2 m n hin hv hp G hG => ?_
  show G 0 [some (.ref a0), some (.int a1), some (.ref a2), none, none] [] (m, n, 0, 0)
  obtain ⟨E, k, L, F, i, hL, rfl, hik, hk, hE, hany, hb⟩ := hp
  have hL0 := hL
  obtain ⟨⟨o, md, e1, e2, e3, e4⟩, h1, h2, h3⟩ := hL
  have ha : a0 < n := (hin a0 _ e1).1
  have hmn : m n = none := by
    cases e : m n with
    | none => rfl
    | some ob => exact absurd (hin n ob e).1 (Nat.lt_irrefl _)
  have hs1 : nI k + 1 = nI (k + 1) := nI_1 _
  have hsi : nI i + 1 = nI (i + 1) := nI_1 _
  have hci : (nI i).toNatClampNeg = i := nI_clamp (by omega)
  have hci1 : (nI (i + 1)).toNatClampNeg = i + 1 := nI_clamp (by omega)
  have hsub : nI k - nI i = nI (k - i) := nI_subL hik
  have hck : (nI (k - i)).toNatClampNeg = k - i := nI_clamp (by omega)
  have hkk : ∀ k', nI k = nI k' → k' ≤ 65536 → k = k' := fun k' q1 q2 => by
    have := congrArg Int32.toNatClampNeg q1
    rw [nI_clamp (by omega), nI_clamp (by omega)] at this
    exact this
  have hii : ∀ k', nI i = nI k' → k' ≤ 65536 → i = k' := fun k' q1 q2 => by
    have := congrArg Int32.toNatClampNeg q1
    rw [nI_clamp (by omega), nI_clamp (by omega)] at this
    exact this
  have n1' : ¬ nI i < 0 := nI_nn (by omega)
  have n2' : ¬ nI (i + 1) < 0 := nI_nn (by omega)
  have n3' : ¬ nI (k - i) < 0 := nI_nn (by omega)
  have hEa : E ≠ a0 := by
    rcases h3 with ⟨-, -, q⟩ | ⟨q, -⟩
    · intro z
      rw [z, e1] at q
      cases q
    · exact hLi_ne ⟨o, md, e1, e2, e3, e4⟩ q
  -- the end: the elements move up, the new one comes in
  have cont : ∀ (M : hH) (n2 A N c1 c2 : Nat) (FF : Nat → Option Nat) (o' : Nat → Value) (md' : Int32), M a0 = some (.inl (23, o')) → o' 0 = .int md' → o' 1 = .ref A → M A = some (hA4 N FF) → N = lNc k L → k < N → N ≤ 65536 → (∀ j, j < k → FF j = F j) →
      (∀ b, b < n → b ≠ a0 → b ≠ A → M b = m b) → n2 = n + lG k L → ((lG k L = 0 → A = E) ∧ (lG k L = 1 → A = n)) → (∀ b, n2 ≤ b → M b = m b) → c1 ≤ mc → c2 ≤ ms →
      G 38 [some (.ref a0), some (.int (nI i)), some (.ref a2), some (.int (nI k)), some (.ref A)] [] (M, n2, c1, c2) := by
    intro M n2 A N c1 c2 FF o' md' x1 x2 x3 x4 x5 x6 x7 x8 x9 x10 x11 x12 x13 x14
    have hAa : A ≠ a0 := by
      intro z
      rw [z, x1] at x4
      cases x4
    have haA : a0 ≠ A := hAa.symm
    have hAn : A < n2 := by
      unfold lG at x10 x11
      split at x10
      · rw [if_pos ‹_›] at x11
        have hAE := x11.1 rfl
        rcases h3 with ⟨-, q, -⟩ | ⟨q, -⟩
        · omega
        · have := (hin E _ q).1
          omega
      · rw [if_neg ‹_›] at x11
        have := x11.2 rfl
        omega
    have hel0 : ∀ j, j < k → ∀ y, FF j = some y → hAnyO g M y := by
      intro j hj y hy
      rw [x8 j hj] at hy
      rcases hE j hj y hy with ⟨o2, ho2, h23⟩ | q
      · refine .inl ⟨o2, ?_, h23⟩
        have y1 : y ≠ a0 := fun q => by rw [q, e1] at ho2; cases ho2; omega
        have y2 : y ≠ A := by
          intro z
          unfold lG at x11
          split at x11
          · have hAE := x11.1 rfl
            rcases h3 with ⟨-, q, -⟩ | ⟨q, -⟩
            · omega
            · rw [z, hAE, q] at ho2; cases ho2
          · have hA := x11.2 rfl
            rw [z, hA, hmn] at ho2; cases ho2
        rw [x9 y (hin y _ ho2).1 y1 y2]
        exact ho2
      · exact .inr q
    have hany2 : ∀ z, hAnyO g (hU M A z) a2 := by
      intro z
      rcases hany with ⟨o2, ho2, h23⟩ | q
      · refine .inl ⟨o2, ?_, h23⟩
        have y1 : a2 ≠ a0 := fun q => by rw [q, e1] at ho2; cases ho2; omega
        have y2 : a2 ≠ A := by
          intro z
          unfold lG at x11
          split at x11
          · have hAE := x11.1 rfl
            rcases h3 with ⟨-, q, -⟩ | ⟨q, -⟩
            · omega
            · rw [z, hAE, q] at ho2; cases ho2
          · have hA := x11.2 rfl
            rw [z, hA, hmn] at ho2; cases ho2
        rw [hUa_n y2, x9 a2 (hin a2 _ ho2).1 y1 y2]
        exact ho2
      · exact .inr q
    have hcp : ∀ t, t < k - i → ∀ y, FF (i + t) = some y → hAnyO g M y := fun t ht y hy => hel0 (i + t) (by omega) y hy
    have hb1 : i + (k - i) ≤ N := by omega
    have hb2 : i + 1 + (k - i) ≤ N := by omega
    have hin1 : vp_in (nI i) N := by
      intro q
      rcases q with q | q
      · exact absurd q n1'
      · rw [hci] at q; omega
    have hMA : ∀ x, hU M A x A = some x := fun x => hUa_s
    have hMa : ∀ x y, hU (hU M A x) A y a0 = some (.inl (23, o')) := fun x y => by rw [hUa_n haA, hUa_n haA]; exact x1
    refine hG [52] 300 _ _ _ _ ?_
    simp only [wpN, ↓wq_aastore, ↓wq_aload, ↓wq_aload_0, ↓wq_aload_1, ↓wq_aload_2, ↓wq_aload_3, ↓wq_aload_0n, ↓wq_aload_1n, ↓wq_aload_2n, ↓wq_aload_3n, ↓wq_arraylength, ↓wq_astore, ↓wq_astoren, ↓wq_dupi, ↓wq_dupr, ↓wq_dupn, ↓wq_getfield, ↓wq_iadd, ↓wq_iconst, ↓wq_icmp_eq, ↓wq_icmp_ne, ↓wq_icmp_lt, ↓wq_icmp_ge, ↓wq_icmp_gt, ↓wq_icmp_le, ↓wq_iload_0, ↓wq_iload_1, ↓wq_iload_2, ↓wq_iload_3, ↓wq_invokestatic, ↓wq_invokevirtual, ↓wq_istore_0, ↓wq_istore_1, ↓wq_istore_2, ↓wq_istore_3, ↓wq_isub, ↓wq_putfield, ↓wq_ret, ↓se_get_0, ↓se_get_s, ↓se_set1_0, ↓se_set1_1, ↓se_set1_s, ↓se_set2_0, ↓se_set2_1, ↓se_set2_s, ↓se_k2_n, ↓se_k2_i, ↓se_k2_r, ↓se_k2_u, ↓se_k2_l, ↓se_k2_q, ↓se_in_0, ↓se_in_s, ↓gI_s, ↓gL_s, ↓gR_r, ↓gR_n, ↓gR_q, ↓sR_r, ↓sR_n, ↓sR_q, ↓se_sp_n, ↓se_sp_y, ↓se_sp_z, ↓se_ts_n, ↓se_ts_c, ↓se_c8_n, ↓se_c8_i, ↓se_c8_r, ↓se_c8_u, ↓se_c8_l, ↓wD_e dJ2_add_3_0, ↓wD_e dJ2_add_3_1, ↓wD_e dJ2_add_3_2, ↓wD_e dJ2_add_3_5, ↓wD_e dJ2_add_3_6, ↓wD_e dJ2_add_3_7, ↓wD_e dJ2_add_3_10, ↓wD_e dJ2_add_3_11, ↓wD_e dJ2_add_3_12, ↓wD_e dJ2_add_3_15, ↓wD_e dJ2_add_3_16, ↓wD_e dJ2_add_3_19, ↓wD_e dJ2_add_3_20, ↓wD_e dJ2_add_3_21, ↓wD_e dJ2_add_3_22, ↓wD_e dJ2_add_3_25, ↓wD_e dJ2_add_3_26, ↓wD_e dJ2_add_3_28, ↓wD_e dJ2_add_3_29, ↓wD_e dJ2_add_3_32, ↓wD_e dJ2_add_3_33, ↓wD_e dJ2_add_3_36, ↓wD_e dJ2_add_3_38, ↓wD_e dJ2_add_3_40, ↓wD_e dJ2_add_3_41, ↓wD_e dJ2_add_3_43, ↓wD_e dJ2_add_3_44, ↓wD_e dJ2_add_3_45, ↓wD_e dJ2_add_3_46, ↓wD_e dJ2_add_3_47, ↓wD_e dJ2_add_3_48, ↓wD_e dJ2_add_3_49, ↓wD_e dJ2_add_3_52, ↓wD_e dJ2_add_3_54, ↓wD_e dJ2_add_3_55, ↓wD_e dJ2_add_3_56, ↓wD_e dJ2_add_3_57, ↓wD_e dJ2_add_3_58, ↓wD_e dJ2_add_3_59, ↓wD_e dJ2_add_3_60, ↓wD_e dJ2_add_3_61, ↓wD_e dJ2_add_3_64, cc_iconst_1, ↓tg_29_9, ht_LILrV_e, ↓T_L_add_IL_0_63, ↓T_L_add_IL_1_63, ↓T_L_add_IL_0_48, ↓T_L_add_IL_0_9, ↓T_L_add_IL_21_0, ↓T_L_add_IL_20_0, ↓T_L_add_IL_1_48, ↓T_L_add_IL_3_135, ↓T_L_add_IL_3_129, ↓T_L_add_IL_5_112, hov_LIrV_r, hov_LrL_r, hCpy_r, hGet_r, hPut_r, hTxV, hTxC, hTxB, hTxL, hBxA, hBxV, hGst, hLdM, hGcl_r, hAald_r, hAlE_r, hAastO_r, hAastO_n, hNewA_r, hObj, List.mem_cons, List.not_mem_nil, yrf_s, yrf_n, hfl, hVk, updV_a, hUa_s, i32_10, i32_01, i32_m10, i32_03, i32_13, i32_23, Int32.reduceAdd, Int32.reduceSub, Int32.reduceMul, Int32.reduceLT, Int32.reduceLE, Int32.reduceToNatClampNeg, Int32.reduceOfInt, Int64.reduceAdd, Int64.reduceSub, Int64.reduceMul, Int64.reduceLT, Int64.reduceLE, lg_cmp_ge, lg_cmp_le, lg_cmp_gt, lg_cmp_lt, lg_cmp_eq, bI_0, bI_1, not_true_eq_false, not_false_eq_true, false_implies, Bool.not_eq_false, Bool.not_eq_true, and_self, Nat.reduceAdd, Int.reduceAdd, Nat.reduceEqDiff, reduceIte, true_and, and_true, implies_true, forall_const, Nat.zero_le, Nat.add_zero, Nat.zero_add, true_or, or_true, false_or, or_false, and_false, false_and, sCI_r, sCJ_r, Nat.reduceLeDiff, x4, hsi, hci, hci1, hck, hsub, n1', n2', n3', hb1, hb2, x13, x14]
    refine ⟨hcp, ?_⟩
    refine hG [] 300 _ _ _ _ ?_
    simp only [wpN, ↓wq_aastore, ↓wq_aload, ↓wq_aload_0, ↓wq_aload_1, ↓wq_aload_2, ↓wq_aload_3, ↓wq_aload_0n, ↓wq_aload_1n, ↓wq_aload_2n, ↓wq_aload_3n, ↓wq_arraylength, ↓wq_astore, ↓wq_astoren, ↓wq_dupi, ↓wq_dupr, ↓wq_dupn, ↓wq_getfield, ↓wq_iadd, ↓wq_iconst, ↓wq_icmp_eq, ↓wq_icmp_ne, ↓wq_icmp_lt, ↓wq_icmp_ge, ↓wq_icmp_gt, ↓wq_icmp_le, ↓wq_iload_0, ↓wq_iload_1, ↓wq_iload_2, ↓wq_iload_3, ↓wq_invokestatic, ↓wq_invokevirtual, ↓wq_istore_0, ↓wq_istore_1, ↓wq_istore_2, ↓wq_istore_3, ↓wq_isub, ↓wq_putfield, ↓wq_ret, ↓se_get_0, ↓se_get_s, ↓se_set1_0, ↓se_set1_1, ↓se_set1_s, ↓se_set2_0, ↓se_set2_1, ↓se_set2_s, ↓se_k2_n, ↓se_k2_i, ↓se_k2_r, ↓se_k2_u, ↓se_k2_l, ↓se_k2_q, ↓se_in_0, ↓se_in_s, ↓gI_s, ↓gL_s, ↓gR_r, ↓gR_n, ↓gR_q, ↓sR_r, ↓sR_n, ↓sR_q, ↓se_sp_n, ↓se_sp_y, ↓se_sp_z, ↓se_ts_n, ↓se_ts_c, ↓se_c8_n, ↓se_c8_i, ↓se_c8_r, ↓se_c8_u, ↓se_c8_l, ↓wD_e dJ2_add_3_0, ↓wD_e dJ2_add_3_1, ↓wD_e dJ2_add_3_2, ↓wD_e dJ2_add_3_5, ↓wD_e dJ2_add_3_6, ↓wD_e dJ2_add_3_7, ↓wD_e dJ2_add_3_10, ↓wD_e dJ2_add_3_11, ↓wD_e dJ2_add_3_12, ↓wD_e dJ2_add_3_15, ↓wD_e dJ2_add_3_16, ↓wD_e dJ2_add_3_19, ↓wD_e dJ2_add_3_20, ↓wD_e dJ2_add_3_21, ↓wD_e dJ2_add_3_22, ↓wD_e dJ2_add_3_25, ↓wD_e dJ2_add_3_26, ↓wD_e dJ2_add_3_28, ↓wD_e dJ2_add_3_29, ↓wD_e dJ2_add_3_32, ↓wD_e dJ2_add_3_33, ↓wD_e dJ2_add_3_36, ↓wD_e dJ2_add_3_38, ↓wD_e dJ2_add_3_40, ↓wD_e dJ2_add_3_41, ↓wD_e dJ2_add_3_43, ↓wD_e dJ2_add_3_44, ↓wD_e dJ2_add_3_45, ↓wD_e dJ2_add_3_46, ↓wD_e dJ2_add_3_47, ↓wD_e dJ2_add_3_48, ↓wD_e dJ2_add_3_49, ↓wD_e dJ2_add_3_52, ↓wD_e dJ2_add_3_54, ↓wD_e dJ2_add_3_55, ↓wD_e dJ2_add_3_56, ↓wD_e dJ2_add_3_57, ↓wD_e dJ2_add_3_58, ↓wD_e dJ2_add_3_59, ↓wD_e dJ2_add_3_60, ↓wD_e dJ2_add_3_61, ↓wD_e dJ2_add_3_64, cc_iconst_1, ↓tg_29_9, ht_LILrV_e, ↓T_L_add_IL_0_63, ↓T_L_add_IL_1_63, ↓T_L_add_IL_0_48, ↓T_L_add_IL_0_9, ↓T_L_add_IL_21_0, ↓T_L_add_IL_20_0, ↓T_L_add_IL_1_48, ↓T_L_add_IL_3_135, ↓T_L_add_IL_3_129, ↓T_L_add_IL_5_112, hov_LIrV_r, hov_LrL_r, hCpy_r, hGet_r, hPut_r, hTxV, hTxC, hTxB, hTxL, hBxA, hBxV, hGst, hLdM, hGcl_r, hAald_r, hAlE_r, hAastO_r, hAastO_n, hNewA_r, hObj, List.mem_cons, List.not_mem_nil, yrf_s, yrf_n, hfl, hVk, updV_a, hUa_s, i32_10, i32_01, i32_m10, i32_03, i32_13, i32_23, Int32.reduceAdd, Int32.reduceSub, Int32.reduceMul, Int32.reduceLT, Int32.reduceLE, Int32.reduceToNatClampNeg, Int32.reduceOfInt, Int64.reduceAdd, Int64.reduceSub, Int64.reduceMul, Int64.reduceLT, Int64.reduceLE, lg_cmp_ge, lg_cmp_le, lg_cmp_gt, lg_cmp_lt, lg_cmp_eq, bI_0, bI_1, not_true_eq_false, not_false_eq_true, false_implies, Bool.not_eq_false, Bool.not_eq_true, and_self, Nat.reduceAdd, Int.reduceAdd, Nat.reduceEqDiff, reduceIte, true_and, and_true, implies_true, forall_const, Nat.zero_le, Nat.add_zero, Nat.zero_add, true_or, or_true, false_or, or_false, and_false, false_and, sCI_r, sCJ_r, Nat.reduceLeDiff, hMA, hMa, hany2, hin1, hci, hs1, x13, x14]
    intro E' k' L' F' i' hq1 hq2 hq3
    obtain rfl := hii i' hq2 (by have := hq1.2.1; have := hq1.2.2.1; omega)
    obtain ⟨⟨o2, md2, f1, f2, f3, f4⟩, g1, g2, g3⟩ := hq1
    rw [e1] at f1
    cases f1
    rw [e3] at f3
    cases f3
    have hk2 : k = k' := by
      rw [e4] at f4
      exact hkk k' (Value.int.inj f4) (by omega)
    subst hk2
    have hLL : L = L' ∧ ∀ j, j < k → F' j = F j := by
      rcases g3 with ⟨i1, i2, i3⟩ | ⟨i1, i2⟩
      · rcases h3 with ⟨j1, j2, j3⟩ | ⟨j1, j2⟩
        · exact ⟨by omega, fun j hj => by omega⟩
        · rw [j1] at i3; cases i3
      · rcases h3 with ⟨j1, j2, j3⟩ | ⟨j1, j2⟩
        · rw [i1] at j3; cases j3
        · rw [j1] at i1
          cases i1
          exact ⟨rfl, fun _ _ => rfl⟩
    obtain ⟨rfl, hFF⟩ := hLL
    refine ⟨va_up (va_cpy FF FF i (i + 1) (k - i)) i (some a2), ⟨x10, A, ⟨updV o' 2 (.int (nI (k + 1))), md', hUa_s, ?_, ?_, ?_⟩, ?_, ?_, ?_, ?_⟩, ?_, ?_, ?_⟩
    · rw [updV_a, if_neg (by omega)]; exact x2
    · rw [updV_a, if_neg (by omega)]; exact x3
    · rw [updV_a, if_pos rfl]
    · rw [hUa_n hAa, hUa_s, x5]
    · intro b y1 y2 y3
      rw [hUa_n y2, hUa_n y3, hUa_n y3]
      exact x9 b y1 y2 y3
    · intro E3 ⟨o3, md3, i1, i2, i3, i4⟩
      rw [e1] at i1
      cases i1
      rw [e3] at i3
      cases i3
      exact x11
    · intro b hb
      have : b ≠ A := by omega
      have : b ≠ a0 := by
        unfold lG at x10
        split at x10 <;> omega
      rw [hUa_n ‹_›, hUa_n ‹b ≠ A›, hUa_n ‹b ≠ A›]
      exact x12 b hb
    · intro j hj
      show va_up (va_cpy FF FF i (i + 1) (k - i)) i (some a2) j = _
      unfold va_up va_cpy
      rw [if_neg (by omega), if_neg (by omega), x8 j (by omega), hFF j (by omega)]
    · show va_up (va_cpy FF FF i (i + 1) (k - i)) i (some a2) i = _
      unfold va_up
      rw [if_pos rfl]
    · intro j hj1 hj2
      show va_up (va_cpy FF FF i (i + 1) (k - i)) i (some a2) j = _
      unfold va_up va_cpy
      rw [if_neg (by omega), if_pos (by omega), show i + (j - (i + 1)) = j - 1 by omega, x8 (j - 1) (by omega), hFF (j - 1) (by omega)]
  have hrc : P_L_rangeCheckForAdd g a0 (nI i) m n := ⟨E, k, ⟨o, md, e1, e2, e3, e4⟩, n1', by
    have z : (0 : Int32) = nI 0 := L32_0
    rw [z, nI_leL (by omega) (by omega)]
    omega, by
    rw [nI_ltL (by omega) (by omega)]
    omega⟩
  refine hG [5] 300 _ _ _ _ ?_
  simp only [wpN, ↓wq_aastore, ↓wq_aload, ↓wq_aload_0, ↓wq_aload_1, ↓wq_aload_2, ↓wq_aload_3, ↓wq_aload_0n, ↓wq_aload_1n, ↓wq_aload_2n, ↓wq_aload_3n, ↓wq_arraylength, ↓wq_astore, ↓wq_astoren, ↓wq_dupi, ↓wq_dupr, ↓wq_dupn, ↓wq_getfield, ↓wq_iadd, ↓wq_iconst, ↓wq_icmp_eq, ↓wq_icmp_ne, ↓wq_icmp_lt, ↓wq_icmp_ge, ↓wq_icmp_gt, ↓wq_icmp_le, ↓wq_iload_0, ↓wq_iload_1, ↓wq_iload_2, ↓wq_iload_3, ↓wq_invokestatic, ↓wq_invokevirtual, ↓wq_istore_0, ↓wq_istore_1, ↓wq_istore_2, ↓wq_istore_3, ↓wq_isub, ↓wq_putfield, ↓wq_ret, ↓se_get_0, ↓se_get_s, ↓se_set1_0, ↓se_set1_1, ↓se_set1_s, ↓se_set2_0, ↓se_set2_1, ↓se_set2_s, ↓se_k2_n, ↓se_k2_i, ↓se_k2_r, ↓se_k2_u, ↓se_k2_l, ↓se_k2_q, ↓se_in_0, ↓se_in_s, ↓gI_s, ↓gL_s, ↓gR_r, ↓gR_n, ↓gR_q, ↓sR_r, ↓sR_n, ↓sR_q, ↓se_sp_n, ↓se_sp_y, ↓se_sp_z, ↓se_ts_n, ↓se_ts_c, ↓se_c8_n, ↓se_c8_i, ↓se_c8_r, ↓se_c8_u, ↓se_c8_l, ↓wD_e dJ2_add_3_0, ↓wD_e dJ2_add_3_1, ↓wD_e dJ2_add_3_2, ↓wD_e dJ2_add_3_5, ↓wD_e dJ2_add_3_6, ↓wD_e dJ2_add_3_7, ↓wD_e dJ2_add_3_10, ↓wD_e dJ2_add_3_11, ↓wD_e dJ2_add_3_12, ↓wD_e dJ2_add_3_15, ↓wD_e dJ2_add_3_16, ↓wD_e dJ2_add_3_19, ↓wD_e dJ2_add_3_20, ↓wD_e dJ2_add_3_21, ↓wD_e dJ2_add_3_22, ↓wD_e dJ2_add_3_25, ↓wD_e dJ2_add_3_26, ↓wD_e dJ2_add_3_28, ↓wD_e dJ2_add_3_29, ↓wD_e dJ2_add_3_32, ↓wD_e dJ2_add_3_33, ↓wD_e dJ2_add_3_36, ↓wD_e dJ2_add_3_38, ↓wD_e dJ2_add_3_40, ↓wD_e dJ2_add_3_41, ↓wD_e dJ2_add_3_43, ↓wD_e dJ2_add_3_44, ↓wD_e dJ2_add_3_45, ↓wD_e dJ2_add_3_46, ↓wD_e dJ2_add_3_47, ↓wD_e dJ2_add_3_48, ↓wD_e dJ2_add_3_49, ↓wD_e dJ2_add_3_52, ↓wD_e dJ2_add_3_54, ↓wD_e dJ2_add_3_55, ↓wD_e dJ2_add_3_56, ↓wD_e dJ2_add_3_57, ↓wD_e dJ2_add_3_58, ↓wD_e dJ2_add_3_59, ↓wD_e dJ2_add_3_60, ↓wD_e dJ2_add_3_61, ↓wD_e dJ2_add_3_64, cc_iconst_1, ↓tg_29_9, ht_LILrV_e, ↓T_L_add_IL_0_63, ↓T_L_add_IL_1_63, ↓T_L_add_IL_0_48, ↓T_L_add_IL_0_9, ↓T_L_add_IL_21_0, ↓T_L_add_IL_20_0, ↓T_L_add_IL_1_48, ↓T_L_add_IL_3_135, ↓T_L_add_IL_3_129, ↓T_L_add_IL_5_112, hov_LIrV_r, hov_LrL_r, hCpy_r, hGet_r, hPut_r, hTxV, hTxC, hTxB, hTxL, hBxA, hBxV, hGst, hLdM, hGcl_r, hAald_r, hAlE_r, hAastO_r, hAastO_n, hNewA_r, hObj, List.mem_cons, List.not_mem_nil, yrf_s, yrf_n, hfl, hVk, updV_a, hUa_s, i32_10, i32_01, i32_m10, i32_03, i32_13, i32_23, Int32.reduceAdd, Int32.reduceSub, Int32.reduceMul, Int32.reduceLT, Int32.reduceLE, Int32.reduceToNatClampNeg, Int32.reduceOfInt, Int64.reduceAdd, Int64.reduceSub, Int64.reduceMul, Int64.reduceLT, Int64.reduceLE, lg_cmp_ge, lg_cmp_le, lg_cmp_gt, lg_cmp_lt, lg_cmp_eq, bI_0, bI_1, not_true_eq_false, not_false_eq_true, false_implies, Bool.not_eq_false, Bool.not_eq_true, and_self, Nat.reduceAdd, Int.reduceAdd, Nat.reduceEqDiff, reduceIte, true_and, and_true, implies_true, forall_const, Nat.zero_le, Nat.add_zero, Nat.zero_add, true_or, or_true, false_or, or_false, and_false, false_and, sCI_r, sCJ_r, Nat.reduceLeDiff, e1, hRcv]
  refine ⟨hrc, ?_⟩
  intro m1 n1 hq hd1 hn1
  obtain ⟨rfl, rfl⟩ := hq
  have u3 : updV o 0 (.int (md + 1)) 1 = .ref E := by rw [updV_a, if_neg (by omega)]; exact e3
  have u4 : updV o 0 (.int (md + 1)) 2 = .int (nI k) := by rw [updV_a, if_neg (by omega)]; exact e4
  have e1' : hU m1 a0 (.inl (23, updV o 0 (.int (md + 1)))) a0 = some (.inl (23, updV o 0 (.int (md + 1)))) := hUa_s
  have hLn : hLst g (hU m1 a0 (.inl (23, updV o 0 (.int (md + 1))))) a0 E k L F := ⟨⟨_, md + 1, e1', by rw [updV_a, if_pos rfl], u3, u4⟩, h1, h2, by rw [hUa_n hEa]; exact h3⟩
  by_cases hkL : k < L
  · obtain ⟨h3', h30⟩ : m1 E = some (hA4 L F) ∧ 0 < L := by
      rcases h3 with ⟨-, q, -⟩ | q
      · omega
      · exact q
    have hoL : Int32.ofNat L = nI L := rfl
    have hnk : ¬ nI k = nI L := by
      rw [nI_eqL (by omega) (by omega)]
      omega
    have hM1 : ∀ x, hU m1 a0 x E = some (hA4 L F) := fun x => by rw [hUa_n hEa]; exact h3'
    refine hG [38] 300 _ _ _ _ ?_
    simp only [wpN, ↓wq_aastore, ↓wq_aload, ↓wq_aload_0, ↓wq_aload_1, ↓wq_aload_2, ↓wq_aload_3, ↓wq_aload_0n, ↓wq_aload_1n, ↓wq_aload_2n, ↓wq_aload_3n, ↓wq_arraylength, ↓wq_astore, ↓wq_astoren, ↓wq_dupi, ↓wq_dupr, ↓wq_dupn, ↓wq_getfield, ↓wq_iadd, ↓wq_iconst, ↓wq_icmp_eq, ↓wq_icmp_ne, ↓wq_icmp_lt, ↓wq_icmp_ge, ↓wq_icmp_gt, ↓wq_icmp_le, ↓wq_iload_0, ↓wq_iload_1, ↓wq_iload_2, ↓wq_iload_3, ↓wq_invokestatic, ↓wq_invokevirtual, ↓wq_istore_0, ↓wq_istore_1, ↓wq_istore_2, ↓wq_istore_3, ↓wq_isub, ↓wq_putfield, ↓wq_ret, ↓se_get_0, ↓se_get_s, ↓se_set1_0, ↓se_set1_1, ↓se_set1_s, ↓se_set2_0, ↓se_set2_1, ↓se_set2_s, ↓se_k2_n, ↓se_k2_i, ↓se_k2_r, ↓se_k2_u, ↓se_k2_l, ↓se_k2_q, ↓se_in_0, ↓se_in_s, ↓gI_s, ↓gL_s, ↓gR_r, ↓gR_n, ↓gR_q, ↓sR_r, ↓sR_n, ↓sR_q, ↓se_sp_n, ↓se_sp_y, ↓se_sp_z, ↓se_ts_n, ↓se_ts_c, ↓se_c8_n, ↓se_c8_i, ↓se_c8_r, ↓se_c8_u, ↓se_c8_l, ↓wD_e dJ2_add_3_0, ↓wD_e dJ2_add_3_1, ↓wD_e dJ2_add_3_2, ↓wD_e dJ2_add_3_5, ↓wD_e dJ2_add_3_6, ↓wD_e dJ2_add_3_7, ↓wD_e dJ2_add_3_10, ↓wD_e dJ2_add_3_11, ↓wD_e dJ2_add_3_12, ↓wD_e dJ2_add_3_15, ↓wD_e dJ2_add_3_16, ↓wD_e dJ2_add_3_19, ↓wD_e dJ2_add_3_20, ↓wD_e dJ2_add_3_21, ↓wD_e dJ2_add_3_22, ↓wD_e dJ2_add_3_25, ↓wD_e dJ2_add_3_26, ↓wD_e dJ2_add_3_28, ↓wD_e dJ2_add_3_29, ↓wD_e dJ2_add_3_32, ↓wD_e dJ2_add_3_33, ↓wD_e dJ2_add_3_36, ↓wD_e dJ2_add_3_38, ↓wD_e dJ2_add_3_40, ↓wD_e dJ2_add_3_41, ↓wD_e dJ2_add_3_43, ↓wD_e dJ2_add_3_44, ↓wD_e dJ2_add_3_45, ↓wD_e dJ2_add_3_46, ↓wD_e dJ2_add_3_47, ↓wD_e dJ2_add_3_48, ↓wD_e dJ2_add_3_49, ↓wD_e dJ2_add_3_52, ↓wD_e dJ2_add_3_54, ↓wD_e dJ2_add_3_55, ↓wD_e dJ2_add_3_56, ↓wD_e dJ2_add_3_57, ↓wD_e dJ2_add_3_58, ↓wD_e dJ2_add_3_59, ↓wD_e dJ2_add_3_60, ↓wD_e dJ2_add_3_61, ↓wD_e dJ2_add_3_64, cc_iconst_1, ↓tg_29_9, ht_LILrV_e, ↓T_L_add_IL_0_63, ↓T_L_add_IL_1_63, ↓T_L_add_IL_0_48, ↓T_L_add_IL_0_9, ↓T_L_add_IL_21_0, ↓T_L_add_IL_20_0, ↓T_L_add_IL_1_48, ↓T_L_add_IL_3_135, ↓T_L_add_IL_3_129, ↓T_L_add_IL_5_112, hov_LIrV_r, hov_LrL_r, hCpy_r, hGet_r, hPut_r, hTxV, hTxC, hTxB, hTxL, hBxA, hBxV, hGst, hLdM, hGcl_r, hAald_r, hAlE_r, hAastO_r, hAastO_n, hNewA_r, hObj, List.mem_cons, List.not_mem_nil, yrf_s, yrf_n, hfl, hVk, updV_a, hUa_s, i32_10, i32_01, i32_m10, i32_03, i32_13, i32_23, Int32.reduceAdd, Int32.reduceSub, Int32.reduceMul, Int32.reduceLT, Int32.reduceLE, Int32.reduceToNatClampNeg, Int32.reduceOfInt, Int64.reduceAdd, Int64.reduceSub, Int64.reduceMul, Int64.reduceLT, Int64.reduceLE, lg_cmp_ge, lg_cmp_le, lg_cmp_gt, lg_cmp_lt, lg_cmp_eq, bI_0, bI_1, not_true_eq_false, not_false_eq_true, false_implies, Bool.not_eq_false, Bool.not_eq_true, and_self, Nat.reduceAdd, Int.reduceAdd, Nat.reduceEqDiff, reduceIte, true_and, and_true, implies_true, forall_const, Nat.zero_le, Nat.add_zero, Nat.zero_add, true_or, or_true, false_or, or_false, and_false, false_and, sCI_r, sCJ_r, Nat.reduceLeDiff, e1, e2, u3, u4, e3, e4, hM1, hoL, hnk]
    have hG0 : lG k L = 0 := if_pos hkL
    have hN0 : lNc k L = L := if_pos hkL
    refine cont _ _ E L _ _ F _ (md + 1) e1' (by rw [updV_a, if_pos rfl]) u3 (by rw [hUa_n hEa]; exact h3') hN0.symm hkL h2 (fun _ _ => rfl) (fun b _ hb1 _ => hUa_n hb1) (by rw [hG0]; rfl) ⟨fun _ => rfl, fun q => by omega⟩ (fun b hb => hUa_n (by omega)) ?_ ?_
    · omega
    · omega
  · have hkL' : k = L := by omega
    subst hkL'
    have hb' : 1 ≤ mc ∧ lNc k k ≤ ms := by
      rcases hb with q | q
      · omega
      · exact q
    have hany0 : ∀ y, hAnyO g m1 y → hAnyO g (hU m1 a0 (.inl (23, updV o 0 (.int (md + 1))))) y := by
      intro y hy
      rcases hy with ⟨o2, ho2, h23⟩ | q
      · refine .inl ⟨o2, ?_, h23⟩
        rw [hUa_n (fun q => by rw [q, e1] at ho2; cases ho2; omega)]
        exact ho2
      · exact .inr q
    have hpre : P_L_grow_ mc ms g a0 (hU m1 a0 (.inl (23, updV o 0 (.int (md + 1))))) n1 := ⟨E, k, F, hLn, hk, fun j hj y hy => hany0 y (hE j hj y hy), hb'.1, hb'.2⟩
    have hG1 : lG k k = 1 := if_neg (Nat.lt_irrefl _)
    have hN10 : lNc k k ≤ 65536 := by
      unfold lNc
      split
      · omega
      · split <;> omega
    have hkN : k < lNc k k := by
      unfold lNc
      split
      · omega
      · split <;> omega
    have fin : ∀ x M n2 c1 c2, Q_L_grow_ mc ms g a0 (hU m1 a0 (.inl (23, updV o 0 (.int (md + 1))))) n1 x M n2 → c1 ≤ mc → c2 ≤ ms → x = some n1 ∧ G 38 [some (.ref a0), some (.int (nI i)), some (.ref a2), some (.int (nI k)), some (.ref n1)] [] (M, n2, c1, c2) := by
      intro x M n2 c1 c2 hq hc1 hc2
      obtain ⟨rfl, rfl, hq⟩ := hq
      refine ⟨rfl, ?_⟩
      have hq := hq E k F _ hLn e1'
      subst hq
      refine cont _ _ n1 (lNc k k) _ _ (hCut F k) (updV (updV o 0 (.int (md + 1))) 1 (.ref n1)) (md + 1) hUa_s (by rw [updV_a, if_neg (by omega), updV_a, if_pos rfl]) (by rw [updV_a, if_pos rfl]) (by rw [hUa_n (by omega), hUa_s]) rfl hkN hN10 (fun j hj => by unfold hCut; rw [if_pos hj]) (fun b hb0 hb1 hb2 => by rw [hUa_n hb1, hUa_n hb2, hUa_n hb1]) (by rw [hG1]) ⟨fun q => by omega, fun _ => rfl⟩ (fun b hb => by rw [hUa_n (by omega), hUa_n (by omega), hUa_n (by omega)]) hc1 hc2
    have hkeq : nI k = nI k := rfl
    rcases h3 with ⟨q1, q2, q3⟩ | ⟨q1, q2⟩
    · have hk0 : nI k = 0 := by rw [q2]; rfl
      have hM1 : ∀ x, hU m1 a0 x (gSa g 0) = none := fun x => by rw [hUa_n (by rw [← q1]; exact hEa), ← q1]; exact q3
      have u3' : updV o 0 (.int (md + 1)) 1 = .ref (gSa g 0) := by rw [u3, q1]
      have u4' : updV o 0 (.int (md + 1)) 2 = .int 0 := by rw [u4, hk0]
      have e4' : o 2 = .int 0 := by rw [e4, hk0]
      have e3' : o 1 = .ref (gSa g 0) := by rw [e3, q1]
      rw [hk0] at fin
      refine hG [38, 36] 300 _ _ _ _ ?_
      simp only [wpN, ↓wq_aastore, ↓wq_aload, ↓wq_aload_0, ↓wq_aload_1, ↓wq_aload_2, ↓wq_aload_3, ↓wq_aload_0n, ↓wq_aload_1n, ↓wq_aload_2n, ↓wq_aload_3n, ↓wq_arraylength, ↓wq_astore, ↓wq_astoren, ↓wq_dupi, ↓wq_dupr, ↓wq_dupn, ↓wq_getfield, ↓wq_iadd, ↓wq_iconst, ↓wq_icmp_eq, ↓wq_icmp_ne, ↓wq_icmp_lt, ↓wq_icmp_ge, ↓wq_icmp_gt, ↓wq_icmp_le, ↓wq_iload_0, ↓wq_iload_1, ↓wq_iload_2, ↓wq_iload_3, ↓wq_invokestatic, ↓wq_invokevirtual, ↓wq_istore_0, ↓wq_istore_1, ↓wq_istore_2, ↓wq_istore_3, ↓wq_isub, ↓wq_putfield, ↓wq_ret, ↓se_get_0, ↓se_get_s, ↓se_set1_0, ↓se_set1_1, ↓se_set1_s, ↓se_set2_0, ↓se_set2_1, ↓se_set2_s, ↓se_k2_n, ↓se_k2_i, ↓se_k2_r, ↓se_k2_u, ↓se_k2_l, ↓se_k2_q, ↓se_in_0, ↓se_in_s, ↓gI_s, ↓gL_s, ↓gR_r, ↓gR_n, ↓gR_q, ↓sR_r, ↓sR_n, ↓sR_q, ↓se_sp_n, ↓se_sp_y, ↓se_sp_z, ↓se_ts_n, ↓se_ts_c, ↓se_c8_n, ↓se_c8_i, ↓se_c8_r, ↓se_c8_u, ↓se_c8_l, ↓wD_e dJ2_add_3_0, ↓wD_e dJ2_add_3_1, ↓wD_e dJ2_add_3_2, ↓wD_e dJ2_add_3_5, ↓wD_e dJ2_add_3_6, ↓wD_e dJ2_add_3_7, ↓wD_e dJ2_add_3_10, ↓wD_e dJ2_add_3_11, ↓wD_e dJ2_add_3_12, ↓wD_e dJ2_add_3_15, ↓wD_e dJ2_add_3_16, ↓wD_e dJ2_add_3_19, ↓wD_e dJ2_add_3_20, ↓wD_e dJ2_add_3_21, ↓wD_e dJ2_add_3_22, ↓wD_e dJ2_add_3_25, ↓wD_e dJ2_add_3_26, ↓wD_e dJ2_add_3_28, ↓wD_e dJ2_add_3_29, ↓wD_e dJ2_add_3_32, ↓wD_e dJ2_add_3_33, ↓wD_e dJ2_add_3_36, ↓wD_e dJ2_add_3_38, ↓wD_e dJ2_add_3_40, ↓wD_e dJ2_add_3_41, ↓wD_e dJ2_add_3_43, ↓wD_e dJ2_add_3_44, ↓wD_e dJ2_add_3_45, ↓wD_e dJ2_add_3_46, ↓wD_e dJ2_add_3_47, ↓wD_e dJ2_add_3_48, ↓wD_e dJ2_add_3_49, ↓wD_e dJ2_add_3_52, ↓wD_e dJ2_add_3_54, ↓wD_e dJ2_add_3_55, ↓wD_e dJ2_add_3_56, ↓wD_e dJ2_add_3_57, ↓wD_e dJ2_add_3_58, ↓wD_e dJ2_add_3_59, ↓wD_e dJ2_add_3_60, ↓wD_e dJ2_add_3_61, ↓wD_e dJ2_add_3_64, cc_iconst_1, ↓tg_29_9, ht_LILrV_e, ↓T_L_add_IL_0_63, ↓T_L_add_IL_1_63, ↓T_L_add_IL_0_48, ↓T_L_add_IL_0_9, ↓T_L_add_IL_21_0, ↓T_L_add_IL_20_0, ↓T_L_add_IL_1_48, ↓T_L_add_IL_3_135, ↓T_L_add_IL_3_129, ↓T_L_add_IL_5_112, hov_LIrV_r, hov_LrL_r, hCpy_r, hGet_r, hPut_r, hTxV, hTxC, hTxB, hTxL, hBxA, hBxV, hGst, hLdM, hGcl_r, hAald_r, hAlE_r, hAastO_r, hAastO_n, hNewA_r, hObj, List.mem_cons, List.not_mem_nil, yrf_s, yrf_n, hfl, hVk, updV_a, hUa_s, i32_10, i32_01, i32_m10, i32_03, i32_13, i32_23, Int32.reduceAdd, Int32.reduceSub, Int32.reduceMul, Int32.reduceLT, Int32.reduceLE, Int32.reduceToNatClampNeg, Int32.reduceOfInt, Int64.reduceAdd, Int64.reduceSub, Int64.reduceMul, Int64.reduceLT, Int64.reduceLE, lg_cmp_ge, lg_cmp_le, lg_cmp_gt, lg_cmp_lt, lg_cmp_eq, bI_0, bI_1, not_true_eq_false, not_false_eq_true, false_implies, Bool.not_eq_false, Bool.not_eq_true, and_self, Nat.reduceAdd, Int.reduceAdd, Nat.reduceEqDiff, reduceIte, true_and, and_true, implies_true, forall_const, Nat.zero_le, Nat.add_zero, Nat.zero_add, true_or, or_true, false_or, or_false, and_false, false_and, sCI_r, sCJ_r, Nat.reduceLeDiff, e1, e2, u3', u4', e4', e3', hM1, hRcv]
      refine ⟨hpre, by omega, by omega, ?_⟩
      intro x M n2 hq hd2 hn2
      obtain ⟨rfl, hG38⟩ := fin x M n2 mc ms hq (by omega) (by omega)
      refine hG [38] 300 _ _ _ _ ?_
      simp only [wpN, ↓wq_aastore, ↓wq_aload, ↓wq_aload_0, ↓wq_aload_1, ↓wq_aload_2, ↓wq_aload_3, ↓wq_aload_0n, ↓wq_aload_1n, ↓wq_aload_2n, ↓wq_aload_3n, ↓wq_arraylength, ↓wq_astore, ↓wq_astoren, ↓wq_dupi, ↓wq_dupr, ↓wq_dupn, ↓wq_getfield, ↓wq_iadd, ↓wq_iconst, ↓wq_icmp_eq, ↓wq_icmp_ne, ↓wq_icmp_lt, ↓wq_icmp_ge, ↓wq_icmp_gt, ↓wq_icmp_le, ↓wq_iload_0, ↓wq_iload_1, ↓wq_iload_2, ↓wq_iload_3, ↓wq_invokestatic, ↓wq_invokevirtual, ↓wq_istore_0, ↓wq_istore_1, ↓wq_istore_2, ↓wq_istore_3, ↓wq_isub, ↓wq_putfield, ↓wq_ret, ↓se_get_0, ↓se_get_s, ↓se_set1_0, ↓se_set1_1, ↓se_set1_s, ↓se_set2_0, ↓se_set2_1, ↓se_set2_s, ↓se_k2_n, ↓se_k2_i, ↓se_k2_r, ↓se_k2_u, ↓se_k2_l, ↓se_k2_q, ↓se_in_0, ↓se_in_s, ↓gI_s, ↓gL_s, ↓gR_r, ↓gR_n, ↓gR_q, ↓sR_r, ↓sR_n, ↓sR_q, ↓se_sp_n, ↓se_sp_y, ↓se_sp_z, ↓se_ts_n, ↓se_ts_c, ↓se_c8_n, ↓se_c8_i, ↓se_c8_r, ↓se_c8_u, ↓se_c8_l, ↓wD_e dJ2_add_3_0, ↓wD_e dJ2_add_3_1, ↓wD_e dJ2_add_3_2, ↓wD_e dJ2_add_3_5, ↓wD_e dJ2_add_3_6, ↓wD_e dJ2_add_3_7, ↓wD_e dJ2_add_3_10, ↓wD_e dJ2_add_3_11, ↓wD_e dJ2_add_3_12, ↓wD_e dJ2_add_3_15, ↓wD_e dJ2_add_3_16, ↓wD_e dJ2_add_3_19, ↓wD_e dJ2_add_3_20, ↓wD_e dJ2_add_3_21, ↓wD_e dJ2_add_3_22, ↓wD_e dJ2_add_3_25, ↓wD_e dJ2_add_3_26, ↓wD_e dJ2_add_3_28, ↓wD_e dJ2_add_3_29, ↓wD_e dJ2_add_3_32, ↓wD_e dJ2_add_3_33, ↓wD_e dJ2_add_3_36, ↓wD_e dJ2_add_3_38, ↓wD_e dJ2_add_3_40, ↓wD_e dJ2_add_3_41, ↓wD_e dJ2_add_3_43, ↓wD_e dJ2_add_3_44, ↓wD_e dJ2_add_3_45, ↓wD_e dJ2_add_3_46, ↓wD_e dJ2_add_3_47, ↓wD_e dJ2_add_3_48, ↓wD_e dJ2_add_3_49, ↓wD_e dJ2_add_3_52, ↓wD_e dJ2_add_3_54, ↓wD_e dJ2_add_3_55, ↓wD_e dJ2_add_3_56, ↓wD_e dJ2_add_3_57, ↓wD_e dJ2_add_3_58, ↓wD_e dJ2_add_3_59, ↓wD_e dJ2_add_3_60, ↓wD_e dJ2_add_3_61, ↓wD_e dJ2_add_3_64, cc_iconst_1, ↓tg_29_9, ht_LILrV_e, ↓T_L_add_IL_0_63, ↓T_L_add_IL_1_63, ↓T_L_add_IL_0_48, ↓T_L_add_IL_0_9, ↓T_L_add_IL_21_0, ↓T_L_add_IL_20_0, ↓T_L_add_IL_1_48, ↓T_L_add_IL_3_135, ↓T_L_add_IL_3_129, ↓T_L_add_IL_5_112, hov_LIrV_r, hov_LrL_r, hCpy_r, hGet_r, hPut_r, hTxV, hTxC, hTxB, hTxL, hBxA, hBxV, hGst, hLdM, hGcl_r, hAald_r, hAlE_r, hAastO_r, hAastO_n, hNewA_r, hObj, List.mem_cons, List.not_mem_nil, yrf_s, yrf_n, hfl, hVk, updV_a, hUa_s, i32_10, i32_01, i32_m10, i32_03, i32_13, i32_23, Int32.reduceAdd, Int32.reduceSub, Int32.reduceMul, Int32.reduceLT, Int32.reduceLE, Int32.reduceToNatClampNeg, Int32.reduceOfInt, Int64.reduceAdd, Int64.reduceSub, Int64.reduceMul, Int64.reduceLT, Int64.reduceLE, lg_cmp_ge, lg_cmp_le, lg_cmp_gt, lg_cmp_lt, lg_cmp_eq, bI_0, bI_1, not_true_eq_false, not_false_eq_true, false_implies, Bool.not_eq_false, Bool.not_eq_true, and_self, Nat.reduceAdd, Int.reduceAdd, Nat.reduceEqDiff, reduceIte, true_and, and_true, implies_true, forall_const, Nat.zero_le, Nat.add_zero, Nat.zero_add, true_or, or_true, false_or, or_false, and_false, false_and, sCI_r, sCJ_r, Nat.reduceLeDiff]
      exact hG38
    · have hoL : Int32.ofNat k = nI k := rfl
      have hM1 : ∀ x, hU m1 a0 x E = some (hA4 k F) := fun x => by rw [hUa_n hEa]; exact q1
      refine hG [38, 36] 300 _ _ _ _ ?_
      simp only [wpN, ↓wq_aastore, ↓wq_aload, ↓wq_aload_0, ↓wq_aload_1, ↓wq_aload_2, ↓wq_aload_3, ↓wq_aload_0n, ↓wq_aload_1n, ↓wq_aload_2n, ↓wq_aload_3n, ↓wq_arraylength, ↓wq_astore, ↓wq_astoren, ↓wq_dupi, ↓wq_dupr, ↓wq_dupn, ↓wq_getfield, ↓wq_iadd, ↓wq_iconst, ↓wq_icmp_eq, ↓wq_icmp_ne, ↓wq_icmp_lt, ↓wq_icmp_ge, ↓wq_icmp_gt, ↓wq_icmp_le, ↓wq_iload_0, ↓wq_iload_1, ↓wq_iload_2, ↓wq_iload_3, ↓wq_invokestatic, ↓wq_invokevirtual, ↓wq_istore_0, ↓wq_istore_1, ↓wq_istore_2, ↓wq_istore_3, ↓wq_isub, ↓wq_putfield, ↓wq_ret, ↓se_get_0, ↓se_get_s, ↓se_set1_0, ↓se_set1_1, ↓se_set1_s, ↓se_set2_0, ↓se_set2_1, ↓se_set2_s, ↓se_k2_n, ↓se_k2_i, ↓se_k2_r, ↓se_k2_u, ↓se_k2_l, ↓se_k2_q, ↓se_in_0, ↓se_in_s, ↓gI_s, ↓gL_s, ↓gR_r, ↓gR_n, ↓gR_q, ↓sR_r, ↓sR_n, ↓sR_q, ↓se_sp_n, ↓se_sp_y, ↓se_sp_z, ↓se_ts_n, ↓se_ts_c, ↓se_c8_n, ↓se_c8_i, ↓se_c8_r, ↓se_c8_u, ↓se_c8_l, ↓wD_e dJ2_add_3_0, ↓wD_e dJ2_add_3_1, ↓wD_e dJ2_add_3_2, ↓wD_e dJ2_add_3_5, ↓wD_e dJ2_add_3_6, ↓wD_e dJ2_add_3_7, ↓wD_e dJ2_add_3_10, ↓wD_e dJ2_add_3_11, ↓wD_e dJ2_add_3_12, ↓wD_e dJ2_add_3_15, ↓wD_e dJ2_add_3_16, ↓wD_e dJ2_add_3_19, ↓wD_e dJ2_add_3_20, ↓wD_e dJ2_add_3_21, ↓wD_e dJ2_add_3_22, ↓wD_e dJ2_add_3_25, ↓wD_e dJ2_add_3_26, ↓wD_e dJ2_add_3_28, ↓wD_e dJ2_add_3_29, ↓wD_e dJ2_add_3_32, ↓wD_e dJ2_add_3_33, ↓wD_e dJ2_add_3_36, ↓wD_e dJ2_add_3_38, ↓wD_e dJ2_add_3_40, ↓wD_e dJ2_add_3_41, ↓wD_e dJ2_add_3_43, ↓wD_e dJ2_add_3_44, ↓wD_e dJ2_add_3_45, ↓wD_e dJ2_add_3_46, ↓wD_e dJ2_add_3_47, ↓wD_e dJ2_add_3_48, ↓wD_e dJ2_add_3_49, ↓wD_e dJ2_add_3_52, ↓wD_e dJ2_add_3_54, ↓wD_e dJ2_add_3_55, ↓wD_e dJ2_add_3_56, ↓wD_e dJ2_add_3_57, ↓wD_e dJ2_add_3_58, ↓wD_e dJ2_add_3_59, ↓wD_e dJ2_add_3_60, ↓wD_e dJ2_add_3_61, ↓wD_e dJ2_add_3_64, cc_iconst_1, ↓tg_29_9, ht_LILrV_e, ↓T_L_add_IL_0_63, ↓T_L_add_IL_1_63, ↓T_L_add_IL_0_48, ↓T_L_add_IL_0_9, ↓T_L_add_IL_21_0, ↓T_L_add_IL_20_0, ↓T_L_add_IL_1_48, ↓T_L_add_IL_3_135, ↓T_L_add_IL_3_129, ↓T_L_add_IL_5_112, hov_LIrV_r, hov_LrL_r, hCpy_r, hGet_r, hPut_r, hTxV, hTxC, hTxB, hTxL, hBxA, hBxV, hGst, hLdM, hGcl_r, hAald_r, hAlE_r, hAastO_r, hAastO_n, hNewA_r, hObj, List.mem_cons, List.not_mem_nil, yrf_s, yrf_n, hfl, hVk, updV_a, hUa_s, i32_10, i32_01, i32_m10, i32_03, i32_13, i32_23, Int32.reduceAdd, Int32.reduceSub, Int32.reduceMul, Int32.reduceLT, Int32.reduceLE, Int32.reduceToNatClampNeg, Int32.reduceOfInt, Int64.reduceAdd, Int64.reduceSub, Int64.reduceMul, Int64.reduceLT, Int64.reduceLE, lg_cmp_ge, lg_cmp_le, lg_cmp_gt, lg_cmp_lt, lg_cmp_eq, bI_0, bI_1, not_true_eq_false, not_false_eq_true, false_implies, Bool.not_eq_false, Bool.not_eq_true, and_self, Nat.reduceAdd, Int.reduceAdd, Nat.reduceEqDiff, reduceIte, true_and, and_true, implies_true, forall_const, Nat.zero_le, Nat.add_zero, Nat.zero_add, true_or, or_true, false_or, or_false, and_false, false_and, sCI_r, sCJ_r, Nat.reduceLeDiff, e1, e2, u3, u4, e3, e4, hM1, hoL, hRcv]
      refine ⟨hpre, by omega, by omega, ?_⟩
      intro x M n2 hq hd2 hn2
      obtain ⟨rfl, hG38⟩ := fin x M n2 mc ms hq (by omega) (by omega)
      refine hG [38] 300 _ _ _ _ ?_
      simp only [wpN, ↓wq_aastore, ↓wq_aload, ↓wq_aload_0, ↓wq_aload_1, ↓wq_aload_2, ↓wq_aload_3, ↓wq_aload_0n, ↓wq_aload_1n, ↓wq_aload_2n, ↓wq_aload_3n, ↓wq_arraylength, ↓wq_astore, ↓wq_astoren, ↓wq_dupi, ↓wq_dupr, ↓wq_dupn, ↓wq_getfield, ↓wq_iadd, ↓wq_iconst, ↓wq_icmp_eq, ↓wq_icmp_ne, ↓wq_icmp_lt, ↓wq_icmp_ge, ↓wq_icmp_gt, ↓wq_icmp_le, ↓wq_iload_0, ↓wq_iload_1, ↓wq_iload_2, ↓wq_iload_3, ↓wq_invokestatic, ↓wq_invokevirtual, ↓wq_istore_0, ↓wq_istore_1, ↓wq_istore_2, ↓wq_istore_3, ↓wq_isub, ↓wq_putfield, ↓wq_ret, ↓se_get_0, ↓se_get_s, ↓se_set1_0, ↓se_set1_1, ↓se_set1_s, ↓se_set2_0, ↓se_set2_1, ↓se_set2_s, ↓se_k2_n, ↓se_k2_i, ↓se_k2_r, ↓se_k2_u, ↓se_k2_l, ↓se_k2_q, ↓se_in_0, ↓se_in_s, ↓gI_s, ↓gL_s, ↓gR_r, ↓gR_n, ↓gR_q, ↓sR_r, ↓sR_n, ↓sR_q, ↓se_sp_n, ↓se_sp_y, ↓se_sp_z, ↓se_ts_n, ↓se_ts_c, ↓se_c8_n, ↓se_c8_i, ↓se_c8_r, ↓se_c8_u, ↓se_c8_l, ↓wD_e dJ2_add_3_0, ↓wD_e dJ2_add_3_1, ↓wD_e dJ2_add_3_2, ↓wD_e dJ2_add_3_5, ↓wD_e dJ2_add_3_6, ↓wD_e dJ2_add_3_7, ↓wD_e dJ2_add_3_10, ↓wD_e dJ2_add_3_11, ↓wD_e dJ2_add_3_12, ↓wD_e dJ2_add_3_15, ↓wD_e dJ2_add_3_16, ↓wD_e dJ2_add_3_19, ↓wD_e dJ2_add_3_20, ↓wD_e dJ2_add_3_21, ↓wD_e dJ2_add_3_22, ↓wD_e dJ2_add_3_25, ↓wD_e dJ2_add_3_26, ↓wD_e dJ2_add_3_28, ↓wD_e dJ2_add_3_29, ↓wD_e dJ2_add_3_32, ↓wD_e dJ2_add_3_33, ↓wD_e dJ2_add_3_36, ↓wD_e dJ2_add_3_38, ↓wD_e dJ2_add_3_40, ↓wD_e dJ2_add_3_41, ↓wD_e dJ2_add_3_43, ↓wD_e dJ2_add_3_44, ↓wD_e dJ2_add_3_45, ↓wD_e dJ2_add_3_46, ↓wD_e dJ2_add_3_47, ↓wD_e dJ2_add_3_48, ↓wD_e dJ2_add_3_49, ↓wD_e dJ2_add_3_52, ↓wD_e dJ2_add_3_54, ↓wD_e dJ2_add_3_55, ↓wD_e dJ2_add_3_56, ↓wD_e dJ2_add_3_57, ↓wD_e dJ2_add_3_58, ↓wD_e dJ2_add_3_59, ↓wD_e dJ2_add_3_60, ↓wD_e dJ2_add_3_61, ↓wD_e dJ2_add_3_64, cc_iconst_1, ↓tg_29_9, ht_LILrV_e, ↓T_L_add_IL_0_63, ↓T_L_add_IL_1_63, ↓T_L_add_IL_0_48, ↓T_L_add_IL_0_9, ↓T_L_add_IL_21_0, ↓T_L_add_IL_20_0, ↓T_L_add_IL_1_48, ↓T_L_add_IL_3_135, ↓T_L_add_IL_3_129, ↓T_L_add_IL_5_112, hov_LIrV_r, hov_LrL_r, hCpy_r, hGet_r, hPut_r, hTxV, hTxC, hTxB, hTxL, hBxA, hBxV, hGst, hLdM, hGcl_r, hAald_r, hAlE_r, hAastO_r, hAastO_n, hNewA_r, hObj, List.mem_cons, List.not_mem_nil, yrf_s, yrf_n, hfl, hVk, updV_a, hUa_s, i32_10, i32_01, i32_m10, i32_03, i32_13, i32_23, Int32.reduceAdd, Int32.reduceSub, Int32.reduceMul, Int32.reduceLT, Int32.reduceLE, Int32.reduceToNatClampNeg, Int32.reduceOfInt, Int64.reduceAdd, Int64.reduceSub, Int64.reduceMul, Int64.reduceLT, Int64.reduceLE, lg_cmp_ge, lg_cmp_le, lg_cmp_gt, lg_cmp_lt, lg_cmp_eq, bI_0, bI_1, not_true_eq_false, not_false_eq_true, false_implies, Bool.not_eq_false, Bool.not_eq_true, and_self, Nat.reduceAdd, Int.reduceAdd, Nat.reduceEqDiff, reduceIte, true_and, and_true, implies_true, forall_const, Nat.zero_le, Nat.add_zero, Nat.zero_add, true_or, or_true, false_or, or_false, and_false, false_and, sCI_r, sCJ_r, Nat.reduceLeDiff]
      exact hG38
