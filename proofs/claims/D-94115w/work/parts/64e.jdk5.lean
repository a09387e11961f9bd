
theorem tg_19_15 {K : Nat → Prop} : se_tg 19 (15) K = K 34 := rfl
def P_L_fastRemove  : hG → Nat → Nat → Int32 → hH → Nat → Prop := fun g a0 a1 a2 m n => ∃ k L F, hLi m a0 a1 (k + 1) ∧ m a1 = some (hA4 L F) ∧ a2 = nI k ∧ k < L ∧ L ≤ 65536
def Q_L_fastRemove  : hG → Nat → Nat → Int32 → hH → Nat → hH → Nat → Prop := fun g a0 a1 a2 m n m' n' => n' = n ∧ ∀ k L F, hLi m a0 a1 (k + 1) → m a1 = some (hA4 L F) → a2 = nI k → k < 65536 → (∃ md, hLi m' a0 a1 k ∧ md = (0 : Int32)) ∧ m' a1 = some (hA4 L (va_up F k none)) ∧ ∀ b, b ≠ a0 → b ≠ a1 → m' b = m b
def T_L_fastRemove (mc ms : Nat) (g : hG) : Nat → Nat → se_Op hW := se_tab [(0, 63, hGet [(23, 0)]), (1, 63, hPut [(23, 0)] 0), (0, 48, hGet [(23, 2)]), (1, 48, hPut [(23, 2)] 0), (20, 0, hAastO g), (5, 112, hCpy g)]
set_option maxRecDepth 20000 in
theorem T_L_fastRemove_ok (l : Launch) (hl : l.stackTraces = false) (mc ms : Nat) : hTS l yJ2_fastRemove.cls yJ2_fastRemove.name cJ2_fastRemove 4 none 1 60 mc ms (T_L_fastRemove mc ms) := fun g p e s m args below meth c Q H0 C hnm hG hS k i => se_tab_ok _ (List.forall_mem_cons.mpr ⟨hGet_ok (F := [(23, 0)]) (List.forall_mem_cons.mpr ⟨⟨(RJ2, TJ2, 3), "java/util/ArrayList", rfl, by decide, .inl q174, .inr q175⟩, fun _ h => absurd h List.not_mem_nil⟩) C hG, List.forall_mem_cons.mpr ⟨hPut_ok (F := [(23, 0)]) (t := 0) (List.forall_mem_cons.mpr ⟨⟨(RJ2, TJ2, 3), "java/util/ArrayList", rfl, by decide, .inl q174, .inr q175⟩, fun _ h => absurd h List.not_mem_nil⟩) (List.forall_mem_cons.mpr ⟨fun r ty h1 h2 => by cases h1; cases h2; exact ⟨rfl, rfl⟩, fun _ h => absurd h List.not_mem_nil⟩) C hG, List.forall_mem_cons.mpr ⟨hGet_ok (F := [(23, 2)]) (List.forall_mem_cons.mpr ⟨⟨(RJ2, TJ2, 3), "java/util/ArrayList", rfl, by decide, .inl q172, .inl rfl⟩, fun _ h => absurd h List.not_mem_nil⟩) C hG, List.forall_mem_cons.mpr ⟨hPut_ok (F := [(23, 2)]) (t := 0) (List.forall_mem_cons.mpr ⟨⟨(RJ2, TJ2, 3), "java/util/ArrayList", rfl, by decide, .inl q172, .inl rfl⟩, fun _ h => absurd h List.not_mem_nil⟩) (List.forall_mem_cons.mpr ⟨fun r ty h1 h2 => by cases h1; cases h2; exact ⟨rfl, rfl⟩, fun _ h => absurd h List.not_mem_nil⟩) C hG, List.forall_mem_cons.mpr ⟨hAastO_ok C hG hS, List.forall_mem_cons.mpr ⟨hCpy_ok q1101 (by decide) (by decide) C hG hS, fun _ h => absurd h List.not_mem_nil⟩⟩⟩⟩⟩⟩) k i
set_option maxRecDepth 20000 in
theorem T_L_fastRemove_0_63 {mc ms : Nat} {g : hG} : T_L_fastRemove mc ms g 0 63 = hGet [(23, 0)] := rfl
set_option maxRecDepth 20000 in
theorem T_L_fastRemove_1_63 {mc ms : Nat} {g : hG} : T_L_fastRemove mc ms g 1 63 = hPut [(23, 0)] 0 := rfl
set_option maxRecDepth 20000 in
theorem T_L_fastRemove_0_48 {mc ms : Nat} {g : hG} : T_L_fastRemove mc ms g 0 48 = hGet [(23, 2)] := rfl
set_option maxRecDepth 20000 in
theorem T_L_fastRemove_1_48 {mc ms : Nat} {g : hG} : T_L_fastRemove mc ms g 1 48 = hPut [(23, 2)] 0 := rfl
set_option maxRecDepth 20000 in
theorem T_L_fastRemove_20_0 {mc ms : Nat} {g : hG} : T_L_fastRemove mc ms g 20 0 = hAastO g := rfl
set_option maxRecDepth 20000 in
theorem T_L_fastRemove_5_112 {mc ms : Nat} {g : hG} : T_L_fastRemove mc ms g 5 112 = hCpy g := rfl
set_option maxHeartbeats 1000000 in
set_option maxRecDepth 20000 in
theorem yt_L_fastRemove (l : Launch) (hl : l.stackTraces = false) : hm_LLIrV l yJ2_fastRemove (ws_ yJ2_fastRemove cJ2_fastRemove 4 none) 1 60 0 0 P_L_fastRemove Q_L_fastRemove := by
  refine hm_LLIrV_of (by decide +kernel) rfl (T_L_fastRemove_ok l hl 0 0) (by decide) fun g a0 a1 a2 m n hin hv hp G hG => ?_
  show G 0 [some (.ref a0), some (.ref a1), some (.int a2), none] [] (m, n, 0, 0)
  obtain ⟨k, L, F, ⟨o, md, e1, e2, e3, e4⟩, e5, rfl, hk, hL⟩ := hp
  have hne : a1 ≠ a0 := hLi_ne ⟨o, md, e1, e2, e3, e4⟩ e5
  have hne' : a0 ≠ a1 := hne.symm
  have hs : nI (k + 1) - 1 = nI k := by
    have z : (1 : Int32) = nI 1 := L32_1
    rw [z, nI_subL (by omega)]
    rfl
  have hle : nI k ≤ nI k := Int32.le_refl _
  have hcl : (nI k).toNatClampNeg = k := nI_clamp (by omega)
  have hin1 : vp_in (nI k) L := by
    intro q
    rcases q with q | q
    · exact absurd q (nI_nn (by omega))
    · rw [hcl] at q; omega
  have u4 : updV o 0 (.int (md + 1)) 2 = .int (nI (k + 1)) := by rw [updV_a, if_neg (by omega)]; exact e4
  have hM1 : ∀ x, hU m a0 x a1 = some (hA4 L F) := fun x => by rw [hUa_n hne]; exact e5
  have hM2 : ∀ x y, hU (hU m a0 x) a0 y a1 = some (hA4 L F) := fun x y => by rw [hUa_n hne, hUa_n hne]; exact e5
  refine hG [34] 300 _ _ _ _ ?_
  simp only [wpN, ↓wq_aastore, ↓wq_null, ↓wq_aload_0, ↓wq_aload_1, ↓wq_aload_2, ↓wq_aload_3, ↓wq_aload_0n, ↓wq_aload_1n, ↓wq_aload_2n, ↓wq_aload_3n, ↓wq_dupi, ↓wq_dupr, ↓wq_dupn, ↓wq_dup_x1ii, ↓wq_dup_x1ri, ↓wq_dup_x1ni, ↓wq_dup_x1ir, ↓wq_dup_x1rr, ↓wq_dup_x1nr, ↓wq_dup_x1in, ↓wq_dup_x1rn, ↓wq_dup_x1nn, ↓wq_getfield, ↓wq_iadd, ↓wq_iconst, ↓wq_icmp_eq, ↓wq_icmp_ne, ↓wq_icmp_lt, ↓wq_icmp_ge, ↓wq_icmp_gt, ↓wq_icmp_le, ↓wq_iload_0, ↓wq_iload_1, ↓wq_iload_2, ↓wq_iload_3, ↓wq_invokestatic, ↓wq_istore_0, ↓wq_istore_1, ↓wq_istore_2, ↓wq_istore_3, ↓wq_isub, ↓wq_putfield, ↓wq_ret, ↓se_get_0, ↓se_get_s, ↓se_set1_0, ↓se_set1_1, ↓se_set1_s, ↓se_set2_0, ↓se_set2_1, ↓se_set2_s, ↓se_k2_n, ↓se_k2_i, ↓se_k2_r, ↓se_k2_u, ↓se_k2_l, ↓se_k2_q, ↓se_in_0, ↓se_in_s, ↓gI_s, ↓gL_s, ↓gR_r, ↓gR_n, ↓gR_q, ↓sR_r, ↓sR_n, ↓sR_q, ↓se_sp_n, ↓se_sp_y, ↓se_sp_z, ↓se_ts_n, ↓se_ts_c, ↓se_c8_n, ↓se_c8_i, ↓se_c8_r, ↓se_c8_u, ↓se_c8_l, ↓wD_e dJ2_fastRemove_0, ↓wD_e dJ2_fastRemove_1, ↓wD_e dJ2_fastRemove_2, ↓wD_e dJ2_fastRemove_5, ↓wD_e dJ2_fastRemove_6, ↓wD_e dJ2_fastRemove_7, ↓wD_e dJ2_fastRemove_10, ↓wD_e dJ2_fastRemove_11, ↓wD_e dJ2_fastRemove_14, ↓wD_e dJ2_fastRemove_15, ↓wD_e dJ2_fastRemove_16, ↓wD_e dJ2_fastRemove_17, ↓wD_e dJ2_fastRemove_18, ↓wD_e dJ2_fastRemove_19, ↓wD_e dJ2_fastRemove_22, ↓wD_e dJ2_fastRemove_23, ↓wD_e dJ2_fastRemove_24, ↓wD_e dJ2_fastRemove_25, ↓wD_e dJ2_fastRemove_26, ↓wD_e dJ2_fastRemove_27, ↓wD_e dJ2_fastRemove_28, ↓wD_e dJ2_fastRemove_29, ↓wD_e dJ2_fastRemove_30, ↓wD_e dJ2_fastRemove_31, ↓wD_e dJ2_fastRemove_34, ↓wD_e dJ2_fastRemove_35, ↓wD_e dJ2_fastRemove_36, ↓wD_e dJ2_fastRemove_37, ↓wD_e dJ2_fastRemove_38, ↓wD_e dJ2_fastRemove_41, ↓wD_e dJ2_fastRemove_42, ↓wD_e dJ2_fastRemove_43, cc_iconst_1, ↓tg_19_15, ht_LLIrV_e, ↓T_L_fastRemove_0_63, ↓T_L_fastRemove_1_63, ↓T_L_fastRemove_0_48, ↓T_L_fastRemove_1_48, ↓T_L_fastRemove_20_0, ↓T_L_fastRemove_5_112, hCpy_r, hGet_r, hPut_r, hTxV, hTxC, hTxB, hTxL, hBxA, hBxV, hGst, hLdM, hGcl_r, hAald_r, hAlE_r, hAastO_r, hAastO_n, hNewA_r, hObj, List.mem_cons, List.not_mem_nil, yrf_s, yrf_n, hfl, hVk, updV_a, hUa_s, i32_10, i32_01, i32_m10, i32_03, i32_13, i32_23, Int32.reduceAdd, Int32.reduceSub, Int32.reduceMul, Int32.reduceLT, Int32.reduceLE, Int32.reduceToNatClampNeg, Int32.reduceOfInt, Int64.reduceAdd, Int64.reduceSub, Int64.reduceMul, Int64.reduceLT, Int64.reduceLE, lg_cmp_ge, lg_cmp_le, lg_cmp_gt, lg_cmp_lt, lg_cmp_eq, bI_0, bI_1, not_true_eq_false, not_false_eq_true, false_implies, Bool.not_eq_false, Bool.not_eq_true, and_self, Nat.reduceAdd, Int.reduceAdd, Nat.reduceEqDiff, reduceIte, true_and, and_true, implies_true, forall_const, Nat.zero_le, Nat.add_zero, Nat.zero_add, true_or, or_true, false_or, or_false, and_false, false_and, sCI_r, sCJ_r, Nat.reduceLeDiff, e1, e2, u4, e4, hs, hle]
  have e1' : hU m a0 (.inl (23, updV o 0 (.int (md + 1)))) a0 = some (.inl (23, updV o 0 (.int (md + 1)))) := hUa_s
  refine hG [] 300 _ _ _ _ ?_
  simp only [wpN, ↓wq_aastore, ↓wq_null, ↓wq_aload_0, ↓wq_aload_1, ↓wq_aload_2, ↓wq_aload_3, ↓wq_aload_0n, ↓wq_aload_1n, ↓wq_aload_2n, ↓wq_aload_3n, ↓wq_dupi, ↓wq_dupr, ↓wq_dupn, ↓wq_dup_x1ii, ↓wq_dup_x1ri, ↓wq_dup_x1ni, ↓wq_dup_x1ir, ↓wq_dup_x1rr, ↓wq_dup_x1nr, ↓wq_dup_x1in, ↓wq_dup_x1rn, ↓wq_dup_x1nn, ↓wq_getfield, ↓wq_iadd, ↓wq_iconst, ↓wq_icmp_eq, ↓wq_icmp_ne, ↓wq_icmp_lt, ↓wq_icmp_ge, ↓wq_icmp_gt, ↓wq_icmp_le, ↓wq_iload_0, ↓wq_iload_1, ↓wq_iload_2, ↓wq_iload_3, ↓wq_invokestatic, ↓wq_istore_0, ↓wq_istore_1, ↓wq_istore_2, ↓wq_istore_3, ↓wq_isub, ↓wq_putfield, ↓wq_ret, ↓se_get_0, ↓se_get_s, ↓se_set1_0, ↓se_set1_1, ↓se_set1_s, ↓se_set2_0, ↓se_set2_1, ↓se_set2_s, ↓se_k2_n, ↓se_k2_i, ↓se_k2_r, ↓se_k2_u, ↓se_k2_l, ↓se_k2_q, ↓se_in_0, ↓se_in_s, ↓gI_s, ↓gL_s, ↓gR_r, ↓gR_n, ↓gR_q, ↓sR_r, ↓sR_n, ↓sR_q, ↓se_sp_n, ↓se_sp_y, ↓se_sp_z, ↓se_ts_n, ↓se_ts_c, ↓se_c8_n, ↓se_c8_i, ↓se_c8_r, ↓se_c8_u, ↓se_c8_l, ↓wD_e dJ2_fastRemove_0, ↓wD_e dJ2_fastRemove_1, ↓wD_e dJ2_fastRemove_2, ↓wD_e dJ2_fastRemove_5, ↓wD_e dJ2_fastRemove_6, ↓wD_e dJ2_fastRemove_7, ↓wD_e dJ2_fastRemove_10, ↓wD_e dJ2_fastRemove_11, ↓wD_e dJ2_fastRemove_14, ↓wD_e dJ2_fastRemove_15, ↓wD_e dJ2_fastRemove_16, ↓wD_e dJ2_fastRemove_17, ↓wD_e dJ2_fastRemove_18, ↓wD_e dJ2_fastRemove_19, ↓wD_e dJ2_fastRemove_22, ↓wD_e dJ2_fastRemove_23, ↓wD_e dJ2_fastRemove_24, ↓wD_e dJ2_fastRemove_25, ↓wD_e dJ2_fastRemove_26, ↓wD_e dJ2_fastRemove_27, ↓wD_e dJ2_fastRemove_28, ↓wD_e dJ2_fastRemove_29, ↓wD_e dJ2_fastRemove_30, ↓wD_e dJ2_fastRemove_31, ↓wD_e dJ2_fastRemove_34, ↓wD_e dJ2_fastRemove_35, ↓wD_e dJ2_fastRemove_36, ↓wD_e dJ2_fastRemove_37, ↓wD_e dJ2_fastRemove_38, ↓wD_e dJ2_fastRemove_41, ↓wD_e dJ2_fastRemove_42, ↓wD_e dJ2_fastRemove_43, cc_iconst_1, ↓tg_19_15, ht_LLIrV_e, ↓T_L_fastRemove_0_63, ↓T_L_fastRemove_1_63, ↓T_L_fastRemove_0_48, ↓T_L_fastRemove_1_48, ↓T_L_fastRemove_20_0, ↓T_L_fastRemove_5_112, hCpy_r, hGet_r, hPut_r, hTxV, hTxC, hTxB, hTxL, hBxA, hBxV, hGst, hLdM, hGcl_r, hAald_r, hAlE_r, hAastO_r, hAastO_n, hNewA_r, hObj, List.mem_cons, List.not_mem_nil, yrf_s, yrf_n, hfl, hVk, updV_a, hUa_s, i32_10, i32_01, i32_m10, i32_03, i32_13, i32_23, Int32.reduceAdd, Int32.reduceSub, Int32.reduceMul, Int32.reduceLT, Int32.reduceLE, Int32.reduceToNatClampNeg, Int32.reduceOfInt, Int64.reduceAdd, Int64.reduceSub, Int64.reduceMul, Int64.reduceLT, Int64.reduceLE, lg_cmp_ge, lg_cmp_le, lg_cmp_gt, lg_cmp_lt, lg_cmp_eq, bI_0, bI_1, not_true_eq_false, not_false_eq_true, false_implies, Bool.not_eq_false, Bool.not_eq_true, and_self, Nat.reduceAdd, Int.reduceAdd, Nat.reduceEqDiff, reduceIte, true_and, and_true, implies_true, forall_const, Nat.zero_le, Nat.add_zero, Nat.zero_add, true_or, or_true, false_or, or_false, and_false, false_and, sCI_r, sCJ_r, Nat.reduceLeDiff, e1', hM2, hcl, hin1]
  refine ⟨rfl, fun k' L' F' ⟨o', md', f1, f2, f3, f4⟩ hq2 hq3 hq4 => ?_⟩
  have hk2 : k' = k := by
    have := congrArg Int32.toNatClampNeg hq3
    rw [hcl, nI_clamp (by omega)] at this
    exact this.symm
  subst hk2
  rw [e5] at hq2
  cases hq2
  refine ⟨⟨0, ⟨updV (updV o 0 (.int (md + 1))) 2 (.int (nI k')), md + 1, ?_, ?_, ?_, ?_⟩, rfl⟩, ?_, fun b hb1 hb2 => ?_⟩
  · rw [hUa_n hne', hUa_s]
  · rw [updV_a, if_neg (by omega), updV_a, if_pos rfl]
  · rw [updV_a, if_neg (by omega), updV_a, if_neg (by omega)]; exact e3
  · rw [updV_a, if_pos rfl]
  · rw [hUa_s]
  · rw [hUa_n hb2, hUa_n hb1, hUa_n hb1]
def P_L_remove  : hG → Nat → Int32 → hH → Nat → Prop := fun g a0 a1 m n => ∃ E k L F, hLi m a0 E (k + 1) ∧ m E = some (hA4 L F) ∧ a1 = nI k ∧ k < L ∧ L ≤ 65536
def Q_L_remove  : hG → Nat → Int32 → hH → Nat → Option Nat → hH → Nat → Prop := fun g a0 a1 m n x m' n' => n' = n ∧ ∀ E k L F, hLi m a0 E (k + 1) → m E = some (hA4 L F) → a1 = nI k → k < 65536 → x = F k ∧ hLi m' a0 E k ∧ m' E = some (hA4 L (va_up F k none)) ∧ ∀ b, b ≠ a0 → b ≠ E → m' b = m b
def T_L_remove (mc ms : Nat) (g : hG) : Nat → Nat → se_Op hW := se_tab [(0, 48, hGet [(23, 2)]), (0, 9, hGet [(23, 1)]), (19, 0, hAald), (5, 118, hp_IIrI g mc ms P_OB_checkIndex R_OB_checkIndex), (3, 144, hov_LLIrV g mc ms 0 0 [23] P_L_fastRemove Q_L_fastRemove)]
set_option maxRecDepth 20000 in
theorem T_L_remove_ok (l : Launch) (hl : l.stackTraces = false) (mc ms : Nat) : hTS l yJ2_remove.cls yJ2_remove.name cJ2_remove 4 (some (.object "java/lang/Object")) 2 83 mc ms (T_L_remove mc ms) := fun g p e s m args below meth c Q H0 C hnm hG hS k i => se_tab_ok _ (List.forall_mem_cons.mpr ⟨hGet_ok (F := [(23, 2)]) (List.forall_mem_cons.mpr ⟨⟨(RJ2, TJ2, 3), "java/util/ArrayList", rfl, by decide, .inl q172, .inl rfl⟩, fun _ h => absurd h List.not_mem_nil⟩) C hG, List.forall_mem_cons.mpr ⟨hGet_ok (F := [(23, 1)]) (List.forall_mem_cons.mpr ⟨⟨(RJ2, TJ2, 3), "java/util/ArrayList", rfl, by decide, .inl q171, .inl rfl⟩, fun _ h => absurd h List.not_mem_nil⟩) C hG, List.forall_mem_cons.mpr ⟨hAald_ok C hG, List.forall_mem_cons.mpr ⟨hp_IIrI_ok <| ho_IIrI_ok (hCS_ok (maxL' := 2) (fr' := 1) (lo' := 22) (yt_OB_checkIndex l hl) q703 q704 q115 q705 (by decide +kernel) ⟨by decide, by decide⟩ C hG hS), List.forall_mem_cons.mpr ⟨hov_LLIrV_ok (hCVG_ok (maxL' := 4) (fr' := 1) (lo' := 60) (yt_L_fastRemove l hl) (List.forall_mem_cons.mpr ⟨⟨_, rfl, hRunV_V (na := 2) C.1.2.2.2.2 q1106 q1108 qs20 q101 q1109 (by decide +kernel) ⟨by decide, by decide⟩⟩, fun _ h => absurd h List.not_mem_nil⟩) C hG hS), fun _ h => absurd h List.not_mem_nil⟩⟩⟩⟩⟩) k i
set_option maxRecDepth 20000 in
theorem T_L_remove_0_48 {mc ms : Nat} {g : hG} : T_L_remove mc ms g 0 48 = hGet [(23, 2)] := rfl
set_option maxRecDepth 20000 in
theorem T_L_remove_0_9 {mc ms : Nat} {g : hG} : T_L_remove mc ms g 0 9 = hGet [(23, 1)] := rfl
set_option maxRecDepth 20000 in
theorem T_L_remove_19_0 {mc ms : Nat} {g : hG} : T_L_remove mc ms g 19 0 = hAald := rfl
set_option maxRecDepth 20000 in
theorem T_L_remove_5_118 {mc ms : Nat} {g : hG} : T_L_remove mc ms g 5 118 = hp_IIrI g mc ms P_OB_checkIndex R_OB_checkIndex := rfl
set_option maxRecDepth 20000 in
theorem T_L_remove_3_144 {mc ms : Nat} {g : hG} : T_L_remove mc ms g 3 144 = hov_LLIrV g mc ms 0 0 [23] P_L_fastRemove Q_L_fastRemove := rfl
set_option maxHeartbeats 1000000 in
set_option maxRecDepth 20000 in
theorem yt_L_remove (l : Launch) (hl : l.stackTraces = false) : hm_LIrL l yJ2_remove (ws_ yJ2_remove cJ2_remove 4 (some (.object "java/lang/Object"))) 2 83 0 0 P_L_remove Q_L_remove := by
  refine hm_LIrL_of (rty := (.object "java/lang/Object")) (by decide +kernel) rfl (T_L_remove_ok l hl 0 0) (by decide) fun g a0 a1 m n hin hv hp G hG => ?_
  show G 0 [some (.ref a0), some (.int a1), none, none] [] (m, n, 0, 0)
  obtain ⟨E, k, L, F, ⟨o, md, e1, e2, e3, e4⟩, e5, rfl, hk, hL⟩ := hp
  have hcl : (nI k).toNatClampNeg = k := nI_clamp (by omega)
  have hin1 : vp_in (nI k) L := by
    intro q
    rcases q with q | q
    · exact absurd q (nI_nn (by omega))
    · rw [hcl] at q; omega
  have h0 : ¬ nI k < 0 := nI_nn (by omega)
  have hlt : nI k < nI (k + 1) := by
    rw [nI_ltL (by omega) (by omega)]
    omega
  have main : ∀ z : Option Nat, F k = z → G 0 [some (.ref a0), some (.int (nI k)), none, none] [] (m, n, 0, 0) := by
    intro z hz
    have hfr : P_L_fastRemove g a0 E (nI k) m n := ⟨k, L, F, ⟨o, md, e1, e2, e3, e4⟩, e5, rfl, hk, hL⟩
    have hend : ∀ m1 n1, Q_L_fastRemove g a0 E (nI k) m n m1 n1 → Q_L_remove g a0 (nI k) m n z m1 n1 := by
      intro m1 n1 hq
      obtain ⟨rfl, hq⟩ := hq
      refine ⟨rfl, fun E' k' L' F' hq1 hq2 hq3 hq4 => ?_⟩
      have hk2 : k' = k := by
        have := congrArg Int32.toNatClampNeg hq3
        rw [hcl, nI_clamp (by omega)] at this
        exact this.symm
      subst hk2
      have hEE : E' = E := by
        obtain ⟨o', md', f1, f2, f3, f4⟩ := hq1
        rw [e1] at f1
        cases f1
        rw [e3] at f3
        cases f3
        rfl
      subst hEE
      rw [e5] at hq2
      cases hq2
      obtain ⟨⟨-, q1, -⟩, q2, q3⟩ := hq k' L F ⟨o, md, e1, e2, e3, e4⟩ e5 rfl (by omega)
      exact ⟨hz.symm, q1, q2, q3⟩
    cases z with
    | none =>
      refine hG [24] 300 _ _ _ _ ?_
      simp only [wpN, ↓wq_aaload, ↓wq_aload_0, ↓wq_aload_1, ↓wq_aload_2, ↓wq_aload_3, ↓wq_aload_0n, ↓wq_aload_1n, ↓wq_aload_2n, ↓wq_aload_3n, ↓wq_aretr, ↓wq_aretn, ↓wq_astore_0, ↓wq_astore_1, ↓wq_astore_2, ↓wq_astore_3, ↓wq_astore_0n, ↓wq_astore_1n, ↓wq_astore_2n, ↓wq_astore_3n, ↓wq_getfield, ↓wq_iload_0, ↓wq_iload_1, ↓wq_iload_2, ↓wq_iload_3, ↓wq_invokestatic, ↓wq_invokevirtual, ↓wq_popi, ↓wq_popr, ↓wq_popn, ↓se_get_0, ↓se_get_s, ↓se_set1_0, ↓se_set1_1, ↓se_set1_s, ↓se_set2_0, ↓se_set2_1, ↓se_set2_s, ↓se_k2_n, ↓se_k2_i, ↓se_k2_r, ↓se_k2_u, ↓se_k2_l, ↓se_k2_q, ↓se_in_0, ↓se_in_s, ↓gI_s, ↓gL_s, ↓gR_r, ↓gR_n, ↓gR_q, ↓sR_r, ↓sR_n, ↓sR_q, ↓se_sp_n, ↓se_sp_y, ↓se_sp_z, ↓se_ts_n, ↓se_ts_c, ↓se_c8_n, ↓se_c8_i, ↓se_c8_r, ↓se_c8_u, ↓se_c8_l, ↓wD_e dJ2_remove_0, ↓wD_e dJ2_remove_1, ↓wD_e dJ2_remove_2, ↓wD_e dJ2_remove_5, ↓wD_e dJ2_remove_8, ↓wD_e dJ2_remove_9, ↓wD_e dJ2_remove_10, ↓wD_e dJ2_remove_13, ↓wD_e dJ2_remove_14, ↓wD_e dJ2_remove_15, ↓wD_e dJ2_remove_16, ↓wD_e dJ2_remove_17, ↓wD_e dJ2_remove_18, ↓wD_e dJ2_remove_19, ↓wD_e dJ2_remove_20, ↓wD_e dJ2_remove_21, ↓wD_e dJ2_remove_24, ↓wD_e dJ2_remove_25, ht_LIrL_e, ht_LIrL_n, ↓T_L_remove_0_48, ↓T_L_remove_0_9, ↓T_L_remove_19_0, ↓T_L_remove_5_118, ↓T_L_remove_3_144, hp_IIrI_r, hov_LLIrV_r, hGet_r, hPut_r, hTxV, hTxC, hTxB, hTxL, hBxA, hBxV, hGst, hLdM, hCpy_r, hGcl_r, hAald_r, hAlE_r, hAastO_r, hAastO_n, hNewA_r, hObj, List.mem_cons, List.not_mem_nil, yrf_s, yrf_n, hfl, hVk, updV_a, hUa_s, ht_LIrL_e (hr := (.inl ⟨_, rfl⟩)), ht_LIrL_n (hr := (.inl ⟨_, rfl⟩)), i32_10, i32_01, i32_m10, i32_03, i32_13, i32_23, Int32.reduceAdd, Int32.reduceSub, Int32.reduceMul, Int32.reduceLT, Int32.reduceLE, Int32.reduceToNatClampNeg, Int32.reduceOfInt, Int64.reduceAdd, Int64.reduceSub, Int64.reduceMul, Int64.reduceLT, Int64.reduceLE, lg_cmp_ge, lg_cmp_le, lg_cmp_gt, lg_cmp_lt, lg_cmp_eq, bI_0, bI_1, not_true_eq_false, not_false_eq_true, false_implies, Bool.not_eq_false, Bool.not_eq_true, and_self, Nat.reduceAdd, Int.reduceAdd, Nat.reduceEqDiff, reduceIte, true_and, and_true, implies_true, forall_const, Nat.zero_le, Nat.add_zero, Nat.zero_add, true_or, or_true, false_or, or_false, and_false, false_and, sCI_r, sCJ_r, Nat.reduceLeDiff, e1, e3, e4, e5, P_OB_checkIndex, R_OB_checkIndex, h0, hlt, hin1, hcl, hz, Nat.le_refl, hRcv]
      refine ⟨hfr, ?_⟩
      intro m1 n1 hq hd1 hn1
      refine hG [] 300 _ _ _ _ ?_
      simp only [wpN, ↓wq_aaload, ↓wq_aload_0, ↓wq_aload_1, ↓wq_aload_2, ↓wq_aload_3, ↓wq_aload_0n, ↓wq_aload_1n, ↓wq_aload_2n, ↓wq_aload_3n, ↓wq_aretr, ↓wq_aretn, ↓wq_astore_0, ↓wq_astore_1, ↓wq_astore_2, ↓wq_astore_3, ↓wq_astore_0n, ↓wq_astore_1n, ↓wq_astore_2n, ↓wq_astore_3n, ↓wq_getfield, ↓wq_iload_0, ↓wq_iload_1, ↓wq_iload_2, ↓wq_iload_3, ↓wq_invokestatic, ↓wq_invokevirtual, ↓wq_popi, ↓wq_popr, ↓wq_popn, ↓se_get_0, ↓se_get_s, ↓se_set1_0, ↓se_set1_1, ↓se_set1_s, ↓se_set2_0, ↓se_set2_1, ↓se_set2_s, ↓se_k2_n, ↓se_k2_i, ↓se_k2_r, ↓se_k2_u, ↓se_k2_l, ↓se_k2_q, ↓se_in_0, ↓se_in_s, ↓gI_s, ↓gL_s, ↓gR_r, ↓gR_n, ↓gR_q, ↓sR_r, ↓sR_n, ↓sR_q, ↓se_sp_n, ↓se_sp_y, ↓se_sp_z, ↓se_ts_n, ↓se_ts_c, ↓se_c8_n, ↓se_c8_i, ↓se_c8_r, ↓se_c8_u, ↓se_c8_l, ↓wD_e dJ2_remove_0, ↓wD_e dJ2_remove_1, ↓wD_e dJ2_remove_2, ↓wD_e dJ2_remove_5, ↓wD_e dJ2_remove_8, ↓wD_e dJ2_remove_9, ↓wD_e dJ2_remove_10, ↓wD_e dJ2_remove_13, ↓wD_e dJ2_remove_14, ↓wD_e dJ2_remove_15, ↓wD_e dJ2_remove_16, ↓wD_e dJ2_remove_17, ↓wD_e dJ2_remove_18, ↓wD_e dJ2_remove_19, ↓wD_e dJ2_remove_20, ↓wD_e dJ2_remove_21, ↓wD_e dJ2_remove_24, ↓wD_e dJ2_remove_25, ht_LIrL_e, ht_LIrL_n, ↓T_L_remove_0_48, ↓T_L_remove_0_9, ↓T_L_remove_19_0, ↓T_L_remove_5_118, ↓T_L_remove_3_144, hp_IIrI_r, hov_LLIrV_r, hGet_r, hPut_r, hTxV, hTxC, hTxB, hTxL, hBxA, hBxV, hGst, hLdM, hCpy_r, hGcl_r, hAald_r, hAlE_r, hAastO_r, hAastO_n, hNewA_r, hObj, List.mem_cons, List.not_mem_nil, yrf_s, yrf_n, hfl, hVk, updV_a, hUa_s, ht_LIrL_e (hr := (.inl ⟨_, rfl⟩)), ht_LIrL_n (hr := (.inl ⟨_, rfl⟩)), i32_10, i32_01, i32_m10, i32_03, i32_13, i32_23, Int32.reduceAdd, Int32.reduceSub, Int32.reduceMul, Int32.reduceLT, Int32.reduceLE, Int32.reduceToNatClampNeg, Int32.reduceOfInt, Int64.reduceAdd, Int64.reduceSub, Int64.reduceMul, Int64.reduceLT, Int64.reduceLE, lg_cmp_ge, lg_cmp_le, lg_cmp_gt, lg_cmp_lt, lg_cmp_eq, bI_0, bI_1, not_true_eq_false, not_false_eq_true, false_implies, Bool.not_eq_false, Bool.not_eq_true, and_self, Nat.reduceAdd, Int.reduceAdd, Nat.reduceEqDiff, reduceIte, true_and, and_true, implies_true, forall_const, Nat.zero_le, Nat.add_zero, Nat.zero_add, true_or, or_true, false_or, or_false, and_false, false_and, sCI_r, sCJ_r, Nat.reduceLeDiff]
      exact hend m1 n1 hq
    | some z =>
      refine hG [24] 300 _ _ _ _ ?_
      simp only [wpN, ↓wq_aaload, ↓wq_aload_0, ↓wq_aload_1, ↓wq_aload_2, ↓wq_aload_3, ↓wq_aload_0n, ↓wq_aload_1n, ↓wq_aload_2n, ↓wq_aload_3n, ↓wq_aretr, ↓wq_aretn, ↓wq_astore_0, ↓wq_astore_1, ↓wq_astore_2, ↓wq_astore_3, ↓wq_astore_0n, ↓wq_astore_1n, ↓wq_astore_2n, ↓wq_astore_3n, ↓wq_getfield, ↓wq_iload_0, ↓wq_iload_1, ↓wq_iload_2, ↓wq_iload_3, ↓wq_invokestatic, ↓wq_invokevirtual, ↓wq_popi, ↓wq_popr, ↓wq_popn, ↓se_get_0, ↓se_get_s, ↓se_set1_0, ↓se_set1_1, ↓se_set1_s, ↓se_set2_0, ↓se_set2_1, ↓se_set2_s, ↓se_k2_n, ↓se_k2_i, ↓se_k2_r, ↓se_k2_u, ↓se_k2_l, ↓se_k2_q, ↓se_in_0, ↓se_in_s, ↓gI_s, ↓gL_s, ↓gR_r, ↓gR_n, ↓gR_q, ↓sR_r, ↓sR_n, ↓sR_q, ↓se_sp_n, ↓se_sp_y, ↓se_sp_z, ↓se_ts_n, ↓se_ts_c, ↓se_c8_n, ↓se_c8_i, ↓se_c8_r, ↓se_c8_u, ↓se_c8_l, ↓wD_e dJ2_remove_0, ↓wD_e dJ2_remove_1, ↓wD_e dJ2_remove_2, ↓wD_e dJ2_remove_5, ↓wD_e dJ2_remove_8, ↓wD_e dJ2_remove_9, ↓wD_e dJ2_remove_10, ↓wD_e dJ2_remove_13, ↓wD_e dJ2_remove_14, ↓wD_e dJ2_remove_15, ↓wD_e dJ2_remove_16, ↓wD_e dJ2_remove_17, ↓wD_e dJ2_remove_18, ↓wD_e dJ2_remove_19, ↓wD_e dJ2_remove_20, ↓wD_e dJ2_remove_21, ↓wD_e dJ2_remove_24, ↓wD_e dJ2_remove_25, ht_LIrL_e, ht_LIrL_n, ↓T_L_remove_0_48, ↓T_L_remove_0_9, ↓T_L_remove_19_0, ↓T_L_remove_5_118, ↓T_L_remove_3_144, hp_IIrI_r, hov_LLIrV_r, hGet_r, hPut_r, hTxV, hTxC, hTxB, hTxL, hBxA, hBxV, hGst, hLdM, hCpy_r, hGcl_r, hAald_r, hAlE_r, hAastO_r, hAastO_n, hNewA_r, hObj, List.mem_cons, List.not_mem_nil, yrf_s, yrf_n, hfl, hVk, updV_a, hUa_s, ht_LIrL_e (hr := (.inl ⟨_, rfl⟩)), ht_LIrL_n (hr := (.inl ⟨_, rfl⟩)), i32_10, i32_01, i32_m10, i32_03, i32_13, i32_23, Int32.reduceAdd, Int32.reduceSub, Int32.reduceMul, Int32.reduceLT, Int32.reduceLE, Int32.reduceToNatClampNeg, Int32.reduceOfInt, Int64.reduceAdd, Int64.reduceSub, Int64.reduceMul, Int64.reduceLT, Int64.reduceLE, lg_cmp_ge, lg_cmp_le, lg_cmp_gt, lg_cmp_lt, lg_cmp_eq, bI_0, bI_1, not_true_eq_false, not_false_eq_true, false_implies, Bool.not_eq_false, Bool.not_eq_true, and_self, Nat.reduceAdd, Int.reduceAdd, Nat.reduceEqDiff, reduceIte, true_and, and_true, implies_true, forall_const, Nat.zero_le, Nat.add_zero, Nat.zero_add, true_or, or_true, false_or, or_false, and_false, false_and, sCI_r, sCJ_r, Nat.reduceLeDiff, e1, e3, e4, e5, P_OB_checkIndex, R_OB_checkIndex, h0, hlt, hin1, hcl, hz, Nat.le_refl, hRcv]
      refine ⟨hfr, ?_⟩
      intro m1 n1 hq hd1 hn1
      refine hG [] 300 _ _ _ _ ?_
      simp only [wpN, ↓wq_aaload, ↓wq_aload_0, ↓wq_aload_1, ↓wq_aload_2, ↓wq_aload_3, ↓wq_aload_0n, ↓wq_aload_1n, ↓wq_aload_2n, ↓wq_aload_3n, ↓wq_aretr, ↓wq_aretn, ↓wq_astore_0, ↓wq_astore_1, ↓wq_astore_2, ↓wq_astore_3, ↓wq_astore_0n, ↓wq_astore_1n, ↓wq_astore_2n, ↓wq_astore_3n, ↓wq_getfield, ↓wq_iload_0, ↓wq_iload_1, ↓wq_iload_2, ↓wq_iload_3, ↓wq_invokestatic, ↓wq_invokevirtual, ↓wq_popi, ↓wq_popr, ↓wq_popn, ↓se_get_0, ↓se_get_s, ↓se_set1_0, ↓se_set1_1, ↓se_set1_s, ↓se_set2_0, ↓se_set2_1, ↓se_set2_s, ↓se_k2_n, ↓se_k2_i, ↓se_k2_r, ↓se_k2_u, ↓se_k2_l, ↓se_k2_q, ↓se_in_0, ↓se_in_s, ↓gI_s, ↓gL_s, ↓gR_r, ↓gR_n, ↓gR_q, ↓sR_r, ↓sR_n, ↓sR_q, ↓se_sp_n, ↓se_sp_y, ↓se_sp_z, ↓se_ts_n, ↓se_ts_c, ↓se_c8_n, ↓se_c8_i, ↓se_c8_r, ↓se_c8_u, ↓se_c8_l, ↓wD_e dJ2_remove_0, ↓wD_e dJ2_remove_1, ↓wD_e dJ2_remove_2, ↓wD_e dJ2_remove_5, ↓wD_e dJ2_remove_8, ↓wD_e dJ2_remove_9, ↓wD_e dJ2_remove_10, ↓wD_e dJ2_remove_13, ↓wD_e dJ2_remove_14, ↓wD_e dJ2_remove_15, ↓wD_e dJ2_remove_16, ↓wD_e dJ2_remove_17, ↓wD_e dJ2_remove_18, ↓wD_e dJ2_remove_19, ↓wD_e dJ2_remove_20, ↓wD_e dJ2_remove_21, ↓wD_e dJ2_remove_24, ↓wD_e dJ2_remove_25, ht_LIrL_e, ht_LIrL_n, ↓T_L_remove_0_48, ↓T_L_remove_0_9, ↓T_L_remove_19_0, ↓T_L_remove_5_118, ↓T_L_remove_3_144, hp_IIrI_r, hov_LLIrV_r, hGet_r, hPut_r, hTxV, hTxC, hTxB, hTxL, hBxA, hBxV, hGst, hLdM, hCpy_r, hGcl_r, hAald_r, hAlE_r, hAastO_r, hAastO_n, hNewA_r, hObj, List.mem_cons, List.not_mem_nil, yrf_s, yrf_n, hfl, hVk, updV_a, hUa_s, ht_LIrL_e (hr := (.inl ⟨_, rfl⟩)), ht_LIrL_n (hr := (.inl ⟨_, rfl⟩)), i32_10, i32_01, i32_m10, i32_03, i32_13, i32_23, Int32.reduceAdd, Int32.reduceSub, Int32.reduceMul, Int32.reduceLT, Int32.reduceLE, Int32.reduceToNatClampNeg, Int32.reduceOfInt, Int64.reduceAdd, Int64.reduceSub, Int64.reduceMul, Int64.reduceLT, Int64.reduceLE, lg_cmp_ge, lg_cmp_le, lg_cmp_gt, lg_cmp_lt, lg_cmp_eq, bI_0, bI_1, not_true_eq_false, not_false_eq_true, false_implies, Bool.not_eq_false, Bool.not_eq_true, and_self, Nat.reduceAdd, Int.reduceAdd, Nat.reduceEqDiff, reduceIte, true_and, and_true, implies_true, forall_const, Nat.zero_le, Nat.add_zero, Nat.zero_add, true_or, or_true, false_or, or_false, and_false, false_and, sCI_r, sCJ_r, Nat.reduceLeDiff]
      exact hend m1 n1 hq
  exact main _ rfl

theorem cc_bipush_m128 : (Int8.ofInt (-128)).toInt32 = -128 := by decide +kernel
theorem cc_sipush_128 : (Int16.ofInt (128)).toInt32 = 128 := by decide +kernel
theorem tg_3_20 {K : Nat → Prop} : se_tg 3 (20) K = K 23 := rfl
theorem tg_10_13 {K : Nat → Prop} : se_tg 10 (13) K = K 23 := rfl
def P_I_valueOf  : hG → Int32 → hH → Nat → Prop := fun g a0 m n => ∃ k, k < 128 ∧ a0 = nI k
def Q_I_valueOf  : hG → Int32 → hH → Nat → Option Nat → hH → Nat → Prop := fun g a0 m n x m' n' => m' = m ∧ n' = n ∧ ∃ k, k < 128 ∧ a0 = nI k ∧ x = some (gBx g (k + 128))
def T_I_valueOf (mc ms : Nat) (g : hG) : Nat → Nat → se_Op hW := se_tab [(2, 191, hGst g 1), (2, 195, hGst g 2), (19, 0, hBxA g)]
set_option maxRecDepth 20000 in
theorem T_I_valueOf_ok (l : Launch) (hl : l.stackTraces = false) (mc ms : Nat) : hTS l yJ15_valueOf.cls yJ15_valueOf.name cJ15_valueOf 1 (some (.object "java/lang/Integer")) 0 0 mc ms (T_I_valueOf mc ms) := fun g p e s m args below meth c Q H0 C hnm hG hS k i => se_tab_ok _ (List.forall_mem_cons.mpr ⟨hGst_ok (i := 1) rfl (.inl q1265) C hG hS, List.forall_mem_cons.mpr ⟨hGst_ok (i := 2) rfl (.inl q1267) C hG hS, List.forall_mem_cons.mpr ⟨hBxA_ok C hS, fun _ h => absurd h List.not_mem_nil⟩⟩⟩) k i
set_option maxRecDepth 20000 in
theorem T_I_valueOf_2_191 {mc ms : Nat} {g : hG} : T_I_valueOf mc ms g 2 191 = hGst g 1 := rfl
set_option maxRecDepth 20000 in
theorem T_I_valueOf_2_195 {mc ms : Nat} {g : hG} : T_I_valueOf mc ms g 2 195 = hGst g 2 := rfl
set_option maxRecDepth 20000 in
theorem T_I_valueOf_19_0 {mc ms : Nat} {g : hG} : T_I_valueOf mc ms g 19 0 = hBxA g := rfl
set_option maxHeartbeats 1000000 in
set_option maxRecDepth 20000 in
theorem yt_I_valueOf (l : Launch) (hl : l.stackTraces = false) : hm_IrL l yJ15_valueOf (ws_ yJ15_valueOf cJ15_valueOf 1 (some (.object "java/lang/Integer"))) 0 0 0 0 P_I_valueOf Q_I_valueOf := by
  refine hm_IrL_of (rty := (.object "java/lang/Integer")) (by decide +kernel) rfl (T_I_valueOf_ok l hl 0 0) (by decide) fun g a0 m n hin hv hp G hG => ?_
  show G 0 [some (.int a0)] [] (m, n, 0, 0)
  obtain ⟨k, hk, rfl⟩ := hp
  have e1 : gV g 1 = .int 127 := hv.2.1
  have e2 : gV g 2 = .ref (gSa g 1) := hv.2.2.1
  have h1 : ¬ nI k < -128 := by
    have : ∀ k, k < 128 → ¬ nI k < -128 := by decide +kernel
    exact this k hk
  have h2 : ¬ 127 < nI k := by
    have : ∀ k, k < 128 → ¬ 127 < nI k := by decide +kernel
    exact this k hk
  have e3 : nI k + 128 = nI (k + 128) := by
    have z : (128 : Int32) = nI 128 := by decide
    rw [z, nI_add]
  have e4 : (nI (k + 128)).toNatClampNeg = k + 128 := nI_clamp (by omega)
  have e5 : vp_in (nI (k + 128)) 256 := by
    intro q
    rcases q with q | q
    · exact absurd q (nI_nn (by omega))
    · rw [e4] at q; omega
  refine hG [23] 300 _ _ _ _ ?_
  simp only [wpN, ↓wq_aaload, ↓wq_aretr, ↓wq_aretn, ↓wq_bipush, ↓wq_dupi, ↓wq_dupr, ↓wq_dupn, ↓wq_getstatic, ↓wq_iadd, ↓wq_icmp_eq, ↓wq_icmp_ne, ↓wq_icmp_lt, ↓wq_icmp_ge, ↓wq_icmp_gt, ↓wq_icmp_le, ↓wq_iload_0, ↓wq_iload_1, ↓wq_iload_2, ↓wq_iload_3, ↓wq_invokespecial, ↓wq_new, ↓wq_sipush, ↓se_get_0, ↓se_get_s, ↓se_set1_0, ↓se_set1_1, ↓se_set1_s, ↓se_set2_0, ↓se_set2_1, ↓se_set2_s, ↓se_k2_n, ↓se_k2_i, ↓se_k2_r, ↓se_k2_u, ↓se_k2_l, ↓se_k2_q, ↓se_in_0, ↓se_in_s, ↓gI_s, ↓gL_s, ↓gR_r, ↓gR_n, ↓gR_q, ↓sR_r, ↓sR_n, ↓sR_q, ↓se_sp_n, ↓se_sp_y, ↓se_sp_z, ↓se_ts_n, ↓se_ts_c, ↓se_c8_n, ↓se_c8_i, ↓se_c8_r, ↓se_c8_u, ↓se_c8_l, ↓wD_e dJ15_valueOf_0, ↓wD_e dJ15_valueOf_1, ↓wD_e dJ15_valueOf_3, ↓wD_e dJ15_valueOf_6, ↓wD_e dJ15_valueOf_7, ↓wD_e dJ15_valueOf_10, ↓wD_e dJ15_valueOf_13, ↓wD_e dJ15_valueOf_16, ↓wD_e dJ15_valueOf_17, ↓wD_e dJ15_valueOf_20, ↓wD_e dJ15_valueOf_21, ↓wD_e dJ15_valueOf_22, ↓wD_e dJ15_valueOf_23, ↓wD_e dJ15_valueOf_26, ↓wD_e dJ15_valueOf_27, ↓wD_e dJ15_valueOf_28, ↓wD_e dJ15_valueOf_31, cc_bipush_m128, cc_sipush_128, ↓tg_3_20, ↓tg_10_13, ht_IrL_e, ht_IrL_n, ↓T_I_valueOf_2_191, ↓T_I_valueOf_2_195, ↓T_I_valueOf_19_0, hGet_r, hPut_r, hTxV, hTxC, hTxB, hTxL, hBxA, hBxV, hGst, hLdM, hCpy_r, hGcl_r, hAald_r, hAlE_r, hAastO_r, hAastO_n, hNewA_r, hObj, List.mem_cons, List.not_mem_nil, yrf_s, yrf_n, hfl, hVk, updV_a, hUa_s, ht_IrL_e (hr := (.inl ⟨_, rfl⟩)), ht_IrL_n (hr := (.inl ⟨_, rfl⟩)), i32_10, i32_01, i32_m10, i32_03, i32_13, i32_23, Int32.reduceAdd, Int32.reduceSub, Int32.reduceMul, Int32.reduceLT, Int32.reduceLE, Int32.reduceToNatClampNeg, Int32.reduceOfInt, Int64.reduceAdd, Int64.reduceSub, Int64.reduceMul, Int64.reduceLT, Int64.reduceLE, lg_cmp_ge, lg_cmp_le, lg_cmp_gt, lg_cmp_lt, lg_cmp_eq, bI_0, bI_1, not_true_eq_false, not_false_eq_true, false_implies, Bool.not_eq_false, Bool.not_eq_true, and_self, Nat.reduceAdd, Int.reduceAdd, Nat.reduceEqDiff, reduceIte, true_and, and_true, implies_true, forall_const, Nat.zero_le, Nat.add_zero, Nat.zero_add, true_or, or_true, false_or, or_false, and_false, false_and, sCI_r, sCJ_r, Nat.reduceLeDiff, e1, e2, h1, h2, e3, e4, e5]
  exact ⟨rfl, rfl, k, hk, rfl, rfl⟩
def P_I_intValue  : hG → Nat → hH → Nat → Prop := fun g a0 m n => (∃ i, i < 256 ∧ a0 = gBx g i) ∧ True
def Q_I_intValue  : hG → Nat → hH → Nat → Int32 → hH → Nat → Prop := fun g a0 m n x m' n' => m' = m ∧ n' = n ∧ ∃ i, i < 256 ∧ a0 = gBx g i ∧ x = vb_c i
def T_I_intValue (mc ms : Nat) (g : hG) : Nat → Nat → se_Op hW := se_tab [(0, 205, hBxV g)]
set_option maxRecDepth 20000 in
theorem T_I_intValue_ok (l : Launch) (hl : l.stackTraces = false) (mc ms : Nat) : hTS l yJ15_intValue.cls yJ15_intValue.name cJ15_intValue 1 (some .int) 0 0 mc ms (T_I_intValue mc ms) := fun g p e s m args below meth c Q H0 C hnm hG hS k i => se_tab_ok _ (List.forall_mem_cons.mpr ⟨hBxV_ok q1278 C hS, fun _ h => absurd h List.not_mem_nil⟩) k i
set_option maxRecDepth 20000 in
theorem T_I_intValue_0_205 {mc ms : Nat} {g : hG} : T_I_intValue mc ms g 0 205 = hBxV g := rfl
set_option maxHeartbeats 1000000 in
set_option maxRecDepth 20000 in
theorem yt_I_intValue (l : Launch) (hl : l.stackTraces = false) : hm_LrI l yJ15_intValue (ws_ yJ15_intValue cJ15_intValue 1 (some .int)) 0 0 0 0 P_I_intValue Q_I_intValue := by
  refine hm_LrI_of (by decide +kernel) rfl (T_I_intValue_ok l hl 0 0) (by decide) fun g a0 m n hin hv hp G hG => ?_
  show G 0 [some (.ref a0)] [] (m, n, 0, 0)
  obtain ⟨⟨i, hi, rfl⟩, -⟩ := hp
  refine hG [] 300 _ _ _ _ ?_
  simp only [wpN, ↓wq_aload_0, ↓wq_aload_1, ↓wq_aload_2, ↓wq_aload_3, ↓wq_aload_0n, ↓wq_aload_1n, ↓wq_aload_2n, ↓wq_aload_3n, ↓wq_getfield, ↓wq_iret, ↓se_get_0, ↓se_get_s, ↓se_set1_0, ↓se_set1_1, ↓se_set1_s, ↓se_set2_0, ↓se_set2_1, ↓se_set2_s, ↓se_k2_n, ↓se_k2_i, ↓se_k2_r, ↓se_k2_u, ↓se_k2_l, ↓se_k2_q, ↓se_in_0, ↓se_in_s, ↓gI_s, ↓gL_s, ↓gR_r, ↓gR_n, ↓gR_q, ↓sR_r, ↓sR_n, ↓sR_q, ↓se_sp_n, ↓se_sp_y, ↓se_sp_z, ↓se_ts_n, ↓se_ts_c, ↓se_c8_n, ↓se_c8_i, ↓se_c8_r, ↓se_c8_u, ↓se_c8_l, ↓wD_e dJ15_intValue_0, ↓wD_e dJ15_intValue_1, ↓wD_e dJ15_intValue_4, ht_LrI_e, ↓T_I_intValue_0_205, hGet_r, hPut_r, hTxV, hTxC, hTxB, hTxL, hBxA, hBxV, hGst, hLdM, hCpy_r, hGcl_r, hAald_r, hAlE_r, hAastO_r, hAastO_n, hNewA_r, hObj, List.mem_cons, List.not_mem_nil, yrf_s, yrf_n, hfl, hVk, updV_a, hUa_s, i32_10, i32_01, i32_m10, i32_03, i32_13, i32_23, Int32.reduceAdd, Int32.reduceSub, Int32.reduceMul, Int32.reduceLT, Int32.reduceLE, Int32.reduceToNatClampNeg, Int32.reduceOfInt, Int64.reduceAdd, Int64.reduceSub, Int64.reduceMul, Int64.reduceLT, Int64.reduceLE, lg_cmp_ge, lg_cmp_le, lg_cmp_gt, lg_cmp_lt, lg_cmp_eq, bI_0, bI_1, not_true_eq_false, not_false_eq_true, false_implies, Bool.not_eq_false, Bool.not_eq_true, and_self, Nat.reduceAdd, Int.reduceAdd, Nat.reduceEqDiff, reduceIte, true_and, and_true, implies_true, forall_const, Nat.zero_le, Nat.add_zero, Nat.zero_add, true_or, or_true, false_or, or_false, and_false, false_and, sCI_r, sCJ_r, Nat.reduceLeDiff]
  exact ⟨i, hi, rfl, rfl, rfl, i, hi, rfl, rfl⟩
def P_S_coder  : hG → Nat → hH → Nat → Prop := fun g a0 m n => (∃ i, i < 29 ∧ a0 = gTx g i) ∧ True
noncomputable def R_S_coder  : hG → Nat → hH → Nat → Int32 := fun g a0 m n => 0
def T_S_coder (mc ms : Nat) (g : hG) : Nat → Nat → se_Op hW := se_tab [(2, 38, hGst g 3), (0, 15, hTxC g)]
set_option maxRecDepth 20000 in
theorem T_S_coder_ok (l : Launch) (hl : l.stackTraces = false) (mc ms : Nat) : hTS l yJ5_coder.cls yJ5_coder.name cJ5_coder 1 (some .byte) 0 0 mc ms (T_S_coder mc ms) := fun g p e s m args below meth c Q H0 C hnm hG hS k i => se_tab_ok _ (List.forall_mem_cons.mpr ⟨hGst_ok (i := 3) rfl (.inl q515) C hG hS, List.forall_mem_cons.mpr ⟨hTxC_ok q2604 C hS, fun _ h => absurd h List.not_mem_nil⟩⟩) k i
set_option maxRecDepth 20000 in
theorem T_S_coder_2_38 {mc ms : Nat} {g : hG} : T_S_coder mc ms g 2 38 = hGst g 3 := rfl
set_option maxRecDepth 20000 in
theorem T_S_coder_0_15 {mc ms : Nat} {g : hG} : T_S_coder mc ms g 0 15 = hTxC g := rfl
set_option maxHeartbeats 1000000 in
set_option maxRecDepth 20000 in
theorem yt_S_coder (l : Launch) (hl : l.stackTraces = false) : hm_LrB l yJ5_coder (ws_ yJ5_coder cJ5_coder 1 (some .byte)) 0 0 0 0 P_S_coder (fun g a0 m n x m' n' => x = R_S_coder g a0 m n ∧ m' = m ∧ n' = n) := by
  refine hm_LrB_of (by decide +kernel) rfl (T_S_coder_ok l hl 0 0) (by decide) fun g a0 m n hin hv hp G hG => ?_
  show G 0 [some (.ref a0)] [] (m, n, 0, 0)
  obtain ⟨⟨i, hi, rfl⟩, -⟩ := hp
  have e3 : gV g 3 = .int 1 := hv.2.2.2.1
  have nz : narrow .byte (.int 0) = .int 0 := by decide
  refine hG [13] 300 _ _ _ _ ?_
  simp only [wpN, ↓wq_aload_0, ↓wq_aload_1, ↓wq_aload_2, ↓wq_aload_3, ↓wq_aload_0n, ↓wq_aload_1n, ↓wq_aload_2n, ↓wq_aload_3n, ↓wq_getfield, ↓wq_getstatic, ↓wq_goto, ↓wq_iconst, ↓wq_if_eq, ↓wq_if_ne, ↓wq_if_lt, ↓wq_if_ge, ↓wq_if_gt, ↓wq_if_le, ↓wq_iret, ↓se_get_0, ↓se_get_s, ↓se_set1_0, ↓se_set1_1, ↓se_set1_s, ↓se_set2_0, ↓se_set2_1, ↓se_set2_s, ↓se_k2_n, ↓se_k2_i, ↓se_k2_r, ↓se_k2_u, ↓se_k2_l, ↓se_k2_q, ↓se_in_0, ↓se_in_s, ↓gI_s, ↓gL_s, ↓gR_r, ↓gR_n, ↓gR_q, ↓sR_r, ↓sR_n, ↓sR_q, ↓se_sp_n, ↓se_sp_y, ↓se_sp_z, ↓se_ts_n, ↓se_ts_c, ↓se_c8_n, ↓se_c8_i, ↓se_c8_r, ↓se_c8_u, ↓se_c8_l, ↓wD_e dJ5_coder_0, ↓wD_e dJ5_coder_3, ↓wD_e dJ5_coder_6, ↓wD_e dJ5_coder_7, ↓wD_e dJ5_coder_10, ↓wD_e dJ5_coder_13, ↓wD_e dJ5_coder_14, cc_iconst_1, ↓tg_3_10, ↓tg_10_4, ht_LrB_e, ↓T_S_coder_2_38, ↓T_S_coder_0_15, hGet_r, hPut_r, hTxV, hTxC, hTxB, hTxL, hBxA, hBxV, hGst, hLdM, hCpy_r, hGcl_r, hAald_r, hAlE_r, hAastO_r, hAastO_n, hNewA_r, hObj, List.mem_cons, List.not_mem_nil, yrf_s, yrf_n, hfl, hVk, updV_a, hUa_s, i32_10, i32_01, i32_m10, i32_03, i32_13, i32_23, Int32.reduceAdd, Int32.reduceSub, Int32.reduceMul, Int32.reduceLT, Int32.reduceLE, Int32.reduceToNatClampNeg, Int32.reduceOfInt, Int64.reduceAdd, Int64.reduceSub, Int64.reduceMul, Int64.reduceLT, Int64.reduceLE, lg_cmp_ge, lg_cmp_le, lg_cmp_gt, lg_cmp_lt, lg_cmp_eq, bI_0, bI_1, not_true_eq_false, not_false_eq_true, false_implies, Bool.not_eq_false, Bool.not_eq_true, and_self, Nat.reduceAdd, Int.reduceAdd, Nat.reduceEqDiff, reduceIte, true_and, and_true, implies_true, forall_const, Nat.zero_le, Nat.add_zero, Nat.zero_add, true_or, or_true, false_or, or_false, and_false, false_and, sCI_r, sCJ_r, Nat.reduceLeDiff, e3, nz]
  exact ⟨i, hi, rfl, rfl⟩
theorem tg_3_14 {K : Nat → Prop} : se_tg 3 (14) K = K 17 := rfl
theorem tg_10_7 {K : Nat → Prop} : se_tg 10 (7) K = K 17 := rfl
theorem tg_14_4 {K : Nat → Prop} : se_tg 14 (4) K = K 18 := rfl
def P_S_isLatin1  : hG → Nat → hH → Nat → Prop := fun g a0 m n => (∃ i, i < 29 ∧ a0 = gTx g i) ∧ True
noncomputable def R_S_isLatin1  : hG → Nat → hH → Nat → Bool := fun g a0 m n => true
def T_S_isLatin1 (mc ms : Nat) (g : hG) : Nat → Nat → se_Op hW := se_tab [(2, 38, hGst g 3), (0, 15, hTxC g)]
set_option maxRecDepth 20000 in
theorem T_S_isLatin1_ok (l : Launch) (hl : l.stackTraces = false) (mc ms : Nat) : hTS l yJ5_isLatin1.cls yJ5_isLatin1.name cJ5_isLatin1 1 (some .boolean) 0 0 mc ms (T_S_isLatin1 mc ms) := fun g p e s m args below meth c Q H0 C hnm hG hS k i => se_tab_ok _ (List.forall_mem_cons.mpr ⟨hGst_ok (i := 3) rfl (.inl q515) C hG hS, List.forall_mem_cons.mpr ⟨hTxC_ok q2604 C hS, fun _ h => absurd h List.not_mem_nil⟩⟩) k i
set_option maxRecDepth 20000 in
theorem T_S_isLatin1_2_38 {mc ms : Nat} {g : hG} : T_S_isLatin1 mc ms g 2 38 = hGst g 3 := rfl
set_option maxRecDepth 20000 in
theorem T_S_isLatin1_0_15 {mc ms : Nat} {g : hG} : T_S_isLatin1 mc ms g 0 15 = hTxC g := rfl
set_option maxHeartbeats 1000000 in
set_option maxRecDepth 20000 in
theorem yt_S_isLatin1 (l : Launch) (hl : l.stackTraces = false) : hm_LrZ l yJ5_isLatin1 (ws_ yJ5_isLatin1 cJ5_isLatin1 1 (some .boolean)) 0 0 0 0 P_S_isLatin1 (fun g a0 m n x m' n' => x = R_S_isLatin1 g a0 m n ∧ m' = m ∧ n' = n) := by
  refine hm_LrZ_of (by decide +kernel) rfl (T_S_isLatin1_ok l hl 0 0) (by decide) fun g a0 m n hin hv hp G hG => ?_
  show G 0 [some (.ref a0)] [] (m, n, 0, 0)
  obtain ⟨⟨i, hi, rfl⟩, -⟩ := hp
  have e3 : gV g 3 = .int 1 := hv.2.2.2.1
  refine hG [17] 300 _ _ _ _ ?_
  simp only [wpN, ↓wq_aload_0, ↓wq_aload_1, ↓wq_aload_2, ↓wq_aload_3, ↓wq_aload_0n, ↓wq_aload_1n, ↓wq_aload_2n, ↓wq_aload_3n, ↓wq_getfield, ↓wq_getstatic, ↓wq_goto, ↓wq_iconst, ↓wq_if_eq, ↓wq_if_ne, ↓wq_if_lt, ↓wq_if_ge, ↓wq_if_gt, ↓wq_if_le, ↓wq_iret, ↓se_get_0, ↓se_get_s, ↓se_set1_0, ↓se_set1_1, ↓se_set1_s, ↓se_set2_0, ↓se_set2_1, ↓se_set2_s, ↓se_k2_n, ↓se_k2_i, ↓se_k2_r, ↓se_k2_u, ↓se_k2_l, ↓se_k2_q, ↓se_in_0, ↓se_in_s, ↓gI_s, ↓gL_s, ↓gR_r, ↓gR_n, ↓gR_q, ↓sR_r, ↓sR_n, ↓sR_q, ↓se_sp_n, ↓se_sp_y, ↓se_sp_z, ↓se_ts_n, ↓se_ts_c, ↓se_c8_n, ↓se_c8_i, ↓se_c8_r, ↓se_c8_u, ↓se_c8_l, ↓wD_e dJ5_isLatin1_0, ↓wD_e dJ5_isLatin1_3, ↓wD_e dJ5_isLatin1_6, ↓wD_e dJ5_isLatin1_7, ↓wD_e dJ5_isLatin1_10, ↓wD_e dJ5_isLatin1_13, ↓wD_e dJ5_isLatin1_14, ↓wD_e dJ5_isLatin1_17, ↓wD_e dJ5_isLatin1_18, cc_iconst_0, cc_iconst_1, ↓tg_3_14, ↓tg_10_7, ↓tg_14_4, ↓rz_b, ↓rz_1, ↓rz_0, ht_LrZ_e, ↓T_S_isLatin1_2_38, ↓T_S_isLatin1_0_15, hGet_r, hPut_r, hTxV, hTxC, hTxB, hTxL, hBxA, hBxV, hGst, hLdM, hCpy_r, hGcl_r, hAald_r, hAlE_r, hAastO_r, hAastO_n, hNewA_r, hObj, List.mem_cons, List.not_mem_nil, yrf_s, yrf_n, hfl, hVk, updV_a, hUa_s, i32_10, i32_01, i32_m10, i32_03, i32_13, i32_23, Int32.reduceAdd, Int32.reduceSub, Int32.reduceMul, Int32.reduceLT, Int32.reduceLE, Int32.reduceToNatClampNeg, Int32.reduceOfInt, Int64.reduceAdd, Int64.reduceSub, Int64.reduceMul, Int64.reduceLT, Int64.reduceLE, lg_cmp_ge, lg_cmp_le, lg_cmp_gt, lg_cmp_lt, lg_cmp_eq, bI_0, bI_1, not_true_eq_false, not_false_eq_true, false_implies, Bool.not_eq_false, Bool.not_eq_true, and_self, Nat.reduceAdd, Int.reduceAdd, Nat.reduceEqDiff, reduceIte, true_and, and_true, implies_true, forall_const, Nat.zero_le, Nat.add_zero, Nat.zero_add, true_or, or_true, false_or, or_false, and_false, false_and, sCI_r, sCJ_r, Nat.reduceLeDiff, e3]
  exact ⟨i, hi, rfl, rfl⟩
def P_S_length (i : Nat) : hG → Nat → hH → Nat → Prop := fun g a0 m n => (∃ i, i < 29 ∧ a0 = gTx g i) ∧ i < 29 ∧ a0 = gTx g i
noncomputable def R_S_length (i : Nat) : hG → Nat → hH → Nat → Int32 := fun g a0 m n => nI (hLen.getD i 0)
def T_S_length (i : Nat) (mc ms : Nat) (g : hG) : Nat → Nat → se_Op hW := se_tab [(0, 9, hTxV g), (21, 0, hTxL g), (3, 335, hp_LrB g mc ms P_S_coder R_S_coder)]
set_option maxRecDepth 20000 in
theorem T_S_length_ok (l : Launch) (hl : l.stackTraces = false) (i : Nat) (mc ms : Nat) : hTS l yJ5_length.cls yJ5_length.name cJ5_length 1 (some .int) 1 20 mc ms (T_S_length i mc ms) := fun g p e s m args below meth c Q H0 C hnm hG hS k i => se_tab_ok _ (List.forall_mem_cons.mpr ⟨hTxV_ok q2605 C hS, List.forall_mem_cons.mpr ⟨hTxL_ok C hS, List.forall_mem_cons.mpr ⟨hp_LrB_ok <| ho_LrB_ok (hCVL_ok (maxL' := 1) (fr' := 0) (lo' := 0) (yt_S_coder l hl) (fun g As h n hp => by obtain ⟨_, rfl, hp⟩ := hp; exact hLw_T hp) q521 q522 q523 q109 q524 (by decide +kernel) ⟨by decide, by decide⟩ C hG hS), fun _ h => absurd h List.not_mem_nil⟩⟩⟩) k i
set_option maxRecDepth 20000 in
theorem T_S_length_0_9 {i : Nat} {mc ms : Nat} {g : hG} : T_S_length i mc ms g 0 9 = hTxV g := rfl
set_option maxRecDepth 20000 in
theorem T_S_length_21_0 {i : Nat} {mc ms : Nat} {g : hG} : T_S_length i mc ms g 21 0 = hTxL g := rfl
set_option maxRecDepth 20000 in
theorem T_S_length_3_335 {i : Nat} {mc ms : Nat} {g : hG} : T_S_length i mc ms g 3 335 = hp_LrB g mc ms P_S_coder R_S_coder := rfl
set_option maxHeartbeats 1000000 in
set_option maxRecDepth 20000 in
theorem yt_S_length (l : Launch) (hl : l.stackTraces = false) (i : Nat) : hm_LrI l yJ5_length (ws_ yJ5_length cJ5_length 1 (some .int)) 1 20 0 0 (P_S_length i) (fun g a0 m n x m' n' => x = R_S_length i g a0 m n ∧ m' = m ∧ n' = n) := by
  refine hm_LrI_of (by decide +kernel) rfl (T_S_length_ok l hl i 0 0) (by decide) fun g a0 m n hin hv hp G hG => ?_
  show G 0 [some (.ref a0)] [] (m, n, 0, 0)
  have hpc : P_S_coder g a0 m n := ⟨hp.1, trivial⟩
  obtain ⟨-, hi, rfl⟩ := hp
  have hz : ∀ x : Int32, x >>> ((0 : Int32) &&& 31) = x := fun x => by
    have e : ((0 : Int32) &&& 31) = 0 := by decide
    rw [e]
    exact Int32.shiftRight_zero
  refine hG [] 300 _ _ _ _ ?_
  simp only [wpN, ↓wq_aload_0, ↓wq_aload_1, ↓wq_aload_2, ↓wq_aload_3, ↓wq_aload_0n, ↓wq_aload_1n, ↓wq_aload_2n, ↓wq_aload_3n, ↓wq_arraylength, ↓wq_getfield, ↓wq_invokevirtual, ↓wq_iret, ↓wq_ishr, ↓se_get_0, ↓se_get_s, ↓se_set1_0, ↓se_set1_1, ↓se_set1_s, ↓se_set2_0, ↓se_set2_1, ↓se_set2_s, ↓se_k2_n, ↓se_k2_i, ↓se_k2_r, ↓se_k2_u, ↓se_k2_l, ↓se_k2_q, ↓se_in_0, ↓se_in_s, ↓gI_s, ↓gL_s, ↓gR_r, ↓gR_n, ↓gR_q, ↓sR_r, ↓sR_n, ↓sR_q, ↓se_sp_n, ↓se_sp_y, ↓se_sp_z, ↓se_ts_n, ↓se_ts_c, ↓se_c8_n, ↓se_c8_i, ↓se_c8_r, ↓se_c8_u, ↓se_c8_l, ↓wD_e dJ5_length_0, ↓wD_e dJ5_length_1, ↓wD_e dJ5_length_4, ↓wD_e dJ5_length_5, ↓wD_e dJ5_length_6, ↓wD_e dJ5_length_9, ↓wD_e dJ5_length_10, ht_LrI_e, ↓T_S_length_0_9, ↓T_S_length_21_0, ↓T_S_length_3_335, hp_LrB_r, hGet_r, hPut_r, hTxV, hTxC, hTxB, hTxL, hBxA, hBxV, hGst, hLdM, hCpy_r, hGcl_r, hAald_r, hAlE_r, hAastO_r, hAastO_n, hNewA_r, hObj, List.mem_cons, List.not_mem_nil, yrf_s, yrf_n, hfl, hVk, updV_a, hUa_s, i32_10, i32_01, i32_m10, i32_03, i32_13, i32_23, Int32.reduceAdd, Int32.reduceSub, Int32.reduceMul, Int32.reduceLT, Int32.reduceLE, Int32.reduceToNatClampNeg, Int32.reduceOfInt, Int64.reduceAdd, Int64.reduceSub, Int64.reduceMul, Int64.reduceLT, Int64.reduceLE, lg_cmp_ge, lg_cmp_le, lg_cmp_gt, lg_cmp_lt, lg_cmp_eq, bI_0, bI_1, not_true_eq_false, not_false_eq_true, false_implies, Bool.not_eq_false, Bool.not_eq_true, and_self, Nat.reduceAdd, Int.reduceAdd, Nat.reduceEqDiff, reduceIte, true_and, and_true, implies_true, forall_const, Nat.zero_le, Nat.add_zero, Nat.zero_add, true_or, or_true, false_or, or_false, and_false, false_and, sCI_r, sCJ_r, Nat.reduceLeDiff, R_S_coder, hpc, hz]
  exact ⟨i, hi, rfl, i, hi, rfl, rfl⟩
