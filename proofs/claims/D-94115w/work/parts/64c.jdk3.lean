/-- what a list's growth leaves: its new array at E, its length, its content -/
def hAdQ (g : hG) (h : hH) (n a k L : Nat) (F F' : Nat → Option Nat) (h' : hH) (n' : Nat) : Prop :=
  n' = n + lG k L ∧ ∃ E', hLi h' a E' (k + 1) ∧ h' E' = some (hA4 (lNc k L) F') ∧ (∀ b, b < n → b ≠ a → b ≠ E' → h' b = h b) ∧ (∀ E, hLi h a E k → (lG k L = 0 → E' = E) ∧ (lG k L = 1 → E' = n)) ∧ ∀ b, n' ≤ b → h' b = h b

def P_L_add_LLI (mc ms : Nat) : hG → Nat → Nat → Nat → Int32 → hH → Nat → Prop := fun g a0 a1 a2 a3 m n => ∃ k L F, hLst g m a0 a2 k L F ∧ a3 = nI k ∧ k ≤ 40000 ∧ hEls g m k F ∧ hAnyO g m a1 ∧ (k < L ∨ (1 ≤ mc ∧ lNc k L ≤ ms))
def Q_L_add_LLI (mc ms : Nat) : hG → Nat → Nat → Nat → Int32 → hH → Nat → hH → Nat → Prop := fun g a0 a1 a2 a3 m n m' n' => ∀ k L F, hLst g m a0 a2 k L F → a3 = nI k → ∃ F', hAdQ g m n a0 k L F F' m' n' ∧ (∀ j, j < k → F' j = F j) ∧ F' k = some a1
def T_L_add_LLI (mc ms : Nat) (mc ms : Nat) (g : hG) : Nat → Nat → se_Op hW := se_tab [(21, 0, hAlE g), (20, 0, hAastO g), (1, 48, hPut [(23, 2)] 0), (3, 129, hov_LrL g mc ms mc ms [23] (P_L_grow_ mc ms) (Q_L_grow_ mc ms))]
set_option maxRecDepth 20000 in
theorem T_L_add_LLI_ok (l : Launch) (hl : l.stackTraces = false) (mc ms : Nat) (mc ms : Nat) : hTS l yJ2_add_2.cls yJ2_add_2.name cJ2_add_2 4 none 5 147 mc ms (T_L_add_LLI mc ms mc ms) := fun g p e s m args below meth c Q H0 C hnm hG hS k i => se_tab_ok _ (List.forall_mem_cons.mpr ⟨hAlE_ok C hG hS, List.forall_mem_cons.mpr ⟨hAastO_ok C hG hS, List.forall_mem_cons.mpr ⟨hPut_ok (F := [(23, 2)]) (t := 0) (List.forall_mem_cons.mpr ⟨⟨(RJ2, TJ2, 3), "java/util/ArrayList", rfl, by decide, .inl q172, .inl rfl⟩, fun _ h => absurd h List.not_mem_nil⟩) (List.forall_mem_cons.mpr ⟨fun r ty h1 h2 => by cases h1; cases h2; exact ⟨rfl, rfl⟩, fun _ h => absurd h List.not_mem_nil⟩) C hG, List.forall_mem_cons.mpr ⟨hov_LrL_ok (hCVG_ok (maxL' := 1) (fr' := 4) (lo' := 127) (yt_L_grow_ l hl mc ms) (List.forall_mem_cons.mpr ⟨⟨_, rfl, hRunV_V (na := 0) C.1.2.2.2.2 q785 q787 qs6 q101 q788 (by decide +kernel) ⟨by decide, by decide⟩⟩, fun _ h => absurd h List.not_mem_nil⟩) C hG hS), fun _ h => absurd h List.not_mem_nil⟩⟩⟩⟩) k i
set_option maxRecDepth 20000 in
theorem T_L_add_LLI_21_0 {mc ms : Nat} {mc ms : Nat} {g : hG} : T_L_add_LLI mc ms mc ms g 21 0 = hAlE g := rfl
set_option maxRecDepth 20000 in
theorem T_L_add_LLI_20_0 {mc ms : Nat} {mc ms : Nat} {g : hG} : T_L_add_LLI mc ms mc ms g 20 0 = hAastO g := rfl
set_option maxRecDepth 20000 in
theorem T_L_add_LLI_1_48 {mc ms : Nat} {mc ms : Nat} {g : hG} : T_L_add_LLI mc ms mc ms g 1 48 = hPut [(23, 2)] 0 := rfl
set_option maxRecDepth 20000 in
theorem T_L_add_LLI_3_129 {mc ms : Nat} {mc ms : Nat} {g : hG} : T_L_add_LLI mc ms mc ms g 3 129 = hov_LrL g mc ms mc ms [23] (P_L_grow_ mc ms) (Q_L_grow_ mc ms) := rfl
set_option maxHeartbeats 1000000 in
set_option maxRecDepth 20000 in
theorem yt_L_add_LLI (l : Launch) (hl : l.stackTraces = false) (mc ms : Nat) : hm_LLLIrV l yJ2_add_2 (ws_ yJ2_add_2 cJ2_add_2 4 none) 5 147 mc ms (P_L_add_LLI mc ms) (Q_L_add_LLI mc ms) := by
  refine hm_LLLIrV_of (by decide +kernel) rfl (T_L_add_LLI_ok l hl mc ms mc ms) (by decide) fun g a0 a1 a2 a3 m n hin hv hp G hG => ?_
  show G 0 [some (.ref a0), some (.ref a1), some (.ref a2), some (.int a3)] [] (m, n, 0, 0)
  obtain ⟨k, L, F, hL, rfl, hk, hE, hany, hb⟩ := hp
  have hL0 := hL
  obtain ⟨⟨o, md, e1, e2, e3, e4⟩, h1, h2, h3⟩ := hL
  have ha : a0 < n := (hin a0 _ e1).1
  have hmn : m n = none := by
    cases e : m n with
    | none => rfl
    | some ob => exact absurd (hin n ob e).1 (Nat.lt_irrefl _)
  have hnew : ∀ b, n ≤ b → m b = none := fun b hb => by
    cases e : m b with
    | none => rfl
    | some ob => exact absurd (hin b ob e).1 (by omega)
  have hs1 : nI k + 1 = nI (k + 1) := nI_1 _
  have hcl : (nI k).toNatClampNeg = k := nI_clamp (by omega)
  have hkk : ∀ k', nI k = nI k' → k' ≤ 65536 → k = k' := fun k' q1 q2 => by
    have := congrArg Int32.toNatClampNeg q1
    rw [nI_clamp (by omega), nI_clamp (by omega)] at this
    exact this
  by_cases hkL : k < L
  · obtain ⟨h3, h30⟩ : m a2 = some (hA4 L F) ∧ 0 < L := by
      rcases h3 with ⟨-, q, -⟩ | q
      · omega
      · exact q
    have hne : a2 ≠ a0 := hLi_ne ⟨o, md, e1, e2, e3, e4⟩ h3
    have hoL : Int32.ofNat L = nI L := rfl
    have hnk : ¬ nI k = nI L := by
      rw [nI_eqL (by omega) (by omega)]
      omega
    have hin1 : vp_in (nI k) L := by
      intro q
      rcases q with q | q
      · exact absurd q (nI_nn (by omega))
      · rw [hcl] at q; omega
    have hany' : hAnyO g m a1 := hany
    have hne' : a0 ≠ a2 := hne.symm
    refine hG [11] 300 _ _ _ _ ?_
    simp only [wpN, ↓wq_aastore, ↓wq_aload_0, ↓wq_aload_1, ↓wq_aload_2, ↓wq_aload_3, ↓wq_aload_0n, ↓wq_aload_1n, ↓wq_aload_2n, ↓wq_aload_3n, ↓wq_arraylength, ↓wq_astore_0, ↓wq_astore_1, ↓wq_astore_2, ↓wq_astore_3, ↓wq_astore_0n, ↓wq_astore_1n, ↓wq_astore_2n, ↓wq_astore_3n, ↓wq_iadd, ↓wq_iconst, ↓wq_icmp_eq, ↓wq_icmp_ne, ↓wq_icmp_lt, ↓wq_icmp_ge, ↓wq_icmp_gt, ↓wq_icmp_le, ↓wq_iload_0, ↓wq_iload_1, ↓wq_iload_2, ↓wq_iload_3, ↓wq_invokevirtual, ↓wq_putfield, ↓wq_ret, ↓se_get_0, ↓se_get_s, ↓se_set1_0, ↓se_set1_1, ↓se_set1_s, ↓se_set2_0, ↓se_set2_1, ↓se_set2_s, ↓se_k2_n, ↓se_k2_i, ↓se_k2_r, ↓se_k2_u, ↓se_k2_l, ↓se_k2_q, ↓se_in_0, ↓se_in_s, ↓gI_s, ↓gL_s, ↓gR_r, ↓gR_n, ↓gR_q, ↓sR_r, ↓sR_n, ↓sR_q, ↓se_sp_n, ↓se_sp_y, ↓se_sp_z, ↓se_ts_n, ↓se_ts_c, ↓se_c8_n, ↓se_c8_i, ↓se_c8_r, ↓se_c8_u, ↓se_c8_l, ↓wD_e dJ2_add_2_0, ↓wD_e dJ2_add_2_1, ↓wD_e dJ2_add_2_2, ↓wD_e dJ2_add_2_3, ↓wD_e dJ2_add_2_6, ↓wD_e dJ2_add_2_7, ↓wD_e dJ2_add_2_10, ↓wD_e dJ2_add_2_11, ↓wD_e dJ2_add_2_12, ↓wD_e dJ2_add_2_13, ↓wD_e dJ2_add_2_14, ↓wD_e dJ2_add_2_15, ↓wD_e dJ2_add_2_16, ↓wD_e dJ2_add_2_17, ↓wD_e dJ2_add_2_18, ↓wD_e dJ2_add_2_19, ↓wD_e dJ2_add_2_22, cc_iconst_1, ↓tg_3_8, ht_LLLIrV_e, ↓T_L_add_LLI_21_0, ↓T_L_add_LLI_20_0, ↓T_L_add_LLI_1_48, ↓T_L_add_LLI_3_129, hov_LrL_r, hGet_r, hPut_r, hTxV, hTxC, hTxB, hTxL, hBxA, hBxV, hGst, hLdM, hCpy_r, hGcl_r, hAald_r, hAlE_r, hAastO_r, hAastO_n, hNewA_r, hObj, List.mem_cons, List.not_mem_nil, yrf_s, yrf_n, hfl, hVk, updV_a, hUa_s, i32_10, i32_01, i32_m10, i32_03, i32_13, i32_23, Int32.reduceAdd, Int32.reduceSub, Int32.reduceMul, Int32.reduceLT, Int32.reduceLE, Int32.reduceToNatClampNeg, Int32.reduceOfInt, Int64.reduceAdd, Int64.reduceSub, Int64.reduceMul, Int64.reduceLT, Int64.reduceLE, lg_cmp_ge, lg_cmp_le, lg_cmp_gt, lg_cmp_lt, lg_cmp_eq, bI_0, bI_1, not_true_eq_false, not_false_eq_true, false_implies, Bool.not_eq_false, Bool.not_eq_true, and_self, Nat.reduceAdd, Int.reduceAdd, Nat.reduceEqDiff, reduceIte, true_and, and_true, implies_true, forall_const, Nat.zero_le, Nat.add_zero, Nat.zero_add, true_or, or_true, false_or, or_false, and_false, false_and, sCI_r, sCJ_r, Nat.reduceLeDiff, h3, hoL, hnk]
    have hM1 : ∀ x, hU m a2 x a0 = some (.inl (23, o)) := fun x => by rw [hUa_n hne']; exact e1
    refine hG [11] 300 _ _ _ _ ?_
    simp only [wpN, ↓wq_aastore, ↓wq_aload_0, ↓wq_aload_1, ↓wq_aload_2, ↓wq_aload_3, ↓wq_aload_0n, ↓wq_aload_1n, ↓wq_aload_2n, ↓wq_aload_3n, ↓wq_arraylength, ↓wq_astore_0, ↓wq_astore_1, ↓wq_astore_2, ↓wq_astore_3, ↓wq_astore_0n, ↓wq_astore_1n, ↓wq_astore_2n, ↓wq_astore_3n, ↓wq_iadd, ↓wq_iconst, ↓wq_icmp_eq, ↓wq_icmp_ne, ↓wq_icmp_lt, ↓wq_icmp_ge, ↓wq_icmp_gt, ↓wq_icmp_le, ↓wq_iload_0, ↓wq_iload_1, ↓wq_iload_2, ↓wq_iload_3, ↓wq_invokevirtual, ↓wq_putfield, ↓wq_ret, ↓se_get_0, ↓se_get_s, ↓se_set1_0, ↓se_set1_1, ↓se_set1_s, ↓se_set2_0, ↓se_set2_1, ↓se_set2_s, ↓se_k2_n, ↓se_k2_i, ↓se_k2_r, ↓se_k2_u, ↓se_k2_l, ↓se_k2_q, ↓se_in_0, ↓se_in_s, ↓gI_s, ↓gL_s, ↓gR_r, ↓gR_n, ↓gR_q, ↓sR_r, ↓sR_n, ↓sR_q, ↓se_sp_n, ↓se_sp_y, ↓se_sp_z, ↓se_ts_n, ↓se_ts_c, ↓se_c8_n, ↓se_c8_i, ↓se_c8_r, ↓se_c8_u, ↓se_c8_l, ↓wD_e dJ2_add_2_0, ↓wD_e dJ2_add_2_1, ↓wD_e dJ2_add_2_2, ↓wD_e dJ2_add_2_3, ↓wD_e dJ2_add_2_6, ↓wD_e dJ2_add_2_7, ↓wD_e dJ2_add_2_10, ↓wD_e dJ2_add_2_11, ↓wD_e dJ2_add_2_12, ↓wD_e dJ2_add_2_13, ↓wD_e dJ2_add_2_14, ↓wD_e dJ2_add_2_15, ↓wD_e dJ2_add_2_16, ↓wD_e dJ2_add_2_17, ↓wD_e dJ2_add_2_18, ↓wD_e dJ2_add_2_19, ↓wD_e dJ2_add_2_22, cc_iconst_1, ↓tg_3_8, ht_LLLIrV_e, ↓T_L_add_LLI_21_0, ↓T_L_add_LLI_20_0, ↓T_L_add_LLI_1_48, ↓T_L_add_LLI_3_129, hov_LrL_r, hGet_r, hPut_r, hTxV, hTxC, hTxB, hTxL, hBxA, hBxV, hGst, hLdM, hCpy_r, hGcl_r, hAald_r, hAlE_r, hAastO_r, hAastO_n, hNewA_r, hObj, List.mem_cons, List.not_mem_nil, yrf_s, yrf_n, hfl, hVk, updV_a, hUa_s, i32_10, i32_01, i32_m10, i32_03, i32_13, i32_23, Int32.reduceAdd, Int32.reduceSub, Int32.reduceMul, Int32.reduceLT, Int32.reduceLE, Int32.reduceToNatClampNeg, Int32.reduceOfInt, Int64.reduceAdd, Int64.reduceSub, Int64.reduceMul, Int64.reduceLT, Int64.reduceLE, lg_cmp_ge, lg_cmp_le, lg_cmp_gt, lg_cmp_lt, lg_cmp_eq, bI_0, bI_1, not_true_eq_false, not_false_eq_true, false_implies, Bool.not_eq_false, Bool.not_eq_true, and_self, Nat.reduceAdd, Int.reduceAdd, Nat.reduceEqDiff, reduceIte, true_and, and_true, implies_true, forall_const, Nat.zero_le, Nat.add_zero, Nat.zero_add, true_or, or_true, false_or, or_false, and_false, false_and, sCI_r, sCJ_r, Nat.reduceLeDiff, h3, hin1, hany', hcl, hM1, hs1]
    intro k' L' F' hq1 hq2
    obtain ⟨⟨o', md', f1, f2, f3, f4⟩, g1, g2, g3⟩ := hq1
    obtain rfl := hkk k' hq2 (by omega)
    obtain ⟨g3, -⟩ : m a2 = some (hA4 L' F') ∧ 0 < L' := by
      rcases g3 with ⟨-, -, q⟩ | q
      · rw [h3] at q; cases q
      · exact q
    rw [h3] at g3
    cases g3
    have hG0 : lG k L = 0 := if_pos hkL
    have hN0 : lNc k L = L := if_pos hkL
    refine ⟨va_up F k (some a1), ⟨by rw [hG0]; rfl, a2, ⟨updV o 2 (.int (nI (k + 1))), md, hUa_s, ?_, ?_, ?_⟩, ?_, ?_, ?_, ?_⟩, ?_, ?_⟩
    · rw [updV_a, if_neg (by omega)]; exact e2
    · rw [updV_a, if_neg (by omega)]; exact e3
    · rw [updV_a, if_pos rfl]
    · rw [hUa_n hne, hUa_s, hN0]
    · intro b _ hb1 hb2
      rw [hUa_n hb1, hUa_n hb2]
    · intro E ⟨o2, md2, i1, i2, i3, i4⟩
      rw [e1] at i1
      cases i1
      rw [e3] at i3
      cases i3
      exact ⟨fun _ => rfl, fun q => by omega⟩
    · intro b hb
      have : n ≤ b := by omega
      have hb2 : b ≠ a2 := fun q => by have := (hin a2 _ h3).1; omega
      rw [hUa_n (by omega), hUa_n hb2]
    · intro j hj
      show va_up F k (some a1) j = _
      unfold va_up
      rw [if_neg (by omega)]
    · show va_up F k (some a1) k = _
      unfold va_up
      rw [if_pos rfl]
  · have hkL' : k = L := by omega
    subst hkL'
    have hb' : 1 ≤ mc ∧ lNc k k ≤ ms := by
      rcases hb with q | q
      · omega
      · exact q
    have hN10 : lNc k k ≤ 65536 := by
      unfold lNc
      split
      · omega
      · split <;> omega
    have hkN : k < lNc k k := by
      unfold lNc
      split
      · omega
      · split <;> omega
    have hn0 : n ≠ a0 := by omega
    have h0n : a0 ≠ n := by omega
    have han : ∀ x y, hAnyO g (hU (hU m n x) a0 y) a1 := by
      intro x y
      rcases hany with ⟨o2, ho2, h23⟩ | q
      · refine .inl ⟨o2, ?_, h23⟩
        rw [hUa_n (fun q => by rw [q, e1] at ho2; cases ho2; omega), hUa_n (fun q => by rw [q, hmn] at ho2; cases ho2)]
        exact ho2
      · exact .inr q
    have hin1 : vp_in (nI k) (lNc k k) := by
      intro q
      rcases q with q | q
      · exact absurd q (nI_nn (by omega))
      · rw [hcl] at q; omega
    have hu4 : updV o 1 (.ref n) 2 = .int (nI k) := by rw [updV_a, if_neg (by omega)]; exact e4
    have cont : ∀ c1 c2, c1 ≤ mc → c2 ≤ ms → G 10 [some (.ref a0), some (.ref a1), some (.ref a2), some (.int (nI k))] [.ref n] (hU (hU m n (hA4 (lNc k k) (hCut F k))) a0 (.inl (23, updV o 1 (.ref n))), n + 1, c1, c2) := by
      intro c1 c2 hc1 hc2
      have hMn : ∀ y, hU (hU m n (hA4 (lNc k k) (hCut F k))) a0 y n = some (hA4 (lNc k k) (hCut F k)) := fun y => by rw [hUa_n hn0, hUa_s]
      have hMa : ∀ z x y, hU (hU (hU m n z) a0 (.inl (23, y))) n x a0 = some (.inl (23, y)) := fun z x y => by rw [hUa_n h0n, hUa_s]
      refine hG [11] 300 _ _ _ _ ?_
      simp only [wpN, ↓wq_aastore, ↓wq_aload_0, ↓wq_aload_1, ↓wq_aload_2, ↓wq_aload_3, ↓wq_aload_0n, ↓wq_aload_1n, ↓wq_aload_2n, ↓wq_aload_3n, ↓wq_arraylength, ↓wq_astore_0, ↓wq_astore_1, ↓wq_astore_2, ↓wq_astore_3, ↓wq_astore_0n, ↓wq_astore_1n, ↓wq_astore_2n, ↓wq_astore_3n, ↓wq_iadd, ↓wq_iconst, ↓wq_icmp_eq, ↓wq_icmp_ne, ↓wq_icmp_lt, ↓wq_icmp_ge, ↓wq_icmp_gt, ↓wq_icmp_le, ↓wq_iload_0, ↓wq_iload_1, ↓wq_iload_2, ↓wq_iload_3, ↓wq_invokevirtual, ↓wq_putfield, ↓wq_ret, ↓se_get_0, ↓se_get_s, ↓se_set1_0, ↓se_set1_1, ↓se_set1_s, ↓se_set2_0, ↓se_set2_1, ↓se_set2_s, ↓se_k2_n, ↓se_k2_i, ↓se_k2_r, ↓se_k2_u, ↓se_k2_l, ↓se_k2_q, ↓se_in_0, ↓se_in_s, ↓gI_s, ↓gL_s, ↓gR_r, ↓gR_n, ↓gR_q, ↓sR_r, ↓sR_n, ↓sR_q, ↓se_sp_n, ↓se_sp_y, ↓se_sp_z, ↓se_ts_n, ↓se_ts_c, ↓se_c8_n, ↓se_c8_i, ↓se_c8_r, ↓se_c8_u, ↓se_c8_l, ↓wD_e dJ2_add_2_0, ↓wD_e dJ2_add_2_1, ↓wD_e dJ2_add_2_2, ↓wD_e dJ2_add_2_3, ↓wD_e dJ2_add_2_6, ↓wD_e dJ2_add_2_7, ↓wD_e dJ2_add_2_10, ↓wD_e dJ2_add_2_11, ↓wD_e dJ2_add_2_12, ↓wD_e dJ2_add_2_13, ↓wD_e dJ2_add_2_14, ↓wD_e dJ2_add_2_15, ↓wD_e dJ2_add_2_16, ↓wD_e dJ2_add_2_17, ↓wD_e dJ2_add_2_18, ↓wD_e dJ2_add_2_19, ↓wD_e dJ2_add_2_22, cc_iconst_1, ↓tg_3_8, ht_LLLIrV_e, ↓T_L_add_LLI_21_0, ↓T_L_add_LLI_20_0, ↓T_L_add_LLI_1_48, ↓T_L_add_LLI_3_129, hov_LrL_r, hGet_r, hPut_r, hTxV, hTxC, hTxB, hTxL, hBxA, hBxV, hGst, hLdM, hCpy_r, hGcl_r, hAald_r, hAlE_r, hAastO_r, hAastO_n, hNewA_r, hObj, List.mem_cons, List.not_mem_nil, yrf_s, yrf_n, hfl, hVk, updV_a, hUa_s, i32_10, i32_01, i32_m10, i32_03, i32_13, i32_23, Int32.reduceAdd, Int32.reduceSub, Int32.reduceMul, Int32.reduceLT, Int32.reduceLE, Int32.reduceToNatClampNeg, Int32.reduceOfInt, Int64.reduceAdd, Int64.reduceSub, Int64.reduceMul, Int64.reduceLT, Int64.reduceLE, lg_cmp_ge, lg_cmp_le, lg_cmp_gt, lg_cmp_lt, lg_cmp_eq, bI_0, bI_1, not_true_eq_false, not_false_eq_true, false_implies, Bool.not_eq_false, Bool.not_eq_true, and_self, Nat.reduceAdd, Int.reduceAdd, Nat.reduceEqDiff, reduceIte, true_and, and_true, implies_true, forall_const, Nat.zero_le, Nat.add_zero, Nat.zero_add, true_or, or_true, false_or, or_false, and_false, false_and, sCI_r, sCJ_r, Nat.reduceLeDiff, hc1, hc2]
      refine hG [] 300 _ _ _ _ ?_
      simp only [wpN, ↓wq_aastore, ↓wq_aload_0, ↓wq_aload_1, ↓wq_aload_2, ↓wq_aload_3, ↓wq_aload_0n, ↓wq_aload_1n, ↓wq_aload_2n, ↓wq_aload_3n, ↓wq_arraylength, ↓wq_astore_0, ↓wq_astore_1, ↓wq_astore_2, ↓wq_astore_3, ↓wq_astore_0n, ↓wq_astore_1n, ↓wq_astore_2n, ↓wq_astore_3n, ↓wq_iadd, ↓wq_iconst, ↓wq_icmp_eq, ↓wq_icmp_ne, ↓wq_icmp_lt, ↓wq_icmp_ge, ↓wq_icmp_gt, ↓wq_icmp_le, ↓wq_iload_0, ↓wq_iload_1, ↓wq_iload_2, ↓wq_iload_3, ↓wq_invokevirtual, ↓wq_putfield, ↓wq_ret, ↓se_get_0, ↓se_get_s, ↓se_set1_0, ↓se_set1_1, ↓se_set1_s, ↓se_set2_0, ↓se_set2_1, ↓se_set2_s, ↓se_k2_n, ↓se_k2_i, ↓se_k2_r, ↓se_k2_u, ↓se_k2_l, ↓se_k2_q, ↓se_in_0, ↓se_in_s, ↓gI_s, ↓gL_s, ↓gR_r, ↓gR_n, ↓gR_q, ↓sR_r, ↓sR_n, ↓sR_q, ↓se_sp_n, ↓se_sp_y, ↓se_sp_z, ↓se_ts_n, ↓se_ts_c, ↓se_c8_n, ↓se_c8_i, ↓se_c8_r, ↓se_c8_u, ↓se_c8_l, ↓wD_e dJ2_add_2_0, ↓wD_e dJ2_add_2_1, ↓wD_e dJ2_add_2_2, ↓wD_e dJ2_add_2_3, ↓wD_e dJ2_add_2_6, ↓wD_e dJ2_add_2_7, ↓wD_e dJ2_add_2_10, ↓wD_e dJ2_add_2_11, ↓wD_e dJ2_add_2_12, ↓wD_e dJ2_add_2_13, ↓wD_e dJ2_add_2_14, ↓wD_e dJ2_add_2_15, ↓wD_e dJ2_add_2_16, ↓wD_e dJ2_add_2_17, ↓wD_e dJ2_add_2_18, ↓wD_e dJ2_add_2_19, ↓wD_e dJ2_add_2_22, cc_iconst_1, ↓tg_3_8, ht_LLLIrV_e, ↓T_L_add_LLI_21_0, ↓T_L_add_LLI_20_0, ↓T_L_add_LLI_1_48, ↓T_L_add_LLI_3_129, hov_LrL_r, hGet_r, hPut_r, hTxV, hTxC, hTxB, hTxL, hBxA, hBxV, hGst, hLdM, hCpy_r, hGcl_r, hAald_r, hAlE_r, hAastO_r, hAastO_n, hNewA_r, hObj, List.mem_cons, List.not_mem_nil, yrf_s, yrf_n, hfl, hVk, updV_a, hUa_s, i32_10, i32_01, i32_m10, i32_03, i32_13, i32_23, Int32.reduceAdd, Int32.reduceSub, Int32.reduceMul, Int32.reduceLT, Int32.reduceLE, Int32.reduceToNatClampNeg, Int32.reduceOfInt, Int64.reduceAdd, Int64.reduceSub, Int64.reduceMul, Int64.reduceLT, Int64.reduceLE, lg_cmp_ge, lg_cmp_le, lg_cmp_gt, lg_cmp_lt, lg_cmp_eq, bI_0, bI_1, not_true_eq_false, not_false_eq_true, false_implies, Bool.not_eq_false, Bool.not_eq_true, and_self, Nat.reduceAdd, Int.reduceAdd, Nat.reduceEqDiff, reduceIte, true_and, and_true, implies_true, forall_const, Nat.zero_le, Nat.add_zero, Nat.zero_add, true_or, or_true, false_or, or_false, and_false, false_and, sCI_r, sCJ_r, Nat.reduceLeDiff, hc1, hc2, hMn, hMa, han, hin1, hcl, hs1]
      intro k' L' F' hq1 hq2
      obtain ⟨⟨o', md', f1, f2, f3, f4⟩, g1, g2, g3⟩ := hq1
      obtain rfl := hkk k' hq2 (by omega)
      rw [e1] at f1
      cases f1
      have hLL : k = L' ∧ ∀ j, j < k → F' j = F j := by
        rcases g3 with ⟨-, q, -⟩ | ⟨q, q0⟩
        · exact ⟨by omega, fun j hj => by omega⟩
        · rcases h3 with ⟨-, -, q2⟩ | ⟨q2, -⟩
          · rw [q] at q2; cases q2
          · rw [q] at q2
            cases q2
            exact ⟨rfl, fun j _ => rfl⟩
      obtain ⟨rfl, hFF⟩ := hLL
      have hG1 : lG k k = 1 := if_neg (Nat.lt_irrefl _)
      refine ⟨va_up (hCut F k) k (some a1), ⟨by rw [hG1], n, ⟨updV (updV o 1 (.ref n)) 2 (.int (nI (k + 1))), md, hUa_s, ?_, ?_, ?_⟩, ?_, ?_, ?_, ?_⟩, ?_, ?_⟩
      · rw [updV_a, if_neg (by omega), updV_a, if_neg (by omega)]; exact e2
      · rw [updV_a, if_neg (by omega), updV_a, if_pos rfl]
      · rw [updV_a, if_pos rfl]
      · rw [hUa_n hn0, hUa_s]
      · intro b _ hb1 hb2
        rw [hUa_n hb1, hUa_n hb2, hUa_n hb1, hUa_n hb2]
      · intro E _
        exact ⟨fun q => by omega, fun _ => rfl⟩
      · intro b hb
        rw [hUa_n (by omega), hUa_n (by omega), hUa_n (by omega), hUa_n (by omega)]
      · intro j hj
        show va_up (hCut F k) k (some a1) j = _
        unfold va_up hCut
        rw [if_neg (by omega), if_pos hj, hFF j hj]
      · show va_up (hCut F k) k (some a1) k = _
        unfold va_up
        rw [if_pos rfl]
    have hpre : P_L_grow_ mc ms g a0 m n := ⟨a2, k, F, hL0, hk, hE, hb'.1, hb'.2⟩
    have hQ : ∀ x m1 n1, Q_L_grow_ mc ms g a0 m n x m1 n1 → x = some n ∧ n1 = n + 1 ∧ m1 = hU (hU m n (hA4 (lNc k k) (hCut F k))) a0 (.inl (23, updV o 1 (.ref n))) := fun x m1 n1 hq => ⟨hq.2.1, hq.1, hq.2.2 a2 k F o hL0 e1⟩
    rcases h3 with ⟨q1, q2, q3⟩ | ⟨q1, q2⟩
    · have hk0 : nI k = 0 := by rw [q2]; rfl
      rw [hk0] at cont ⊢
      rw [q1] at cont q3 ⊢
      refine hG [11, 10] 300 _ _ _ _ ?_
      simp only [wpN, ↓wq_aastore, ↓wq_aload_0, ↓wq_aload_1, ↓wq_aload_2, ↓wq_aload_3, ↓wq_aload_0n, ↓wq_aload_1n, ↓wq_aload_2n, ↓wq_aload_3n, ↓wq_arraylength, ↓wq_astore_0, ↓wq_astore_1, ↓wq_astore_2, ↓wq_astore_3, ↓wq_astore_0n, ↓wq_astore_1n, ↓wq_astore_2n, ↓wq_astore_3n, ↓wq_iadd, ↓wq_iconst, ↓wq_icmp_eq, ↓wq_icmp_ne, ↓wq_icmp_lt, ↓wq_icmp_ge, ↓wq_icmp_gt, ↓wq_icmp_le, ↓wq_iload_0, ↓wq_iload_1, ↓wq_iload_2, ↓wq_iload_3, ↓wq_invokevirtual, ↓wq_putfield, ↓wq_ret, ↓se_get_0, ↓se_get_s, ↓se_set1_0, ↓se_set1_1, ↓se_set1_s, ↓se_set2_0, ↓se_set2_1, ↓se_set2_s, ↓se_k2_n, ↓se_k2_i, ↓se_k2_r, ↓se_k2_u, ↓se_k2_l, ↓se_k2_q, ↓se_in_0, ↓se_in_s, ↓gI_s, ↓gL_s, ↓gR_r, ↓gR_n, ↓gR_q, ↓sR_r, ↓sR_n, ↓sR_q, ↓se_sp_n, ↓se_sp_y, ↓se_sp_z, ↓se_ts_n, ↓se_ts_c, ↓se_c8_n, ↓se_c8_i, ↓se_c8_r, ↓se_c8_u, ↓se_c8_l, ↓wD_e dJ2_add_2_0, ↓wD_e dJ2_add_2_1, ↓wD_e dJ2_add_2_2, ↓wD_e dJ2_add_2_3, ↓wD_e dJ2_add_2_6, ↓wD_e dJ2_add_2_7, ↓wD_e dJ2_add_2_10, ↓wD_e dJ2_add_2_11, ↓wD_e dJ2_add_2_12, ↓wD_e dJ2_add_2_13, ↓wD_e dJ2_add_2_14, ↓wD_e dJ2_add_2_15, ↓wD_e dJ2_add_2_16, ↓wD_e dJ2_add_2_17, ↓wD_e dJ2_add_2_18, ↓wD_e dJ2_add_2_19, ↓wD_e dJ2_add_2_22, cc_iconst_1, ↓tg_3_8, ht_LLLIrV_e, ↓T_L_add_LLI_21_0, ↓T_L_add_LLI_20_0, ↓T_L_add_LLI_1_48, ↓T_L_add_LLI_3_129, hov_LrL_r, hGet_r, hPut_r, hTxV, hTxC, hTxB, hTxL, hBxA, hBxV, hGst, hLdM, hCpy_r, hGcl_r, hAald_r, hAlE_r, hAastO_r, hAastO_n, hNewA_r, hObj, List.mem_cons, List.not_mem_nil, yrf_s, yrf_n, hfl, hVk, updV_a, hUa_s, i32_10, i32_01, i32_m10, i32_03, i32_13, i32_23, Int32.reduceAdd, Int32.reduceSub, Int32.reduceMul, Int32.reduceLT, Int32.reduceLE, Int32.reduceToNatClampNeg, Int32.reduceOfInt, Int64.reduceAdd, Int64.reduceSub, Int64.reduceMul, Int64.reduceLT, Int64.reduceLE, lg_cmp_ge, lg_cmp_le, lg_cmp_gt, lg_cmp_lt, lg_cmp_eq, bI_0, bI_1, not_true_eq_false, not_false_eq_true, false_implies, Bool.not_eq_false, Bool.not_eq_true, and_self, Nat.reduceAdd, Int.reduceAdd, Nat.reduceEqDiff, reduceIte, true_and, and_true, implies_true, forall_const, Nat.zero_le, Nat.add_zero, Nat.zero_add, true_or, or_true, false_or, or_false, and_false, false_and, sCI_r, sCJ_r, Nat.reduceLeDiff, q3, e1, hRcv]
      refine ⟨hpre, by omega, by omega, ?_⟩
      intro x m1 n1 hq hd1 hn1
      obtain ⟨rfl, rfl, rfl⟩ := hQ x m1 n1 hq
      exact cont _ _ (by omega) (by omega)
    · have hoL : Int32.ofNat k = nI k := rfl
      refine hG [11, 10] 300 _ _ _ _ ?_
      simp only [wpN, ↓wq_aastore, ↓wq_aload_0, ↓wq_aload_1, ↓wq_aload_2, ↓wq_aload_3, ↓wq_aload_0n, ↓wq_aload_1n, ↓wq_aload_2n, ↓wq_aload_3n, ↓wq_arraylength, ↓wq_astore_0, ↓wq_astore_1, ↓wq_astore_2, ↓wq_astore_3, ↓wq_astore_0n, ↓wq_astore_1n, ↓wq_astore_2n, ↓wq_astore_3n, ↓wq_iadd, ↓wq_iconst, ↓wq_icmp_eq, ↓wq_icmp_ne, ↓wq_icmp_lt, ↓wq_icmp_ge, ↓wq_icmp_gt, ↓wq_icmp_le, ↓wq_iload_0, ↓wq_iload_1, ↓wq_iload_2, ↓wq_iload_3, ↓wq_invokevirtual, ↓wq_putfield, ↓wq_ret, ↓se_get_0, ↓se_get_s, ↓se_set1_0, ↓se_set1_1, ↓se_set1_s, ↓se_set2_0, ↓se_set2_1, ↓se_set2_s, ↓se_k2_n, ↓se_k2_i, ↓se_k2_r, ↓se_k2_u, ↓se_k2_l, ↓se_k2_q, ↓se_in_0, ↓se_in_s, ↓gI_s, ↓gL_s, ↓gR_r, ↓gR_n, ↓gR_q, ↓sR_r, ↓sR_n, ↓sR_q, ↓se_sp_n, ↓se_sp_y, ↓se_sp_z, ↓se_ts_n, ↓se_ts_c, ↓se_c8_n, ↓se_c8_i, ↓se_c8_r, ↓se_c8_u, ↓se_c8_l, ↓wD_e dJ2_add_2_0, ↓wD_e dJ2_add_2_1, ↓wD_e dJ2_add_2_2, ↓wD_e dJ2_add_2_3, ↓wD_e dJ2_add_2_6, ↓wD_e dJ2_add_2_7, ↓wD_e dJ2_add_2_10, ↓wD_e dJ2_add_2_11, ↓wD_e dJ2_add_2_12, ↓wD_e dJ2_add_2_13, ↓wD_e dJ2_add_2_14, ↓wD_e dJ2_add_2_15, ↓wD_e dJ2_add_2_16, ↓wD_e dJ2_add_2_17, ↓wD_e dJ2_add_2_18, ↓wD_e dJ2_add_2_19, ↓wD_e dJ2_add_2_22, cc_iconst_1, ↓tg_3_8, ht_LLLIrV_e, ↓T_L_add_LLI_21_0, ↓T_L_add_LLI_20_0, ↓T_L_add_LLI_1_48, ↓T_L_add_LLI_3_129, hov_LrL_r, hGet_r, hPut_r, hTxV, hTxC, hTxB, hTxL, hBxA, hBxV, hGst, hLdM, hCpy_r, hGcl_r, hAald_r, hAlE_r, hAastO_r, hAastO_n, hNewA_r, hObj, List.mem_cons, List.not_mem_nil, yrf_s, yrf_n, hfl, hVk, updV_a, hUa_s, i32_10, i32_01, i32_m10, i32_03, i32_13, i32_23, Int32.reduceAdd, Int32.reduceSub, Int32.reduceMul, Int32.reduceLT, Int32.reduceLE, Int32.reduceToNatClampNeg, Int32.reduceOfInt, Int64.reduceAdd, Int64.reduceSub, Int64.reduceMul, Int64.reduceLT, Int64.reduceLE, lg_cmp_ge, lg_cmp_le, lg_cmp_gt, lg_cmp_lt, lg_cmp_eq, bI_0, bI_1, not_true_eq_false, not_false_eq_true, false_implies, Bool.not_eq_false, Bool.not_eq_true, and_self, Nat.reduceAdd, Int.reduceAdd, Nat.reduceEqDiff, reduceIte, true_and, and_true, implies_true, forall_const, Nat.zero_le, Nat.add_zero, Nat.zero_add, true_or, or_true, false_or, or_false, and_false, false_and, sCI_r, sCJ_r, Nat.reduceLeDiff, q1, hoL, e1, hRcv]
      refine ⟨hpre, by omega, by omega, ?_⟩
      intro x m1 n1 hq hd1 hn1
      obtain ⟨rfl, rfl, rfl⟩ := hQ x m1 n1 hq
      exact cont _ _ (by omega) (by omega)
def P_L_add_L (mc ms : Nat) : hG → Nat → Nat → hH → Nat → Prop := fun g a0 a1 m n => ∃ E k L F, hLst g m a0 E k L F ∧ k ≤ 40000 ∧ hEls g m k F ∧ hAnyO g m a1 ∧ (k < L ∨ (1 ≤ mc ∧ lNc k L ≤ ms))
def Q_L_add_L (mc ms : Nat) : hG → Nat → Nat → hH → Nat → Bool → hH → Nat → Prop := fun g a0 a1 m n x m' n' => x = true ∧ ∀ E k L F, hLst g m a0 E k L F → ∃ F', hAdQ g m n a0 k L F F' m' n' ∧ (∀ j, j < k → F' j = F j) ∧ F' k = some a1
def T_L_add_L (mc ms : Nat) (mc ms : Nat) (g : hG) : Nat → Nat → se_Op hW := se_tab [(0, 63, hGet [(23, 0)]), (1, 63, hPut [(23, 0)] 0), (0, 9, hGet [(23, 1)]), (0, 48, hGet [(23, 2)]), (3, 131, hov_LLLIrV g mc ms mc ms [23] (P_L_add_LLI mc ms) (Q_L_add_LLI mc ms))]
set_option maxRecDepth 20000 in
theorem T_L_add_L_ok (l : Launch) (hl : l.stackTraces = false) (mc ms : Nat) (mc ms : Nat) : hTS l yJ2_add.cls yJ2_add.name cJ2_add 2 (some .boolean) 6 170 mc ms (T_L_add_L mc ms mc ms) := fun g p e s m args below meth c Q H0 C hnm hG hS k i => se_tab_ok _ (List.forall_mem_cons.mpr ⟨hGet_ok (F := [(23, 0)]) (List.forall_mem_cons.mpr ⟨⟨(RJ2, TJ2, 3), "java/util/ArrayList", rfl, by decide, .inl q174, .inr q175⟩, fun _ h => absurd h List.not_mem_nil⟩) C hG, List.forall_mem_cons.mpr ⟨hPut_ok (F := [(23, 0)]) (t := 0) (List.forall_mem_cons.mpr ⟨⟨(RJ2, TJ2, 3), "java/util/ArrayList", rfl, by decide, .inl q174, .inr q175⟩, fun _ h => absurd h List.not_mem_nil⟩) (List.forall_mem_cons.mpr ⟨fun r ty h1 h2 => by cases h1; cases h2; exact ⟨rfl, rfl⟩, fun _ h => absurd h List.not_mem_nil⟩) C hG, List.forall_mem_cons.mpr ⟨hGet_ok (F := [(23, 1)]) (List.forall_mem_cons.mpr ⟨⟨(RJ2, TJ2, 3), "java/util/ArrayList", rfl, by decide, .inl q171, .inl rfl⟩, fun _ h => absurd h List.not_mem_nil⟩) C hG, List.forall_mem_cons.mpr ⟨hGet_ok (F := [(23, 2)]) (List.forall_mem_cons.mpr ⟨⟨(RJ2, TJ2, 3), "java/util/ArrayList", rfl, by decide, .inl q172, .inl rfl⟩, fun _ h => absurd h List.not_mem_nil⟩) C hG, List.forall_mem_cons.mpr ⟨hov_LLLIrV_ok (hCVG_ok (maxL' := 4) (fr' := 5) (lo' := 147) (yt_L_add_LLI l hl mc ms) (List.forall_mem_cons.mpr ⟨⟨_, rfl, hRunV_V (na := 3) C.1.2.2.2.2 q781 q783 qs5 q101 q784 (by decide +kernel) ⟨by decide, by decide⟩⟩, fun _ h => absurd h List.not_mem_nil⟩) C hG hS), fun _ h => absurd h List.not_mem_nil⟩⟩⟩⟩⟩) k i
set_option maxRecDepth 20000 in
theorem T_L_add_L_0_63 {mc ms : Nat} {mc ms : Nat} {g : hG} : T_L_add_L mc ms mc ms g 0 63 = hGet [(23, 0)] := rfl
set_option maxRecDepth 20000 in
theorem T_L_add_L_1_63 {mc ms : Nat} {mc ms : Nat} {g : hG} : T_L_add_L mc ms mc ms g 1 63 = hPut [(23, 0)] 0 := rfl
set_option maxRecDepth 20000 in
theorem T_L_add_L_0_9 {mc ms : Nat} {mc ms : Nat} {g : hG} : T_L_add_L mc ms mc ms g 0 9 = hGet [(23, 1)] := rfl
set_option maxRecDepth 20000 in
theorem T_L_add_L_0_48 {mc ms : Nat} {mc ms : Nat} {g : hG} : T_L_add_L mc ms mc ms g 0 48 = hGet [(23, 2)] := rfl
set_option maxRecDepth 20000 in
theorem T_L_add_L_3_131 {mc ms : Nat} {mc ms : Nat} {g : hG} : T_L_add_L mc ms mc ms g 3 131 = hov_LLLIrV g mc ms mc ms [23] (P_L_add_LLI mc ms) (Q_L_add_LLI mc ms) := rfl
set_option maxHeartbeats 1000000 in
set_option maxRecDepth 20000 in
theorem yt_L_add_L (l : Launch) (hl : l.stackTraces = false) (mc ms : Nat) : hm_LLrZ l yJ2_add (ws_ yJ2_add cJ2_add 2 (some .boolean)) 6 170 mc ms (P_L_add_L mc ms) (Q_L_add_L mc ms) := by
  refine hm_LLrZ_of (by decide +kernel) rfl (T_L_add_L_ok l hl mc ms mc ms) (by decide) fun g a0 a1 m n hin hv hp G hG => ?_
  show G 0 [some (.ref a0), some (.ref a1)] [] (m, n, 0, 0)
  obtain ⟨E, k, L, F, hL, hk, hE, hany, hb⟩ := hp
  have hL0 := hL
  obtain ⟨⟨o, md, e1, e2, e3, e4⟩, h1, h2, h3⟩ := hL
  have hEa : E ≠ a0 := by
    rcases h3 with ⟨-, -, q⟩ | ⟨q, -⟩
    · intro z
      rw [z, e1] at q
      cases q
    · exact hLi_ne ⟨o, md, e1, e2, e3, e4⟩ q
  have u3 : updV o 0 (.int (md + 1)) 1 = .ref E := by rw [updV_a, if_neg (by omega)]; exact e3
  have u4 : updV o 0 (.int (md + 1)) 2 = .int (nI k) := by rw [updV_a, if_neg (by omega)]; exact e4
  refine hG [23] 300 _ _ _ _ ?_
  simp only [wpN, ↓wq_aload_0, ↓wq_aload_1, ↓wq_aload_2, ↓wq_aload_3, ↓wq_aload_0n, ↓wq_aload_1n, ↓wq_aload_2n, ↓wq_aload_3n, ↓wq_dupi, ↓wq_dupr, ↓wq_dupn, ↓wq_getfield, ↓wq_iadd, ↓wq_iconst, ↓wq_invokevirtual, ↓wq_iret, ↓wq_putfield, ↓se_get_0, ↓se_get_s, ↓se_set1_0, ↓se_set1_1, ↓se_set1_s, ↓se_set2_0, ↓se_set2_1, ↓se_set2_s, ↓se_k2_n, ↓se_k2_i, ↓se_k2_r, ↓se_k2_u, ↓se_k2_l, ↓se_k2_q, ↓se_in_0, ↓se_in_s, ↓gI_s, ↓gL_s, ↓gR_r, ↓gR_n, ↓gR_q, ↓sR_r, ↓sR_n, ↓sR_q, ↓se_sp_n, ↓se_sp_y, ↓se_sp_z, ↓se_ts_n, ↓se_ts_c, ↓se_c8_n, ↓se_c8_i, ↓se_c8_r, ↓se_c8_u, ↓se_c8_l, ↓wD_e dJ2_add_0, ↓wD_e dJ2_add_1, ↓wD_e dJ2_add_2, ↓wD_e dJ2_add_5, ↓wD_e dJ2_add_6, ↓wD_e dJ2_add_7, ↓wD_e dJ2_add_10, ↓wD_e dJ2_add_11, ↓wD_e dJ2_add_12, ↓wD_e dJ2_add_13, ↓wD_e dJ2_add_16, ↓wD_e dJ2_add_17, ↓wD_e dJ2_add_20, ↓wD_e dJ2_add_23, ↓wD_e dJ2_add_24, cc_iconst_1, ↓rz_b, ↓rz_1, ↓rz_0, ht_LLrZ_e, ↓T_L_add_L_0_63, ↓T_L_add_L_1_63, ↓T_L_add_L_0_9, ↓T_L_add_L_0_48, ↓T_L_add_L_3_131, hov_LLLIrV_r, hGet_r, hPut_r, hTxV, hTxC, hTxB, hTxL, hBxA, hBxV, hGst, hLdM, hCpy_r, hGcl_r, hAald_r, hAlE_r, hAastO_r, hAastO_n, hNewA_r, hObj, List.mem_cons, List.not_mem_nil, yrf_s, yrf_n, hfl, hVk, updV_a, hUa_s, i32_10, i32_01, i32_m10, i32_03, i32_13, i32_23, Int32.reduceAdd, Int32.reduceSub, Int32.reduceMul, Int32.reduceLT, Int32.reduceLE, Int32.reduceToNatClampNeg, Int32.reduceOfInt, Int64.reduceAdd, Int64.reduceSub, Int64.reduceMul, Int64.reduceLT, Int64.reduceLE, lg_cmp_ge, lg_cmp_le, lg_cmp_gt, lg_cmp_lt, lg_cmp_eq, bI_0, bI_1, not_true_eq_false, not_false_eq_true, false_implies, Bool.not_eq_false, Bool.not_eq_true, and_self, Nat.reduceAdd, Int.reduceAdd, Nat.reduceEqDiff, reduceIte, true_and, and_true, implies_true, forall_const, Nat.zero_le, Nat.add_zero, Nat.zero_add, true_or, or_true, false_or, or_false, and_false, false_and, sCI_r, sCJ_r, Nat.reduceLeDiff, e1, e2, hRcv, u3, u4, e3, e4]
  have e1' : hU m a0 (.inl (23, updV o 0 (.int (md + 1)))) a0 = some (.inl (23, updV o 0 (.int (md + 1)))) := hUa_s
  have hany0 : ∀ y, hAnyO g m y → hAnyO g (hU m a0 (.inl (23, updV o 0 (.int (md + 1))))) y := by
    intro y hy
    rcases hy with ⟨o2, ho2, h23⟩ | q
    · refine .inl ⟨o2, ?_, h23⟩
      rw [hUa_n (fun q => by rw [q, e1] at ho2; cases ho2; omega)]
      exact ho2
    · exact .inr q
  have hLn : hLst g (hU m a0 (.inl (23, updV o 0 (.int (md + 1))))) a0 E k L F := ⟨⟨_, md + 1, e1', by rw [updV_a, if_pos rfl], u3, u4⟩, h1, h2, by rw [hUa_n hEa]; exact h3⟩
  refine ⟨⟨k, L, F, hLn, rfl, hk, fun j hj y hy => hany0 y (hE j hj y hy), hany0 _ hany, hb⟩, by omega, by omega, ?_⟩
  intro m1 n1 hq hd1 hn1
  obtain ⟨F', ⟨hn', E', hE1, hE2, hE3, hE4, hE5⟩, hF1, hF2⟩ := hq k L F hLn rfl
  refine hG [] 300 _ _ _ _ ?_
  simp only [wpN, ↓wq_aload_0, ↓wq_aload_1, ↓wq_aload_2, ↓wq_aload_3, ↓wq_aload_0n, ↓wq_aload_1n, ↓wq_aload_2n, ↓wq_aload_3n, ↓wq_dupi, ↓wq_dupr, ↓wq_dupn, ↓wq_getfield, ↓wq_iadd, ↓wq_iconst, ↓wq_invokevirtual, ↓wq_iret, ↓wq_putfield, ↓se_get_0, ↓se_get_s, ↓se_set1_0, ↓se_set1_1, ↓se_set1_s, ↓se_set2_0, ↓se_set2_1, ↓se_set2_s, ↓se_k2_n, ↓se_k2_i, ↓se_k2_r, ↓se_k2_u, ↓se_k2_l, ↓se_k2_q, ↓se_in_0, ↓se_in_s, ↓gI_s, ↓gL_s, ↓gR_r, ↓gR_n, ↓gR_q, ↓sR_r, ↓sR_n, ↓sR_q, ↓se_sp_n, ↓se_sp_y, ↓se_sp_z, ↓se_ts_n, ↓se_ts_c, ↓se_c8_n, ↓se_c8_i, ↓se_c8_r, ↓se_c8_u, ↓se_c8_l, ↓wD_e dJ2_add_0, ↓wD_e dJ2_add_1, ↓wD_e dJ2_add_2, ↓wD_e dJ2_add_5, ↓wD_e dJ2_add_6, ↓wD_e dJ2_add_7, ↓wD_e dJ2_add_10, ↓wD_e dJ2_add_11, ↓wD_e dJ2_add_12, ↓wD_e dJ2_add_13, ↓wD_e dJ2_add_16, ↓wD_e dJ2_add_17, ↓wD_e dJ2_add_20, ↓wD_e dJ2_add_23, ↓wD_e dJ2_add_24, cc_iconst_1, ↓rz_b, ↓rz_1, ↓rz_0, ht_LLrZ_e, ↓T_L_add_L_0_63, ↓T_L_add_L_1_63, ↓T_L_add_L_0_9, ↓T_L_add_L_0_48, ↓T_L_add_L_3_131, hov_LLLIrV_r, hGet_r, hPut_r, hTxV, hTxC, hTxB, hTxL, hBxA, hBxV, hGst, hLdM, hCpy_r, hGcl_r, hAald_r, hAlE_r, hAastO_r, hAastO_n, hNewA_r, hObj, List.mem_cons, List.not_mem_nil, yrf_s, yrf_n, hfl, hVk, updV_a, hUa_s, i32_10, i32_01, i32_m10, i32_03, i32_13, i32_23, Int32.reduceAdd, Int32.reduceSub, Int32.reduceMul, Int32.reduceLT, Int32.reduceLE, Int32.reduceToNatClampNeg, Int32.reduceOfInt, Int64.reduceAdd, Int64.reduceSub, Int64.reduceMul, Int64.reduceLT, Int64.reduceLE, lg_cmp_ge, lg_cmp_le, lg_cmp_gt, lg_cmp_lt, lg_cmp_eq, bI_0, bI_1, not_true_eq_false, not_false_eq_true, false_implies, Bool.not_eq_false, Bool.not_eq_true, and_self, Nat.reduceAdd, Int.reduceAdd, Nat.reduceEqDiff, reduceIte, true_and, and_true, implies_true, forall_const, Nat.zero_le, Nat.add_zero, Nat.zero_add, true_or, or_true, false_or, or_false, and_false, false_and, sCI_r, sCJ_r, Nat.reduceLeDiff, Nat.le_refl]
  refine ⟨rfl, fun E2 k2 L2 F2 hL2 => ?_⟩
  obtain ⟨⟨o2, md2, f1, f2, f3, f4⟩, g1, g2, g3⟩ := hL2
  rw [e1] at f1
  cases f1
  rw [e3] at f3
  cases f3
  have hk2 : k2 = k := by
    rw [e4] at f4
    have := congrArg Int32.toNatClampNeg (Value.int.inj f4)
    rw [nI_clamp (by omega), nI_clamp (by omega)] at this
    exact this.symm
  subst hk2
  have hLL : L2 = L ∧ ∀ j, j < k2 → F j = F2 j := by
    rcases g3 with ⟨i1, i2, i3⟩ | ⟨i1, i2⟩
    · rcases h3 with ⟨j1, j2, j3⟩ | ⟨j1, j2⟩
      · exact ⟨by omega, fun j hj => by omega⟩
      · rw [j1] at i3; cases i3
    · rcases h3 with ⟨j1, j2, j3⟩ | ⟨j1, j2⟩
      · rw [i1] at j3; cases j3
      · rw [j1] at i1
        cases i1
        exact ⟨rfl, fun _ _ => rfl⟩
  obtain ⟨rfl, hFF⟩ := hLL
  refine ⟨F', ⟨hn', E', hE1, hE2, fun b hb1 hb2 hb3 => ?_, fun E3 hE3' => ?_, fun b hb => ?_⟩, fun j hj => ?_, hF2⟩
  · rw [hE3 b hb1 hb2 hb3, hUa_n hb2]
  · obtain ⟨o3, md3, i1, i2, i3, i4⟩ := hE3'
    rw [e1] at i1
    cases i1
    rw [e3] at i3
    cases i3
    exact hE4 E hLn.1
  · have hb2 : b ≠ a0 := by
      have := (hin a0 _ e1).1
      unfold lG at hn'
      split at hn' <;> omega
    rw [hE5 b hb, hUa_n hb2]
  · rw [hF1 j hj, hFF j hj]
