/-! THE REFERENCE: roots -/
/-- the greatest number up to a bound whose square is no more -/
def sq (v : Nat) : Nat → Nat
  | 0 => 0
  | k + 1 => if (k + 1) * (k + 1) ≤ v then k + 1 else sq v k
theorem sq_le {v : Nat} : ∀ b, sq v b ≤ b
  | 0 => Nat.le_refl 0
  | k + 1 => by
    unfold sq
    split
    · exact Nat.le_refl _
    · exact Nat.le_succ_of_le (sq_le k)
theorem sq_sq {v : Nat} : ∀ b, sq v b * sq v b ≤ v
  | 0 => Nat.zero_le _
  | k + 1 => by
    unfold sq
    split
    · assumption
    · exact sq_sq k
theorem sq_lo {v a : Nat} (h : a * a ≤ v) : ∀ b, a ≤ b → a ≤ sq v b
  | 0, hb => hb
  | k + 1, hb => by
    unfold sq
    split
    · exact hb
    · rename_i hn
      exact sq_lo h k (Nat.le_of_lt_succ (Nat.lt_of_le_of_ne hb fun e => hn (by rw [← Nat.succ_eq_add_one, ← e]; exact h)))
theorem sq_eq {v b : Nat} (h : b * b ≤ v) : sq v b = b := Nat.le_antisymm (sq_le b) (sq_lo h b (Nat.le_refl b))
theorem sq_cut {v m : Nat} (hm : ¬ m * m ≤ v) : ∀ b, m ≤ b → sq v b = sq v (m - 1)
  | 0, hb => by
    obtain rfl : m = 0 := Nat.le_zero.mp hb
    rfl
  | k + 1, hb => by
    by_cases e : m = k + 1
    · subst e
      rw [sq, if_neg hm]; rfl
    · have h2 : ¬ (k + 1) * (k + 1) ≤ v := fun h => hm (Nat.le_trans (Nat.mul_le_mul hb hb) h)
      rw [sq, if_neg h2]
      exact sq_cut hm k (by omega)
theorem lN_tiL {a : Nat} (h : a < 2 ^ 63) : (lN a).toInt = a := Int64.toInt_ofNat_of_lt h
theorem lN_div2 {a : Nat} (h : a < 2 ^ 62) : lN a / 2 = lN (a / 2) := by
  apply Int64.toInt_inj.mp
  rw [Int64.toInt_div, lN_tiL (by omega), lN_tiL (by omega)]
  show ((a : Int).tdiv 2).bmod (2 ^ 64) = _
  rw [Int.tdiv_eq_ediv_of_nonneg (by omega)]
  rw [Int.bmod_eq_of_le (by omega) (by omega)]
  omega
theorem lN_ltL {a b : Nat} (ha : a < 2 ^ 63) (hb : b < 2 ^ 63) : (lN a < lN b) = (a < b) := by
  rw [Int64.lt_iff_toInt_lt, lN_tiL ha, lN_tiL hb, Int.ofNat_lt]
theorem lN_leL {a b : Nat} (ha : a < 2 ^ 63) (hb : b < 2 ^ 63) : (lN a ≤ lN b) = (a ≤ b) := by
  rw [Int64.le_iff_toInt_le, lN_tiL ha, lN_tiL hb, Int.ofNat_le]
theorem lN_leV {m : Nat} {v : Int64} (h0 : 0 < m) (h : m ≤ 3000000000) : (lN (m * m) ≤ v) = (m * m ≤ v.toInt.toNat) := by
  have h1 : m * m ≤ 3000000000 * 3000000000 := Nat.mul_le_mul h h
  have h2 : 0 < m * m := Nat.mul_pos h0 h0
  rw [Int64.le_iff_toInt_le, lN_tiL (by omega)]
  apply propext
  omega

theorem cc_lconst_1 : Int64.ofNat ((1 : Fin 2) : Nat) = 1 := by decide +kernel
theorem tg_11_40 {K : Nat → Prop} : se_tg 11 (40) K = K 51 := rfl
theorem tg_33_9 {K : Nat → Prop} : se_tg 33 (9) K = K 42 := rfl
theorem tg_39_9 {K : Nat → Prop} : se_tg 39 (9) K = K 48 := rfl
theorem tg_48_m41 {K : Nat → Prop} : se_tg 48 (-41) K = K 7 := rfl
def P_root : Int64 → mM → Prop := fun a0 M => True
def R_root : Int64 → mM → Int64 := fun a0 M => lN (sq a0.toInt.toNat 3000000000)
def F_root : Int64 → mM → mM := fun a0 M => M
def T_root : Nat → Nat → se_Op mM := se_tb2 (se_tab []) mB
theorem T_root_ok (l : Launch) : mTS l cX2_root 8 (some .long) 0 0 T_root := fun g p e s m args below meth c Q H0 C hG hI k i => se_tb2_ok (se_tab_ok _ (fun _ h => absurd h List.not_mem_nil)) (fun k i => mB_ok C hG hI k i) k i
theorem T_root_11 {i : Nat} : T_root 11 i = mB 11 i := rfl
set_option maxHeartbeats 4000000 in
set_option maxRecDepth 20000 in
theorem mt_root (l : Launch) : mc_sJrJ l yX2_root cX2_root 8 0 0 P_root (fun a0 M x M' => x = R_root a0 M ∧ M' = F_root a0 M) := by
  refine mc_sJrJ_of (by decide +kernel) rfl (T_root_ok l) (by decide) fun a0 M hp G hG => ?_
  show G 0 [some (.long a0), none, none, none, none, none, none, none] [] M
  have L : ∀ f lo hi x y, hi - lo ≤ f → lo ≤ hi → hi ≤ 3000000000 → lo * lo ≤ a0.toInt.toNat → sq a0.toInt.toNat 3000000000 = sq a0.toInt.toNat hi → G 7 [some (.long a0), none, some (.long (lN lo)), none, some (.long (lN hi)), none, x, y] [] M := by
    intro f
    induction f with
    | zero =>
      intro lo hi x y hf hl hh hs hq
      refine hG [7] 60 _ _ _ _ ?_
      simp only [wpN, ↓wq_goto, ↓wq_if_eq, ↓wq_if_ne, ↓wq_if_lt, ↓wq_if_ge, ↓wq_if_gt, ↓wq_if_le, ↓wq_ladd, ↓wq_lcmp, ↓wq_lconst, ↓wq_ldc2_w, ↓wq_ldiv, ↓wq_lload, ↓wq_lload_0, ↓wq_lload_1, ↓wq_lload_2, ↓wq_lload_3, ↓wq_lmul, ↓wq_lret, ↓wq_lstore, ↓wq_lstore_0, ↓wq_lstore_1, ↓wq_lstore_2, ↓wq_lstore_3, ↓wq_lsub, ↓se_get_0, ↓se_get_s, ↓se_set1_0, ↓se_set1_1, ↓se_set1_s, ↓se_set2_0, ↓se_set2_1, ↓se_set2_s, ↓se_k2_n, ↓se_k2_i, ↓se_k2_r, ↓se_k2_u, ↓se_k2_l, ↓se_k2_q, ↓se_in_0, ↓se_in_s, ↓gI_s, ↓gL_s, ↓gR_r, ↓gR_n, ↓gR_q, ↓sR_r, ↓sR_n, ↓sR_q, ↓se_sp_n, ↓se_sp_y, ↓se_sp_z, ↓se_ts_n, ↓se_ts_c, ↓se_c8_n, ↓se_c8_i, ↓se_c8_r, ↓se_c8_u, ↓se_c8_l, ↓wD_e dX2_root_0, ↓wD_e dX2_root_1, ↓wD_e dX2_root_2, ↓wD_e dX2_root_5, ↓wD_e dX2_root_7, ↓wD_e dX2_root_8, ↓wD_e dX2_root_10, ↓wD_e dX2_root_11, ↓wD_e dX2_root_14, ↓wD_e dX2_root_15, ↓wD_e dX2_root_17, ↓wD_e dX2_root_18, ↓wD_e dX2_root_19, ↓wD_e dX2_root_20, ↓wD_e dX2_root_23, ↓wD_e dX2_root_24, ↓wD_e dX2_root_26, ↓wD_e dX2_root_28, ↓wD_e dX2_root_30, ↓wD_e dX2_root_31, ↓wD_e dX2_root_32, ↓wD_e dX2_root_33, ↓wD_e dX2_root_36, ↓wD_e dX2_root_38, ↓wD_e dX2_root_39, ↓wD_e dX2_root_42, ↓wD_e dX2_root_44, ↓wD_e dX2_root_45, ↓wD_e dX2_root_46, ↓wD_e dX2_root_48, ↓wD_e dX2_root_51, ↓wD_e dX2_root_52, cc_lconst_0, cc_lconst_1, ↓tg_11_40, ↓tg_33_9, ↓tg_39_9, ↓tg_48_m41, ↓mB_11_391, ↓mB_11_393, ↓opGI_r, ↓opGJ_r, ↓opGA_r, ↓opPI_r, ↓opPZ_r, ↓opPJ_r, ↓opCI_r, ↓opCJ_r, ↓rz_b, ↓rz_1, ↓rz_0, ↓rt_sJrJ_e, ↓T_root_11, i32_10, i32_01, i32_m10, i32_03, i32_13, i32_23, Int32.reduceAdd, Int32.reduceSub, Int32.reduceMul, Int32.reduceLT, Int32.reduceLE, Int32.reduceToNatClampNeg, Int32.reduceOfInt, Int64.reduceAdd, Int64.reduceSub, Int64.reduceMul, Int64.reduceLT, Int64.reduceLE, lg_cmp_ge, lg_cmp_le, lg_cmp_gt, lg_cmp_lt, lg_cmp_eq, bI_0, bI_1, not_true_eq_false, not_false_eq_true, false_implies, Bool.not_eq_false, Bool.not_eq_true, and_self, Nat.reduceAdd, Int.reduceAdd, Nat.reduceEqDiff, reduceIte, true_and, and_true, implies_true, forall_const, fI_uI, fI_uJ, fI_sA, fI_sN, fI_uA, fI_uN, fJ_uI, fJ_uJ, fJ_sA, fJ_sN, fJ_uA, fJ_uN, fA_uI, fA_uJ, fA_sA, fA_sN, fA_uA, fA_uN, fN_uI, fN_uJ, fN_sA, fN_sN, fN_uA, fN_uN, lN_ltL (show lo < 2 ^ 63 by omega) (show hi < 2 ^ 63 by omega), lN_leL (show hi < 2 ^ 63 by omega) (show lo < 2 ^ 63 by omega), lN_add, lN_mul]
      obtain rfl : lo = hi := by omega
      refine ⟨fun _ => ⟨?_, rfl⟩, fun h => absurd (Nat.le_refl _) h⟩
      rw [R_root, hq, sq_eq hs]
    | succ f ih =>
      intro lo hi x y hf hl hh hs hq
      refine hG [7] 60 _ _ _ _ ?_
      simp only [wpN, ↓wq_goto, ↓wq_if_eq, ↓wq_if_ne, ↓wq_if_lt, ↓wq_if_ge, ↓wq_if_gt, ↓wq_if_le, ↓wq_ladd, ↓wq_lcmp, ↓wq_lconst, ↓wq_ldc2_w, ↓wq_ldiv, ↓wq_lload, ↓wq_lload_0, ↓wq_lload_1, ↓wq_lload_2, ↓wq_lload_3, ↓wq_lmul, ↓wq_lret, ↓wq_lstore, ↓wq_lstore_0, ↓wq_lstore_1, ↓wq_lstore_2, ↓wq_lstore_3, ↓wq_lsub, ↓se_get_0, ↓se_get_s, ↓se_set1_0, ↓se_set1_1, ↓se_set1_s, ↓se_set2_0, ↓se_set2_1, ↓se_set2_s, ↓se_k2_n, ↓se_k2_i, ↓se_k2_r, ↓se_k2_u, ↓se_k2_l, ↓se_k2_q, ↓se_in_0, ↓se_in_s, ↓gI_s, ↓gL_s, ↓gR_r, ↓gR_n, ↓gR_q, ↓sR_r, ↓sR_n, ↓sR_q, ↓se_sp_n, ↓se_sp_y, ↓se_sp_z, ↓se_ts_n, ↓se_ts_c, ↓se_c8_n, ↓se_c8_i, ↓se_c8_r, ↓se_c8_u, ↓se_c8_l, ↓wD_e dX2_root_0, ↓wD_e dX2_root_1, ↓wD_e dX2_root_2, ↓wD_e dX2_root_5, ↓wD_e dX2_root_7, ↓wD_e dX2_root_8, ↓wD_e dX2_root_10, ↓wD_e dX2_root_11, ↓wD_e dX2_root_14, ↓wD_e dX2_root_15, ↓wD_e dX2_root_17, ↓wD_e dX2_root_18, ↓wD_e dX2_root_19, ↓wD_e dX2_root_20, ↓wD_e dX2_root_23, ↓wD_e dX2_root_24, ↓wD_e dX2_root_26, ↓wD_e dX2_root_28, ↓wD_e dX2_root_30, ↓wD_e dX2_root_31, ↓wD_e dX2_root_32, ↓wD_e dX2_root_33, ↓wD_e dX2_root_36, ↓wD_e dX2_root_38, ↓wD_e dX2_root_39, ↓wD_e dX2_root_42, ↓wD_e dX2_root_44, ↓wD_e dX2_root_45, ↓wD_e dX2_root_46, ↓wD_e dX2_root_48, ↓wD_e dX2_root_51, ↓wD_e dX2_root_52, cc_lconst_0, cc_lconst_1, ↓tg_11_40, ↓tg_33_9, ↓tg_39_9, ↓tg_48_m41, ↓mB_11_391, ↓mB_11_393, ↓opGI_r, ↓opGJ_r, ↓opGA_r, ↓opPI_r, ↓opPZ_r, ↓opPJ_r, ↓opCI_r, ↓opCJ_r, ↓rz_b, ↓rz_1, ↓rz_0, ↓rt_sJrJ_e, ↓T_root_11, i32_10, i32_01, i32_m10, i32_03, i32_13, i32_23, Int32.reduceAdd, Int32.reduceSub, Int32.reduceMul, Int32.reduceLT, Int32.reduceLE, Int32.reduceToNatClampNeg, Int32.reduceOfInt, Int64.reduceAdd, Int64.reduceSub, Int64.reduceMul, Int64.reduceLT, Int64.reduceLE, lg_cmp_ge, lg_cmp_le, lg_cmp_gt, lg_cmp_lt, lg_cmp_eq, bI_0, bI_1, not_true_eq_false, not_false_eq_true, false_implies, Bool.not_eq_false, Bool.not_eq_true, and_self, Nat.reduceAdd, Int.reduceAdd, Nat.reduceEqDiff, reduceIte, true_and, and_true, implies_true, forall_const, fI_uI, fI_uJ, fI_sA, fI_sN, fI_uA, fI_uN, fJ_uI, fJ_uJ, fJ_sA, fJ_sN, fJ_uA, fJ_uN, fA_uI, fA_uJ, fA_sA, fA_sN, fA_uA, fA_uN, fN_uI, fN_uJ, fN_sA, fN_sN, fN_uA, fN_uN, lN_ltL (show lo < 2 ^ 63 by omega) (show hi < 2 ^ 63 by omega), lN_leL (show hi < 2 ^ 63 by omega) (show lo < 2 ^ 63 by omega), lN_add, lN_mul, lN_1, lN_div2 (show lo + hi + 1 < 2 ^ 62 by omega)]
      refine ⟨fun h => ⟨?_, rfl⟩, fun h => ⟨by decide, fun h2 => ?_, fun h2 => ?_⟩⟩
      · obtain rfl : lo = hi := by omega
        rw [R_root, hq, sq_eq hs]
      · rw [← Int64.not_le, lN_leV (by omega) (by omega)] at h2
        rw [show lN ((lo + hi + 1) / 2) - 1 = lN ((lo + hi + 1) / 2 - 1) from lN_sub (b := 1) (by omega)]
        exact ih _ _ _ _ (by omega) (by omega) (by omega) hs (hq.trans (sq_cut h2 hi (by omega)))
      · rw [Int64.not_lt, lN_leV (by omega) (by omega)] at h2
        exact ih _ _ _ _ (by omega) (by omega) (by omega) h2 hq
  have h0 := L 3000000000 0 3000000000 none none (by omega) (by omega) (by omega) (Nat.zero_le _) rfl
  refine hG [7] 60 _ _ _ _ ?_
  simp only [wpN, ↓wq_goto, ↓wq_if_eq, ↓wq_if_ne, ↓wq_if_lt, ↓wq_if_ge, ↓wq_if_gt, ↓wq_if_le, ↓wq_ladd, ↓wq_lcmp, ↓wq_lconst, ↓wq_ldc2_w, ↓wq_ldiv, ↓wq_lload, ↓wq_lload_0, ↓wq_lload_1, ↓wq_lload_2, ↓wq_lload_3, ↓wq_lmul, ↓wq_lret, ↓wq_lstore, ↓wq_lstore_0, ↓wq_lstore_1, ↓wq_lstore_2, ↓wq_lstore_3, ↓wq_lsub, ↓se_get_0, ↓se_get_s, ↓se_set1_0, ↓se_set1_1, ↓se_set1_s, ↓se_set2_0, ↓se_set2_1, ↓se_set2_s, ↓se_k2_n, ↓se_k2_i, ↓se_k2_r, ↓se_k2_u, ↓se_k2_l, ↓se_k2_q, ↓se_in_0, ↓se_in_s, ↓gI_s, ↓gL_s, ↓gR_r, ↓gR_n, ↓gR_q, ↓sR_r, ↓sR_n, ↓sR_q, ↓se_sp_n, ↓se_sp_y, ↓se_sp_z, ↓se_ts_n, ↓se_ts_c, ↓se_c8_n, ↓se_c8_i, ↓se_c8_r, ↓se_c8_u, ↓se_c8_l, ↓wD_e dX2_root_0, ↓wD_e dX2_root_1, ↓wD_e dX2_root_2, ↓wD_e dX2_root_5, ↓wD_e dX2_root_7, ↓wD_e dX2_root_8, ↓wD_e dX2_root_10, ↓wD_e dX2_root_11, ↓wD_e dX2_root_14, ↓wD_e dX2_root_15, ↓wD_e dX2_root_17, ↓wD_e dX2_root_18, ↓wD_e dX2_root_19, ↓wD_e dX2_root_20, ↓wD_e dX2_root_23, ↓wD_e dX2_root_24, ↓wD_e dX2_root_26, ↓wD_e dX2_root_28, ↓wD_e dX2_root_30, ↓wD_e dX2_root_31, ↓wD_e dX2_root_32, ↓wD_e dX2_root_33, ↓wD_e dX2_root_36, ↓wD_e dX2_root_38, ↓wD_e dX2_root_39, ↓wD_e dX2_root_42, ↓wD_e dX2_root_44, ↓wD_e dX2_root_45, ↓wD_e dX2_root_46, ↓wD_e dX2_root_48, ↓wD_e dX2_root_51, ↓wD_e dX2_root_52, cc_lconst_0, cc_lconst_1, ↓tg_11_40, ↓tg_33_9, ↓tg_39_9, ↓tg_48_m41, ↓mB_11_391, ↓mB_11_393, ↓opGI_r, ↓opGJ_r, ↓opGA_r, ↓opPI_r, ↓opPZ_r, ↓opPJ_r, ↓opCI_r, ↓opCJ_r, ↓rz_b, ↓rz_1, ↓rz_0, ↓rt_sJrJ_e, ↓T_root_11, i32_10, i32_01, i32_m10, i32_03, i32_13, i32_23, Int32.reduceAdd, Int32.reduceSub, Int32.reduceMul, Int32.reduceLT, Int32.reduceLE, Int32.reduceToNatClampNeg, Int32.reduceOfInt, Int64.reduceAdd, Int64.reduceSub, Int64.reduceMul, Int64.reduceLT, Int64.reduceLE, lg_cmp_ge, lg_cmp_le, lg_cmp_gt, lg_cmp_lt, lg_cmp_eq, bI_0, bI_1, not_true_eq_false, not_false_eq_true, false_implies, Bool.not_eq_false, Bool.not_eq_true, and_self, Nat.reduceAdd, Int.reduceAdd, Nat.reduceEqDiff, reduceIte, true_and, and_true, implies_true, forall_const, fI_uI, fI_uJ, fI_sA, fI_sN, fI_uA, fI_uN, fJ_uI, fJ_uJ, fJ_sA, fJ_sN, fJ_uA, fJ_uN, fA_uI, fA_uJ, fA_sA, fA_sN, fA_uA, fA_uN, fN_uI, fN_uJ, fN_sA, fN_sN, fN_uA, fN_uN]
  exact h0
def P_lengthOf : Int32 → Int32 → mM → Prop := fun a0 a1 M => True
def R_lengthOf : Int32 → Int32 → mM → Int32 := fun a0 a1 M => (R_root (a0.toInt64 * a0.toInt64 + a1.toInt64 * a1.toInt64) M).toInt32
def F_lengthOf : Int32 → Int32 → mM → mM := fun a0 a1 M => M
def T_lengthOf : Nat → Nat → se_Op mM := se_tb2 (se_tab [(5, 395, of_sJrJ P_root R_root F_root)]) mB
theorem T_lengthOf_ok (l : Launch) : mTS l cX2_lengthOf 2 (some .int) 1 27 T_lengthOf := fun g p e s m args below meth c Q H0 C hG hI k i => se_tb2_ok (se_tab_ok _ (List.forall_mem_cons.mpr ⟨of_sJrJ_ok (fr := 1) (lo := 27) (maxL' := 8) (fr' := 0) (lo' := 0) (mt_root l) q2272 q2273 q102 q2274 (by decide +kernel) ⟨by decide, by decide⟩ C hG hI, fun _ h => absurd h List.not_mem_nil⟩)) (fun k i => mB_ok C hG hI k i) k i
theorem T_lengthOf_5_395 : T_lengthOf 5 395 = of_sJrJ P_root R_root F_root := rfl
set_option maxHeartbeats 4000000 in
set_option maxRecDepth 20000 in
theorem mt_lengthOf (l : Launch) : mc_sIIrI l yX2_lengthOf cX2_lengthOf 2 1 27 P_lengthOf (fun a0 a1 M x M' => x = R_lengthOf a0 a1 M ∧ M' = F_lengthOf a0 a1 M) := by
  refine mc_sIIrI_of (by decide +kernel) rfl (T_lengthOf_ok l) (by decide) fun a0 a1 M hp G hG => ?_
  show G 0 [some (.int a0), some (.int a1)] [] M
  refine hG [] 300 _ _ _ _ ?_
  simp only [wpN, ↓wq_i2l, ↓wq_iload_0, ↓wq_iload_1, ↓wq_iload_2, ↓wq_iload_3, ↓wq_invokestatic, ↓wq_iret, ↓wq_l2i, ↓wq_ladd, ↓wq_lmul, ↓se_get_0, ↓se_get_s, ↓se_set1_0, ↓se_set1_1, ↓se_set1_s, ↓se_set2_0, ↓se_set2_1, ↓se_set2_s, ↓se_k2_n, ↓se_k2_i, ↓se_k2_r, ↓se_k2_u, ↓se_k2_l, ↓se_k2_q, ↓se_in_0, ↓se_in_s, ↓gI_s, ↓gL_s, ↓gR_r, ↓gR_n, ↓gR_q, ↓sR_r, ↓sR_n, ↓sR_q, ↓se_sp_n, ↓se_sp_y, ↓se_sp_z, ↓se_ts_n, ↓se_ts_c, ↓se_c8_n, ↓se_c8_i, ↓se_c8_r, ↓se_c8_u, ↓se_c8_l, ↓wD_e dX2_lengthOf_0, ↓wD_e dX2_lengthOf_1, ↓wD_e dX2_lengthOf_2, ↓wD_e dX2_lengthOf_3, ↓wD_e dX2_lengthOf_4, ↓wD_e dX2_lengthOf_5, ↓wD_e dX2_lengthOf_6, ↓wD_e dX2_lengthOf_7, ↓wD_e dX2_lengthOf_8, ↓wD_e dX2_lengthOf_9, ↓wD_e dX2_lengthOf_10, ↓wD_e dX2_lengthOf_11, ↓wD_e dX2_lengthOf_14, ↓wD_e dX2_lengthOf_15, ↓opGI_r, ↓opGJ_r, ↓opGA_r, ↓opPI_r, ↓opPZ_r, ↓opPJ_r, ↓opCI_r, ↓opCJ_r, ↓rz_b, ↓rz_1, ↓rz_0, ↓rt_sIIrI_e, ↓T_lengthOf_5_395, ↓of_sJrJ_r, ↓ov_sJrJ_r, ↓F_root, ↓P_root, i32_10, i32_01, i32_m10, i32_03, i32_13, i32_23, Int32.reduceAdd, Int32.reduceSub, Int32.reduceMul, Int32.reduceLT, Int32.reduceLE, Int32.reduceToNatClampNeg, Int32.reduceOfInt, Int64.reduceAdd, Int64.reduceSub, Int64.reduceMul, Int64.reduceLT, Int64.reduceLE, lg_cmp_ge, lg_cmp_le, lg_cmp_gt, lg_cmp_lt, lg_cmp_eq, bI_0, bI_1, not_true_eq_false, not_false_eq_true, false_implies, Bool.not_eq_false, Bool.not_eq_true, and_self, Nat.reduceAdd, Int.reduceAdd, Nat.reduceEqDiff, reduceIte, true_and, and_true, implies_true, forall_const, fI_uI, fI_uJ, fI_sA, fI_sN, fI_uA, fI_uN, fJ_uI, fJ_uJ, fJ_sA, fJ_sN, fJ_uA, fJ_uN, fA_uI, fA_uJ, fA_sA, fA_sN, fA_uA, fA_uN, fN_uI, fN_uJ, fN_sA, fN_sN, fN_uA, fN_uN]
  clear hG
  (repeat' (first | apply And.intro | intro _))
  all_goals (first | rfl | (simp only [R_lengthOf, F_lengthOf, P_lengthOf, *, if_true, if_false, reduceIte, decide_true, decide_false, Bool.not_true, Bool.not_false, Bool.and_true, Bool.and_false, Bool.true_and, Bool.false_and, Bool.or_true, Bool.or_false, Bool.true_or, Bool.false_or, bI_t, bI_f, or_true, true_or, or_false, false_or, and_true, true_and, and_false, false_and, not_true_eq_false, not_false_eq_true, eq_self]; done) | (subst_vars; simp [R_lengthOf, F_lengthOf, P_lengthOf, bI, *]; done) | (simp only [R_lengthOf, F_lengthOf, P_lengthOf]; (repeat' split) <;> first | rfl | (exfalso; simp only [Int32.lt_iff_toInt_lt, Int32.le_iff_toInt_le, Int64.lt_iff_toInt_lt, Int64.le_iff_toInt_le, Int32.reduceToInt, Int64.reduceToInt] at *; omega)) | (simp_all [R_lengthOf, F_lengthOf, P_lengthOf, bI]; done))
