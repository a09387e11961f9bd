/-! NORMAL FORMS: whole numbers in ints and longs; memories alike but for some fields -/
theorem nI_mulL (a b : Nat) : nI a * nI b = nI (a * b) := (Int32.ofNat_mul a b).symm
theorem nI_subL {a b : Nat} (h : b ≤ a) : nI a - nI b = nI (a - b) := by
  have e : nI (a - b) + nI b = nI a := by rw [nI_add, Nat.sub_add_cancel h]
  rw [← e, Int32.add_sub_cancel]
theorem nI_divL {a b : Nat} (ha : a < 2 ^ 31) (hb : b < 2 ^ 31) : nI a / nI b = nI (a / b) := by
  have h1 : a / b ≤ a := Nat.div_le_self a b
  apply Int32.toInt_inj.mp
  rw [Int32.toInt_div, nI_toInt ha, nI_toInt hb, nI_toInt (Nat.lt_of_le_of_lt h1 ha), ← Int.ofNat_tdiv]
  generalize a / b = c at *
  exact Int.bmod_eq_of_le (by omega) (by omega)
theorem nI_modL {a b : Nat} (ha : a < 2 ^ 31) (hb : b < 2 ^ 31) : nI a - nI a / nI b * nI b = nI (a % b) := by
  have h1 : a / b * b ≤ a := Nat.div_mul_le_self a b
  rw [nI_divL ha hb, nI_mulL, nI_subL h1]
  congr 1
  have h2 := Nat.div_add_mod a b
  rw [Nat.mul_comm] at h2
  omega
theorem nI_decL {a : Nat} (h : 0 < a) : nI a + -1 = nI (a - 1) := by
  have e : nI (a - 1) + 1 = nI a := by rw [nI_1, Nat.sub_add_cancel h]
  rw [← e, Int32.add_assoc, show (1 : Int32) + -1 = 0 by decide, Int32.add_zero]
theorem nI_decM {a : Nat} (h : 0 < a) : nI a + -nI 1 = nI (a - 1) := nI_decL h
theorem nat_modL (a b : Nat) : a - a / b * b = a % b := by
  have h1 : a / b * b ≤ a := Nat.div_mul_le_self a b
  have h2 := Nat.div_add_mod a b
  rw [Nat.mul_comm] at h2
  omega
theorem nI_eqL {a b : Nat} (ha : a < 2 ^ 31) (hb : b < 2 ^ 31) : (nI a = nI b) = (a = b) := propext (nI_eq ha hb)
theorem nI_lt0 {a : Nat} (ha : a < 2 ^ 31) : (nI a < -1) = False := by
  apply propext
  refine ⟨fun h => ?_, False.elim⟩
  rw [Int32.lt_iff_toInt_lt, nI_toInt ha] at h
  have : (-1 : Int32).toInt = -1 := by decide
  omega
theorem nI_neL1 {a : Nat} (ha : a < 2 ^ 31) : (nI a = -1) = False := by
  apply propext
  refine ⟨fun h => ?_, False.elim⟩
  have h1 := congrArg Int32.toInt h
  rw [nI_toInt ha] at h1
  have : (-1 : Int32).toInt = -1 := by decide
  omega
theorem m1_lt0 : ((-1 : Int32) < 0) = True := by decide
theorem m1_ltn {a : Nat} (ha : a < 2 ^ 31) : ((-1 : Int32) < nI a) = True := by
  apply propext
  refine ⟨fun _ => trivial, fun _ => ?_⟩
  rw [Int32.lt_iff_toInt_lt, nI_toInt ha]
  have : (-1 : Int32).toInt = -1 := by decide
  omega
theorem nI_gap {r l : Nat} (hr : r < 2 ^ 30) (hl : l < 2 ^ 30) : (nI 2 < nI r - nI l) = (l + 2 < r) := by
  rw [Int32.lt_iff_toInt_lt, Int32.toInt_sub, nI_toInt (show 2 < 2 ^ 31 by omega), nI_toInt (show r < 2 ^ 31 by omega), nI_toInt (show l < 2 ^ 31 by omega), Int.bmod_eq_of_le (by omega) (by omega)]
  apply propext
  omega
theorem nI_gap3 {r l : Nat} (hr : r < 2 ^ 30) (hl : l < 2 ^ 30) : (nI 3 ≤ nI r - nI l) = (l + 2 < r) := by
  rw [Int32.le_iff_toInt_le, Int32.toInt_sub, nI_toInt (show 3 < 2 ^ 31 by omega), nI_toInt (show r < 2 ^ 31 by omega), nI_toInt (show l < 2 ^ 31 by omega), Int.bmod_eq_of_le (by omega) (by omega)]
  apply propext
  omega
theorem nI_gapL {r l : Nat} (hr : r < 2 ^ 30) (hl : l < 2 ^ 30) : (nI r - nI l ≤ nI 2) = (r ≤ l + 2) := by
  rw [Int32.le_iff_toInt_le, Int32.toInt_sub, nI_toInt (show 2 < 2 ^ 31 by omega), nI_toInt (show r < 2 ^ 31 by omega), nI_toInt (show l < 2 ^ 31 by omega), Int.bmod_eq_of_le (by omega) (by omega)]
  apply propext
  omega
theorem vp_in_nT {n N : Nat} (h : n < N) (hN : N < 2 ^ 31) : vp_in (nI n) N = True := propext ⟨fun _ => trivial, fun _ => vp_in_nI h hN⟩
theorem L32_0 : (0 : Int32) = nI 0 := by decide
theorem L32_1 : (1 : Int32) = nI 1 := by decide
theorem L32_2 : (2 : Int32) = nI 2 := by decide
theorem L32_3 : (3 : Int32) = nI 3 := by decide
theorem L32_4 : (4 : Int32) = nI 4 := by decide
theorem L32_5 : (5 : Int32) = nI 5 := by decide
theorem L32_6 : (6 : Int32) = nI 6 := by decide
theorem L32_9 : (9 : Int32) = nI 9 := by decide
theorem L32_10 : (10 : Int32) = nI 10 := by decide
theorem L32_12 : (12 : Int32) = nI 12 := by decide
theorem L32_16 : (16 : Int32) = nI 16 := by decide
theorem L32_20 : (20 : Int32) = nI 20 := by decide
theorem L32_32 : (32 : Int32) = nI 32 := by decide
theorem L32_48 : (48 : Int32) = nI 48 := by decide
theorem L32_256 : (256 : Int32) = nI 256 := by decide
theorem L32_400 : (400 : Int32) = nI 400 := by decide
theorem L32_999 : (999 : Int32) = nI 999 := by decide
theorem L32_1000 : (1000 : Int32) = nI 1000 := by decide
theorem L32_3072 : (3072 : Int32) = nI 3072 := by decide
/-! longs -/
theorem lN_eqL {a b : Nat} (ha : a < 2 ^ 63) (hb : b < 2 ^ 63) : (lN a = lN b) = (a = b) := by
  apply propext
  refine ⟨fun h => ?_, fun h => by rw [h]⟩
  have h1 := congrArg Int64.toInt h
  rw [lN_tiL ha, lN_tiL hb] at h1
  omega
theorem lN_0 : lN 0 = 0 := by decide
theorem L64_1 : (1 : Int64) = lN 1 := by decide
theorem lN_divL {a b : Nat} (ha : a < 2 ^ 63) (hb : b < 2 ^ 63) : lN a / lN b = lN (a / b) := by
  have h1 : a / b ≤ a := Nat.div_le_self a b
  apply Int64.toInt_inj.mp
  rw [Int64.toInt_div, lN_tiL ha, lN_tiL hb, lN_tiL (Nat.lt_of_le_of_lt h1 ha), ← Int.ofNat_tdiv]
  generalize a / b = c at *
  exact Int.bmod_eq_of_le (by omega) (by omega)
theorem lN_modL {a b : Nat} (ha : a < 2 ^ 63) (hb : b < 2 ^ 63) : lN a - lN a / lN b * lN b = lN (a % b) := by
  have h1 : a / b * b ≤ a := Nat.div_mul_le_self a b
  rw [lN_divL ha hb, lN_mul, lN_sub h1]
  congr 1
  have h2 := Nat.div_add_mod a b
  rw [Nat.mul_comm] at h2
  omega
theorem lN_abs {x : Int64} (h : -(2 ^ 63) < x.toInt) : (if x < 0 then -x else x) = lN x.toInt.natAbs := by
  have h0 : (0 : Int64).toInt = 0 := by decide
  have hx := x.toInt_lt
  apply Int64.toInt_inj.mp
  rw [lN_tiL (by omega)]
  split
  · rename_i hc
    rw [Int64.lt_iff_toInt_lt, h0] at hc
    rw [Int64.toInt_neg, Int.bmod_eq_of_le (by omega) (by omega)]
    omega
  · rename_i hc
    rw [Int64.lt_iff_toInt_lt, h0] at hc
    omega
/-! memories alike but for the fields X -/
def Fr (X : List Nat) (M N : mM) : Prop := (∀ k, k ∉ X → fI N k = fI M k ∧ fJ N k = fJ M k ∧ fA N k = fA M k) ∧ (20 ∉ X → fN N = fN M)
theorem Fr.r0 {X : List Nat} {M : mM} : Fr X M M := ⟨fun _ _ => ⟨Eq.refl _, Eq.refl _, Eq.refl _⟩, fun _ => Eq.refl _⟩
theorem Fr.I {X : List Nat} {M N : mM} (h : Fr X M N) {k : Nat} (hk : k ∉ X) : fI N k = fI M k := (h.1 k hk).1
theorem Fr.J {X : List Nat} {M N : mM} (h : Fr X M N) {k : Nat} (hk : k ∉ X) : fJ N k = fJ M k := (h.1 k hk).2.1
theorem Fr.A {X : List Nat} {M N : mM} (h : Fr X M N) {k : Nat} (hk : k ∉ X) : fA N k = fA M k := (h.1 k hk).2.2
theorem Fr.N {X : List Nat} {M N : mM} (h : Fr X M N) (hk : 20 ∉ X) : fN N = fN M := h.2 hk
theorem Fr.tr {X : List Nat} {M N O : mM} (h : Fr X M N) (h2 : Fr X N O) : Fr X M O :=
  ⟨fun k hk => ⟨(h2.I hk).trans (h.I hk), (h2.J hk).trans (h.J hk), (h2.A hk).trans (h.A hk)⟩, fun hk => (h2.N hk).trans (h.N hk)⟩
theorem Fr.mo {X Y : List Nat} {M N : mM} (h : Fr X M N) (hs : ∀ k ∈ X, k ∈ Y) : Fr Y M N :=
  ⟨fun k hk => h.1 k fun hx => hk (hs k hx), fun hk => h.2 fun hx => hk (hs 20 hx)⟩
theorem Fr.wI {X : List Nat} {M N : mM} (h : Fr X M N) {k : Nat} {x : Int32} (hk : k ∈ X) : Fr X M (uI N k x) :=
  ⟨fun j hj => ⟨by rw [fI_uI, if_neg (fun e => hj (by rw [e]; exact hk))]; exact h.I hj, h.J hj, h.A hj⟩, fun hj => h.N hj⟩
theorem Fr.wJ {X : List Nat} {M N : mM} (h : Fr X M N) {k : Nat} {x : Int64} (hk : k ∈ X) : Fr X M (uJ N k x) :=
  ⟨fun j hj => ⟨h.I hj, by rw [fJ_uJ, if_neg (fun e => hj (by rw [e]; exact hk))]; exact h.J hj, h.A hj⟩, fun hj => h.N hj⟩
theorem Fr.wS {X : List Nat} {M N : mM} (h : Fr X M N) {k : Nat} {g : Nat → Int32} (hk : k ∈ X) : Fr X M (sA N k g) :=
  ⟨fun j hj => ⟨h.I hj, h.J hj, by rw [fA_sA, if_neg (fun e => hj (by rw [e]; exact hk))]; exact h.A hj⟩, fun hj => h.N hj⟩
theorem Fr.wA {X : List Nat} {M N : mM} (h : Fr X M N) {k i : Nat} {x : Int32} (hk : k ∈ X) : Fr X M (uA N k i x) := h.wS hk
theorem Fr.wN {X : List Nat} {M N : mM} (h : Fr X M N) {i : Nat} {x : Int64} (hk : 20 ∈ X) : Fr X M (uN N i x) :=
  ⟨fun j hj => ⟨h.I hj, h.J hj, h.A hj⟩, fun hj => absurd hk hj⟩
theorem upd_s (t : Nat → Int32) (i : Nat) (x : Int32) : upd t i x i = x := if_pos (Eq.refl _)
theorem upd_o (t : Nat → Int32) {i j : Nat} (x : Int32) (h : j ≠ i) : upd t i x j = t j := if_neg h
theorem upd_e (t : Nat → Int32) (i j : Nat) (x : Int32) : upd t i x j = if j = i then x else t j := Eq.refl _

