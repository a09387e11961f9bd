/-! CORE 2b: one rewriting row an instruction -/
/-- words on the stack below a call -/
def se_c8 : Nat → List Value → Prop
  | _, [] => True
  | n + 1, .int _ :: r => se_c8 n r
  | n + 1, .ref _ :: r => se_c8 n r
  | n + 1, .null :: r => se_c8 n r
  | n + 2, .long _ :: r => se_c8 n r
  | _, _ => False
theorem ln_t {n : Nat} (P : Prop) : (n = n ∧ P) = P := propext ⟨And.right, fun h => ⟨rfl, h⟩⟩
theorem imp_tt (P : Prop) : (True → P) = P := propext ⟨fun h => h trivial, fun h _ => h⟩
section
variable {μ : Type} {J : Prop} {T : Nat → Nat → se_Op μ} {pc : Nat} {L : se_L} {st r : List Value} {w : μ} {K : Nat → se_L → List Value → μ → Prop} {X : Nat → se_L → Nat → μ → Prop} {Rt : Option Value → μ → Prop}
theorem wq_null : wI J T .aconst_null 1 pc L st w K X Rt = (K (pc + 1) L (.null :: st) w) := ln_t _
theorem wq_iconst {n : Int} : wI J T (.iconst n) 1 pc L st w K X Rt = (K (pc + 1) L (.int (Int32.ofInt n) :: st) w) := ln_t _
theorem wq_bipush {n : Int} : wI J T (.bipush n) 2 pc L st w K X Rt = (K (pc + 2) L (.int (Int8.ofInt n).toInt32 :: st) w) := ln_t _
theorem wq_sipush {n : Int} : wI J T (.sipush n) 3 pc L st w K X Rt = (K (pc + 3) L (.int (Int16.ofInt n).toInt32 :: st) w) := ln_t _
theorem wq_lconst {n : Fin 2} : wI J T (.lconst n) 1 pc L st w K X Rt = (K (pc + 1) L (.long (Int64.ofNat (n : Nat)) :: st) w) := ln_t _
theorem wq_iload_0 {l : se_L} {x : Int32} : wI J T (.iload_n 0) 1 pc (some (.int x) :: l) st w K X Rt = (K (pc + 1) (some (.int x) :: l) (.int x :: st) w) := ln_t _
theorem wq_iload_1 {o0 : Option Value} {l : se_L} {x : Int32} : wI J T (.iload_n 1) 1 pc (o0 :: some (.int x) :: l) st w K X Rt = (K (pc + 1) (o0 :: some (.int x) :: l) (.int x :: st) w) := ln_t _
theorem wq_iload_2 {o0 : Option Value} {o1 : Option Value} {l : se_L} {x : Int32} : wI J T (.iload_n 2) 1 pc (o0 :: o1 :: some (.int x) :: l) st w K X Rt = (K (pc + 1) (o0 :: o1 :: some (.int x) :: l) (.int x :: st) w) := ln_t _
theorem wq_iload_3 {o0 : Option Value} {o1 : Option Value} {o2 : Option Value} {l : se_L} {x : Int32} : wI J T (.iload_n 3) 1 pc (o0 :: o1 :: o2 :: some (.int x) :: l) st w K X Rt = (K (pc + 1) (o0 :: o1 :: o2 :: some (.int x) :: l) (.int x :: st) w) := ln_t _
theorem wq_iload {i : Nat} : wI J T (.iload i) 2 pc L st w K X Rt = (gI (se_get L i) fun x => K (pc + 2) L (.int x :: st) w) := ln_t _
theorem wq_iload_g {i : Fin 4} : wI J T (.iload_n i) 1 pc L st w K X Rt = (gI (se_get L (i : Nat)) fun x => K (pc + 1) L (.int x :: st) w) := ln_t _
theorem wq_lload_0 {l : se_L} {x : Int64} : wI J T (.lload_n 0) 1 pc (some (.long x) :: l) st w K X Rt = (K (pc + 1) (some (.long x) :: l) (.long x :: st) w) := ln_t _
theorem wq_lload_1 {o0 : Option Value} {l : se_L} {x : Int64} : wI J T (.lload_n 1) 1 pc (o0 :: some (.long x) :: l) st w K X Rt = (K (pc + 1) (o0 :: some (.long x) :: l) (.long x :: st) w) := ln_t _
theorem wq_lload_2 {o0 : Option Value} {o1 : Option Value} {l : se_L} {x : Int64} : wI J T (.lload_n 2) 1 pc (o0 :: o1 :: some (.long x) :: l) st w K X Rt = (K (pc + 1) (o0 :: o1 :: some (.long x) :: l) (.long x :: st) w) := ln_t _
theorem wq_lload_3 {o0 : Option Value} {o1 : Option Value} {o2 : Option Value} {l : se_L} {x : Int64} : wI J T (.lload_n 3) 1 pc (o0 :: o1 :: o2 :: some (.long x) :: l) st w K X Rt = (K (pc + 1) (o0 :: o1 :: o2 :: some (.long x) :: l) (.long x :: st) w) := ln_t _
theorem wq_lload {i : Nat} : wI J T (.lload i) 2 pc L st w K X Rt = (gL (se_get L i) fun x => K (pc + 2) L (.long x :: st) w) := ln_t _
theorem wq_lload_g {i : Fin 4} : wI J T (.lload_n i) 1 pc L st w K X Rt = (gL (se_get L (i : Nat)) fun x => K (pc + 1) L (.long x :: st) w) := ln_t _
theorem wq_aload_0 {l : se_L} {x : Nat} : wI J T (.aload_n 0) 1 pc (some (.ref x) :: l) st w K X Rt = (K (pc + 1) (some (.ref x) :: l) (.ref x :: st) w) := ln_t _
theorem wq_aload_1 {o0 : Option Value} {l : se_L} {x : Nat} : wI J T (.aload_n 1) 1 pc (o0 :: some (.ref x) :: l) st w K X Rt = (K (pc + 1) (o0 :: some (.ref x) :: l) (.ref x :: st) w) := ln_t _
theorem wq_aload_2 {o0 : Option Value} {o1 : Option Value} {l : se_L} {x : Nat} : wI J T (.aload_n 2) 1 pc (o0 :: o1 :: some (.ref x) :: l) st w K X Rt = (K (pc + 1) (o0 :: o1 :: some (.ref x) :: l) (.ref x :: st) w) := ln_t _
theorem wq_aload_3 {o0 : Option Value} {o1 : Option Value} {o2 : Option Value} {l : se_L} {x : Nat} : wI J T (.aload_n 3) 1 pc (o0 :: o1 :: o2 :: some (.ref x) :: l) st w K X Rt = (K (pc + 1) (o0 :: o1 :: o2 :: some (.ref x) :: l) (.ref x :: st) w) := ln_t _
theorem wq_aload {i : Nat} : wI J T (.aload i) 2 pc L st w K X Rt = (gR (se_get L i) fun x => K (pc + 2) L (x :: st) w) := ln_t _
theorem wq_aload_g {i : Fin 4} : wI J T (.aload_n i) 1 pc L st w K X Rt = (gR (se_get L (i : Nat)) fun x => K (pc + 1) L (x :: st) w) := ln_t _
theorem wq_aload_0n {l : se_L} : wI J T (.aload_n 0) 1 pc (some .null :: l) st w K X Rt = (K (pc + 1) (some .null :: l) (.null :: st) w) := ln_t _
theorem wq_aload_1n {o0 : Option Value} {l : se_L} : wI J T (.aload_n 1) 1 pc (o0 :: some .null :: l) st w K X Rt = (K (pc + 1) (o0 :: some .null :: l) (.null :: st) w) := ln_t _
theorem wq_aload_2n {o0 : Option Value} {o1 : Option Value} {l : se_L} : wI J T (.aload_n 2) 1 pc (o0 :: o1 :: some .null :: l) st w K X Rt = (K (pc + 1) (o0 :: o1 :: some .null :: l) (.null :: st) w) := ln_t _
theorem wq_aload_3n {o0 : Option Value} {o1 : Option Value} {o2 : Option Value} {l : se_L} : wI J T (.aload_n 3) 1 pc (o0 :: o1 :: o2 :: some .null :: l) st w K X Rt = (K (pc + 1) (o0 :: o1 :: o2 :: some .null :: l) (.null :: st) w) := ln_t _
theorem wq_istore_0 {x : Int32} : wI J T (.istore_n 0) 1 pc L (.int x :: r) w K X Rt = (se_in L 0 ∧ K (pc + 1) (se_set1 L 0 (.int x)) r w) := ln_t _
theorem wq_istore_1 {x : Int32} : wI J T (.istore_n 1) 1 pc L (.int x :: r) w K X Rt = (se_in L 1 ∧ K (pc + 1) (se_set1 L 1 (.int x)) r w) := ln_t _
theorem wq_istore_2 {x : Int32} : wI J T (.istore_n 2) 1 pc L (.int x :: r) w K X Rt = (se_in L 2 ∧ K (pc + 1) (se_set1 L 2 (.int x)) r w) := ln_t _
theorem wq_istore_3 {x : Int32} : wI J T (.istore_n 3) 1 pc L (.int x :: r) w K X Rt = (se_in L 3 ∧ K (pc + 1) (se_set1 L 3 (.int x)) r w) := ln_t _
theorem wq_istore {i : Nat} {x : Int32} : wI J T (.istore i) 2 pc L (.int x :: r) w K X Rt = (se_in L i ∧ K (pc + 2) (se_set1 L i (.int x)) r w) := ln_t _
theorem wq_astore_0 {x : Nat} : wI J T (.astore_n 0) 1 pc L (.ref x :: r) w K X Rt = (se_in L 0 ∧ K (pc + 1) (se_set1 L 0 (.ref x)) r w) := ln_t _
theorem wq_astore_1 {x : Nat} : wI J T (.astore_n 1) 1 pc L (.ref x :: r) w K X Rt = (se_in L 1 ∧ K (pc + 1) (se_set1 L 1 (.ref x)) r w) := ln_t _
theorem wq_astore_2 {x : Nat} : wI J T (.astore_n 2) 1 pc L (.ref x :: r) w K X Rt = (se_in L 2 ∧ K (pc + 1) (se_set1 L 2 (.ref x)) r w) := ln_t _
theorem wq_astore_3 {x : Nat} : wI J T (.astore_n 3) 1 pc L (.ref x :: r) w K X Rt = (se_in L 3 ∧ K (pc + 1) (se_set1 L 3 (.ref x)) r w) := ln_t _
theorem wq_astore {i : Nat} {x : Nat} : wI J T (.astore i) 2 pc L (.ref x :: r) w K X Rt = (se_in L i ∧ K (pc + 2) (se_set1 L i (.ref x)) r w) := ln_t _
theorem wq_astore_0n : wI J T (.astore_n 0) 1 pc L (.null :: r) w K X Rt = (se_in L 0 ∧ K (pc + 1) (se_set1 L 0 .null) r w) := ln_t _
theorem wq_astore_1n : wI J T (.astore_n 1) 1 pc L (.null :: r) w K X Rt = (se_in L 1 ∧ K (pc + 1) (se_set1 L 1 .null) r w) := ln_t _
theorem wq_astore_2n : wI J T (.astore_n 2) 1 pc L (.null :: r) w K X Rt = (se_in L 2 ∧ K (pc + 1) (se_set1 L 2 .null) r w) := ln_t _
theorem wq_astore_3n : wI J T (.astore_n 3) 1 pc L (.null :: r) w K X Rt = (se_in L 3 ∧ K (pc + 1) (se_set1 L 3 .null) r w) := ln_t _
theorem wq_astoren {i : Nat} : wI J T (.astore i) 2 pc L (.null :: r) w K X Rt = (se_in L i ∧ K (pc + 2) (se_set1 L i .null) r w) := ln_t _
theorem wq_lstore_0 {x : Int64} : wI J T (.lstore_n 0) 1 pc L (.long x :: r) w K X Rt = (se_in L 1 ∧ K (pc + 1) (se_set2 L 0 (.long x)) r w) := ln_t _
theorem wq_lstore_1 {x : Int64} : wI J T (.lstore_n 1) 1 pc L (.long x :: r) w K X Rt = (se_in L 2 ∧ K (pc + 1) (se_set2 L 1 (.long x)) r w) := ln_t _
theorem wq_lstore_2 {x : Int64} : wI J T (.lstore_n 2) 1 pc L (.long x :: r) w K X Rt = (se_in L 3 ∧ K (pc + 1) (se_set2 L 2 (.long x)) r w) := ln_t _
theorem wq_lstore_3 {x : Int64} : wI J T (.lstore_n 3) 1 pc L (.long x :: r) w K X Rt = (se_in L 4 ∧ K (pc + 1) (se_set2 L 3 (.long x)) r w) := ln_t _
theorem wq_lstore {i : Nat} {x : Int64} : wI J T (.lstore i) 2 pc L (.long x :: r) w K X Rt = (se_in L (i + 1) ∧ K (pc + 2) (se_set2 L i (.long x)) r w) := ln_t _
theorem wq_iinc {i : Nat} {n : Int} : wI J T (.iinc i n) 3 pc L st w K X Rt = (gI (se_get L i) fun x => K (pc + 3) (se_set1 L i (.int (x + Int32.ofInt n))) st w) := ln_t _
theorem wq_iadd {x y : Int32} : wI J T .iadd 1 pc L (.int y :: .int x :: r) w K X Rt = (K (pc + 1) L (.int (x + y) :: r) w) := ln_t _
theorem wq_isub {x y : Int32} : wI J T .isub 1 pc L (.int y :: .int x :: r) w K X Rt = (K (pc + 1) L (.int (x - y) :: r) w) := ln_t _
theorem wq_imul {x y : Int32} : wI J T .imul 1 pc L (.int y :: .int x :: r) w K X Rt = (K (pc + 1) L (.int (x * y) :: r) w) := ln_t _
theorem wq_iand {x y : Int32} : wI J T .iand 1 pc L (.int y :: .int x :: r) w K X Rt = (K (pc + 1) L (.int (x &&& y) :: r) w) := ln_t _
theorem wq_ior {x y : Int32} : wI J T .ior 1 pc L (.int y :: .int x :: r) w K X Rt = (K (pc + 1) L (.int (x ||| y) :: r) w) := ln_t _
theorem wq_ishl {x y : Int32} : wI J T .ishl 1 pc L (.int y :: .int x :: r) w K X Rt = (K (pc + 1) L (.int (x <<< (y &&& 31)) :: r) w) := ln_t _
theorem wq_ishr {x y : Int32} : wI J T .ishr 1 pc L (.int y :: .int x :: r) w K X Rt = (K (pc + 1) L (.int (x >>> (y &&& 31)) :: r) w) := ln_t _
theorem wq_iushr {x y : Int32} : wI J T .iushr 1 pc L (.int y :: .int x :: r) w K X Rt = (K (pc + 1) L (.int ((x.toUInt32 >>> (y.toUInt32 &&& Int32.toUInt32 31)).toInt32) :: r) w) := ln_t _
theorem wq_ladd {x y : Int64} : wI J T .ladd 1 pc L (.long y :: .long x :: r) w K X Rt = (K (pc + 1) L (.long (x + y) :: r) w) := ln_t _
theorem wq_lsub {x y : Int64} : wI J T .lsub 1 pc L (.long y :: .long x :: r) w K X Rt = (K (pc + 1) L (.long (x - y) :: r) w) := ln_t _
theorem wq_lmul {x y : Int64} : wI J T .lmul 1 pc L (.long y :: .long x :: r) w K X Rt = (K (pc + 1) L (.long (x * y) :: r) w) := ln_t _
theorem wq_land {x y : Int64} : wI J T .land 1 pc L (.long y :: .long x :: r) w K X Rt = (K (pc + 1) L (.long (x &&& y) :: r) w) := ln_t _
theorem wq_lor {x y : Int64} : wI J T .lor 1 pc L (.long y :: .long x :: r) w K X Rt = (K (pc + 1) L (.long (x ||| y) :: r) w) := ln_t _
theorem wq_idiv {x y : Int32} : wI J T .idiv 1 pc L (.int y :: .int x :: r) w K X Rt = (¬ y = 0 ∧ K (pc + 1) L (.int (x / y) :: r) w) := ln_t _
theorem wq_irem {x y : Int32} : wI J T .irem 1 pc L (.int y :: .int x :: r) w K X Rt = (¬ y = 0 ∧ K (pc + 1) L (.int (x - x / y * y) :: r) w) := ln_t _
theorem wq_ldiv {x y : Int64} : wI J T .ldiv 1 pc L (.long y :: .long x :: r) w K X Rt = (¬ y = 0 ∧ K (pc + 1) L (.long (x / y) :: r) w) := ln_t _
theorem wq_lrem {x y : Int64} : wI J T .lrem 1 pc L (.long y :: .long x :: r) w K X Rt = (¬ y = 0 ∧ K (pc + 1) L (.long (x - x / y * y) :: r) w) := ln_t _
theorem wq_ineg {x : Int32} : wI J T .ineg 1 pc L (.int x :: r) w K X Rt = (K (pc + 1) L (.int (-x) :: r) w) := ln_t _
theorem wq_lneg {x : Int64} : wI J T .lneg 1 pc L (.long x :: r) w K X Rt = (K (pc + 1) L (.long (-x) :: r) w) := ln_t _
theorem wq_lshl {x : Int64} {y : Int32} : wI J T .lshl 1 pc L (.int y :: .long x :: r) w K X Rt = (K (pc + 1) L (.long (x <<< (y.toInt64 &&& 63)) :: r) w) := ln_t _
theorem wq_lshr {x : Int64} {y : Int32} : wI J T .lshr 1 pc L (.int y :: .long x :: r) w K X Rt = (K (pc + 1) L (.long (x >>> (y.toInt64 &&& 63)) :: r) w) := ln_t _
theorem wq_lushr {x : Int64} {y : Int32} : wI J T .lushr 1 pc L (.int y :: .long x :: r) w K X Rt = (K (pc + 1) L (.long ((x.toUInt64 >>> (y.toInt64.toUInt64 &&& Int64.toUInt64 63)).toInt64) :: r) w) := ln_t _
theorem wq_lcmp {x y : Int64} : wI J T .lcmp 1 pc L (.long y :: .long x :: r) w K X Rt = (K (pc + 1) L (.int (lg_cmp x y) :: r) w) := ln_t _
theorem wq_i2l {x : Int32} : wI J T .i2l 1 pc L (.int x :: r) w K X Rt = (K (pc + 1) L (.long x.toInt64 :: r) w) := ln_t _
theorem wq_l2i {x : Int64} : wI J T .l2i 1 pc L (.long x :: r) w K X Rt = (K (pc + 1) L (.int x.toInt32 :: r) w) := ln_t _
theorem wq_i2b {x : Int32} : wI J T .i2b 1 pc L (.int x :: r) w K X Rt = (K (pc + 1) L (.int x.toInt8.toInt32 :: r) w) := ln_t _
theorem wq_i2c {x : Int32} : wI J T .i2c 1 pc L (.int x :: r) w K X Rt = (K (pc + 1) L (.int (x.toUInt32 % 65536).toInt32 :: r) w) := ln_t _
theorem wq_dupi {x : Int32} : wI J T .dup 1 pc L (.int x :: r) w K X Rt = (K (pc + 1) L (.int x :: .int x :: r) w) := ln_t _
theorem wq_popi {x : Int32} : wI J T .pop 1 pc L (.int x :: r) w K X Rt = (K (pc + 1) L r w) := ln_t _
theorem wq_dupr {x : Nat} : wI J T .dup 1 pc L (.ref x :: r) w K X Rt = (K (pc + 1) L (.ref x :: .ref x :: r) w) := ln_t _
theorem wq_popr {x : Nat} : wI J T .pop 1 pc L (.ref x :: r) w K X Rt = (K (pc + 1) L r w) := ln_t _
theorem wq_dupn : wI J T .dup 1 pc L (.null :: r) w K X Rt = (K (pc + 1) L (.null :: .null :: r) w) := ln_t _
theorem wq_popn : wI J T .pop 1 pc L (.null :: r) w K X Rt = (K (pc + 1) L r w) := ln_t _
theorem wq_dup_x1ii {x : Int32} {y : Int32} : wI J T .dup_x1 1 pc L (.int y :: .int x :: r) w K X Rt = (K (pc + 1) L (.int y :: .int x :: .int y :: r) w) := ln_t _
theorem wq_dup2ii {x : Int32} {y : Int32} : wI J T .dup2 1 pc L (.int y :: .int x :: r) w K X Rt = (K (pc + 1) L (.int y :: .int x :: .int y :: .int x :: r) w) := ln_t _
theorem wq_dup_x1ri {x : Int32} {y : Nat} : wI J T .dup_x1 1 pc L (.ref y :: .int x :: r) w K X Rt = (K (pc + 1) L (.ref y :: .int x :: .ref y :: r) w) := ln_t _
theorem wq_dup2ri {x : Int32} {y : Nat} : wI J T .dup2 1 pc L (.ref y :: .int x :: r) w K X Rt = (K (pc + 1) L (.ref y :: .int x :: .ref y :: .int x :: r) w) := ln_t _
theorem wq_dup_x1ni {x : Int32} : wI J T .dup_x1 1 pc L (.null :: .int x :: r) w K X Rt = (K (pc + 1) L (.null :: .int x :: .null :: r) w) := ln_t _
theorem wq_dup2ni {x : Int32} : wI J T .dup2 1 pc L (.null :: .int x :: r) w K X Rt = (K (pc + 1) L (.null :: .int x :: .null :: .int x :: r) w) := ln_t _
theorem wq_dup_x1ir {x : Nat} {y : Int32} : wI J T .dup_x1 1 pc L (.int y :: .ref x :: r) w K X Rt = (K (pc + 1) L (.int y :: .ref x :: .int y :: r) w) := ln_t _
theorem wq_dup2ir {x : Nat} {y : Int32} : wI J T .dup2 1 pc L (.int y :: .ref x :: r) w K X Rt = (K (pc + 1) L (.int y :: .ref x :: .int y :: .ref x :: r) w) := ln_t _
theorem wq_dup_x1rr {x : Nat} {y : Nat} : wI J T .dup_x1 1 pc L (.ref y :: .ref x :: r) w K X Rt = (K (pc + 1) L (.ref y :: .ref x :: .ref y :: r) w) := ln_t _
theorem wq_dup2rr {x : Nat} {y : Nat} : wI J T .dup2 1 pc L (.ref y :: .ref x :: r) w K X Rt = (K (pc + 1) L (.ref y :: .ref x :: .ref y :: .ref x :: r) w) := ln_t _
theorem wq_dup_x1nr {x : Nat} : wI J T .dup_x1 1 pc L (.null :: .ref x :: r) w K X Rt = (K (pc + 1) L (.null :: .ref x :: .null :: r) w) := ln_t _
theorem wq_dup2nr {x : Nat} : wI J T .dup2 1 pc L (.null :: .ref x :: r) w K X Rt = (K (pc + 1) L (.null :: .ref x :: .null :: .ref x :: r) w) := ln_t _
theorem wq_dup_x1in {y : Int32} : wI J T .dup_x1 1 pc L (.int y :: .null :: r) w K X Rt = (K (pc + 1) L (.int y :: .null :: .int y :: r) w) := ln_t _
theorem wq_dup2in {y : Int32} : wI J T .dup2 1 pc L (.int y :: .null :: r) w K X Rt = (K (pc + 1) L (.int y :: .null :: .int y :: .null :: r) w) := ln_t _
theorem wq_dup_x1rn {y : Nat} : wI J T .dup_x1 1 pc L (.ref y :: .null :: r) w K X Rt = (K (pc + 1) L (.ref y :: .null :: .ref y :: r) w) := ln_t _
theorem wq_dup2rn {y : Nat} : wI J T .dup2 1 pc L (.ref y :: .null :: r) w K X Rt = (K (pc + 1) L (.ref y :: .null :: .ref y :: .null :: r) w) := ln_t _
theorem wq_dup_x1nn : wI J T .dup_x1 1 pc L (.null :: .null :: r) w K X Rt = (K (pc + 1) L (.null :: .null :: .null :: r) w) := ln_t _
theorem wq_dup2nn : wI J T .dup2 1 pc L (.null :: .null :: r) w K X Rt = (K (pc + 1) L (.null :: .null :: .null :: .null :: r) w) := ln_t _
theorem wq_goto {o : Int} : wI J T (.goto o) 3 pc L st w K X Rt = (se_tg pc o fun t => K t L st w) := ln_t _
theorem wq_if_eq {o : Int} {x : Int32} : wI J T (.ifCond .eq o) 3 pc L (.int x :: r) w K X Rt = (se_tg pc o fun t => (x = 0 → K t L r w) ∧ (¬ x = 0 → K (pc + 3) L r w)) := ln_t _
theorem wq_icmp_eq {o : Int} {x y : Int32} : wI J T (.if_icmp .eq o) 3 pc L (.int y :: .int x :: r) w K X Rt = (se_tg pc o fun t => (x = y → K t L r w) ∧ (¬ x = y → K (pc + 3) L r w)) := ln_t _
theorem wq_if_ne {o : Int} {x : Int32} : wI J T (.ifCond .ne o) 3 pc L (.int x :: r) w K X Rt = (se_tg pc o fun t => (¬ x = 0 → K t L r w) ∧ (x = 0 → K (pc + 3) L r w)) := ln_t _
theorem wq_icmp_ne {o : Int} {x y : Int32} : wI J T (.if_icmp .ne o) 3 pc L (.int y :: .int x :: r) w K X Rt = (se_tg pc o fun t => (¬ x = y → K t L r w) ∧ (x = y → K (pc + 3) L r w)) := ln_t _
theorem wq_if_lt {o : Int} {x : Int32} : wI J T (.ifCond .lt o) 3 pc L (.int x :: r) w K X Rt = (se_tg pc o fun t => (x < 0 → K t L r w) ∧ (¬ x < 0 → K (pc + 3) L r w)) := ln_t _
theorem wq_icmp_lt {o : Int} {x y : Int32} : wI J T (.if_icmp .lt o) 3 pc L (.int y :: .int x :: r) w K X Rt = (se_tg pc o fun t => (x < y → K t L r w) ∧ (¬ x < y → K (pc + 3) L r w)) := ln_t _
theorem wq_if_ge {o : Int} {x : Int32} : wI J T (.ifCond .ge o) 3 pc L (.int x :: r) w K X Rt = (se_tg pc o fun t => (0 ≤ x → K t L r w) ∧ (¬ 0 ≤ x → K (pc + 3) L r w)) := ln_t _
theorem wq_icmp_ge {o : Int} {x y : Int32} : wI J T (.if_icmp .ge o) 3 pc L (.int y :: .int x :: r) w K X Rt = (se_tg pc o fun t => (y ≤ x → K t L r w) ∧ (¬ y ≤ x → K (pc + 3) L r w)) := ln_t _
theorem wq_if_gt {o : Int} {x : Int32} : wI J T (.ifCond .gt o) 3 pc L (.int x :: r) w K X Rt = (se_tg pc o fun t => (0 < x → K t L r w) ∧ (¬ 0 < x → K (pc + 3) L r w)) := ln_t _
theorem wq_icmp_gt {o : Int} {x y : Int32} : wI J T (.if_icmp .gt o) 3 pc L (.int y :: .int x :: r) w K X Rt = (se_tg pc o fun t => (y < x → K t L r w) ∧ (¬ y < x → K (pc + 3) L r w)) := ln_t _
theorem wq_if_le {o : Int} {x : Int32} : wI J T (.ifCond .le o) 3 pc L (.int x :: r) w K X Rt = (se_tg pc o fun t => (x ≤ 0 → K t L r w) ∧ (¬ x ≤ 0 → K (pc + 3) L r w)) := ln_t _
theorem wq_icmp_le {o : Int} {x y : Int32} : wI J T (.if_icmp .le o) 3 pc L (.int y :: .int x :: r) w K X Rt = (se_tg pc o fun t => (x ≤ y → K t L r w) ∧ (¬ x ≤ y → K (pc + 3) L r w)) := ln_t _
theorem wq_acmp_eq {o : Int} : wI J T (.if_acmp .eq o) 3 pc L st w K X Rt = (J ∧ se_tg pc o fun t => sR st fun y r => sR r fun x r => (x = y → K t L r w) ∧ (¬ x = y → K (pc + 3) L r w)) := ln_t _
theorem wq_acmp_ne {o : Int} : wI J T (.if_acmp .ne o) 3 pc L st w K X Rt = (J ∧ se_tg pc o fun t => sR st fun y r => sR r fun x r => (¬ x = y → K t L r w) ∧ (x = y → K (pc + 3) L r w)) := ln_t _
theorem wq_ifnullr {o : Int} {x : Nat} : wI J T (.ifnull o) 3 pc L (.ref x :: r) w K X Rt = (K (pc + 3) L r w ∧ se_tg pc o (fun _ => True)) := by
  rw [show wI J T (.ifnull o) 3 pc L (.ref x :: r) w K X Rt = (3 = 3 ∧ se_tg pc o fun t => ((Value.ref x = .null → K t L r w) ∧ (¬ Value.ref x = .null → K (pc + 3) L r w))) from rfl, ln_t]
  unfold se_tg
  split <;> simp
theorem wq_ifnonnullr {o : Int} {x : Nat} : wI J T (.ifnonnull o) 3 pc L (.ref x :: r) w K X Rt = (se_tg pc o fun t => K t L r w) := by
  rw [show wI J T (.ifnonnull o) 3 pc L (.ref x :: r) w K X Rt = (3 = 3 ∧ se_tg pc o fun t => ((¬ Value.ref x = .null → K t L r w) ∧ (Value.ref x = .null → K (pc + 3) L r w))) from rfl, ln_t]
  unfold se_tg
  split <;> simp
theorem wq_ifnulln {o : Int} : wI J T (.ifnull o) 3 pc L (.null :: r) w K X Rt = (se_tg pc o fun t => K t L r w) := by
  rw [show wI J T (.ifnull o) 3 pc L (.null :: r) w K X Rt = (3 = 3 ∧ se_tg pc o fun t => ((Value.null = .null → K t L r w) ∧ (¬ Value.null = .null → K (pc + 3) L r w))) from rfl, ln_t]
  unfold se_tg
  split <;> simp
theorem wq_ifnonnulln {o : Int} : wI J T (.ifnonnull o) 3 pc L (.null :: r) w K X Rt = (K (pc + 3) L r w ∧ se_tg pc o (fun _ => True)) := by
  rw [show wI J T (.ifnonnull o) 3 pc L (.null :: r) w K X Rt = (3 = 3 ∧ se_tg pc o fun t => ((¬ Value.null = .null → K t L r w) ∧ (Value.null = .null → K (pc + 3) L r w))) from rfl, ln_t]
  unfold se_tg
  split <;> simp
theorem wq_ifnull {o : Int} {q : Option Nat} : wI J T (.ifnull o) 3 pc L (va_rf q :: r) w K X Rt = (se_tg pc o fun t => (q = none → K t L r w) ∧ (¬ q = none → K (pc + 3) L r w)) := by
  cases q with
  | none =>
    rw [show wI J T (.ifnull o) 3 pc L (va_rf none :: r) w K X Rt = (3 = 3 ∧ se_tg pc o fun t => ((Value.null = .null → K t L r w) ∧ (¬ Value.null = .null → K (pc + 3) L r w))) from rfl, ln_t]
    simp
  | some z =>
    rw [show wI J T (.ifnull o) 3 pc L (va_rf (some z) :: r) w K X Rt = (3 = 3 ∧ se_tg pc o fun t => ((Value.ref z = .null → K t L r w) ∧ (¬ Value.ref z = .null → K (pc + 3) L r w))) from rfl, ln_t]
    simp
theorem wq_ifnonnull {o : Int} {q : Option Nat} : wI J T (.ifnonnull o) 3 pc L (va_rf q :: r) w K X Rt = (se_tg pc o fun t => (¬ q = none → K t L r w) ∧ (q = none → K (pc + 3) L r w)) := by
  cases q with
  | none =>
    rw [show wI J T (.ifnonnull o) 3 pc L (va_rf none :: r) w K X Rt = (3 = 3 ∧ se_tg pc o fun t => ((¬ Value.null = .null → K t L r w) ∧ (Value.null = .null → K (pc + 3) L r w))) from rfl, ln_t]
    simp
  | some z =>
    rw [show wI J T (.ifnonnull o) 3 pc L (va_rf (some z) :: r) w K X Rt = (3 = 3 ∧ se_tg pc o fun t => ((¬ Value.ref z = .null → K t L r w) ∧ (Value.ref z = .null → K (pc + 3) L r w))) from rfl, ln_t]
    simp
theorem wq_tsw {d lo hi : Int} {offs : Array Int} {len : Nat} {x : Int32} : wI J T (.tableswitch d lo hi offs) len pc L (.int x :: r) w K X Rt = (se_tsOk lo hi offs = true ∧ se_ts pc x d (fun t => K t L r w) offs.toList lo) := rfl
theorem wq_iret {x : Int32} : wI J T .ireturn 1 pc L [.int x] w K X Rt = (Rt (some (.int x)) w) := ln_t _
theorem wq_lret {x : Int64} : wI J T .lreturn 1 pc L [.long x] w K X Rt = (Rt (some (.long x)) w) := ln_t _
theorem wq_aretr {x : Nat} : wI J T .areturn 1 pc L [.ref x] w K X Rt = (Rt (some (.ref x)) w) := ln_t _
theorem wq_aretn : wI J T .areturn 1 pc L [.null] w K X Rt = (Rt (some .null) w) := ln_t _
theorem wq_ret : wI J T .return_ 1 pc L [] w K X Rt = (Rt none w) := ln_t _
theorem wq_getfield {i : Nat} : wI J T (.getfield i) 3 pc L st w K X Rt = (T 0 i st w (K (pc + 3) L) (X pc L)) := ln_t _
theorem wq_putfield {i : Nat} : wI J T (.putfield i) 3 pc L st w K X Rt = (T 1 i st w (K (pc + 3) L) (X pc L)) := ln_t _
theorem wq_getstatic {i : Nat} : wI J T (.getstatic i) 3 pc L st w K X Rt = (T 2 i st w (K (pc + 3) L) (X pc L)) := ln_t _
theorem wq_invokevirtual {i : Nat} : wI J T (.invokevirtual i) 3 pc L st w K X Rt = (T 3 i st w (K (pc + 3) L) (X pc L)) := ln_t _
theorem wq_invokespecial {i : Nat} : wI J T (.invokespecial i) 3 pc L st w K X Rt = (T 4 i st w (K (pc + 3) L) (X pc L)) := ln_t _
theorem wq_invokestatic {i : Nat} : wI J T (.invokestatic i) 3 pc L st w K X Rt = (T 5 i st w (K (pc + 3) L) (X pc L)) := ln_t _
theorem wq_new {i : Nat} : wI J T (.new i) 3 pc L st w K X Rt = (T 6 i st w (K (pc + 3) L) (X pc L)) := ln_t _
theorem wq_anewarray {i : Nat} : wI J T (.anewarray i) 3 pc L st w K X Rt = (T 7 i st w (K (pc + 3) L) (X pc L)) := ln_t _
theorem wq_checkcast {i : Nat} : wI J T (.checkcast i) 3 pc L st w K X Rt = (T 8 i st w (K (pc + 3) L) (X pc L)) := ln_t _
theorem wq_ldc {i : Nat} : wI J T (.ldc i) 2 pc L st w K X Rt = (T 9 i st w (K (pc + 2) L) (X pc L)) := ln_t _
theorem wq_ldc_w {i : Nat} : wI J T (.ldc_w i) 3 pc L st w K X Rt = (T 10 i st w (K (pc + 3) L) (X pc L)) := ln_t _
theorem wq_ldc2_w {i : Nat} : wI J T (.ldc2_w i) 3 pc L st w K X Rt = (T 11 i st w (K (pc + 3) L) (X pc L)) := ln_t _
theorem wq_newarray_int : wI J T (.newarray .int) 2 pc L st w K X Rt = (T 12 0 st w (K (pc + 2) L) (X pc L)) := ln_t _
theorem wq_newarray_boolean : wI J T (.newarray .boolean) 2 pc L st w K X Rt = (T 12 1 st w (K (pc + 2) L) (X pc L)) := ln_t _
theorem wq_newarray_byte : wI J T (.newarray .byte) 2 pc L st w K X Rt = (T 12 2 st w (K (pc + 2) L) (X pc L)) := ln_t _
theorem wq_newarray_long : wI J T (.newarray .long) 2 pc L st w K X Rt = (T 12 3 st w (K (pc + 2) L) (X pc L)) := ln_t _
theorem wq_iaload : wI J T .iaload 1 pc L st w K X Rt = (T 13 0 st w (K (pc + 1) L) (X pc L)) := ln_t _
theorem wq_iastore : wI J T .iastore 1 pc L st w K X Rt = (T 14 0 st w (K (pc + 1) L) (X pc L)) := ln_t _
theorem wq_baload : wI J T .baload 1 pc L st w K X Rt = (T 15 0 st w (K (pc + 1) L) (X pc L)) := ln_t _
theorem wq_bastore : wI J T .bastore 1 pc L st w K X Rt = (T 16 0 st w (K (pc + 1) L) (X pc L)) := ln_t _
theorem wq_laload : wI J T .laload 1 pc L st w K X Rt = (T 17 0 st w (K (pc + 1) L) (X pc L)) := ln_t _
theorem wq_lastore : wI J T .lastore 1 pc L st w K X Rt = (T 18 0 st w (K (pc + 1) L) (X pc L)) := ln_t _
theorem wq_aaload : wI J T .aaload 1 pc L st w K X Rt = (T 19 0 st w (K (pc + 1) L) (X pc L)) := ln_t _
theorem wq_aastore : wI J T .aastore 1 pc L st w K X Rt = (T 20 0 st w (K (pc + 1) L) (X pc L)) := ln_t _
theorem wq_arraylength : wI J T .arraylength 1 pc L st w K X Rt = (T 21 0 st w (K (pc + 1) L) (X pc L)) := ln_t _
theorem wq_athrow : wI J T .athrow 1 pc L st w K X Rt = (T 22 0 st w (K (pc + 1) L) (X pc L)) := ln_t _
theorem wD_e {cc : ByteArray} {ins : Instr} {len : Nat} (h : decode cc pc = .ok (ins, len)) : wD J T cc pc L st w K X Rt = wI J T ins len pc L st w K X Rt := by rw [wD, h]
end
theorem se_get_0 {x : Option Value} {l : se_L} : se_get (x :: l) 0 = x := rfl
theorem se_get_s {x : Option Value} {l : se_L} {n : Nat} : se_get (x :: l) (n + 1) = se_get l n := rfl
theorem se_set1_0 {x : Option Value} {l : se_L} {v : Value} : se_set1 (x :: l) 0 v = some v :: l := rfl
theorem se_set1_1 {x : Option Value} {l : se_L} {v : Value} : se_set1 (x :: l) 1 v = se_k2 x :: se_set1 l 0 v := rfl
theorem se_set1_s {x : Option Value} {l : se_L} {v : Value} {n : Nat} : se_set1 (x :: l) (n + 2) v = x :: se_set1 l (n + 1) v := rfl
theorem se_set2_0 {x y : Option Value} {l : se_L} {v : Value} : se_set2 (x :: y :: l) 0 v = some v :: none :: l := rfl
theorem se_set2_1 {x : Option Value} {l : se_L} {v : Value} : se_set2 (x :: l) 1 v = se_k2 x :: se_set2 l 0 v := rfl
theorem se_set2_s {x : Option Value} {l : se_L} {v : Value} {n : Nat} : se_set2 (x :: l) (n + 2) v = x :: se_set2 l (n + 1) v := rfl
theorem se_k2_n  : se_k2 none = none := rfl
theorem se_k2_i {x : Int32} : se_k2 (some (.int x)) = some (.int x) := rfl
theorem se_k2_r {x : Nat} : se_k2 (some (.ref x)) = some (.ref x) := rfl
theorem se_k2_u  : se_k2 (some .null) = some .null := rfl
theorem se_k2_l {x : Int64} : se_k2 (some (.long x)) = none := rfl
theorem se_k2_q {q : Option Nat} : se_k2 (some (va_rf q)) = some (va_rf q) := by cases q <;> rfl
theorem se_in_0 {x : Option Value} {l : se_L} : se_in (x :: l) 0 = True := rfl
theorem se_in_s {x : Option Value} {l : se_L} {n : Nat} : se_in (x :: l) (n + 1) = se_in l n := rfl
theorem gI_s {x : Int32} {K : Int32 → Prop} : gI (some (.int x)) K = K x := rfl
theorem gL_s {x : Int64} {K : Int64 → Prop} : gL (some (.long x)) K = K x := rfl
theorem gR_r {x : Nat} {K : Value → Prop} : gR (some (.ref x)) K = K (.ref x) := rfl
theorem gR_n {K : Value → Prop} : gR (some .null) K = K .null := rfl
theorem gR_q {q : Option Nat} {K : Value → Prop} : gR (some (va_rf q)) K = K (va_rf q) := by cases q <;> rfl
theorem sR_r {x : Nat} {r : List Value} {K : Value → List Value → Prop} : sR (.ref x :: r) K = K (.ref x) r := rfl
theorem sR_n {r : List Value} {K : Value → List Value → Prop} : sR (.null :: r) K = K .null r := rfl
theorem sR_q {q : Option Nat} {r : List Value} {K : Value → List Value → Prop} : sR (va_rf q :: r) K = K (va_rf q) r := by cases q <;> rfl
theorem se_sp_n {pc : Nat} {A B : Prop} : se_sp [] pc A B = B := rfl
theorem se_sp_y {a pc : Nat} {l : List Nat} {A B : Prop} (h : pc = a) : se_sp (a :: l) pc A B = A := if_pos h
theorem se_sp_z {a pc : Nat} {l : List Nat} {A B : Prop} (h : ¬ pc = a) : se_sp (a :: l) pc A B = se_sp l pc A B := if_neg h
theorem se_ts_n {pc : Nat} {x : Int32} {d : Int} {K : Nat → Prop} {lo : Int} : se_ts pc x d K [] lo = se_tg pc d K := rfl
theorem se_ts_c {pc : Nat} {x : Int32} {d a : Int} {l : List Int} {K : Nat → Prop} {lo : Int} : se_ts pc x d K (a :: l) lo = ((x = Int32.ofInt lo → se_tg pc a K) ∧ (¬ x = Int32.ofInt lo → se_ts pc x d K l (lo + 1))) := rfl
theorem se_c8_n {n : Nat} : se_c8 n [] = True := by cases n <;> rfl
theorem se_c8_i {n : Nat} {x : Int32} {r : List Value} : se_c8 (n + 1) (.int x :: r) = se_c8 n r := rfl
theorem se_c8_r {n : Nat} {x : Nat} {r : List Value} : se_c8 (n + 1) (.ref x :: r) = se_c8 n r := rfl
theorem se_c8_u {n : Nat} {r : List Value} : se_c8 (n + 1) (.null :: r) = se_c8 n r := rfl
theorem se_c8_l {n : Nat} {x : Int64} {r : List Value} : se_c8 (n + 2) (.long x :: r) = se_c8 n r := rfl
