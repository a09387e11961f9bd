/-! CORE 1: a symbolic run of decoded bytecode over an abstract memory of any type -/
/-- known locals by their places -/
abbrev se_L : Type := List (Option Value)
def se_get : se_L → Nat → Option Value
  | [], _ => none
  | x :: _, 0 => x
  | _ :: l, n + 1 => se_get l n
/-- a first half alone is no value -/
def se_k2 (x : Option Value) : Option Value := match x with
  | some (.long _) => none
  | some (.double _) => none
  | x => x
def se_set1 : se_L → Nat → Value → se_L
  | [], _, _ => []
  | _ :: l, 0, v => some v :: l
  | x :: l, 1, v => se_k2 x :: se_set1 l 0 v
  | x :: l, n + 2, v => x :: se_set1 l (n + 1) v
def se_in : se_L → Nat → Prop
  | [], _ => False
  | _ :: _, 0 => True
  | _ :: l, n + 1 => se_in l n
theorem se_in_lt : ∀ {L : se_L} {i : Nat}, se_in L i → i < L.length := by
  intro L
  induction L with
  | nil => intro i h; exact h.elim
  | cons x l ih =>
    intro i h
    cases i with
    | zero => exact Nat.succ_pos _
    | succ n => exact Nat.succ_lt_succ (ih h)
theorem se_get_lt : ∀ {L : se_L} {i : Nat} {v : Value}, se_get L i = some v → i < L.length := by
  intro L
  induction L with
  | nil => intro i v h; cases h
  | cons x l ih =>
    intro i v h
    cases i with
    | zero => exact Nat.succ_pos _
    | succ n => exact Nat.succ_lt_succ (ih h)
theorem se_set1_len (v : Value) : ∀ (L : se_L) (i : Nat), (se_set1 L i v).length = L.length := by
  intro L
  induction L with
  | nil => intro i; rfl
  | cons x l ih =>
    intro i
    match i with
    | 0 => rfl
    | 1 => exact congrArg (· + 1) (ih 0)
    | n + 2 => exact congrArg (· + 1) (ih (n + 1))
def se_dr1 : se_L → se_L
  | [] => []
  | _ :: l => none :: l
def se_set2 : se_L → Nat → Value → se_L
  | [], _, _ => []
  | _ :: l, 0, v => some v :: se_dr1 l
  | x :: l, 1, v => se_k2 x :: se_set2 l 0 v
  | x :: l, n + 2, v => x :: se_set2 l (n + 1) v
def se_prs : Nat → se_L → List (Nat × Value)
  | _, [] => []
  | k, none :: l => se_prs (k + 1) l
  | k, some v :: l => (k, v) :: se_prs (k + 1) l
theorem se_mem {L : se_L} : ∀ {k j : Nat} {v : Value}, (j, v) ∈ se_prs k L ↔ k ≤ j ∧ se_get L (j - k) = some v := by
  induction L with
  | nil => intro k j v; simp [se_prs, se_get]
  | cons x l ih =>
    intro k j v
    have key : ∀ {k j : Nat}, k + 1 ≤ j → se_get (x :: l) (j - k) = se_get l (j - (k + 1)) := by
      intro k j h
      rw [show j - k = (j - (k + 1)) + 1 by omega]
      rfl
    cases x with
    | none =>
      rw [se_prs, ih]
      constructor
      · rintro ⟨h1, h2⟩
        exact ⟨by omega, by rw [key h1]; exact h2⟩
      · rintro ⟨h1, h2⟩
        by_cases e : j = k
        · subst e
          rw [Nat.sub_self] at h2
          cases h2
        · exact ⟨by omega, by rw [key (by omega)] at h2; exact h2⟩
    | some w =>
      rw [se_prs, List.mem_cons, ih]
      constructor
      · rintro (h | ⟨h1, h2⟩)
        · cases h
          exact ⟨Nat.le_refl _, by rw [Nat.sub_self]; rfl⟩
        · exact ⟨by omega, by rw [key h1]; exact h2⟩
      · rintro ⟨h1, h2⟩
        by_cases e : j = k
        · subst e
          rw [Nat.sub_self] at h2
          cases h2
          exact Or.inl rfl
        · exact Or.inr ⟨by omega, by rw [key (by omega)] at h2; exact h2⟩
theorem se_k2_e {x : Option Value} {w : Value} (h : se_k2 x = some w) : x = some w ∧ w.category ≠ 2 := by
  rcases x with _ | v
  · cases h
  · cases v <;> first | (cases h; done) | (cases h; exact ⟨rfl, by simp [Value.category]⟩) | exact absurd h (by simp [se_k2])
theorem se_set1_e {v : Value} : ∀ {L : se_L} {i j : Nat} {w : Value}, se_get (se_set1 L i v) j = some w → (j = i ∧ w = v) ∨ (j ≠ i ∧ se_get L j = some w ∧ ¬ (j + 1 = i ∧ w.category = 2)) := by
  intro L
  induction L with
  | nil => intro i j w h; simp [se_set1, se_get] at h
  | cons x l ih =>
    intro i j w h
    match i, j with
    | 0, 0 => cases h; exact Or.inl ⟨rfl, rfl⟩
    | 0, j + 1 => exact Or.inr ⟨by omega, h, by omega⟩
    | 1, 0 =>
      obtain ⟨h1, h2⟩ := se_k2_e (show se_k2 x = some w from h)
      exact Or.inr ⟨by omega, h1, fun q => h2 q.2⟩
    | 1, j + 1 =>
      rcases ih (i := 0) (j := j) h with ⟨h1, h2⟩ | ⟨h1, h2, h3⟩
      · exact Or.inl ⟨by omega, h2⟩
      · exact Or.inr ⟨by omega, h2, by omega⟩
    | i + 2, 0 => exact Or.inr ⟨by omega, h, by omega⟩
    | i + 2, j + 1 =>
      rcases ih (i := i + 1) (j := j) h with ⟨h1, h2⟩ | ⟨h1, h2, h3⟩
      · exact Or.inl ⟨by omega, h2⟩
      · exact Or.inr ⟨by omega, h2, fun q => h3 ⟨by omega, q.2⟩⟩
theorem se_set2_e {v : Value} : ∀ {L : se_L} {i j : Nat} {w : Value}, se_get (se_set2 L i v) j = some w → (j = i ∧ w = v) ∨ (j ≠ i ∧ j ≠ i + 1 ∧ se_get L j = some w ∧ ¬ (j + 1 = i ∧ w.category = 2)) := by
  intro L
  induction L with
  | nil => intro i j w h; simp [se_set2, se_get] at h
  | cons x l ih =>
    intro i j w h
    match i, j with
    | 0, 0 => cases h; exact Or.inl ⟨rfl, rfl⟩
    | 0, 1 =>
      cases l with
      | nil => exact absurd h (by simp [se_set2, se_get, se_dr1])
      | cons y l => exact absurd h (by simp [se_set2, se_get, se_dr1])
    | 0, j + 2 =>
      cases l with
      | nil => exact absurd h (by simp [se_set2, se_get, se_dr1])
      | cons y l => exact Or.inr ⟨by omega, by omega, h, by omega⟩
    | 1, 0 =>
      obtain ⟨h1, h2⟩ := se_k2_e (show se_k2 x = some w from h)
      exact Or.inr ⟨by omega, by omega, h1, fun q => h2 q.2⟩
    | 1, j + 1 =>
      rcases ih (i := 0) (j := j) h with ⟨h1, h2⟩ | ⟨h1, h0, h2, h3⟩
      · exact Or.inl ⟨by omega, h2⟩
      · exact Or.inr ⟨by omega, by omega, h2, by omega⟩
    | i + 2, 0 => exact Or.inr ⟨by omega, by omega, h, by omega⟩
    | i + 2, j + 1 =>
      rcases ih (i := i + 1) (j := j) h with ⟨h1, h2⟩ | ⟨h1, h0, h2, h3⟩
      · exact Or.inl ⟨by omega, h2⟩
      · exact Or.inr ⟨by omega, by omega, h2, fun q => h3 ⟨by omega, q.2⟩⟩
theorem se_dr1_len (L : se_L) : (se_dr1 L).length = L.length := by cases L <;> rfl
theorem se_set2_len (v : Value) : ∀ (L : se_L) (i : Nat), (se_set2 L i v).length = L.length := by
  intro L
  induction L with
  | nil => intro i; rfl
  | cons x l ih =>
    intro i
    match i with
    | 0 => exact congrArg (· + 1) (se_dr1_len l)
    | 1 => exact congrArg (· + 1) (ih 0)
    | n + 2 => exact congrArg (· + 1) (ih (n + 1))
/-- abstract values: addresses go through f -/
def se_cv (f : Nat → Nat) (v : Value) : Value := match v with
  | .ref a => .ref (f a)
  | v => v
theorem se_cv_cat (f : Nat → Nat) (v : Value) : (se_cv f v).category = v.category := by cases v <;> rfl
abbrev se_cl (f : Nat → Nat) (L : se_L) : se_L := L.map (fun x => x.map (se_cv f))
theorem se_get_cl (f : Nat → Nat) : ∀ (L : se_L) (i : Nat), se_get (se_cl f L) i = (se_get L i).map (se_cv f) := by
  intro L
  induction L with
  | nil => intro i; rfl
  | cons x l ih =>
    intro i
    cases i with
    | zero => rfl
    | succ n => exact ih n
def se_lok (f : Nat → Nat) (ls : Array Slot) (nL : Nat) (L : se_L) : Prop := lv_has ls nL (se_prs 0 (se_cl f L)) ∧ L.length = nL
theorem se_lok_get {f : Nat → Nat} {ls : Array Slot} {nL i : Nat} {L : se_L} {v : Value} (h : se_lok f ls nL L) (hg : se_get L i = some v) : ls[i]? = some (.val (se_cv f v)) :=
  h.1.2.2 (i, se_cv f v) (se_mem.mpr ⟨Nat.zero_le _, by rw [Nat.sub_zero, se_get_cl, hg]; rfl⟩)
theorem se_set_cl1 (f : Nat → Nat) (v : Value) : ∀ (L : se_L) (i : Nat), se_cl f (se_set1 L i v) = se_set1 (se_cl f L) i (se_cv f v) := by
  intro L
  induction L with
  | nil => intro i; cases i <;> rfl
  | cons x l ih =>
    intro i
    match i with
    | 0 => rfl
    | 1 =>
      have h := ih 0
      show (se_k2 x).map (se_cv f) :: se_cl f (se_set1 l 0 v) = se_k2 (x.map (se_cv f)) :: se_set1 (se_cl f l) 0 (se_cv f v)
      rw [h]
      congr 1
      rcases x with _ | w
      · rfl
      · cases w <;> rfl
    | n + 2 =>
      show x.map (se_cv f) :: se_cl f (se_set1 l (n + 1) v) = x.map (se_cv f) :: se_set1 (se_cl f l) (n + 1) (se_cv f v)
      rw [ih (n + 1)]
theorem se_set_cl2 (f : Nat → Nat) (v : Value) : ∀ (L : se_L) (i : Nat), se_cl f (se_set2 L i v) = se_set2 (se_cl f L) i (se_cv f v) := by
  intro L
  induction L with
  | nil => intro i; cases i <;> rfl
  | cons x l ih =>
    intro i
    match i with
    | 0 =>
      show some (se_cv f v) :: se_cl f (se_dr1 l) = some (se_cv f v) :: se_dr1 (se_cl f l)
      cases l <;> rfl
    | 1 =>
      have h := ih 0
      show (se_k2 x).map (se_cv f) :: se_cl f (se_set2 l 0 v) = se_k2 (x.map (se_cv f)) :: se_set2 (se_cl f l) 0 (se_cv f v)
      rw [h]
      congr 1
      rcases x with _ | w
      · rfl
      · cases w <;> rfl
    | n + 2 =>
      show x.map (se_cv f) :: se_cl f (se_set2 l (n + 1) v) = x.map (se_cv f) :: se_set2 (se_cl f l) (n + 1) (se_cv f v)
      rw [ih (n + 1)]
theorem se_lok_set1 {f : Nat → Nat} {ls : Array Slot} {nL i : Nat} {L : se_L} {v : Value} (hn : L.length = nL) (h : lv_has ls nL ((i, se_cv f v) :: (se_prs 0 (se_cl f L)).filter (fun q => !(q.1 == i) && !(q.1 + 1 == i && q.2.category == 2)))) : se_lok f ls nL (se_set1 L i v) := by
  refine ⟨⟨h.1, h.2.1, fun q hq => ?_⟩, (se_set1_len v L i).trans hn⟩
  obtain ⟨j, w⟩ := q
  rw [se_set_cl1] at hq
  obtain ⟨-, hg⟩ := se_mem.mp hq
  rw [Nat.sub_zero] at hg
  rcases se_set1_e hg with ⟨rfl, rfl⟩ | ⟨h1, h2, h3⟩
  · exact h.2.2 _ List.mem_cons_self
  · refine h.2.2 (j, w) (List.mem_cons_of_mem _ (List.mem_filter.mpr ⟨se_mem.mpr ⟨Nat.zero_le _, h2⟩, ?_⟩))
    simp only [Bool.and_eq_true, Bool.not_eq_true', beq_eq_false_iff_ne, ne_eq, Bool.and_eq_false_iff]
    refine ⟨h1, ?_⟩
    by_cases e : j + 1 = i
    · exact Or.inr (fun e2 => h3 ⟨e, e2⟩)
    · exact Or.inl e
theorem se_lok_set2 {f : Nat → Nat} {ls : Array Slot} {nL i : Nat} {L : se_L} {v : Value} (hn : L.length = nL) (h : lv_has ls nL ((i, se_cv f v) :: (se_prs 0 (se_cl f L)).filter (fun q => !(q.1 == i) && (!(q.1 == i + 1) && !(q.1 + 1 == i && q.2.category == 2))))) : se_lok f ls nL (se_set2 L i v) := by
  refine ⟨⟨h.1, h.2.1, fun q hq => ?_⟩, (se_set2_len v L i).trans hn⟩
  obtain ⟨j, w⟩ := q
  rw [se_set_cl2] at hq
  obtain ⟨-, hg⟩ := se_mem.mp hq
  rw [Nat.sub_zero] at hg
  rcases se_set2_e hg with ⟨rfl, rfl⟩ | ⟨h1, h0, h2, h3⟩
  · exact h.2.2 _ List.mem_cons_self
  · refine h.2.2 (j, w) (List.mem_cons_of_mem _ (List.mem_filter.mpr ⟨se_mem.mpr ⟨Nat.zero_le _, h2⟩, ?_⟩))
    simp only [Bool.and_eq_true, Bool.not_eq_true', beq_eq_false_iff_ne, ne_eq, Bool.and_eq_false_iff]
    refine ⟨h1, h0, ?_⟩
    by_cases e : j + 1 = i
    · exact Or.inr (fun e2 => h3 ⟨e, e2⟩)
    · exact Or.inl e
/-! reading values -/
def gI (o : Option Value) (K : Int32 → Prop) : Prop := match o with
  | some (.int x) => K x
  | _ => False
def gL (o : Option Value) (K : Int64 → Prop) : Prop := match o with
  | some (.long x) => K x
  | _ => False
def gR (o : Option Value) (K : Value → Prop) : Prop := match o with
  | some (.ref a) => K (.ref a)
  | some .null => K .null
  | _ => False
def sI (st : List Value) (K : Int32 → List Value → Prop) : Prop := match st with
  | .int x :: r => K x r
  | _ => False
def sJ (st : List Value) (K : Int64 → List Value → Prop) : Prop := match st with
  | .long x :: r => K x r
  | _ => False
def sR (st : List Value) (K : Value → List Value → Prop) : Prop := match st with
  | .ref a :: r => K (.ref a) r
  | .null :: r => K .null r
  | _ => False
def sC (st : List Value) (K : Value → List Value → Prop) : Prop := match st with
  | .int x :: r => K (.int x) r
  | .ref a :: r => K (.ref a) r
  | .null :: r => K .null r
  | _ => False
def sE (st : List Value) (K : Prop) : Prop := match st with
  | [] => K
  | _ => False
theorem gI_e {o : Option Value} {K : Int32 → Prop} (h : gI o K) : ∃ x, o = some (.int x) ∧ K x := by
  rcases o with _ | v
  · exact h.elim
  · cases v <;> first | exact ⟨_, rfl, h⟩ | exact h.elim
theorem gL_e {o : Option Value} {K : Int64 → Prop} (h : gL o K) : ∃ x, o = some (.long x) ∧ K x := by
  rcases o with _ | v
  · exact h.elim
  · cases v <;> first | exact ⟨_, rfl, h⟩ | exact h.elim
theorem gR_e {o : Option Value} {K : Value → Prop} (h : gR o K) : ∃ r : Option Nat, o = some (va_rf r) ∧ K (va_rf r) := by
  rcases o with _ | v
  · exact h.elim
  · cases v <;> first | exact ⟨none, rfl, h⟩ | exact ⟨some _, rfl, h⟩ | exact h.elim
theorem sI_e {st : List Value} {K : Int32 → List Value → Prop} (h : sI st K) : ∃ x r, st = .int x :: r ∧ K x r := by
  rcases st with _ | ⟨v, r⟩
  · exact h.elim
  · cases v <;> first | exact ⟨_, _, rfl, h⟩ | exact h.elim
theorem sJ_e {st : List Value} {K : Int64 → List Value → Prop} (h : sJ st K) : ∃ x r, st = .long x :: r ∧ K x r := by
  rcases st with _ | ⟨v, r⟩
  · exact h.elim
  · cases v <;> first | exact ⟨_, _, rfl, h⟩ | exact h.elim
theorem sR_e {st : List Value} {K : Value → List Value → Prop} (h : sR st K) : ∃ (o : Option Nat) (r : List Value), st = va_rf o :: r ∧ K (va_rf o) r := by
  rcases st with _ | ⟨v, r⟩
  · exact h.elim
  · cases v <;> first | exact ⟨none, _, rfl, h⟩ | exact ⟨some _, _, rfl, h⟩ | exact h.elim
theorem sC_e {st : List Value} {K : Value → List Value → Prop} (h : sC st K) : ∃ (v : Value) (r : List Value), st = v :: r ∧ v.category = 1 ∧ K v r := by
  rcases st with _ | ⟨v, r⟩
  · exact h.elim
  · cases v <;> first | exact ⟨_, _, rfl, rfl, h⟩ | exact h.elim
theorem sE_e {st : List Value} {K : Prop} (h : sE st K) : st = [] ∧ K := by
  rcases st with _ | ⟨v, r⟩
  · exact ⟨rfl, h⟩
  · exact h.elim
/-- a jump -/
def se_tg (pc : Nat) (off : Int) (K : Nat → Prop) : Prop := if 0 ≤ (pc : Int) + off then K ((pc : Int) + off).toNat else False
theorem se_tg_e {pc : Nat} {off : Int} {K : Nat → Prop} (h : se_tg pc off K) : ∃ t : Nat, (pc : Int) + off = (t : Int) ∧ K t := by
  unfold se_tg at h
  by_cases hn : 0 ≤ (pc : Int) + off
  · rw [if_pos hn] at h
    exact ⟨_, (Int.toNat_of_nonneg hn).symm, h⟩
  · rw [if_neg hn] at h
    exact h.elim
/-- where a run stops -/
def se_sp : List Nat → Nat → Prop → Prop → Prop
  | [], _, _, B => B
  | a :: l, pc, A, B => if pc = a then A else se_sp l pc A B
theorem se_sp_e {A B : Prop} : ∀ {l : List Nat} {pc : Nat}, se_sp l pc A B → A ∨ B
  | [], _, h => Or.inr h
  | a :: l, pc, h => by
    rw [se_sp] at h
    split at h
    · exact Or.inl h
    · exact se_sp_e h
/-- a table switch, entry by entry -/
def se_ts (pc : Nat) (x : Int32) (d : Int) (K : Nat → Prop) : List Int → Int → Prop
  | [], _ => se_tg pc d K
  | o :: os, lo => (x = Int32.ofInt lo → se_tg pc o K) ∧ (¬ x = Int32.ofInt lo → se_ts pc x d K os (lo + 1))
def se_tsOk (lo hi : Int) (offs : Array Int) : Bool := decide (-2147483648 ≤ lo ∧ hi ≤ 2147483647 ∧ hi + 1 = lo + offs.toList.length)
/-- an operation of the memory: from stack and memory on, its ends and its throws -/
abbrev se_Op (μ : Type) : Type := List Value → μ → (List Value → μ → Prop) → (Nat → μ → Prop) → Prop
section
variable {μ : Type} (J : Prop) (T : Nat → Nat → se_Op μ)
def wI (ins : Instr) (len pc : Nat) (L : se_L) (st : List Value) (w : μ) (K : Nat → se_L → List Value → μ → Prop) (X : Nat → se_L → Nat → μ → Prop) (Rt : Option Value → μ → Prop) : Prop := match ins with
  | .aconst_null => len = 1 ∧ K (pc + 1) L (.null :: st) w
  | .iconst n => len = 1 ∧ K (pc + 1) L (.int (Int32.ofInt n) :: st) w
  | .bipush n => len = 2 ∧ K (pc + 2) L (.int (Int8.ofInt n).toInt32 :: st) w
  | .sipush n => len = 3 ∧ K (pc + 3) L (.int (Int16.ofInt n).toInt32 :: st) w
  | .lconst n => len = 1 ∧ K (pc + 1) L (.long (Int64.ofNat (n : Nat)) :: st) w
  | .iload_n i => len = 1 ∧ gI (se_get L (i : Nat)) fun x => K (pc + 1) L (.int x :: st) w
  | .iload i => len = 2 ∧ gI (se_get L i) fun x => K (pc + 2) L (.int x :: st) w
  | .lload_n i => len = 1 ∧ gL (se_get L (i : Nat)) fun x => K (pc + 1) L (.long x :: st) w
  | .lload i => len = 2 ∧ gL (se_get L i) fun x => K (pc + 2) L (.long x :: st) w
  | .aload_n i => len = 1 ∧ gR (se_get L (i : Nat)) fun x => K (pc + 1) L (x :: st) w
  | .aload i => len = 2 ∧ gR (se_get L i) fun x => K (pc + 2) L (x :: st) w
  | .istore_n i => len = 1 ∧ sI st fun x r => se_in L (i : Nat) ∧ K (pc + 1) (se_set1 L (i : Nat) (.int x)) r w
  | .istore i => len = 2 ∧ sI st fun x r => se_in L i ∧ K (pc + 2) (se_set1 L i (.int x)) r w
  | .lstore_n i => len = 1 ∧ sJ st fun x r => se_in L ((i : Nat) + 1) ∧ K (pc + 1) (se_set2 L (i : Nat) (.long x)) r w
  | .lstore i => len = 2 ∧ sJ st fun x r => se_in L (i + 1) ∧ K (pc + 2) (se_set2 L i (.long x)) r w
  | .astore_n i => len = 1 ∧ sR st fun x r => se_in L (i : Nat) ∧ K (pc + 1) (se_set1 L (i : Nat) x) r w
  | .astore i => len = 2 ∧ sR st fun x r => se_in L i ∧ K (pc + 2) (se_set1 L i x) r w
  | .iinc i n => len = 3 ∧ gI (se_get L i) fun x => K (pc + 3) (se_set1 L i (.int (x + Int32.ofInt n))) st w
  | .iadd => len = 1 ∧ sI st fun y r => sI r fun x r => K (pc + 1) L (.int (x + y) :: r) w
  | .isub => len = 1 ∧ sI st fun y r => sI r fun x r => K (pc + 1) L (.int (x - y) :: r) w
  | .imul => len = 1 ∧ sI st fun y r => sI r fun x r => K (pc + 1) L (.int (x * y) :: r) w
  | .iand => len = 1 ∧ sI st fun y r => sI r fun x r => K (pc + 1) L (.int (x &&& y) :: r) w
  | .ior => len = 1 ∧ sI st fun y r => sI r fun x r => K (pc + 1) L (.int (x ||| y) :: r) w
  | .idiv => len = 1 ∧ sI st fun y r => sI r fun x r => ¬ y = 0 ∧ K (pc + 1) L (.int (x / y) :: r) w
  | .irem => len = 1 ∧ sI st fun y r => sI r fun x r => ¬ y = 0 ∧ K (pc + 1) L (.int (x - x / y * y) :: r) w
  | .ineg => len = 1 ∧ sI st fun x r => K (pc + 1) L (.int (-x) :: r) w
  | .ishl => len = 1 ∧ sI st fun y r => sI r fun x r => K (pc + 1) L (.int (x <<< (y &&& 31)) :: r) w
  | .ishr => len = 1 ∧ sI st fun y r => sI r fun x r => K (pc + 1) L (.int (x >>> (y &&& 31)) :: r) w
  | .iushr => len = 1 ∧ sI st fun y r => sI r fun x r => K (pc + 1) L (.int (x.toUInt32 >>> (y.toUInt32 &&& Int32.toUInt32 31)).toInt32 :: r) w
  | .ladd => len = 1 ∧ sJ st fun y r => sJ r fun x r => K (pc + 1) L (.long (x + y) :: r) w
  | .lsub => len = 1 ∧ sJ st fun y r => sJ r fun x r => K (pc + 1) L (.long (x - y) :: r) w
  | .lmul => len = 1 ∧ sJ st fun y r => sJ r fun x r => K (pc + 1) L (.long (x * y) :: r) w
  | .land => len = 1 ∧ sJ st fun y r => sJ r fun x r => K (pc + 1) L (.long (x &&& y) :: r) w
  | .lor => len = 1 ∧ sJ st fun y r => sJ r fun x r => K (pc + 1) L (.long (x ||| y) :: r) w
  | .ldiv => len = 1 ∧ sJ st fun y r => sJ r fun x r => ¬ y = 0 ∧ K (pc + 1) L (.long (x / y) :: r) w
  | .lrem => len = 1 ∧ sJ st fun y r => sJ r fun x r => ¬ y = 0 ∧ K (pc + 1) L (.long (x - x / y * y) :: r) w
  | .lneg => len = 1 ∧ sJ st fun x r => K (pc + 1) L (.long (-x) :: r) w
  | .lshl => len = 1 ∧ sI st fun y r => sJ r fun x r => K (pc + 1) L (.long (x <<< (y.toInt64 &&& 63)) :: r) w
  | .lshr => len = 1 ∧ sI st fun y r => sJ r fun x r => K (pc + 1) L (.long (x >>> (y.toInt64 &&& 63)) :: r) w
  | .lushr => len = 1 ∧ sI st fun y r => sJ r fun x r => K (pc + 1) L (.long (x.toUInt64 >>> (y.toInt64.toUInt64 &&& Int64.toUInt64 63)).toInt64 :: r) w
  | .lcmp => len = 1 ∧ sJ st fun y r => sJ r fun x r => K (pc + 1) L (.int (lg_cmp x y) :: r) w
  | .i2l => len = 1 ∧ sI st fun x r => K (pc + 1) L (.long x.toInt64 :: r) w
  | .l2i => len = 1 ∧ sJ st fun x r => K (pc + 1) L (.int x.toInt32 :: r) w
  | .i2b => len = 1 ∧ sI st fun x r => K (pc + 1) L (.int x.toInt8.toInt32 :: r) w
  | .i2c => len = 1 ∧ sI st fun x r => K (pc + 1) L (.int (x.toUInt32 % 65536).toInt32 :: r) w
  | .dup => len = 1 ∧ sC st fun x r => K (pc + 1) L (x :: x :: r) w
  | .pop => len = 1 ∧ sC st fun _ r => K (pc + 1) L r w
  | .dup_x1 => len = 1 ∧ sC st fun y r => sC r fun x r => K (pc + 1) L (y :: x :: y :: r) w
  | .dup2 => len = 1 ∧ sC st fun y r => sC r fun x r => K (pc + 1) L (y :: x :: y :: x :: r) w
  | .goto o => len = 3 ∧ se_tg pc o fun t => K t L st w
  | .ifCond .eq o => len = 3 ∧ se_tg pc o fun t => sI st fun x r => (x = 0 → K t L r w) ∧ (¬ x = 0 → K (pc + 3) L r w)
  | .ifCond .ne o => len = 3 ∧ se_tg pc o fun t => sI st fun x r => (¬ x = 0 → K t L r w) ∧ (x = 0 → K (pc + 3) L r w)
  | .ifCond .lt o => len = 3 ∧ se_tg pc o fun t => sI st fun x r => (x < 0 → K t L r w) ∧ (¬ x < 0 → K (pc + 3) L r w)
  | .ifCond .ge o => len = 3 ∧ se_tg pc o fun t => sI st fun x r => (0 ≤ x → K t L r w) ∧ (¬ 0 ≤ x → K (pc + 3) L r w)
  | .ifCond .gt o => len = 3 ∧ se_tg pc o fun t => sI st fun x r => (0 < x → K t L r w) ∧ (¬ 0 < x → K (pc + 3) L r w)
  | .ifCond .le o => len = 3 ∧ se_tg pc o fun t => sI st fun x r => (x ≤ 0 → K t L r w) ∧ (¬ x ≤ 0 → K (pc + 3) L r w)
  | .if_icmp .eq o => len = 3 ∧ se_tg pc o fun t => sI st fun y r => sI r fun x r => (x = y → K t L r w) ∧ (¬ x = y → K (pc + 3) L r w)
  | .if_icmp .ne o => len = 3 ∧ se_tg pc o fun t => sI st fun y r => sI r fun x r => (¬ x = y → K t L r w) ∧ (x = y → K (pc + 3) L r w)
  | .if_icmp .lt o => len = 3 ∧ se_tg pc o fun t => sI st fun y r => sI r fun x r => (x < y → K t L r w) ∧ (¬ x < y → K (pc + 3) L r w)
  | .if_icmp .ge o => len = 3 ∧ se_tg pc o fun t => sI st fun y r => sI r fun x r => (y ≤ x → K t L r w) ∧ (¬ y ≤ x → K (pc + 3) L r w)
  | .if_icmp .gt o => len = 3 ∧ se_tg pc o fun t => sI st fun y r => sI r fun x r => (y < x → K t L r w) ∧ (¬ y < x → K (pc + 3) L r w)
  | .if_icmp .le o => len = 3 ∧ se_tg pc o fun t => sI st fun y r => sI r fun x r => (x ≤ y → K t L r w) ∧ (¬ x ≤ y → K (pc + 3) L r w)
  | .if_acmp .eq o => len = 3 ∧ J ∧ se_tg pc o fun t => sR st fun y r => sR r fun x r => (x = y → K t L r w) ∧ (¬ x = y → K (pc + 3) L r w)
  | .if_acmp .ne o => len = 3 ∧ J ∧ se_tg pc o fun t => sR st fun y r => sR r fun x r => (¬ x = y → K t L r w) ∧ (x = y → K (pc + 3) L r w)
  | .ifnull o => len = 3 ∧ se_tg pc o fun t => sR st fun x r => (x = .null → K t L r w) ∧ (¬ x = .null → K (pc + 3) L r w)
  | .ifnonnull o => len = 3 ∧ se_tg pc o fun t => sR st fun x r => (¬ x = .null → K t L r w) ∧ (x = .null → K (pc + 3) L r w)
  | .tableswitch d lo hi offs => se_tsOk lo hi offs = true ∧ sI st fun x r => se_ts pc x d (fun t => K t L r w) offs.toList lo
  | .ireturn => len = 1 ∧ sI st fun x r => sE r (Rt (some (.int x)) w)
  | .lreturn => len = 1 ∧ sJ st fun x r => sE r (Rt (some (.long x)) w)
  | .areturn => len = 1 ∧ sR st fun x r => sE r (Rt (some x) w)
  | .return_ => len = 1 ∧ sE st (Rt none w)
  | .getfield i => len = 3 ∧ T 0 i st w (K (pc + 3) L) (X pc L)
  | .putfield i => len = 3 ∧ T 1 i st w (K (pc + 3) L) (X pc L)
  | .getstatic i => len = 3 ∧ T 2 i st w (K (pc + 3) L) (X pc L)
  | .invokevirtual i => len = 3 ∧ T 3 i st w (K (pc + 3) L) (X pc L)
  | .invokespecial i => len = 3 ∧ T 4 i st w (K (pc + 3) L) (X pc L)
  | .invokestatic i => len = 3 ∧ T 5 i st w (K (pc + 3) L) (X pc L)
  | .new i => len = 3 ∧ T 6 i st w (K (pc + 3) L) (X pc L)
  | .anewarray i => len = 3 ∧ T 7 i st w (K (pc + 3) L) (X pc L)
  | .checkcast i => len = 3 ∧ T 8 i st w (K (pc + 3) L) (X pc L)
  | .ldc i => len = 2 ∧ T 9 i st w (K (pc + 2) L) (X pc L)
  | .ldc_w i => len = 3 ∧ T 10 i st w (K (pc + 3) L) (X pc L)
  | .ldc2_w i => len = 3 ∧ T 11 i st w (K (pc + 3) L) (X pc L)
  | .newarray .int => len = 2 ∧ T 12 0 st w (K (pc + 2) L) (X pc L)
  | .newarray .boolean => len = 2 ∧ T 12 1 st w (K (pc + 2) L) (X pc L)
  | .newarray .byte => len = 2 ∧ T 12 2 st w (K (pc + 2) L) (X pc L)
  | .newarray .long => len = 2 ∧ T 12 3 st w (K (pc + 2) L) (X pc L)
  | .iaload => len = 1 ∧ T 13 0 st w (K (pc + 1) L) (X pc L)
  | .iastore => len = 1 ∧ T 14 0 st w (K (pc + 1) L) (X pc L)
  | .baload => len = 1 ∧ T 15 0 st w (K (pc + 1) L) (X pc L)
  | .bastore => len = 1 ∧ T 16 0 st w (K (pc + 1) L) (X pc L)
  | .laload => len = 1 ∧ T 17 0 st w (K (pc + 1) L) (X pc L)
  | .lastore => len = 1 ∧ T 18 0 st w (K (pc + 1) L) (X pc L)
  | .aaload => len = 1 ∧ T 19 0 st w (K (pc + 1) L) (X pc L)
  | .aastore => len = 1 ∧ T 20 0 st w (K (pc + 1) L) (X pc L)
  | .arraylength => len = 1 ∧ T 21 0 st w (K (pc + 1) L) (X pc L)
  | .athrow => len = 1 ∧ T 22 0 st w (K (pc + 1) L) (X pc L)
  | _ => False
def wD (cc : ByteArray) (pc : Nat) (L : se_L) (st : List Value) (w : μ) (K : Nat → se_L → List Value → μ → Prop) (X : Nat → se_L → Nat → μ → Prop) (Rt : Option Value → μ → Prop) : Prop := match decode cc pc with
  | .ok r => wI J T r.1 r.2 pc L st w K X Rt
  | .error _ => False
def wpN (cc : ByteArray) (stops : List Nat) (G : Nat → se_L → List Value → μ → Prop) (X : Nat → se_L → Nat → μ → Prop) (Rt : Option Value → μ → Prop) : Nat → Nat → se_L → List Value → μ → Prop
  | 0, pc, L, st, w => G pc L st w
  | n + 1, pc, L, st, w => wD J T cc pc L st w (fun pc' L' st' w' => se_sp stops pc' (G pc' L' st' w') (wpN cc stops G X Rt n pc' L' st' w')) X Rt
end
