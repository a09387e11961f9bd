/-! CORE 3: the reference's object as a memory of its own -/
abbrev mM : Type := (Nat → Int32) × (Nat → Int64) × (Nat → Nat → Int32) × (Nat → Int64)
def fI (M : mM) (k : Nat) : Int32 := M.1 k
def fJ (M : mM) (k : Nat) : Int64 := M.2.1 k
def fA (M : mM) (k : Nat) : Nat → Int32 := M.2.2.1 k
def fN (M : mM) : Nat → Int64 := M.2.2.2
def uI (M : mM) (k : Nat) (x : Int32) : mM := (fun j => if j = k then x else M.1 j, M.2)
def uJ (M : mM) (k : Nat) (x : Int64) : mM := (M.1, fun j => if j = k then x else M.2.1 j, M.2.2)
def sA (M : mM) (k : Nat) (g : Nat → Int32) : mM := (M.1, M.2.1, fun j => if j = k then g else M.2.2.1 j, M.2.2.2)
def sN (M : mM) (g : Nat → Int64) : mM := (M.1, M.2.1, M.2.2.1, g)
def uA (M : mM) (k i : Nat) (x : Int32) : mM := sA M k (upd (fA M k) i x)
def uN (M : mM) (i : Nat) (x : Int64) : mM := sN M (vp_updL (fN M) i x)
theorem fI_uI (M : mM) (k j : Nat) (x : Int32) : fI (uI M k x) j = if j = k then x else fI M j := rfl
theorem fI_uJ (M : mM) (k j : Nat) (x : Int64) : fI (uJ M k x) j = fI M j := rfl
theorem fI_sA (M : mM) (k j : Nat) (g : Nat → Int32) : fI (sA M k g) j = fI M j := rfl
theorem fI_sN (M : mM) (j : Nat) (g : Nat → Int64) : fI (sN M g) j = fI M j := rfl
theorem fI_uA (M : mM) (k i j : Nat) (x : Int32) : fI (uA M k i x) j = fI M j := rfl
theorem fI_uN (M : mM) (i j : Nat) (x : Int64) : fI (uN M i x) j = fI M j := rfl
theorem fJ_uI (M : mM) (k j : Nat) (x : Int32) : fJ (uI M k x) j = fJ M j := rfl
theorem fJ_uJ (M : mM) (k j : Nat) (x : Int64) : fJ (uJ M k x) j = if j = k then x else fJ M j := rfl
theorem fJ_sA (M : mM) (k j : Nat) (g : Nat → Int32) : fJ (sA M k g) j = fJ M j := rfl
theorem fJ_sN (M : mM) (j : Nat) (g : Nat → Int64) : fJ (sN M g) j = fJ M j := rfl
theorem fJ_uA (M : mM) (k i j : Nat) (x : Int32) : fJ (uA M k i x) j = fJ M j := rfl
theorem fJ_uN (M : mM) (i j : Nat) (x : Int64) : fJ (uN M i x) j = fJ M j := rfl
theorem fA_uI (M : mM) (k j : Nat) (x : Int32) : fA (uI M k x) j = fA M j := rfl
theorem fA_uJ (M : mM) (k j : Nat) (x : Int64) : fA (uJ M k x) j = fA M j := rfl
theorem fA_sA (M : mM) (k j : Nat) (g : Nat → Int32) : fA (sA M k g) j = if j = k then g else fA M j := rfl
theorem fA_sN (M : mM) (j : Nat) (g : Nat → Int64) : fA (sN M g) j = fA M j := rfl
theorem fA_uA (M : mM) (k i j : Nat) (x : Int32) : fA (uA M k i x) j = if j = k then upd (fA M k) i x else fA M j := rfl
theorem fA_uN (M : mM) (i j : Nat) (x : Int64) : fA (uN M i x) j = fA M j := rfl
theorem fN_uI (M : mM) (k : Nat) (x : Int32) : fN (uI M k x) = fN M := rfl
theorem fN_uJ (M : mM) (k : Nat) (x : Int64) : fN (uJ M k x) = fN M := rfl
theorem fN_sA (M : mM) (k : Nat) (g : Nat → Int32) : fN (sA M k g) = fN M := rfl
theorem fN_sN (M : mM) (g : Nat → Int64) : fN (sN M g) = g := rfl
theorem fN_uA (M : mM) (k i : Nat) (x : Int32) : fN (uA M k i x) = fN M := rfl
theorem fN_uN (M : mM) (i : Nat) (x : Int64) : fN (uN M i x) = vp_updL (fN M) i x := rfl
/-- two memories with the same fields and arrays are one -/
theorem mM_ext {M N : mM} (h1 : ∀ k, fI M k = fI N k) (h2 : ∀ k, fJ M k = fJ N k) (h3 : ∀ k j, fA M k j = fA N k j) (h4 : ∀ j, fN M j = fN N j) : M = N := by
  obtain ⟨a, b, c, d⟩ := M
  obtain ⟨a', b', c', d'⟩ := N
  have e1 : a = a' := funext h1
  have e2 : b = b' := funext h2
  have e3 : c = c' := funext fun k => funext fun j => h3 k j
  have e4 : d = d' := funext h4
  subst e1 e2 e3 e4
  rfl
def bI (b : Bool) : Int32 := if b then 1 else 0
theorem bI_t : bI true = 1 := rfl
theorem bI_f : bI false = 0 := rfl
theorem bI_0 (b : Bool) : (bI b = 0) = (b = false) := by cases b <;> simp [bI]
theorem bI_1 (b : Bool) : (bI b = 1) = (b = true) := by cases b <;> simp [bI]
theorem bI_01 (b : Bool) : bI b = 0 ∨ bI b = 1 := by cases b <;> simp [bI]
theorem bI_nar (b : Bool) : narrow .boolean (.int (bI b)) = .int (bI b) := by cases b <;> rfl
theorem nar_z {x : Int32} (h : x = 0 ∨ x = 1) : narrow .boolean (.int x) = .int x := by rcases h with rfl | rfl <;> rfl
/-- the kinds of the fields: 0 int, 1 boolean, 2 long, 3 ints, 4 booleans, 5 longs -/
def mK (k : Nat) : Nat := match tyX2 k with
  | .int => 0
  | .boolean => 1
  | .long => 2
  | .array .int => 3
  | .array .boolean => 4
  | _ => 5
/-- the lengths of the arrays -/
def mNl : List Nat := [1500, 0, 0, 0, 0, 0, 0, 0, 0, 0, 0, 12, 12, 32, 32, 32, 32, 32, 32, 12, 32, 0, 0, 3072, 256, 12, 12, 256, 0, 0, 140, 140, 140, 140, 12, 140, 256, 140, 0, 0, 256, 256, 12, 0, 1024, 36, 6, 1200, 0, 0, 0, 0, 0, 0, 0, 0, 0, 0, 0, 0, 12, 12, 12, 12, 0, 0, 0, 0, 32, 300, 300, 7, 6, 300, 300, 7, 6, 300, 50, 9, 0, 0, 0, 0, 0, 0, 0, 3, 768, 9216, 36, 36, 3, 3]
def mN (k : Nat) : Nat := mNl.getD k 0
theorem mK5 : ∀ a, a < 94 → mK a = 5 → a = 20 := by decide +kernel
abbrev mG : Type := (Nat → Nat) × ClassId × (Nat → Nat) × ClassId × ClassId × ClassId
def mF (f : Nat → Nat) (M : mM) (k : Nat) : Value := if mK k ≤ 1 then .int (fI M k) else if mK k = 2 then .long (fJ M k) else .ref (f (k + 1))
def mGl (g : mG) (U : State) : Prop := u_Kn U RX2 TX2 94 g.2.1 g.2.2.1 ∧ ArrOfT U g.2.2.2.1 .int ∧ ArrOfT U g.2.2.2.2.1 .boolean ∧ ArrOfT U g.2.2.2.2.2 .long
theorem mGl.moved {g : mG} {u U : State} (hvm : u.vm.Alike U.vm) (h : mGl g u) : mGl g U := ⟨u_Kn_moved hvm h.1, arrOfT_moved hvm h.2.1, arrOfT_moved hvm h.2.2.1, arrOfT_moved hvm h.2.2.2⟩
def mInj (g : mG) : Prop := ∀ a b, g.1 a = g.1 b → a = b
def mReg (g : mG) (a : Nat) : Prop := a = g.1 0 ∨ ∃ k, k < 94 ∧ 3 ≤ mK k ∧ a = g.1 (k + 1)
/-- the heap holds the reference's object and arrays -/
def mP (g : mG) (M : mM) (H : Heap) : Prop := t_OB (g.1 0) g.2.1 94 g.2.2.1 H (mF g.1 M) ∧ ∀ k, k < 94 →
  (mK k = 3 → H[g.1 (k + 1)]? = some (arrV g.2.2.2.1 (mN k) (fun j => .int (fA M k j)))) ∧ (mK k = 4 → H[g.1 (k + 1)]? = some (arrV g.2.2.2.2.1 (mN k) (fun j => .int (fA M k j)))) ∧
  (mK k = 5 → H[g.1 (k + 1)]? = some (arrV g.2.2.2.2.2 (mN k) (fun j => .long (fN M j))))
def mRM (g : mG) (H0 : Heap) (M : mM) (H : Heap) (locs : List Loc) (k q : Nat) : Prop := k = 0 ∧ q = 0 ∧ H.size = H0.size ∧ (∀ a : Nat, ¬ mReg g a → H[a]? = H0[a]?) ∧ (∀ z ∈ locs, mReg g z.base) ∧ mP g M H
/-! operations -/
def opGI (k : Nat) : se_Op mM := fun st M K _ => match st with
  | .ref 0 :: r => K (.int (fI M k) :: r) M
  | _ => False
def opGJ (k : Nat) : se_Op mM := fun st M K _ => match st with
  | .ref 0 :: r => K (.long (fJ M k) :: r) M
  | _ => False
def opGA (k : Nat) : se_Op mM := fun st M K _ => match st with
  | .ref 0 :: r => K (.ref (k + 1) :: r) M
  | _ => False
def opPI (k : Nat) : se_Op mM := fun st M K _ => match st with
  | .int x :: .ref 0 :: r => K r (uI M k x)
  | _ => False
def opPZ (k : Nat) : se_Op mM := fun st M K _ => match st with
  | .int x :: .ref 0 :: r => (x = 0 ∨ x = 1) ∧ K r (uI M k x)
  | _ => False
def opPJ (k : Nat) : se_Op mM := fun st M K _ => match st with
  | .long x :: .ref 0 :: r => K r (uJ M k x)
  | _ => False
def opIald : se_Op mM := fun st M K _ => match st with
  | .int i :: .ref (k + 1) :: r => (k < 94 ∧ mK k = 3) ∧ vp_in i (mN k) ∧ K (.int (fA M k i.toNatClampNeg) :: r) M
  | _ => False
def opZald : se_Op mM := fun st M K _ => match st with
  | .int i :: .ref (k + 1) :: r => (k < 94 ∧ mK k = 4) ∧ vp_in i (mN k) ∧ K (.int (fA M k i.toNatClampNeg) :: r) M
  | _ => False
def opLald : se_Op mM := fun st M K _ => match st with
  | .int i :: .ref (k + 1) :: r => (k < 94 ∧ mK k = 5) ∧ vp_in i (mN k) ∧ K (.long (fN M i.toNatClampNeg) :: r) M
  | _ => False
def opIast : se_Op mM := fun st M K _ => match st with
  | .int x :: .int i :: .ref (k + 1) :: r => (k < 94 ∧ mK k = 3) ∧ vp_in i (mN k) ∧ K r (uA M k i.toNatClampNeg x)
  | _ => False
def opZast : se_Op mM := fun st M K _ => match st with
  | .int x :: .int i :: .ref (k + 1) :: r => (k < 94 ∧ mK k = 4) ∧ (x = 0 ∨ x = 1) ∧ vp_in i (mN k) ∧ K r (uA M k i.toNatClampNeg x)
  | _ => False
def opLast : se_Op mM := fun st M K _ => match st with
  | .long x :: .int i :: .ref (k + 1) :: r => (k < 94 ∧ mK k = 5) ∧ vp_in i (mN k) ∧ K r (uN M i.toNatClampNeg x)
  | _ => False
def opCI {μ : Type} (v : Int32) : se_Op μ := fun st w K _ => K (.int v :: st) w
def opCJ {μ : Type} (v : Int64) : se_Op μ := fun st w K _ => K (.long v :: st) w
/-- a table of operations -/
def se_tab {μ : Type} : List (Nat × Nat × se_Op μ) → Nat → Nat → se_Op μ
  | [], _, _ => fun _ _ _ _ => False
  | x :: l, k, i => if x.1 = k ∧ x.2.1 = i then x.2.2 else se_tab l k i
/-- calls apart from the rest -/
def se_tb2 {μ : Type} (A B : Nat → Nat → se_Op μ) (k i : Nat) : se_Op μ := if k = 3 ∨ k = 4 ∨ k = 5 then A k i else B k i
section
variable {p : Program} {l : Launch} {e : Env} {R : Room} {s : State} {m : MethodId} {args : Array Value} {below : List Frame} {meth : Method} {c : Code} {nL : Nat} {cc : ByteArray} {ret : Option FieldType} {Q : State → Prop} {g : mG} {H0 : Heap} {idx k : Nat}
theorem opGI_e {st : List Value} {M : mM} {K : List Value → mM → Prop} {X : Nat → mM → Prop} (h : opGI k st M K X) : ∃ r, st = .ref 0 :: r ∧ K (.int (fI M k) :: r) M := by
  unfold opGI at h
  split at h
  · exact ⟨_, rfl, h⟩
  · exact h.elim
theorem opGJ_e {st : List Value} {M : mM} {K : List Value → mM → Prop} {X : Nat → mM → Prop} (h : opGJ k st M K X) : ∃ r, st = .ref 0 :: r ∧ K (.long (fJ M k) :: r) M := by
  unfold opGJ at h
  split at h
  · exact ⟨_, rfl, h⟩
  · exact h.elim
theorem opGA_e {st : List Value} {M : mM} {K : List Value → mM → Prop} {X : Nat → mM → Prop} (h : opGA k st M K X) : ∃ r, st = .ref 0 :: r ∧ K (.ref (k + 1) :: r) M := by
  unfold opGA at h
  split at h
  · exact ⟨_, rfl, h⟩
  · exact h.elim
theorem opPI_e {st : List Value} {M : mM} {K : List Value → mM → Prop} {X : Nat → mM → Prop} (h : opPI k st M K X) : ∃ x r, st = .int x :: .ref 0 :: r ∧ K r (uI M k x) := by
  unfold opPI at h
  split at h
  · exact ⟨_, _, rfl, h⟩
  · exact h.elim
theorem opPZ_e {st : List Value} {M : mM} {K : List Value → mM → Prop} {X : Nat → mM → Prop} (h : opPZ k st M K X) : ∃ x r, st = .int x :: .ref 0 :: r ∧ (x = 0 ∨ x = 1) ∧ K r (uI M k x) := by
  unfold opPZ at h
  split at h
  · exact ⟨_, _, rfl, h⟩
  · exact h.elim
theorem opPJ_e {st : List Value} {M : mM} {K : List Value → mM → Prop} {X : Nat → mM → Prop} (h : opPJ k st M K X) : ∃ x r, st = .long x :: .ref 0 :: r ∧ K r (uJ M k x) := by
  unfold opPJ at h
  split at h
  · exact ⟨_, _, rfl, h⟩
  · exact h.elim
/-- reading a field -/
theorem mGet_W {locs : List Loc} {cells slots pc : Nat} {H : Heap} {M : mM} {ls : Array Slot} {rest : List Value} {v : Value} (C : se_Cx p s m args meth c cc nL RX2 ret) (hG : mGl g s) (hM : mP g M H) (hk : k < 94) (hv : mF g.1 M k = v) (hT : (TX2 k).1 = RX2) (hl : Cond.fieldLink RX2 idx RX2 (TX2 k).2.1 (TX2 k).2.2.1 ∈ lw_all) (hd : decode cc pc = .ok (.getfield idx, 3))
    (kk : W p l e R s m args below meth c H locs cells slots Q (F0 m (pc + 3) ls (v :: rest))) : W p l e R s m args below meth c H locs cells slots Q (F0 m pc ls (.ref (g.1 0) :: rest)) := by
  obtain ⟨⟨hx, hb, hml, hown, hts⟩, hlk, hrt⟩ := C
  obtain ⟨⟨cell, q1, q2, q3, q4⟩, -⟩ := hM
  obtain ⟨⟨hS, hfc, kC, hkC, hkind⟩, -⟩ := hG
  obtain ⟨cf, kf, fi, f', hi, hsl⟩ := hS k hk
  have hst := (u_facts hfc hkC (u_lays hts in_X2 hk) hi).1
  rw [hT] at hi
  refine W.getf hx hb hown (hts _ hl) hi hst q1 (by rw [q3]; exact fun h => by cases h) (v := v) ?_ rfl rfl hd kk
  rw [hsl, q4 k hk, hv]
theorem opGI_ok (hk : k < 94) (hm : mK k ≤ 1) (hT : (TX2 k).1 = RX2) (hl : Cond.fieldLink RX2 idx RX2 (TX2 k).2.1 (TX2 k).2.2.1 ∈ lw_all) (C : se_Cx p s m args meth c cc nL RX2 ret) (hG : mGl g s) : se_Snd p l e R s m args below meth c Q nL g.1 (mRM g H0) cc (.getfield idx) 3 (opGI k) := by
  intro pc L st M K X hd hK hX h
  obtain ⟨r, rfl, h1⟩ := opGI_e h
  intro H locs k' q ls hM hl'
  exact mGet_W (v := .int (fI M k)) C hG hM.2.2.2.2.2 hk (by rw [mF, if_pos hm]) hT hl hd (hK _ _ h1 H locs k' q ls hM hl')
theorem opGJ_ok (hk : k < 94) (hm : mK k = 2) (hT : (TX2 k).1 = RX2) (hl : Cond.fieldLink RX2 idx RX2 (TX2 k).2.1 (TX2 k).2.2.1 ∈ lw_all) (C : se_Cx p s m args meth c cc nL RX2 ret) (hG : mGl g s) : se_Snd p l e R s m args below meth c Q nL g.1 (mRM g H0) cc (.getfield idx) 3 (opGJ k) := by
  intro pc L st M K X hd hK hX h
  obtain ⟨r, rfl, h1⟩ := opGJ_e h
  intro H locs k' q ls hM hl'
  exact mGet_W (v := .long (fJ M k)) C hG hM.2.2.2.2.2 hk (by rw [mF, if_neg (by omega), if_pos hm]) hT hl hd (hK _ _ h1 H locs k' q ls hM hl')
theorem opGA_ok (hk : k < 94) (hm : 3 ≤ mK k) (hT : (TX2 k).1 = RX2) (hl : Cond.fieldLink RX2 idx RX2 (TX2 k).2.1 (TX2 k).2.2.1 ∈ lw_all) (C : se_Cx p s m args meth c cc nL RX2 ret) (hG : mGl g s) : se_Snd p l e R s m args below meth c Q nL g.1 (mRM g H0) cc (.getfield idx) 3 (opGA k) := by
  intro pc L st M K X hd hK hX h
  obtain ⟨r, rfl, h1⟩ := opGA_e h
  intro H locs k' q ls hM hl'
  exact mGet_W (v := .ref (g.1 (k + 1))) C hG hM.2.2.2.2.2 hk (by rw [mF, if_neg (by omega), if_neg (by omega)]) hT hl hd (hK _ _ h1 H locs k' q ls hM hl')
/-- writing a field -/
theorem mPut_W {locs : List Loc} {cells slots pc : Nat} {H : Heap} {M M' : mM} {ls : Array Slot} {rest : List Value} {v : Value} (C : se_Cx p s m args meth c cc nL RX2 ret) (hG : mGl g s) (hI : mInj g) (hM : mRM g H0 M H locs cells slots) (hk : k < 94) (hm : mK k ≤ 2) (hT : (TX2 k).1 = RX2) (hF : (TX2 k).2.2.2 = false) (hl : Cond.fieldLink RX2 idx RX2 (TX2 k).2.1 (TX2 k).2.2.1 ∈ lw_all) (hd : decode cc pc = .ok (.putfield idx, 3))
    (hn : narrow (tyX2 k) v = v) (hfit : fits (tyX2 k) v = true) (hV : ∀ j, updV (mF g.1 M) k v j = mF g.1 M' j) (hA : ∀ k, fA M' k = fA M k) (hN : fN M' = fN M)
    (kk : ∀ (H' : Heap) (locs' : List Loc), mRM g H0 M' H' locs' cells slots → W p l e R s m args below meth c H' locs' cells slots Q (F0 m (pc + 3) ls rest)) : W p l e R s m args below meth c H locs cells slots Q (F0 m pc ls (v :: .ref (g.1 0) :: rest)) := by
  obtain ⟨⟨hx, hb, hml, hown, hts⟩, hlk, hrt⟩ := C
  obtain ⟨e1, e2, e3, e4, e5, ⟨cell, q1, q2, q3, q4⟩, hAr⟩ := hM
  have hap := va_apart (own := RX2) (cl := [(RX2, TX2, 94)]) (ci := 0) (D := (fun _ => g.2.1, fun _ => g.2.2.1)) (tys := []) (s := s) hts in_X2 tyX2 tyX2_ok nmX2 ⟨fun c q hq => by
    match c, hq with
    | 0, hq => cases hq; exact hG.1
    | n + 1, hq => simp at hq, fun _ _ h => by simp at h⟩ rfl
  obtain ⟨⟨hS, hfc, kC, hkC, hkind⟩, -⟩ := hG
  obtain ⟨cf, kf, fi, f', hi, hsl⟩ := hS k hk
  have hlay := hts _ (in_X2 _ (u_in_lay hk))
  unfold u_lay at hlay
  rw [if_neg (by rw [hF]; decide)] at hlay
  have hst := (u_facts hfc hkC (u_lays hts in_X2 hk) hi).1
  have h6 := u_store hfc hkC hkind hlay hi (tyX2_ok k hk) hn hfit
  have hi2 := hi
  rw [hT] at hi2
  refine W.putK hx hb (f := f') ⟨hown, hts _ hl, ⟨_, _, _, hi2⟩, hst⟩ (by rw [q2]; exact h6) q1 q3 (by rw [hsl]; exact k2_hasslot (q4 k hk)) rfl rfl hd fun H' f1 f2 f3 => ?_
  rw [hsl] at f1 ⊢
  refine kk H' _ ⟨e1, e2, f2.trans e3, fun a ha => ?_, fun z hz => ?_, t_OB.to (V := updV (mF g.1 M) k v) ⟨_, f1, q2, q3, t_set q4 hap hk v⟩ (fun j _ => hV j), fun j hj => ?_⟩
  · rw [f3 a (fun z => ha (Or.inl z))]
    exact e4 a ha
  · rcases List.mem_append.mp hz with h | h
    · exact e5 z h
    · rw [List.mem_singleton.mp h]
      exact Or.inl rfl
  · have hne : g.1 (j + 1) ≠ g.1 0 := fun z => by have := hI _ _ z; omega
    rw [f3 _ hne, hA, hN]
    exact hAr j hj
theorem mF_upd {f : Nat → Nat} {M M' : mM} {k : Nat} {v : Value} (h1 : mF f M' k = v) (h2 : ∀ j, j ≠ k → mF f M' j = mF f M j) : ∀ j, updV (mF f M) k v j = mF f M' j := by
  intro j
  unfold updV
  by_cases e : j = k
  · rw [if_pos e, e, h1]
  · rw [if_neg e, h2 j e]
theorem mF_uI {f : Nat → Nat} {M : mM} {k : Nat} {x : Int32} (hm : mK k ≤ 1) : ∀ j, updV (mF f M) k (.int x) j = mF f (uI M k x) j :=
  mF_upd (by rw [mF, if_pos hm, fI_uI, if_pos rfl]) (fun j hj => by simp only [mF, fI_uI, fJ_uI, if_neg hj])
theorem mF_uJ {f : Nat → Nat} {M : mM} {k : Nat} {x : Int64} (hm : mK k = 2) : ∀ j, updV (mF f M) k (.long x) j = mF f (uJ M k x) j :=
  mF_upd (by rw [mF, if_neg (by omega), if_pos hm, fJ_uJ, if_pos rfl]) (fun j hj => by simp only [mF, fI_uJ, fJ_uJ, if_neg hj])
theorem opPI_ok (hk : k < 94) (ht : tyX2 k = .int) (hT : (TX2 k).1 = RX2) (hF : (TX2 k).2.2.2 = false) (hl : Cond.fieldLink RX2 idx RX2 (TX2 k).2.1 (TX2 k).2.2.1 ∈ lw_all) (C : se_Cx p s m args meth c cc nL RX2 ret) (hG : mGl g s) (hI : mInj g) : se_Snd p l e R s m args below meth c Q nL g.1 (mRM g H0) cc (.putfield idx) 3 (opPI k) := by
  intro pc L st M K X hd hK hX h
  obtain ⟨x, r, rfl, h⟩ := opPI_e h
  intro H locs k' q ls hM hl'
  have hm : mK k ≤ 1 := by rw [mK, ht]; decide
  exact mPut_W C hG hI hM hk (by omega) hT hF hl hd (by rw [ht]; rfl) (by rw [ht]; rfl) (mF_uI hm) (fun _ => rfl) rfl (fun H' locs' hM' => hK _ _ h H' locs' k' q ls hM' hl')
theorem opPZ_ok (hk : k < 94) (ht : tyX2 k = .boolean) (hT : (TX2 k).1 = RX2) (hF : (TX2 k).2.2.2 = false) (hl : Cond.fieldLink RX2 idx RX2 (TX2 k).2.1 (TX2 k).2.2.1 ∈ lw_all) (C : se_Cx p s m args meth c cc nL RX2 ret) (hG : mGl g s) (hI : mInj g) : se_Snd p l e R s m args below meth c Q nL g.1 (mRM g H0) cc (.putfield idx) 3 (opPZ k) := by
  intro pc L st M K X hd hK hX h
  obtain ⟨x, r, rfl, h0, h⟩ := opPZ_e h
  intro H locs k' q ls hM hl'
  have hm : mK k ≤ 1 := by rw [mK, ht]; decide
  exact mPut_W C hG hI hM hk (by omega) hT hF hl hd (by rw [ht]; exact nar_z h0) (by rw [ht]; rcases h0 with rfl | rfl <;> rfl) (mF_uI hm) (fun _ => rfl) rfl (fun H' locs' hM' => hK _ _ h H' locs' k' q ls hM' hl')
theorem opPJ_ok (hk : k < 94) (ht : tyX2 k = .long) (hT : (TX2 k).1 = RX2) (hF : (TX2 k).2.2.2 = false) (hl : Cond.fieldLink RX2 idx RX2 (TX2 k).2.1 (TX2 k).2.2.1 ∈ lw_all) (C : se_Cx p s m args meth c cc nL RX2 ret) (hG : mGl g s) (hI : mInj g) : se_Snd p l e R s m args below meth c Q nL g.1 (mRM g H0) cc (.putfield idx) 3 (opPJ k) := by
  intro pc L st M K X hd hK hX h
  obtain ⟨x, r, rfl, h⟩ := opPJ_e h
  intro H locs k' q ls hM hl'
  have hm : mK k = 2 := by rw [mK, ht]
  exact mPut_W C hG hI hM hk (by omega) hT hF hl hd (by rw [ht]; rfl) (by rw [ht]; rfl) (mF_uJ hm) (fun _ => rfl) rfl (fun H' locs' hM' => hK _ _ h H' locs' k' q ls hM' hl')
theorem opIald_ok (C : se_Cx p s m args meth c cc nL RX2 ret) (hG : mGl g s) : se_Snd p l e R s m args below meth c Q nL g.1 (mRM g H0) cc .iaload 1 opIald := by
  intro pc L st M K X hd hK hX h
  unfold opIald at h
  split at h
  · rename_i i k r
    obtain ⟨⟨hk, hm⟩, hin, h⟩ := h
    intro H locs k' q ls hM hl'
    obtain ⟨⟨hx, hb, hml, hown, hts⟩, hlk, hrt⟩ := C
    have hc := (hM.2.2.2.2.2.2 k hk).1 hm
    have hlt : i.toNatClampNeg < mN k := Nat.not_le.mp fun q => hin (Or.inr q)
    exact W.iald (v := .int (fA M k i.toNatClampNeg)) hx hb hc (hG.2.1 (mN k) (fun j => .int (fA M k j))) (fun q => by cases q) (by rw [arrV_size]; exact hin) (by rw [arrV_read _ _ hlt]) rfl rfl hd (hK _ _ h H locs k' q ls hM hl')
  · exact h.elim
theorem opZald_ok (C : se_Cx p s m args meth c cc nL RX2 ret) (hG : mGl g s) : se_Snd p l e R s m args below meth c Q nL g.1 (mRM g H0) cc .baload 1 opZald := by
  intro pc L st M K X hd hK hX h
  unfold opZald at h
  split at h
  · rename_i i k r
    obtain ⟨⟨hk, hm⟩, hin, h⟩ := h
    intro H locs k' q ls hM hl'
    obtain ⟨⟨hx, hb, hml, hown, hts⟩, hlk, hrt⟩ := C
    have hc := (hM.2.2.2.2.2.2 k hk).2.1 hm
    have hlt : i.toNatClampNeg < mN k := Nat.not_le.mp fun q => hin (Or.inr q)
    exact W.zald (v := .int (fA M k i.toNatClampNeg)) hx hb hc (hG.2.2.1 (mN k) (fun j => .int (fA M k j))) (fun q => by cases q) (by rw [arrV_size]; exact hin) (by rw [arrV_read _ _ hlt]) rfl rfl hd (hK _ _ h H locs k' q ls hM hl')
  · exact h.elim
theorem opLald_ok (C : se_Cx p s m args meth c cc nL RX2 ret) (hG : mGl g s) : se_Snd p l e R s m args below meth c Q nL g.1 (mRM g H0) cc .laload 1 opLald := by
  intro pc L st M K X hd hK hX h
  unfold opLald at h
  split at h
  · rename_i i k r
    obtain ⟨⟨hk, hm⟩, hin, h⟩ := h
    intro H locs k' q ls hM hl'
    obtain ⟨⟨hx, hb, hml, hown, hts⟩, hlk, hrt⟩ := C
    have hc := (hM.2.2.2.2.2.2 k hk).2.2 hm
    have hlt : i.toNatClampNeg < mN k := Nat.not_le.mp fun q => hin (Or.inr q)
    exact W.lald (v := .long (fN M i.toNatClampNeg)) hx hb hc (hG.2.2.2 (mN k) (fun j => .long (fN M j))) (fun q => by cases q) (by rw [arrV_size]; exact hin) (by rw [arrV_read _ _ hlt]) rfl rfl hd (hK _ _ h H locs k' q ls hM hl')
  · exact h.elim
/-- an array cell is replaced -/
theorem mRM_arr {locs : List Loc} {cells slots i : Nat} {H H' : Heap} {M M' : mM} (hI : mInj g) (hM : mRM g H0 M H locs cells slots) (hk : k < 94) (hm : 3 ≤ mK k) (f2 : H'.size = H.size) (f3 : ∀ q : Nat, q ≠ g.1 (k + 1) → H'[q]? = H[q]?)
    (hV : ∀ j, mF g.1 M' j = mF g.1 M j)
    (hc : (mK k = 3 → H'[g.1 (k + 1)]? = some (arrV g.2.2.2.1 (mN k) (fun j => .int (fA M' k j)))) ∧ (mK k = 4 → H'[g.1 (k + 1)]? = some (arrV g.2.2.2.2.1 (mN k) (fun j => .int (fA M' k j)))) ∧ (mK k = 5 → H'[g.1 (k + 1)]? = some (arrV g.2.2.2.2.2 (mN k) (fun j => .long (fN M' j)))))
    (ho : ∀ a, a < 94 → a ≠ k → fA M' a = fA M a) (hN : ∀ a, a < 94 → a ≠ k → mK a = 5 → fN M' = fN M) : mRM g H0 M' H' (locs ++ [⟨g.1 (k + 1), i⟩]) cells slots := by
  obtain ⟨e1, e2, e3, e4, e5, hO, hAr⟩ := hM
  have hne0 : g.1 0 ≠ g.1 (k + 1) := fun z => by have := hI _ _ z; omega
  refine ⟨e1, e2, f2.trans e3, fun a ha => ?_, fun z hz => ?_, (hO.kept (f3 _ hne0)).to (fun j _ => (hV j).symm), fun a ha => ?_⟩
  · rw [f3 a (fun z => ha (Or.inr ⟨k, hk, hm, z⟩))]
    exact e4 a ha
  · rcases List.mem_append.mp hz with h | h
    · exact e5 z h
    · rw [List.mem_singleton.mp h]
      exact Or.inr ⟨k, hk, hm, rfl⟩
  · by_cases e : a = k
    · subst e
      exact hc
    · have hne : g.1 (a + 1) ≠ g.1 (k + 1) := fun z => by have := hI _ _ z; omega
      rw [f3 _ hne, ho a ha e]
      obtain ⟨w1, w2, w3⟩ := hAr a ha
      exact ⟨w1, w2, fun h5 => by rw [hN a ha e h5]; exact w3 h5⟩
theorem opIast_ok (C : se_Cx p s m args meth c cc nL RX2 ret) (hG : mGl g s) (hI : mInj g) : se_Snd p l e R s m args below meth c Q nL g.1 (mRM g H0) cc .iastore 1 opIast := by
  intro pc L st M K X hd hK hX h
  unfold opIast at h
  split at h
  · rename_i x i k r
    obtain ⟨⟨hk, hm⟩, hin, h⟩ := h
    intro H locs k' q ls hM hl'
    obtain ⟨⟨hx, hb, hml, hown, hts⟩, hlk, hrt⟩ := C
    have hc := (hM.2.2.2.2.2.2 k hk).1 hm
    refine W.iast hx hb hc (hG.2.1 (mN k) (fun j => .int (fA M k j))) (fun q => by cases q) (by rw [arrV_size]; exact hin) rfl rfl hd fun H1 e1 z oq => ?_
    refine hK _ _ h H1 _ k' q ls (mRM_arr (M' := uA M k i.toNatClampNeg x) hI hM hk (by omega) z oq (fun _ => rfl) ⟨fun _ => ?_, fun h4 => by omega, fun h5 => by omega⟩ (fun a _ ha => by rw [fA_uA, if_neg ha]) (fun _ _ _ _ => rfl)) hl'
    rw [e1, arrV_store]
    congr 2
    funext j
    rw [fA_uA, if_pos rfl]
    by_cases hj : j = i.toNatClampNeg <;> simp [updV, upd, hj]
  · exact h.elim
theorem opZast_ok (C : se_Cx p s m args meth c cc nL RX2 ret) (hG : mGl g s) (hI : mInj g) : se_Snd p l e R s m args below meth c Q nL g.1 (mRM g H0) cc .bastore 1 opZast := by
  intro pc L st M K X hd hK hX h
  unfold opZast at h
  split at h
  · rename_i x i k r
    obtain ⟨⟨hk, hm⟩, hx01, hin, h⟩ := h
    intro H locs k' q ls hM hl'
    obtain ⟨⟨hx, hb, hml, hown, hts⟩, hlk, hrt⟩ := C
    have hc := (hM.2.2.2.2.2.2 k hk).2.1 hm
    refine W.zast hx hb hc (hG.2.2.1 (mN k) (fun j => .int (fA M k j))) (fun q => by cases q) (by rw [arrV_size]; exact hin) rfl rfl hd fun H1 e1 z oq => ?_
    refine hK _ _ h H1 _ k' q ls (mRM_arr (M' := uA M k i.toNatClampNeg x) hI hM hk (by omega) z oq (fun _ => rfl) ⟨fun h4 => by omega, fun _ => ?_, fun h5 => by omega⟩ (fun a _ ha => by rw [fA_uA, if_neg ha]) (fun _ _ _ _ => rfl)) hl'
    rw [e1, arrV_store]
    congr 2
    funext j
    rw [fA_uA, if_pos rfl]
    by_cases hj : j = i.toNatClampNeg
    · subst hj
      simp only [updV, upd, if_true]
      exact nar_z hx01
    · simp [updV, upd, hj]
  · exact h.elim
theorem opLast_ok (C : se_Cx p s m args meth c cc nL RX2 ret) (hG : mGl g s) (hI : mInj g) : se_Snd p l e R s m args below meth c Q nL g.1 (mRM g H0) cc .lastore 1 opLast := by
  intro pc L st M K X hd hK hX h
  unfold opLast at h
  split at h
  · rename_i x i k r
    obtain ⟨⟨hk, hm⟩, hin, h⟩ := h
    intro H locs k' q ls hM hl'
    obtain ⟨⟨hx, hb, hml, hown, hts⟩, hlk, hrt⟩ := C
    have hc := (hM.2.2.2.2.2.2 k hk).2.2 hm
    refine W.last hx hb hc (hG.2.2.2 (mN k) (fun j => .long (fN M j))) (fun q => by cases q) (by rw [arrV_size]; exact hin) rfl rfl hd fun H1 e1 z oq => ?_
    refine hK _ _ h H1 _ k' q ls (mRM_arr (M' := uN M i.toNatClampNeg x) hI hM hk (by omega) z oq (fun _ => rfl) ⟨fun h4 => by omega, fun h5 => by omega, fun _ => ?_⟩ (fun a _ ha => rfl) (fun a h94 ha h5 => absurd ((mK5 a h94 h5).trans (mK5 k hk hm).symm) ha)) hl'
    rw [e1, arrV_store]
    congr 2
    funext j
    rw [fN_uN]
    by_cases hj : j = i.toNatClampNeg <;> simp [updV, vp_updL, hj]
  · exact h.elim
theorem opCJ_ok {own : String} {μ : Type} {RM : μ → Heap → List Loc → Nat → Nat → Prop} {f : Nat → Nat} {v : Int64} (hl : Cond.constantLong own idx v ∈ lw_all) (C : se_Cx p s m args meth c cc nL own ret) : se_Snd p l e R s m args below meth c Q nL f RM cc (.ldc2_w idx) 3 (opCJ v) := by
  intro pc L st M K X hd hK hX h
  intro H locs k' q ls hM hl'
  obtain ⟨⟨hx, hb, hml, hown, hts⟩, hlk, hrt⟩ := C
  exact lv_ldc2 hx hb hown (hts _ hl) hd (hK _ _ h H locs k' q ls hM hl')
theorem opCI_ok {own : String} {μ : Type} {RM : μ → Heap → List Loc → Nat → Nat → Prop} {f : Nat → Nat} {v : Int32} (hl : Cond.constant own idx v ∈ lw_all) (C : se_Cx p s m args meth c cc nL own ret) : se_Snd p l e R s m args below meth c Q nL f RM cc (.ldc idx) 2 (opCI v) := by
  intro pc L st M K X hd hK hX h
  intro H locs k' q ls hM hl'
  obtain ⟨⟨hx, hb, hml, hown, hts⟩, hlk, hrt⟩ := C
  exact lv_ldc hx hb hown (hts _ hl) hd (hK _ _ h H locs k' q ls hM hl')
theorem opCIw_ok {own : String} {μ : Type} {RM : μ → Heap → List Loc → Nat → Nat → Prop} {f : Nat → Nat} {v : Int32} (hl : Cond.constant own idx v ∈ lw_all) (C : se_Cx p s m args meth c cc nL own ret) : se_Snd p l e R s m args below meth c Q nL f RM cc (.ldc_w idx) 3 (opCI v) := by
  intro pc L st M K X hd hK hX h
  intro H locs k' q ls hM hl'
  obtain ⟨⟨hx, hb, hml, hown, hts⟩, hlk, hrt⟩ := C
  exact lv_ldcw hx hb hown (hts _ hl) hd (hK _ _ h H locs k' q ls hM hl')
theorem se_tab_ok {μ : Type} {RM : μ → Heap → List Loc → Nat → Nat → Prop} {f : Nat → Nat} : ∀ (t : List (Nat × Nat × se_Op μ)), (∀ x ∈ t, se_Snd p l e R s m args below meth c Q nL f RM cc (se_ins x.1 x.2.1).1 (se_ins x.1 x.2.1).2 x.2.2) → ∀ k i, se_Snd p l e R s m args below meth c Q nL f RM cc (se_ins k i).1 (se_ins k i).2 (se_tab t k i) := by
  intro t
  induction t with
  | nil => intro _ k i pc L st w K X _ _ _ h; exact h.elim
  | cons x t ih =>
    intro h k i
    rw [se_tab]
    by_cases e : x.1 = k ∧ x.2.1 = i
    · rw [if_pos e, ← e.1, ← e.2]
      exact h x List.mem_cons_self
    · rw [if_neg e]
      exact ih (fun y hy => h y (List.mem_cons_of_mem _ hy)) k i
theorem se_tb2_ok {μ : Type} {RM : μ → Heap → List Loc → Nat → Nat → Prop} {f : Nat → Nat} {A B : Nat → Nat → se_Op μ} (hA : ∀ k i, se_Snd p l e R s m args below meth c Q nL f RM cc (se_ins k i).1 (se_ins k i).2 (A k i)) (hB : ∀ k i, se_Snd p l e R s m args below meth c Q nL f RM cc (se_ins k i).1 (se_ins k i).2 (B k i)) :
    ∀ k i, se_Snd p l e R s m args below meth c Q nL f RM cc (se_ins k i).1 (se_ins k i).2 (se_tb2 A B k i) := by
  intro k i
  unfold se_tb2
  split
  · exact hA k i
  · exact hB k i
end
