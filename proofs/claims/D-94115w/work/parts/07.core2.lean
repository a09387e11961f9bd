/-! CORE 2: what a symbolic run says of the machine -/
def se_EX : String := "StarEye$Wrong"
section
variable {μ : Type} (p : Program) (l : Launch) (e : Env) (R : Room) (s : State) (m : MethodId) (args : Array Value) (below : List Frame) (meth : Method) (c : Code) (Q : State → Prop) (nL : Nat) (f : Nat → Nat) (RM : μ → Heap → List Loc → Nat → Nat → Prop)
/-- the machine comes to its end from here, in every heap that the abstract memory tells -/
def se_G (pc : Nat) (L : se_L) (st : List Value) (w : μ) : Prop := ∀ (H : Heap) (locs : List Loc) (k q : Nat) (ls : Array Slot), RM w H locs k q → se_lok f ls nL L → W p l e R s m args below meth c H locs k q Q (F0 m pc ls (st.map (se_cv f)))
/-- .. with the object at a thrown here -/
def se_X (pc : Nat) (L : se_L) (a : Nat) (w : μ) : Prop := ∀ (H : Heap) (locs : List Loc) (k q : Nat) (ls : Array Slot) (rest : List Value) (ce : Cell), RM w H locs k q → se_lok f ls nL L → H[f a]? = some ce → ce.vm = .none → s.vm.findClass se_EX = some ce.cls → vx_W p l e R s m args below meth c H locs k q Q (F0 m pc ls rest) (f a)
/-- an operation of the memory is sound -/
def se_Snd (cc : ByteArray) (ins : Instr) (len : Nat) (op : se_Op μ) : Prop := ∀ (pc : Nat) (L : se_L) (st : List Value) (w : μ) (K : List Value → μ → Prop) (X : Nat → μ → Prop), decode cc pc = .ok (ins, len) →
  (∀ st' w', K st' w' → se_G p l e R s m args below meth c Q nL f RM (pc + len) L st' w') → (∀ a w', X a w' → se_X p l e R s m args below meth c Q nL f RM pc L a w') → op st w K X → se_G p l e R s m args below meth c Q nL f RM pc L st w
end
/-- the instruction of a table's key -/
def se_ins (k i : Nat) : Instr × Nat := match k with
  | 0 => (.getfield i, 3)
  | 1 => (.putfield i, 3)
  | 2 => (.getstatic i, 3)
  | 3 => (.invokevirtual i, 3)
  | 4 => (.invokespecial i, 3)
  | 5 => (.invokestatic i, 3)
  | 6 => (.new i, 3)
  | 7 => (.anewarray i, 3)
  | 8 => (.checkcast i, 3)
  | 9 => (.ldc i, 2)
  | 10 => (.ldc_w i, 3)
  | 11 => (.ldc2_w i, 3)
  | 12 => (.newarray (match i with
    | 0 => .int
    | 1 => .boolean
    | 2 => .byte
    | _ => .long), 2)
  | 13 => (.iaload, 1)
  | 14 => (.iastore, 1)
  | 15 => (.baload, 1)
  | 16 => (.bastore, 1)
  | 17 => (.laload, 1)
  | 18 => (.lastore, 1)
  | 19 => (.aaload, 1)
  | 20 => (.aastore, 1)
  | 21 => (.arraylength, 1)
  | _ => (.athrow, 1)
/-- what a frame is known by -/
abbrev se_Cx (p : Program) (s : State) (m : MethodId) (args : Array Value) (meth : Method) (c : Code) (cc : ByteArray) (nL : Nat) (own : String) (ret : Option FieldType) : Prop :=
  CallFix p m c cc nL s args lw_all own ∧ meth.locks = false ∧ meth.sig.returnType = ret
/-- a value may be returned as ret -/
def se_nr (ret : Option FieldType) (v : Option Value) : Prop := match v with
  | none => ret = none
  | some (.int x) => ∃ ty, ret = some ty ∧ narrow ty (.int x) = .int x
  | some (.long _) => ret = some .long
  | some (.ref _) => ∃ ty, ret = some ty ∧ ((∃ n, ty = .object n) ∨ ∃ t, ty = .array t)
  | some .null => ∃ ty, ret = some ty ∧ ((∃ n, ty = .object n) ∨ ∃ t, ty = .array t)
  | _ => False
theorem se_ts_e {pc : Nat} {x : Int32} {d : Int} {K : Nat → Prop} : ∀ (os : List Int) (lo : Int), se_ts pc x d K os lo →
    (∃ (j : Nat) (o : Int) (t : Nat), os[j]? = some o ∧ x = Int32.ofInt (lo + j) ∧ (pc : Int) + o = t ∧ K t) ∨ ((∀ j : Nat, j < os.length → x ≠ Int32.ofInt (lo + j)) ∧ ∃ t : Nat, (pc : Int) + d = t ∧ K t) := by
  intro os
  induction os with
  | nil => intro lo h; exact Or.inr ⟨fun j hj => absurd hj (by simp), se_tg_e h⟩
  | cons o os ih =>
    intro lo h
    by_cases hx : x = Int32.ofInt lo
    · obtain ⟨t, h1, h2⟩ := se_tg_e (h.1 hx)
      exact Or.inl ⟨0, o, t, rfl, by simpa using hx, h1, h2⟩
    · rcases ih (lo + 1) (h.2 hx) with ⟨j, o', t, h1, h2, h3⟩ | ⟨h1, h2⟩
      · exact Or.inl ⟨j + 1, o', t, h1, by rw [h2]; congr 1; omega, h3⟩
      · refine Or.inr ⟨fun j hj => ?_, h2⟩
        cases j with
        | zero => simpa using hx
        | succ j =>
          have := h1 j (by simpa using hj)
          rw [show lo + ((j + 1 : Nat) : Int) = lo + 1 + (j : Int) by omega]
          exact this
section
variable {μ : Type} {p : Program} {l : Launch} {e : Env} {R : Room} {s : State} {m : MethodId} {args : Array Value} {below : List Frame} {meth : Method} {c : Code} {nL : Nat} {f : Nat → Nat} {RM : μ → Heap → List Loc → Nat → Nat → Prop}
variable {cc : ByteArray} {own : String} {ret : Option FieldType} {Qc : Array Value → State → Outcome → State → Prop} {XC : String → Nat → State → State → Prop} {mc ms : Nat} {free : Addr → Prop}
theorem se_map_rf (f : Nat → Nat) (o : Option Nat) : se_cv f (va_rf o) = va_rf (o.map f) := by cases o <;> rfl
set_option maxHeartbeats 4000000 in
/-- one instruction -/
theorem wI_ok {J : Prop} {T : Nat → Nat → se_Op μ} (C : se_Cx p s m args meth c cc nL own ret) (hJ : J → ∀ a b, f a = f b → a = b)
    (hT : ∀ k i, se_Snd p l e R s m args below meth c (vx_MQ below Qc XC args s mc ms free) nL f RM cc (se_ins k i).1 (se_ins k i).2 (T k i))
    {ins : Instr} {len pc : Nat} {L : se_L} {st : List Value} {w : μ} {K : Nat → se_L → List Value → μ → Prop} {X : Nat → se_L → Nat → μ → Prop} {Rt : Option Value → μ → Prop}
    (hd : decode cc pc = .ok (ins, len)) (hK : ∀ pc' L' st' w', K pc' L' st' w' → se_G p l e R s m args below meth c (vx_MQ below Qc XC args s mc ms free) nL f RM pc' L' st' w')
    (hX : ∀ pc' L' a w', X pc' L' a w' → se_X p l e R s m args below meth c (vx_MQ below Qc XC args s mc ms free) nL f RM pc' L' a w')
    (hR : ∀ v w', Rt v w' → se_nr ret v ∧ ∀ (H : Heap) (locs : List Loc) (k q : Nat), RM w' H locs k q → (∀ t : State, t.heap = H → s.WarmedH t.vm → Qc args s (.returned (v.map (se_cv f))) t) ∧ (∀ z ∈ locs, free z.base) ∧ k ≤ mc ∧ q ≤ ms)
    (h : wI J T ins len pc L st w K X Rt) : se_G p l e R s m args below meth c (vx_MQ below Qc XC args s mc ms free) nL f RM pc L st w := by
  obtain ⟨⟨hx, hb, hml, hown, hts⟩, hlk, hrt⟩ := C
  cases ins
  case aconst_null =>
    obtain ⟨rfl, h_1⟩ := h
    exact fun H locs k q ls hM hl => lv_null hx hb hd (hK _ _ _ _ h_1 H locs k q ls hM hl)
  case iconst n =>
    obtain ⟨rfl, h_1⟩ := h
    exact fun H locs k q ls hM hl => lv_iconst hx hb hd rfl (hK _ _ _ _ h_1 H locs k q ls hM hl)
  case bipush n =>
    obtain ⟨rfl, h_1⟩ := h
    exact fun H locs k q ls hM hl => lv_bipush hx hb hd rfl (hK _ _ _ _ h_1 H locs k q ls hM hl)
  case sipush n =>
    obtain ⟨rfl, h_1⟩ := h
    exact fun H locs k q ls hM hl => lv_sipush hx hb hd rfl (hK _ _ _ _ h_1 H locs k q ls hM hl)
  case lconst n =>
    obtain ⟨rfl, h_1⟩ := h
    exact fun H locs k q ls hM hl => lv_lconst hx hb hd rfl (hK _ _ _ _ h_1 H locs k q ls hM hl)
  case iload_n i =>
    obtain ⟨rfl, h_1⟩ := h
    obtain ⟨x, hg, h_2⟩ := gI_e h_1
    exact fun H locs k q ls hM hl => lv_iload_n hx hb hd rfl (se_lok_get hl hg) (hK _ _ _ _ h_2 H locs k q ls hM hl)
  case iload i =>
    obtain ⟨rfl, h_1⟩ := h
    obtain ⟨x, hg, h_2⟩ := gI_e h_1
    exact fun H locs k q ls hM hl => lv_iload hx hb hd (se_lok_get hl hg) (hK _ _ _ _ h_2 H locs k q ls hM hl)
  case lload_n i =>
    obtain ⟨rfl, h_1⟩ := h
    obtain ⟨x, hg, h_2⟩ := gL_e h_1
    exact fun H locs k q ls hM hl => lv_lload_n hx hb hd rfl (se_lok_get hl hg) (hK _ _ _ _ h_2 H locs k q ls hM hl)
  case lload i =>
    obtain ⟨rfl, h_1⟩ := h
    obtain ⟨x, hg, h_2⟩ := gL_e h_1
    exact fun H locs k q ls hM hl => lv_lload hx hb hd (se_lok_get hl hg) (hK _ _ _ _ h_2 H locs k q ls hM hl)
  case aload_n i =>
    obtain ⟨rfl, h_1⟩ := h
    obtain ⟨x, hg, h_2⟩ := gR_e h_1
    cases x with
    | none => exact fun H locs k q ls hM hl => lv_aload_nN hx hb hd rfl (se_lok_get hl hg) (hK _ _ _ _ h_2 H locs k q ls hM hl)
    | some a => exact fun H locs k q ls hM hl => lv_aload_n hx hb hd rfl (se_lok_get hl hg) (hK _ _ _ _ h_2 H locs k q ls hM hl)
  case aload i =>
    obtain ⟨rfl, h_1⟩ := h
    obtain ⟨x, hg, h_2⟩ := gR_e h_1
    cases x with
    | none => exact fun H locs k q ls hM hl => lv_aloadN hx hb hd (se_lok_get hl hg) (hK _ _ _ _ h_2 H locs k q ls hM hl)
    | some a => exact fun H locs k q ls hM hl => lv_aload hx hb hd (se_lok_get hl hg) (hK _ _ _ _ h_2 H locs k q ls hM hl)
  case istore_n i =>
    obtain ⟨rfl, h_1⟩ := h
    obtain ⟨x, r_1, rfl, hi, h_2⟩ := sI_e h_1
    exact fun H locs k q ls hM hl => lv_istore_n hx hb hd rfl hl.1 (by rw [← hl.2]; exact se_in_lt hi) rfl (fun ls' hl' => hK _ _ _ _ h_2 H locs k q ls' hM (se_lok_set1 hl.2 hl'))
  case istore i =>
    obtain ⟨rfl, h_1⟩ := h
    obtain ⟨x, r_1, rfl, hi, h_2⟩ := sI_e h_1
    exact fun H locs k q ls hM hl => lv_istore hx hb hd hl.1 (by rw [← hl.2]; exact se_in_lt hi) rfl (fun ls' hl' => hK _ _ _ _ h_2 H locs k q ls' hM (se_lok_set1 hl.2 hl'))
  case lstore_n i =>
    obtain ⟨rfl, h_1⟩ := h
    obtain ⟨x, r_1, rfl, hi, h_2⟩ := sJ_e h_1
    exact fun H locs k q ls hM hl => lv_lstore_n hx hb hd rfl hl.1 (by rw [← hl.2]; exact se_in_lt hi) rfl (fun ls' hl' => hK _ _ _ _ h_2 H locs k q ls' hM (se_lok_set2 hl.2 hl'))
  case lstore i =>
    obtain ⟨rfl, h_1⟩ := h
    obtain ⟨x, r_1, rfl, hi, h_2⟩ := sJ_e h_1
    exact fun H locs k q ls hM hl => lv_lstore hx hb hd hl.1 (by rw [← hl.2]; exact se_in_lt hi) rfl (fun ls' hl' => hK _ _ _ _ h_2 H locs k q ls' hM (se_lok_set2 hl.2 hl'))
  case astore_n i =>
    obtain ⟨rfl, h_1⟩ := h
    obtain ⟨x, r_1, rfl, hi, h_2⟩ := sR_e h_1
    cases x with
    | none => exact fun H locs k q ls hM hl => lv_astore_nN hx hb hd rfl hl.1 (by rw [← hl.2]; exact se_in_lt hi) rfl (fun ls' hl' => hK _ _ _ _ h_2 H locs k q ls' hM (se_lok_set1 hl.2 hl'))
    | some a => exact fun H locs k q ls hM hl => lv_astore_n hx hb hd rfl hl.1 (by rw [← hl.2]; exact se_in_lt hi) rfl (fun ls' hl' => hK _ _ _ _ h_2 H locs k q ls' hM (se_lok_set1 hl.2 hl'))
  case astore i =>
    obtain ⟨rfl, h_1⟩ := h
    obtain ⟨x, r_1, rfl, hi, h_2⟩ := sR_e h_1
    cases x with
    | none => exact fun H locs k q ls hM hl => lv_astoreN hx hb hd hl.1 (by rw [← hl.2]; exact se_in_lt hi) rfl (fun ls' hl' => hK _ _ _ _ h_2 H locs k q ls' hM (se_lok_set1 hl.2 hl'))
    | some a => exact fun H locs k q ls hM hl => lv_astore hx hb hd hl.1 (by rw [← hl.2]; exact se_in_lt hi) rfl (fun ls' hl' => hK _ _ _ _ h_2 H locs k q ls' hM (se_lok_set1 hl.2 hl'))
  case iinc i n =>
    obtain ⟨rfl, h_1⟩ := h
    obtain ⟨x, hg, h_2⟩ := gI_e h_1
    intro H locs k q ls hM hl
    obtain ⟨j, hj⟩ := List.getElem?_of_mem (se_mem.mpr ⟨Nat.zero_le _, by rw [Nat.sub_zero, se_get_cl, hg]; rfl⟩ : (i, Value.int x) ∈ se_prs 0 (se_cl f L))
    exact lv_iinc hx hb hd hl.1 hj rfl (by rw [← hl.2]; exact se_get_lt hg) rfl (fun ls' hl' => hK _ _ _ _ h_2 H locs k q ls' hM (se_lok_set1 hl.2 hl'))
  case iadd =>
    obtain ⟨rfl, h_1⟩ := h
    obtain ⟨y, r_1, rfl, h_2⟩ := sI_e h_1
    obtain ⟨x, r_2, rfl, h_3⟩ := sI_e h_2
    exact fun H locs k q ls hM hl => lv_iadd hx hb hd (hK _ _ _ _ h_3 H locs k q ls hM hl)
  case isub =>
    obtain ⟨rfl, h_1⟩ := h
    obtain ⟨y, r_1, rfl, h_2⟩ := sI_e h_1
    obtain ⟨x, r_2, rfl, h_3⟩ := sI_e h_2
    exact fun H locs k q ls hM hl => lv_isub hx hb hd (hK _ _ _ _ h_3 H locs k q ls hM hl)
  case imul =>
    obtain ⟨rfl, h_1⟩ := h
    obtain ⟨y, r_1, rfl, h_2⟩ := sI_e h_1
    obtain ⟨x, r_2, rfl, h_3⟩ := sI_e h_2
    exact fun H locs k q ls hM hl => lv_imul hx hb hd (hK _ _ _ _ h_3 H locs k q ls hM hl)
  case iand =>
    obtain ⟨rfl, h_1⟩ := h
    obtain ⟨y, r_1, rfl, h_2⟩ := sI_e h_1
    obtain ⟨x, r_2, rfl, h_3⟩ := sI_e h_2
    exact fun H locs k q ls hM hl => lv_iand hx hb hd (hK _ _ _ _ h_3 H locs k q ls hM hl)
  case ior =>
    obtain ⟨rfl, h_1⟩ := h
    obtain ⟨y, r_1, rfl, h_2⟩ := sI_e h_1
    obtain ⟨x, r_2, rfl, h_3⟩ := sI_e h_2
    exact fun H locs k q ls hM hl => lv_ior hx hb hd (hK _ _ _ _ h_3 H locs k q ls hM hl)
  case ishl =>
    obtain ⟨rfl, h_1⟩ := h
    obtain ⟨y, r_1, rfl, h_2⟩ := sI_e h_1
    obtain ⟨x, r_2, rfl, h_3⟩ := sI_e h_2
    exact fun H locs k q ls hM hl => lv_ishl hx hb hd (hK _ _ _ _ h_3 H locs k q ls hM hl)
  case ishr =>
    obtain ⟨rfl, h_1⟩ := h
    obtain ⟨y, r_1, rfl, h_2⟩ := sI_e h_1
    obtain ⟨x, r_2, rfl, h_3⟩ := sI_e h_2
    exact fun H locs k q ls hM hl => lv_ishr hx hb hd (hK _ _ _ _ h_3 H locs k q ls hM hl)
  case ladd =>
    obtain ⟨rfl, h_1⟩ := h
    obtain ⟨y, r_1, rfl, h_2⟩ := sJ_e h_1
    obtain ⟨x, r_2, rfl, h_3⟩ := sJ_e h_2
    exact fun H locs k q ls hM hl => lv_ladd hx hb hd (hK _ _ _ _ h_3 H locs k q ls hM hl)
  case lsub =>
    obtain ⟨rfl, h_1⟩ := h
    obtain ⟨y, r_1, rfl, h_2⟩ := sJ_e h_1
    obtain ⟨x, r_2, rfl, h_3⟩ := sJ_e h_2
    exact fun H locs k q ls hM hl => lv_lsub hx hb hd (hK _ _ _ _ h_3 H locs k q ls hM hl)
  case lmul =>
    obtain ⟨rfl, h_1⟩ := h
    obtain ⟨y, r_1, rfl, h_2⟩ := sJ_e h_1
    obtain ⟨x, r_2, rfl, h_3⟩ := sJ_e h_2
    exact fun H locs k q ls hM hl => lv_lmul hx hb hd (hK _ _ _ _ h_3 H locs k q ls hM hl)
  case land =>
    obtain ⟨rfl, h_1⟩ := h
    obtain ⟨y, r_1, rfl, h_2⟩ := sJ_e h_1
    obtain ⟨x, r_2, rfl, h_3⟩ := sJ_e h_2
    exact fun H locs k q ls hM hl => lv_land hx hb hd (hK _ _ _ _ h_3 H locs k q ls hM hl)
  case lor =>
    obtain ⟨rfl, h_1⟩ := h
    obtain ⟨y, r_1, rfl, h_2⟩ := sJ_e h_1
    obtain ⟨x, r_2, rfl, h_3⟩ := sJ_e h_2
    exact fun H locs k q ls hM hl => lv_lor hx hb hd (hK _ _ _ _ h_3 H locs k q ls hM hl)
  case lcmp =>
    obtain ⟨rfl, h_1⟩ := h
    obtain ⟨y, r_1, rfl, h_2⟩ := sJ_e h_1
    obtain ⟨x, r_2, rfl, h_3⟩ := sJ_e h_2
    exact fun H locs k q ls hM hl => W.lcmp hx hb hd (hK _ _ _ _ h_3 H locs k q ls hM hl)
  case idiv =>
    obtain ⟨rfl, h_1⟩ := h
    obtain ⟨y, r_1, rfl, h_2⟩ := sI_e h_1
    obtain ⟨x, r_2, rfl, h0, h_3⟩ := sI_e h_2
    exact fun H locs k q ls hM hl => lv_idiv hx hb hd h0 (hK _ _ _ _ h_3 H locs k q ls hM hl)
  case irem =>
    obtain ⟨rfl, h_1⟩ := h
    obtain ⟨y, r_1, rfl, h_2⟩ := sI_e h_1
    obtain ⟨x, r_2, rfl, h0, h_3⟩ := sI_e h_2
    exact fun H locs k q ls hM hl => lv_irem hx hb hd h0 (hK _ _ _ _ h_3 H locs k q ls hM hl)
  case ldiv =>
    obtain ⟨rfl, h_1⟩ := h
    obtain ⟨y, r_1, rfl, h_2⟩ := sJ_e h_1
    obtain ⟨x, r_2, rfl, h0, h_3⟩ := sJ_e h_2
    exact fun H locs k q ls hM hl => lv_ldiv hx hb hd h0 (hK _ _ _ _ h_3 H locs k q ls hM hl)
  case lrem =>
    obtain ⟨rfl, h_1⟩ := h
    obtain ⟨y, r_1, rfl, h_2⟩ := sJ_e h_1
    obtain ⟨x, r_2, rfl, h0, h_3⟩ := sJ_e h_2
    exact fun H locs k q ls hM hl => lv_lrem hx hb hd h0 (hK _ _ _ _ h_3 H locs k q ls hM hl)
  case iushr =>
    obtain ⟨rfl, h_1⟩ := h
    obtain ⟨y, r_1, rfl, h_2⟩ := sI_e h_1
    obtain ⟨x, r_2, rfl, h_3⟩ := sI_e h_2
    exact fun H locs k q ls hM hl => lv_iushr hx hb hd rfl (hK _ _ _ _ h_3 H locs k q ls hM hl)
  case lshl =>
    obtain ⟨rfl, h_1⟩ := h
    obtain ⟨y, r_1, rfl, h_2⟩ := sI_e h_1
    obtain ⟨x, r_2, rfl, h_3⟩ := sJ_e h_2
    exact fun H locs k q ls hM hl => lv_lshl hx hb hd rfl (hK _ _ _ _ h_3 H locs k q ls hM hl)
  case lshr =>
    obtain ⟨rfl, h_1⟩ := h
    obtain ⟨y, r_1, rfl, h_2⟩ := sI_e h_1
    obtain ⟨x, r_2, rfl, h_3⟩ := sJ_e h_2
    exact fun H locs k q ls hM hl => lv_lshr hx hb hd rfl (hK _ _ _ _ h_3 H locs k q ls hM hl)
  case lushr =>
    obtain ⟨rfl, h_1⟩ := h
    obtain ⟨y, r_1, rfl, h_2⟩ := sI_e h_1
    obtain ⟨x, r_2, rfl, h_3⟩ := sJ_e h_2
    exact fun H locs k q ls hM hl => lv_lushr hx hb hd rfl (hK _ _ _ _ h_3 H locs k q ls hM hl)
  case ineg =>
    obtain ⟨rfl, h_1⟩ := h
    obtain ⟨x, r_1, rfl, h_2⟩ := sI_e h_1
    exact fun H locs k q ls hM hl => lv_ineg hx hb hd (hK _ _ _ _ h_2 H locs k q ls hM hl)
  case lneg =>
    obtain ⟨rfl, h_1⟩ := h
    obtain ⟨x, r_1, rfl, h_2⟩ := sJ_e h_1
    exact fun H locs k q ls hM hl => lv_lneg hx hb hd (hK _ _ _ _ h_2 H locs k q ls hM hl)
  case i2l =>
    obtain ⟨rfl, h_1⟩ := h
    obtain ⟨x, r_1, rfl, h_2⟩ := sI_e h_1
    exact fun H locs k q ls hM hl => lv_i2l hx hb hd rfl (hK _ _ _ _ h_2 H locs k q ls hM hl)
  case l2i =>
    obtain ⟨rfl, h_1⟩ := h
    obtain ⟨x, r_1, rfl, h_2⟩ := sJ_e h_1
    exact fun H locs k q ls hM hl => lv_l2i hx hb hd rfl (hK _ _ _ _ h_2 H locs k q ls hM hl)
  case i2b =>
    obtain ⟨rfl, h_1⟩ := h
    obtain ⟨x, r_1, rfl, h_2⟩ := sI_e h_1
    exact fun H locs k q ls hM hl => lv_i2b hx hb hd rfl (hK _ _ _ _ h_2 H locs k q ls hM hl)
  case i2c =>
    obtain ⟨rfl, h_1⟩ := h
    obtain ⟨x, r_1, rfl, h_2⟩ := sI_e h_1
    exact fun H locs k q ls hM hl => lv_i2c hx hb hd rfl (hK _ _ _ _ h_2 H locs k q ls hM hl)
  case dup =>
    obtain ⟨rfl, h_1⟩ := h
    obtain ⟨x, r_1, rfl, hc, h_2⟩ := sC_e h_1
    exact fun H locs k q ls hM hl => lv_dup hx hb hd ((se_cv_cat f x).trans hc) (hK _ _ _ _ h_2 H locs k q ls hM hl)
  case pop =>
    obtain ⟨rfl, h_1⟩ := h
    obtain ⟨x, r_1, rfl, hc, h_2⟩ := sC_e h_1
    exact fun H locs k q ls hM hl => lv_pop hx hb hd ((se_cv_cat f x).trans hc) (hK _ _ _ _ h_2 H locs k q ls hM hl)
  case dup_x1 =>
    obtain ⟨rfl, h_1⟩ := h
    obtain ⟨y, r_1, rfl, hc, h_2⟩ := sC_e h_1
    obtain ⟨x, r_2, rfl, hc2, h_3⟩ := sC_e h_2
    exact fun H locs k q ls hM hl => lv_dup_x1 hx hb hd ((se_cv_cat f y).trans hc) ((se_cv_cat f x).trans hc2) (hK _ _ _ _ h_3 H locs k q ls hM hl)
  case dup2 =>
    obtain ⟨rfl, h_1⟩ := h
    obtain ⟨y, r_1, rfl, hc, h_2⟩ := sC_e h_1
    obtain ⟨x, r_2, rfl, hc2, h_3⟩ := sC_e h_2
    exact fun H locs k q ls hM hl => lv_dup2_11 hx hb hd ((se_cv_cat f y).trans hc) ((se_cv_cat f x).trans hc2) (hK _ _ _ _ h_3 H locs k q ls hM hl)
  case goto o =>
    obtain ⟨rfl, h_1⟩ := h
    obtain ⟨t, ht, h_2⟩ := se_tg_e h_1
    exact fun H locs k q ls hM hl => lv_goto hx hb hd ht (hK _ _ _ _ h_2 H locs k q ls hM hl)
  case ifCond cond o =>
    cases cond with
    | eq =>
      obtain ⟨rfl, h_1⟩ := h
      obtain ⟨t, ht, h_2⟩ := se_tg_e h_1
      obtain ⟨x, r_1, rfl, h1, h2⟩ := sI_e h_2
      exact fun H locs k q ls hM hl => lv_if_eq hx hb hd ht (fun z => hK _ _ _ _ (h1 z) H locs k q ls hM hl) (fun z => hK _ _ _ _ (h2 z) H locs k q ls hM hl)
    | ne =>
      obtain ⟨rfl, h_3⟩ := h
      obtain ⟨t, ht, h_4⟩ := se_tg_e h_3
      obtain ⟨x, r_2, rfl, h1, h2⟩ := sI_e h_4
      exact fun H locs k q ls hM hl => lv_if_ne hx hb hd ht (fun z => hK _ _ _ _ (h1 z) H locs k q ls hM hl) (fun z => hK _ _ _ _ (h2 (by first | exact z | exact Classical.not_not.mp z)) H locs k q ls hM hl)
    | lt =>
      obtain ⟨rfl, h_5⟩ := h
      obtain ⟨t, ht, h_6⟩ := se_tg_e h_5
      obtain ⟨x, r_3, rfl, h1, h2⟩ := sI_e h_6
      exact fun H locs k q ls hM hl => lv_if_lt hx hb hd ht (fun z => hK _ _ _ _ (h1 z) H locs k q ls hM hl) (fun z => hK _ _ _ _ (h2 z) H locs k q ls hM hl)
    | ge =>
      obtain ⟨rfl, h_7⟩ := h
      obtain ⟨t, ht, h_8⟩ := se_tg_e h_7
      obtain ⟨x, r_4, rfl, h1, h2⟩ := sI_e h_8
      exact fun H locs k q ls hM hl => lv_if_ge hx hb hd ht (fun z => hK _ _ _ _ (h1 z) H locs k q ls hM hl) (fun z => hK _ _ _ _ (h2 z) H locs k q ls hM hl)
    | gt =>
      obtain ⟨rfl, h_9⟩ := h
      obtain ⟨t, ht, h_10⟩ := se_tg_e h_9
      obtain ⟨x, r_5, rfl, h1, h2⟩ := sI_e h_10
      exact fun H locs k q ls hM hl => lv_if_gt hx hb hd ht (fun z => hK _ _ _ _ (h1 z) H locs k q ls hM hl) (fun z => hK _ _ _ _ (h2 z) H locs k q ls hM hl)
    | le =>
      obtain ⟨rfl, h_11⟩ := h
      obtain ⟨t, ht, h_12⟩ := se_tg_e h_11
      obtain ⟨x, r_6, rfl, h1, h2⟩ := sI_e h_12
      exact fun H locs k q ls hM hl => lv_if_le hx hb hd ht (fun z => hK _ _ _ _ (h1 z) H locs k q ls hM hl) (fun z => hK _ _ _ _ (h2 z) H locs k q ls hM hl)
  case if_icmp cond o =>
    cases cond with
    | eq =>
      obtain ⟨rfl, h_1⟩ := h
      obtain ⟨t, ht, h_2⟩ := se_tg_e h_1
      obtain ⟨y, r_1, rfl, h_3⟩ := sI_e h_2
      obtain ⟨x, r_2, rfl, h1, h2⟩ := sI_e h_3
      exact fun H locs k q ls hM hl => lv_icmp_eq hx hb hd ht (fun z => hK _ _ _ _ (h1 z) H locs k q ls hM hl) (fun z => hK _ _ _ _ (h2 z) H locs k q ls hM hl)
    | ne =>
      obtain ⟨rfl, h_4⟩ := h
      obtain ⟨t, ht, h_5⟩ := se_tg_e h_4
      obtain ⟨y, r_3, rfl, h_6⟩ := sI_e h_5
      obtain ⟨x, r_4, rfl, h1, h2⟩ := sI_e h_6
      exact fun H locs k q ls hM hl => lv_icmp_ne hx hb hd ht (fun z => hK _ _ _ _ (h1 z) H locs k q ls hM hl) (fun z => hK _ _ _ _ (h2 (by first | exact z | exact Classical.not_not.mp z)) H locs k q ls hM hl)
    | lt =>
      obtain ⟨rfl, h_7⟩ := h
      obtain ⟨t, ht, h_8⟩ := se_tg_e h_7
      obtain ⟨y, r_5, rfl, h_9⟩ := sI_e h_8
      obtain ⟨x, r_6, rfl, h1, h2⟩ := sI_e h_9
      exact fun H locs k q ls hM hl => lv_icmp_lt hx hb hd ht (fun z => hK _ _ _ _ (h1 z) H locs k q ls hM hl) (fun z => hK _ _ _ _ (h2 z) H locs k q ls hM hl)
    | ge =>
      obtain ⟨rfl, h_10⟩ := h
      obtain ⟨t, ht, h_11⟩ := se_tg_e h_10
      obtain ⟨y, r_7, rfl, h_12⟩ := sI_e h_11
      obtain ⟨x, r_8, rfl, h1, h2⟩ := sI_e h_12
      exact fun H locs k q ls hM hl => lv_icmp_ge hx hb hd ht (fun z => hK _ _ _ _ (h1 z) H locs k q ls hM hl) (fun z => hK _ _ _ _ (h2 z) H locs k q ls hM hl)
    | gt =>
      obtain ⟨rfl, h_13⟩ := h
      obtain ⟨t, ht, h_14⟩ := se_tg_e h_13
      obtain ⟨y, r_9, rfl, h_15⟩ := sI_e h_14
      obtain ⟨x, r_10, rfl, h1, h2⟩ := sI_e h_15
      exact fun H locs k q ls hM hl => lv_icmp_gt hx hb hd ht (fun z => hK _ _ _ _ (h1 z) H locs k q ls hM hl) (fun z => hK _ _ _ _ (h2 z) H locs k q ls hM hl)
    | le =>
      obtain ⟨rfl, h_16⟩ := h
      obtain ⟨t, ht, h_17⟩ := se_tg_e h_16
      obtain ⟨y, r_11, rfl, h_18⟩ := sI_e h_17
      obtain ⟨x, r_12, rfl, h1, h2⟩ := sI_e h_18
      exact fun H locs k q ls hM hl => lv_icmp_le hx hb hd ht (fun z => hK _ _ _ _ (h1 z) H locs k q ls hM hl) (fun z => hK _ _ _ _ (h2 z) H locs k q ls hM hl)
  case if_acmp cond o =>
    cases cond with
    | eq =>
      obtain ⟨rfl, hj, h_1⟩ := h
      obtain ⟨t, ht, h_2⟩ := se_tg_e h_1
      obtain ⟨y, r_1, rfl, h_3⟩ := sR_e h_2
      obtain ⟨x, r_2, rfl, h1, h2⟩ := sR_e h_3
      have inj : x.map f = y.map f ↔ va_rf x = va_rf y := by
        cases x <;> cases y <;> simp [va_rf]
        exact ⟨fun z => hJ hj _ _ z, fun z => by rw [z]⟩
      intro H locs k q ls hM hl
      show W p l e R s m args below meth c H locs k q _ (F0 m pc ls (se_cv f (va_rf y) :: se_cv f (va_rf x) :: r_2.map (se_cv f)))
      rw [se_map_rf, se_map_rf]
      exact lv_acmp_eq hx hb hd ht (fun z => hK _ _ _ _ (h1 (inj.mp z)) H locs k q ls hM hl) (fun z => hK _ _ _ _ (h2 (fun z2 => z (inj.mpr z2))) H locs k q ls hM hl)
    | ne =>
      obtain ⟨rfl, hj, h_4⟩ := h
      obtain ⟨t, ht, h_5⟩ := se_tg_e h_4
      obtain ⟨y, r_3, rfl, h_6⟩ := sR_e h_5
      obtain ⟨x, r_4, rfl, h1, h2⟩ := sR_e h_6
      have inj : x.map f = y.map f ↔ va_rf x = va_rf y := by
        cases x <;> cases y <;> simp [va_rf]
        exact ⟨fun z => hJ hj _ _ z, fun z => by rw [z]⟩
      intro H locs k q ls hM hl
      show W p l e R s m args below meth c H locs k q _ (F0 m pc ls (se_cv f (va_rf y) :: se_cv f (va_rf x) :: r_4.map (se_cv f)))
      rw [se_map_rf, se_map_rf]
      exact lv_acmp_ne hx hb hd ht (fun z => hK _ _ _ _ (h1 (fun z2 => z (inj.mpr z2))) H locs k q ls hM hl) (fun z => hK _ _ _ _ (h2 (inj.mp (by first | exact z | exact Classical.not_not.mp z))) H locs k q ls hM hl)
  case ifnull o =>
    obtain ⟨rfl, h_1⟩ := h
    obtain ⟨t, ht, h_2⟩ := se_tg_e h_1
    obtain ⟨x, r_1, rfl, h1, h2⟩ := sR_e h_2
    cases x with
    | none => exact fun H locs k q ls hM hl => lv_ifnullN hx hb hd ht (hK _ _ _ _ (h1 rfl) H locs k q ls hM hl)
    | some a => exact fun H locs k q ls hM hl => lv_ifnull hx hb hd (hK _ _ _ _ (h2 (fun z => by cases z)) H locs k q ls hM hl)
  case ifnonnull o =>
    obtain ⟨rfl, h_1⟩ := h
    obtain ⟨t, ht, h_2⟩ := se_tg_e h_1
    obtain ⟨x, r_1, rfl, h1, h2⟩ := sR_e h_2
    cases x with
    | none => exact fun H locs k q ls hM hl => lv_ifnonnullN hx hb hd (hK _ _ _ _ (h2 rfl) H locs k q ls hM hl)
    | some a => exact fun H locs k q ls hM hl => lv_ifnonnull hx hb hd ht (hK _ _ _ _ (h1 (fun z => by cases z)) H locs k q ls hM hl)
  case tableswitch d lo hi offs =>
    obtain ⟨hok, h_1⟩ := h
    obtain ⟨x, r_1, rfl, h_2⟩ := sI_e h_1
    have hok := of_decide_eq_true hok
    obtain ⟨o1, o2, o3⟩ := hok
    rcases se_ts_e _ _ h_2 with ⟨j, o, t, h1, h2, h3, h4⟩ | ⟨h1, t, h3, h4⟩
    · have hj := (List.getElem?_eq_some_iff.mp h1).1
      have hxe : x.toInt = lo + j := by
        rw [h2, Int32.toInt_ofInt_of_le (by omega) (by omega)]
      exact fun H locs k q ls hM hl => lv_tableIn (off := o) hx hb hd (by omega) (by omega) (by rw [hxe, show (lo + (j : Int) - lo).toNat = j by omega, ← Array.getElem?_toList]; exact h1) h3 (hK _ _ _ _ h4 H locs k q ls hM hl)
    · refine fun H locs k q ls hM hl => lv_tableOut hx hb hd ?_ h3 (hK _ _ _ _ h4 H locs k q ls hM hl)
      by_cases a : x.toInt < lo
      · exact Or.inl a
      · by_cases b : hi < x.toInt
        · exact Or.inr b
        · refine absurd ?_ (h1 (x.toInt - lo).toNat (by omega))
          rw [show lo + ((x.toInt - lo).toNat : Int) = x.toInt by omega, Int32.ofInt_toInt]
  case ireturn =>
    obtain ⟨rfl, h_1⟩ := h
    obtain ⟨x, r_1, rfl, h_2⟩ := sI_e h_1
    obtain ⟨rfl, h_3⟩ := sE_e h_2
    obtain ⟨⟨ty, hty, hn⟩, hq⟩ := hR _ _ h_3
    refine fun H locs k q ls hM hl => ?_
    obtain ⟨g1, g2, g3, g4⟩ := hq H locs k q hM
    exact W.widen g3 g4 (vx_ret (W.zret (ty := ty) hx hb (hrt.trans hty) hn g1 g2 hd))
  case lreturn =>
    obtain ⟨rfl, h_1⟩ := h
    obtain ⟨x, r_1, rfl, h_2⟩ := sJ_e h_1
    obtain ⟨rfl, h_3⟩ := sE_e h_2
    obtain ⟨hty, hq⟩ := hR _ _ h_3
    refine fun H locs k q ls hM hl => ?_
    obtain ⟨g1, g2, g3, g4⟩ := hq H locs k q hM
    exact W.widen g3 g4 (vx_ret (W.lret hx hb (hrt.trans hty) g1 g2 hd))
  case areturn =>
    obtain ⟨rfl, h_1⟩ := h
    obtain ⟨x, r_1, rfl, h_2⟩ := sR_e h_1
    obtain ⟨rfl, h_3⟩ := sE_e h_2
    obtain ⟨h0, hq⟩ := hR _ _ h_3
    refine fun H locs k q ls hM hl => ?_
    obtain ⟨g1, g2, g3, g4⟩ := hq H locs k q hM
    cases x with
    | none =>
      obtain ⟨ty, hty, hn⟩ := h0
      exact W.widen g3 g4 (vx_ret (W.aret (v := .null) hx hb (hrt.trans hty) hn (Or.inl rfl) g1 g2 hd))
    | some a =>
      obtain ⟨ty, hty, hn⟩ := h0
      exact W.widen g3 g4 (vx_ret (W.aret (v := .ref (f a)) hx hb (hrt.trans hty) hn (Or.inr ⟨_, rfl⟩) g1 g2 hd))
  case return_ =>
    obtain ⟨rfl, h_1⟩ := h
    obtain ⟨rfl, h_2⟩ := sE_e h_1
    obtain ⟨hty, hq⟩ := hR _ _ h_2
    refine fun H locs k q ls hM hl => ?_
    obtain ⟨g1, g2, g3, g4⟩ := hq H locs k q hM
    exact W.widen g3 g4 (vx_ret (W.vret hx hb (hrt.trans hty) g1 g2 hd))
  case getfield i =>
    obtain ⟨rfl, h_1⟩ := h
    exact hT 0 i _ _ _ _ _ _ hd (fun _ _ z => hK _ _ _ _ z) (fun _ _ z => hX _ _ _ _ z) h_1
  case putfield i =>
    obtain ⟨rfl, h_1⟩ := h
    exact hT 1 i _ _ _ _ _ _ hd (fun _ _ z => hK _ _ _ _ z) (fun _ _ z => hX _ _ _ _ z) h_1
  case getstatic i =>
    obtain ⟨rfl, h_1⟩ := h
    exact hT 2 i _ _ _ _ _ _ hd (fun _ _ z => hK _ _ _ _ z) (fun _ _ z => hX _ _ _ _ z) h_1
  case invokevirtual i =>
    obtain ⟨rfl, h_1⟩ := h
    exact hT 3 i _ _ _ _ _ _ hd (fun _ _ z => hK _ _ _ _ z) (fun _ _ z => hX _ _ _ _ z) h_1
  case invokespecial i =>
    obtain ⟨rfl, h_1⟩ := h
    exact hT 4 i _ _ _ _ _ _ hd (fun _ _ z => hK _ _ _ _ z) (fun _ _ z => hX _ _ _ _ z) h_1
  case invokestatic i =>
    obtain ⟨rfl, h_1⟩ := h
    exact hT 5 i _ _ _ _ _ _ hd (fun _ _ z => hK _ _ _ _ z) (fun _ _ z => hX _ _ _ _ z) h_1
  case new i =>
    obtain ⟨rfl, h_1⟩ := h
    exact hT 6 i _ _ _ _ _ _ hd (fun _ _ z => hK _ _ _ _ z) (fun _ _ z => hX _ _ _ _ z) h_1
  case anewarray i =>
    obtain ⟨rfl, h_1⟩ := h
    exact hT 7 i _ _ _ _ _ _ hd (fun _ _ z => hK _ _ _ _ z) (fun _ _ z => hX _ _ _ _ z) h_1
  case checkcast i =>
    obtain ⟨rfl, h_1⟩ := h
    exact hT 8 i _ _ _ _ _ _ hd (fun _ _ z => hK _ _ _ _ z) (fun _ _ z => hX _ _ _ _ z) h_1
  case ldc i =>
    obtain ⟨rfl, h_1⟩ := h
    exact hT 9 i _ _ _ _ _ _ hd (fun _ _ z => hK _ _ _ _ z) (fun _ _ z => hX _ _ _ _ z) h_1
  case ldc_w i =>
    obtain ⟨rfl, h_1⟩ := h
    exact hT 10 i _ _ _ _ _ _ hd (fun _ _ z => hK _ _ _ _ z) (fun _ _ z => hX _ _ _ _ z) h_1
  case ldc2_w i =>
    obtain ⟨rfl, h_1⟩ := h
    exact hT 11 i _ _ _ _ _ _ hd (fun _ _ z => hK _ _ _ _ z) (fun _ _ z => hX _ _ _ _ z) h_1
  case newarray t =>
    cases t with
    | int =>
      obtain ⟨rfl, h_1⟩ := h
      exact hT 12 0 _ _ _ _ _ _ hd (fun _ _ z => hK _ _ _ _ z) (fun _ _ z => hX _ _ _ _ z) h_1
    | boolean =>
      obtain ⟨rfl, h_2⟩ := h
      exact hT 12 1 _ _ _ _ _ _ hd (fun _ _ z => hK _ _ _ _ z) (fun _ _ z => hX _ _ _ _ z) h_2
    | byte =>
      obtain ⟨rfl, h_3⟩ := h
      exact hT 12 2 _ _ _ _ _ _ hd (fun _ _ z => hK _ _ _ _ z) (fun _ _ z => hX _ _ _ _ z) h_3
    | long =>
      obtain ⟨rfl, h_4⟩ := h
      exact hT 12 3 _ _ _ _ _ _ hd (fun _ _ z => hK _ _ _ _ z) (fun _ _ z => hX _ _ _ _ z) h_4
    | _ =>
      exact False.elim h
  case iaload =>
    obtain ⟨rfl, h_1⟩ := h
    exact hT 13 0 _ _ _ _ _ _ hd (fun _ _ z => hK _ _ _ _ z) (fun _ _ z => hX _ _ _ _ z) h_1
  case iastore =>
    obtain ⟨rfl, h_1⟩ := h
    exact hT 14 0 _ _ _ _ _ _ hd (fun _ _ z => hK _ _ _ _ z) (fun _ _ z => hX _ _ _ _ z) h_1
  case baload =>
    obtain ⟨rfl, h_1⟩ := h
    exact hT 15 0 _ _ _ _ _ _ hd (fun _ _ z => hK _ _ _ _ z) (fun _ _ z => hX _ _ _ _ z) h_1
  case bastore =>
    obtain ⟨rfl, h_1⟩ := h
    exact hT 16 0 _ _ _ _ _ _ hd (fun _ _ z => hK _ _ _ _ z) (fun _ _ z => hX _ _ _ _ z) h_1
  case laload =>
    obtain ⟨rfl, h_1⟩ := h
    exact hT 17 0 _ _ _ _ _ _ hd (fun _ _ z => hK _ _ _ _ z) (fun _ _ z => hX _ _ _ _ z) h_1
  case lastore =>
    obtain ⟨rfl, h_1⟩ := h
    exact hT 18 0 _ _ _ _ _ _ hd (fun _ _ z => hK _ _ _ _ z) (fun _ _ z => hX _ _ _ _ z) h_1
  case aaload =>
    obtain ⟨rfl, h_1⟩ := h
    exact hT 19 0 _ _ _ _ _ _ hd (fun _ _ z => hK _ _ _ _ z) (fun _ _ z => hX _ _ _ _ z) h_1
  case aastore =>
    obtain ⟨rfl, h_1⟩ := h
    exact hT 20 0 _ _ _ _ _ _ hd (fun _ _ z => hK _ _ _ _ z) (fun _ _ z => hX _ _ _ _ z) h_1
  case arraylength =>
    obtain ⟨rfl, h_1⟩ := h
    exact hT 21 0 _ _ _ _ _ _ hd (fun _ _ z => hK _ _ _ _ z) (fun _ _ z => hX _ _ _ _ z) h_1
  case athrow =>
    obtain ⟨rfl, h_1⟩ := h
    exact hT 22 0 _ _ _ _ _ _ hd (fun _ _ z => hK _ _ _ _ z) (fun _ _ z => hX _ _ _ _ z) h_1
  all_goals exact False.elim h
/-- a whole run -/
theorem wpN_ok {J : Prop} {T : Nat → Nat → se_Op μ} (C : se_Cx p s m args meth c cc nL own ret) (hJ : J → ∀ a b, f a = f b → a = b)
    (hT : ∀ k i, se_Snd p l e R s m args below meth c (vx_MQ below Qc XC args s mc ms free) nL f RM cc (se_ins k i).1 (se_ins k i).2 (T k i))
    {X : Nat → se_L → Nat → μ → Prop} {Rt : Option Value → μ → Prop}
    (hX : ∀ pc' L' a w', X pc' L' a w' → se_X p l e R s m args below meth c (vx_MQ below Qc XC args s mc ms free) nL f RM pc' L' a w')
    (hR : ∀ v w', Rt v w' → se_nr ret v ∧ ∀ (H : Heap) (locs : List Loc) (k q : Nat), RM w' H locs k q → (∀ t : State, t.heap = H → s.WarmedH t.vm → Qc args s (.returned (v.map (se_cv f))) t) ∧ (∀ z ∈ locs, free z.base) ∧ k ≤ mc ∧ q ≤ ms)
    (stops : List Nat) : ∀ (n pc : Nat) (L : se_L) (st : List Value) (w : μ), wpN J T cc stops (se_G p l e R s m args below meth c (vx_MQ below Qc XC args s mc ms free) nL f RM) X Rt n pc L st w → se_G p l e R s m args below meth c (vx_MQ below Qc XC args s mc ms free) nL f RM pc L st w := by
  intro n
  induction n with
  | zero => intro pc L st w h; exact h
  | succ n ih =>
    intro pc L st w h
    rw [wpN, wD] at h
    cases hd : decode cc pc with
    | error z => rw [hd] at h; exact h.elim
    | ok r =>
      obtain ⟨ins, len⟩ := r
      rw [hd] at h
      refine wI_ok C hJ hT hd (fun pc' L' st' w' hk => ?_) hX hR h
      rcases se_sp_e hk with hk | hk
      · exact hk
      · exact ih _ _ _ _ hk
end
