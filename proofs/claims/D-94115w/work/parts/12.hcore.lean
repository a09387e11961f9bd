/-! CORE 5: the heap as a memory -/
def hCl : List vw_C := [(RX0, TX0, 13), (RX1, TX1, 14), (RX5, TX5, 10), (RX14, TX14, 3), (RX26, TX26, 3), (RX15, TX15, 3), (RX12, TX12, 1), (RX20, TX20, 5), (RX19, TX19, 13), (RX25, TX25, 2), (RX16, TX16, 3), (RX23, TX23, 5), (RX24, TX24, 11), (RX11, TX11, 1), (RX13, TX13, 1), (RX18, TX18, 3), (RX17, TX17, 4), (RX7, TX7, 2), (RX9, TX9, 2), (RX21, TX21, 11), (RX22, TX22, 8), (RX8, TX8, 4), (RX6, TX6, 8), (RJ2, TJ2, 3), (RJ15, TJ15, 1)]
def hTyF : List (Nat → FieldType) := [tyX0, tyX1, tyX5, tyX14, tyX26, tyX15, tyX12, tyX20, tyX19, tyX25, tyX16, tyX23, tyX24, tyX11, tyX13, tyX18, tyX17, tyX7, tyX9, tyX21, tyX22, tyX8, tyX6, tyJ2, tyJ15]
/-- what is known of a class by its table -/
def hInf (r : vw_C) (ty : Nat → FieldType) : Prop := (∀ w ∈ u_ws r.1 r.2.1 r.2.2, w ∈ lw_all) ∧ (∀ k, k < r.2.2 → parseFieldDescriptor (r.2.1 k).2.2.1 = some (ty k)) ∧ (∀ a, a < r.2.2 → ∀ b, b < r.2.2 → a ≠ b → (r.2.1 a).2.1 ≠ (r.2.1 b).2.1)
theorem hInf_0 : hInf (RX0, TX0, 13) tyX0 := ⟨in_X0, tyX0_ok, nmX0⟩
theorem hInf_1 : hInf (RX1, TX1, 14) tyX1 := ⟨in_X1, tyX1_ok, nmX1⟩
theorem hInf_2 : hInf (RX5, TX5, 10) tyX5 := ⟨in_X5, tyX5_ok, nmX5⟩
theorem hInf_3 : hInf (RX14, TX14, 3) tyX14 := ⟨in_X14, tyX14_ok, nmX14⟩
theorem hInf_4 : hInf (RX26, TX26, 3) tyX26 := ⟨in_X26, tyX26_ok, nmX26⟩
theorem hInf_5 : hInf (RX15, TX15, 3) tyX15 := ⟨in_X15, tyX15_ok, nmX15⟩
theorem hInf_6 : hInf (RX12, TX12, 1) tyX12 := ⟨in_X12, tyX12_ok, nmX12⟩
theorem hInf_7 : hInf (RX20, TX20, 5) tyX20 := ⟨in_X20, tyX20_ok, nmX20⟩
theorem hInf_8 : hInf (RX19, TX19, 13) tyX19 := ⟨in_X19, tyX19_ok, nmX19⟩
theorem hInf_9 : hInf (RX25, TX25, 2) tyX25 := ⟨in_X25, tyX25_ok, nmX25⟩
theorem hInf_10 : hInf (RX16, TX16, 3) tyX16 := ⟨in_X16, tyX16_ok, nmX16⟩
theorem hInf_11 : hInf (RX23, TX23, 5) tyX23 := ⟨in_X23, tyX23_ok, nmX23⟩
theorem hInf_12 : hInf (RX24, TX24, 11) tyX24 := ⟨in_X24, tyX24_ok, nmX24⟩
theorem hInf_13 : hInf (RX11, TX11, 1) tyX11 := ⟨in_X11, tyX11_ok, nmX11⟩
theorem hInf_14 : hInf (RX13, TX13, 1) tyX13 := ⟨in_X13, tyX13_ok, nmX13⟩
theorem hInf_15 : hInf (RX18, TX18, 3) tyX18 := ⟨in_X18, tyX18_ok, nmX18⟩
theorem hInf_16 : hInf (RX17, TX17, 4) tyX17 := ⟨in_X17, tyX17_ok, nmX17⟩
theorem hInf_17 : hInf (RX7, TX7, 2) tyX7 := ⟨in_X7, tyX7_ok, nmX7⟩
theorem hInf_18 : hInf (RX9, TX9, 2) tyX9 := ⟨in_X9, tyX9_ok, nmX9⟩
theorem hInf_19 : hInf (RX21, TX21, 11) tyX21 := ⟨in_X21, tyX21_ok, nmX21⟩
theorem hInf_20 : hInf (RX22, TX22, 8) tyX22 := ⟨in_X22, tyX22_ok, nmX22⟩
theorem hInf_21 : hInf (RX8, TX8, 4) tyX8 := ⟨in_X8, tyX8_ok, nmX8⟩
theorem hInf_22 : hInf (RX6, TX6, 8) tyX6 := ⟨in_X6, tyX6_ok, nmX6⟩
theorem hInf_23 : hInf (RJ2, TJ2, 3) tyJ2 := ⟨in_J2, tyJ2_ok, nmJ2⟩
theorem hInf_24 : hInf (RJ15, TJ15, 1) tyJ15 := ⟨in_J15, tyJ15_ok, nmJ15⟩
theorem hInf_all : ∀ (c : Nat) (r : vw_C) (ty : Nat → FieldType), hCl[c]? = some r → hTyF[c]? = some ty → hInf r ty := by
  intro c r ty h1 h2
  match c, h1, h2 with
  | 0, h1, h2 => cases h1; cases h2; exact hInf_0
  | 1, h1, h2 => cases h1; cases h2; exact hInf_1
  | 2, h1, h2 => cases h1; cases h2; exact hInf_2
  | 3, h1, h2 => cases h1; cases h2; exact hInf_3
  | 4, h1, h2 => cases h1; cases h2; exact hInf_4
  | 5, h1, h2 => cases h1; cases h2; exact hInf_5
  | 6, h1, h2 => cases h1; cases h2; exact hInf_6
  | 7, h1, h2 => cases h1; cases h2; exact hInf_7
  | 8, h1, h2 => cases h1; cases h2; exact hInf_8
  | 9, h1, h2 => cases h1; cases h2; exact hInf_9
  | 10, h1, h2 => cases h1; cases h2; exact hInf_10
  | 11, h1, h2 => cases h1; cases h2; exact hInf_11
  | 12, h1, h2 => cases h1; cases h2; exact hInf_12
  | 13, h1, h2 => cases h1; cases h2; exact hInf_13
  | 14, h1, h2 => cases h1; cases h2; exact hInf_14
  | 15, h1, h2 => cases h1; cases h2; exact hInf_15
  | 16, h1, h2 => cases h1; cases h2; exact hInf_16
  | 17, h1, h2 => cases h1; cases h2; exact hInf_17
  | 18, h1, h2 => cases h1; cases h2; exact hInf_18
  | 19, h1, h2 => cases h1; cases h2; exact hInf_19
  | 20, h1, h2 => cases h1; cases h2; exact hInf_20
  | 21, h1, h2 => cases h1; cases h2; exact hInf_21
  | 22, h1, h2 => cases h1; cases h2; exact hInf_22
  | 23, h1, h2 => cases h1; cases h2; exact hInf_23
  | 24, h1, h2 => cases h1; cases h2; exact hInf_24
  | n + 25, h1, _ => simp [hCl] at h1
def hTy : List FieldType := [.int, .boolean, .byte, .long, .object "java/lang/Object", .object "StarEye$Place", .object "StarEye$Seen", .object "StarEye$Box"]
abbrev hO : Type := (Nat × (Nat → Value)) ⊕ (Nat × vp_A)
abbrev hH : Type := Nat → Option hO
/-- heap, the next address, cells, slots -/
abbrev hW : Type := hH × Nat × Nat × Nat
/-- classes, slots of fields, array classes, what may be written, the low heap, statics, boxes, texts, their bytes, static arrays -/
abbrev hG : Type := (Nat → ClassId) × (Nat → Nat → Nat) × (Nat → ClassId) × (Nat → Prop) × Heap × (Nat → Value) × (Nat → Nat) × (Nat → Nat) × (Nat → Nat) × (Nat → Nat)
def gC (g : hG) : Nat → ClassId := g.1
def gI_ (g : hG) : Nat → Nat → Nat := g.2.1
def gA_ (g : hG) : Nat → ClassId := g.2.2.1
def gW (g : hG) : Nat → Prop := g.2.2.2.1
def gH (g : hG) : Heap := g.2.2.2.2.1
def gV (g : hG) : Nat → Value := g.2.2.2.2.2.1
def gBx (g : hG) : Nat → Nat := g.2.2.2.2.2.2.1
def gTx (g : hG) : Nat → Nat := g.2.2.2.2.2.2.2.1
def gTb (g : hG) : Nat → Nat := g.2.2.2.2.2.2.2.2.1
def gSa (g : hG) : Nat → Nat := g.2.2.2.2.2.2.2.2.2
/-- an object or array of the abstract heap stands in the heap -/
def hAt (g : hG) (a : Nat) (ob : hO) (H : Heap) : Prop := match ob with
  | .inl o => ∃ r : vw_C, hCl[o.1]? = some r ∧ (∃ cell : Cell, H[a]? = some cell ∧ cell.monitor = {}) ∧ t_OB a (gC g o.1) r.2.2 (gI_ g o.1) H o.2
  | .inr o => o.1 < 8 ∧ H[a]? = some (vp_cell (gA_ g o.1) o.2)
theorem hAt.kept {g : hG} {a : Nat} {ob : hO} {H H1 : Heap} (h : hAt g a ob H) (hq : H1[a]? = H[a]?) : hAt g a ob H1 := by
  rcases ob with o | o
  · obtain ⟨r, h1, hmn, h2⟩ := h
    exact ⟨r, h1, by rw [hq]; exact hmn, h2.kept hq⟩
  · exact ⟨h.1, hq.trans h.2⟩
theorem hAt.lt {g : hG} {a : Nat} {ob : hO} {H : Heap} (h : hAt g a ob H) : a < H.size := by
  rcases ob with o | o
  · obtain ⟨r, h1, -, cell, h2, -⟩ := h
    exact (Array.getElem?_eq_some_iff.mp h2).1
  · exact (Array.getElem?_eq_some_iff.mp h.2).1
/-- the heap is as the abstract one tells -/
def hRep (g : hG) (h : hH) (n : Nat) (H : Heap) : Prop := n = H.size ∧ (∀ (a : Nat) (ob : hO), h a = some ob → gW g a ∧ hAt g a ob H) ∧ (gH g).size ≤ H.size ∧ (∀ a : Nat, a < (gH g).size → ¬ gW g a → H[a]? = (gH g)[a]?) ∧ ∀ a : Nat, H.size ≤ a → gW g a
def hRM (g : hG) (H0 : Heap) (w : hW) (H : Heap) (locs : List Loc) (k q : Nat) : Prop := k = w.2.2.1 ∧ q = w.2.2.2 ∧ hRep g w.1 w.2.1 H ∧ H0.size ≤ H.size ∧ (∀ a : Nat, a < H0.size → ¬ gW g a → H[a]? = H0[a]?) ∧ ∀ z ∈ locs, gW g z.base
/-- an address gets a new content -/
def hU (h : hH) (a : Nat) (ob : hO) : hH := fun b => if b = a then some ob else h b
theorem hU_s {h : hH} {a : Nat} {ob : hO} : hU h a ob a = some ob := if_pos rfl
theorem hU_n {h : hH} {a b : Nat} {ob : hO} (e : b ≠ a) : hU h a ob b = h b := if_neg e
/-- words of the tables that ride along by themselves -/
def hTabW (w : Cond) : Bool := match w with
  | .fieldLinkNest _ _ _ _ _ _ => true
  | .methodLinkNest _ _ _ _ => true
  | .castable _ _ => true
  | .declares _ => true
  | _ => false
def hAO : List String := ["StarEye$Place", "StarEye$Seen", "StarEye$Box", "java/lang/Object"]
/-- what is known of the classes and tables in a state -/
def hGl (g : hG) (U : State) : Prop := (∀ (c : Nat) (r : vw_C), hCl[c]? = some r → u_Kn U r.1 r.2.1 r.2.2 (gC g c) (gI_ g c)) ∧ (∀ (t : Nat) (ty : FieldType), hTy[t]? = some ty → ArrOfT U (gA_ g t) ty ∧ va_RA U (gA_ g t) ty) ∧
  (∀ w ∈ lw_tbl, hTabW w = true → va_Nw w U) ∧ (∀ C ∈ hAO, va_AO C U) ∧ va_Mi "[Ljava/lang/Object;" (gSa g 5) U ∧ va_Dc U ∧ vx_Zq Bundle.tN "UNASSIGNED_STACK" Bundle.steD (gW g) U (gH g) ∧ vx_Zq Bundle.tN "SUPPRESSED_SENTINEL" Bundle.listD (gW g) U (gH g)
theorem hGl.moved {g : hG} {s U : State} (hW : s.WarmedH U.vm) (h : hGl g s) : hGl g U := by
  refine ⟨fun c r hc => u_Kn_moved hW.alike (h.1 c r hc), fun t ty ht => ⟨arrOfT_moved hW.alike (h.2.1 t ty ht).1, (h.2.1 t ty ht).2.moved hW.alike⟩, fun w hw ht => ?_, fun C hC => (h.2.2.2.1 C hC).moved hW.alike, h.2.2.2.2.1.moved hW.alike, h.2.2.2.2.2.1.moved hW.alike, vx_Zq.moved hW.alike h.2.2.2.2.2.2.1, vx_Zq.moved hW.alike h.2.2.2.2.2.2.2⟩
  have h1 := h.2.2.1 w hw ht
  cases w <;> first | exact va_Nw.warmF hW h1 | exact va_Nw.warmM hW h1 | exact va_Nw.warmC hW h1 | exact va_Nw.warmD hW h1 | (simp [hTabW] at ht; done)
theorem hGl.same {g : hG} {s U : State} (hv : s.vm = U.vm) (h : hGl g s) : hGl g U := by
  have hal : s.vm.Alike U.vm := by rw [hv]; exact Vm.Alike.refl _
  refine ⟨fun c r hc => u_Kn_moved hal (h.1 c r hc), fun t ty ht => ⟨arrOfT_moved hal (h.2.1 t ty ht).1, (h.2.1 t ty ht).2.moved hal⟩, fun w hw ht => ?_, fun C hC => (h.2.2.2.1 C hC).moved hal, h.2.2.2.2.1.moved hal, h.2.2.2.2.2.1.moved hal, vx_Zq.moved hal h.2.2.2.2.2.2.1, vx_Zq.moved hal h.2.2.2.2.2.2.2⟩
  have h1 := h.2.2.1 w hw ht
  cases w <;> first | (simp [hTabW] at ht; done) | exact va_Nw.same rfl hv h1
/-! operations -/
/-- the field's number by the class's -/
def hfl : List (Nat × Nat) → Nat → Option Nat
  | [], _ => none
  | x :: l, c => if x.1 = c then some x.2 else hfl l c
/-- reading a field of an object at a -/
def hGet (F : List (Nat × Nat)) : se_Op hW := fun st w K _ => match st with
  | .ref a :: r => (match w.1 a with
    | some (.inl o) => (match hfl F o.1 with
      | some k => K (o.2 k :: r) w
      | none => False)
    | _ => False)
  | _ => False
/-- a value of a kind: 0 int, 1 boolean, 2 long, 3 a reference -/
def hVk (t : Nat) (v : Value) : Prop := match v with
  | .int x => t = 0 ∨ (t = 1 ∧ (x = 0 ∨ x = 1))
  | .long _ => t = 2
  | .ref _ => t = 3
  | .null => t = 3
  | _ => False
def hPut (F : List (Nat × Nat)) (t : Nat) : se_Op hW := fun st w K _ => match st with
  | v :: .ref a :: r => (match w.1 a with
    | some (.inl o) => (match hfl F o.1 with
      | some k => hVk t v ∧ K r (hU w.1 a (.inl (o.1, updV o.2 k v)), w.2)
      | none => False)
    | _ => False)
  | _ => False
def hIald : se_Op hW := fun st w K _ => match st with
  | .int i :: .ref a :: r => (match w.1 a with
    | some (.inr (0, (n, .inl f))) => vp_in i n ∧ K (.int (f i.toNatClampNeg) :: r) w
    | _ => False)
  | _ => False
def hBald : se_Op hW := fun st w K _ => match st with
  | .int i :: .ref a :: r => (match w.1 a with
    | some (.inr (1, (n, .inl f))) => vp_in i n ∧ K (.int (f i.toNatClampNeg) :: r) w
    | some (.inr (2, (n, .inl f))) => vp_in i n ∧ K (.int (f i.toNatClampNeg) :: r) w
    | _ => False)
  | _ => False
def hLald : se_Op hW := fun st w K _ => match st with
  | .int i :: .ref a :: r => (match w.1 a with
    | some (.inr (3, (n, .inr (.inl f)))) => vp_in i n ∧ K (.long (f i.toNatClampNeg) :: r) w
    | _ => False)
  | _ => False
def hAald : se_Op hW := fun st w K _ => match st with
  | .int i :: .ref a :: r => (match w.1 a with
    | some (.inr (t, (n, .inr (.inr (.inr (.inr f)))))) => 4 ≤ t ∧ vp_in i n ∧ K (va_rf (f i.toNatClampNeg) :: r) w
    | _ => False)
  | _ => False
def hIast : se_Op hW := fun st w K _ => match st with
  | .int x :: .int i :: .ref a :: r => (match w.1 a with
    | some (.inr (0, (n, .inl f))) => vp_in i n ∧ K r (hU w.1 a (.inr (0, (n, .inl (upd f i.toNatClampNeg x)))), w.2)
    | _ => False)
  | _ => False
def hBast : se_Op hW := fun st w K _ => match st with
  | .int x :: .int i :: .ref a :: r => (match w.1 a with
    | some (.inr (1, (n, .inl f))) => (x = 0 ∨ x = 1) ∧ vp_in i n ∧ K r (hU w.1 a (.inr (1, (n, .inl (upd f i.toNatClampNeg x)))), w.2)
    | some (.inr (2, (n, .inl f))) => vp_in i n ∧ K r (hU w.1 a (.inr (2, (n, .inl (upd f i.toNatClampNeg x.toInt8.toInt32)))), w.2)
    | _ => False)
  | _ => False
def hLast : se_Op hW := fun st w K _ => match st with
  | .long x :: .int i :: .ref a :: r => (match w.1 a with
    | some (.inr (3, (n, .inr (.inl f)))) => vp_in i n ∧ K r (hU w.1 a (.inr (3, (n, .inr (.inl (vp_updL f i.toNatClampNeg x))))), w.2)
    | _ => False)
  | _ => False
/-- what an array of references takes: 5 Place, 6 Seen, 7 Box by their classes' numbers, 4 any object of a class that is castable to Object -/
def hTk (t c : Nat) : Prop := (t = 5 ∧ c = 17) ∨ (t = 6 ∧ c = 20) ∨ (t = 7 ∧ c = 4)
def hAast : se_Op hW := fun st w K _ => match st with
  | .null :: .int i :: .ref a :: r => (match w.1 a with
    | some (.inr (t, (n, .inr (.inr (.inr (.inr f)))))) => 4 ≤ t ∧ vp_in i n ∧ K r (hU w.1 a (.inr (t, (n, .inr (.inr (.inr (.inr (va_up f i.toNatClampNeg none))))))), w.2)
    | _ => False)
  | .ref b :: .int i :: .ref a :: r => (match w.1 a with
    | some (.inr (t, (n, .inr (.inr (.inr (.inr f)))))) => (match w.1 b with
      | some (.inl o) => hTk t o.1 ∧ vp_in i n ∧ K r (hU w.1 a (.inr (t, (n, .inr (.inr (.inr (.inr (va_up f i.toNatClampNeg (some b)))))))), w.2)
      | _ => False)
    | _ => False)
  | _ => False
def hAlen : se_Op hW := fun st w K _ => match st with
  | .ref a :: r => (match w.1 a with
    | some (.inr o) => K (.int (Int32.ofNat o.2.1) :: r) w
    | _ => False)
  | _ => False
/-- a new object of class c with N slots: its fields by default -/
def hNew (mc ms c N : Nat) (d : Nat → Value) : se_Op hW := fun st w K _ => w.2.2.1 + 1 ≤ mc ∧ w.2.2.2 + N ≤ ms ∧ K (.ref w.2.1 :: st) (hU w.1 w.2.1 (.inl (c, d)), w.2.1 + 1, w.2.2.1 + 1, w.2.2.2 + N)
/-- a new array of t: 0 ints, 1 booleans, 2 bytes, 3 longs, else references -/
def hZero (t n : Nat) : vp_A := match t with
  | 0 => (n, .inl fun _ => 0)
  | 1 => (n, .inl fun _ => 0)
  | 2 => (n, .inl fun _ => 0)
  | 3 => (n, .inr (.inl fun _ => 0))
  | _ => (n, .inr (.inr (.inr (.inr fun _ => none))))
def hNewA (mc ms t : Nat) : se_Op hW := fun st w K _ => match st with
  | .int x :: r => ¬ x < 0 ∧ x.toNatClampNeg ≤ 65536 ∧ w.2.2.1 + 1 ≤ mc ∧ w.2.2.2 + x.toNatClampNeg ≤ ms ∧ K (.ref w.2.1 :: r) (hU w.1 w.2.1 (.inr (t, hZero t x.toNatClampNeg)), w.2.1 + 1, w.2.2.1 + 1, w.2.2.2 + x.toNatClampNeg)
  | _ => False
/-- checkcast: null, or an object of one of the classes -/
def hCast (cs : List Nat) : se_Op hW := fun st w K _ => match st with
  | .null :: r => K (.null :: r) w
  | .ref a :: r => (match w.1 a with
    | some (.inl o) => o.1 ∈ cs ∧ K (.ref a :: r) w
    | _ => False)
  | _ => False
def hThrow : se_Op hW := fun st w _ X => match st with
  | .ref a :: _ => (match w.1 a with
    | some (.inl o) => o.1 = 22 ∧ X a w
    | _ => False)
  | _ => False
theorem se_cv_id (v : Value) : se_cv (fun a => a) v = v := by cases v <;> rfl
theorem se_map_id (st : List Value) : st.map (se_cv (fun a => a)) = st := by
  induction st with
  | nil => rfl
  | cons v r ih => rw [List.map_cons, se_cv_id, ih]
def hRoom (fr lo mc ms : Nat) : Room := { frames := fr, cells := mc, slots := ms, locals := lo }
theorem hfl_mem : ∀ {F : List (Nat × Nat)} {c k : Nat}, hfl F c = some k → (c, k) ∈ F := by
  intro F
  induction F with
  | nil => intro c k h; cases h
  | cons x l ih =>
    intro c k h
    rw [hfl] at h
    split at h
    · rename_i e
      cases h
      rw [← e]
      exact List.mem_cons_self
    · exact List.mem_cons_of_mem _ (ih h)
/-- the link of a field's entry, for the class and field numbers x -/
def hLk (own : String) (idx : Nat) (x : Nat × Nat) : Prop := ∃ (r : vw_C) (ref : String), hCl[x.1]? = some r ∧ x.2 < r.2.2 ∧ (Cond.fieldLink own idx ref (r.2.1 x.2).2.1 (r.2.1 x.2).2.2.1 ∈ lw_all ∨ ∃ host, Cond.fieldLinkNest own idx ref (r.2.1 x.2).2.1 (r.2.1 x.2).2.2.1 host ∈ lw_tbl) ∧ (ref = (r.2.1 x.2).1 ∨ Cond.sameField ref (r.2.1 x.2).1 (r.2.1 x.2).2.1 (r.2.1 x.2).2.2.1 ∈ lw_all)
def hTyk (ty : FieldType) (t : Nat) : Prop := match ty with
  | .int => t = 0
  | .boolean => t = 1
  | .long => t = 2
  | .object _ => t = 3
  | .array _ => t = 3
  | _ => False
theorem hVk_ok {ty : FieldType} {t : Nat} {v : Value} (h1 : hTyk ty t) (h2 : hVk t v) : narrow ty v = v ∧ fits ty v = true := by
  cases ty <;> simp only [hTyk] at h1 <;> subst h1 <;> cases v <;> simp only [hVk] at h2 <;> first
    | exact h2.elim
    | exact ⟨rfl, rfl⟩
    | (rcases h2 with h2 | ⟨h2, h3⟩
       · exact absurd h2 (by decide)
       · exact ⟨nar_z h3, by rcases h3 with rfl | rfl <;> rfl⟩)
    | (rcases h2 with h2 | ⟨h2, h3⟩ <;> exact absurd h2 (by decide))
    | exact absurd h2 (by decide)
section
variable {p : Program} {l : Launch} {e : Env} {R : Room} {s : State} {m : MethodId} {args : Array Value} {below : List Frame} {meth : Method} {c : Code} {nL : Nat} {cc : ByteArray} {ret : Option FieldType} {Q : State → Prop} {g : hG} {H0 : Heap} {idx k q a i : Nat} {own : String} {F : List (Nat × Nat)} {w : hW} {H H' : Heap} {locs : List Loc} {ob ob0 : hO}
theorem hRM_set (hM : hRM g H0 w H locs k q) (ha : w.1 a = some ob0) (f2 : H'.size = H.size) (f3 : ∀ b : Nat, b ≠ a → H'[b]? = H[b]?) (hob : hAt g a ob H') : hRM g H0 (hU w.1 a ob, w.2) H' (locs ++ [⟨a, i⟩]) k q := by
  obtain ⟨e1, e2, ⟨r1, r2, r3, r4, r5⟩, e4, e5, e6⟩ := hM
  have hw := (r2 a ob0 ha).1
  refine ⟨e1, e2, ⟨r1.trans f2.symm, fun b ob' hb => ?_, by rw [f2]; exact r3, fun b hb hn => ?_, fun b hb => r5 b (by rw [← f2]; exact hb)⟩, by rw [f2]; exact e4, fun b hb hn => ?_, fun z hz => ?_⟩
  · dsimp only at hb
    by_cases e : b = a
    · subst e
      rw [hU_s] at hb
      cases hb
      exact ⟨hw, hob⟩
    · rw [hU_n e] at hb
      exact ⟨(r2 b ob' hb).1, (r2 b ob' hb).2.kept (f3 b e)⟩
  · rw [f3 b (fun e => hn (e ▸ hw))]
    exact r4 b hb hn
  · rw [f3 b (fun e => hn (e ▸ hw))]
    exact e5 b hb hn
  · rcases List.mem_append.mp hz with h | h
    · exact e6 z h
    · rw [List.mem_singleton.mp h]
      exact hw
theorem hRM_new {N : Nat} (hM : hRM g H0 w H locs k q) (z1 : H'.size = H.size + 1) (o1 : ∀ b : Nat, b < H.size → H'[b]? = H[b]?) (hob : hAt g H.size ob H') : hRM g H0 (hU w.1 w.2.1 ob, w.2.1 + 1, w.2.2.1 + 1, w.2.2.2 + N) H' locs (k + 1) (q + N) := by
  obtain ⟨e1, e2, ⟨r1, r2, r3, r4, r5⟩, e4, e5, e6⟩ := hM
  refine ⟨by rw [e1], by rw [e2], ⟨by rw [z1, ← r1], fun b ob' hb => ?_, by omega, fun b hb hn => ?_, fun b hb => r5 b (by omega)⟩, by omega, fun b hb hn => ?_, e6⟩
  · dsimp only at hb
    by_cases e : b = w.2.1
    · subst e
      rw [hU_s] at hb
      cases hb
      rw [r1]
      exact ⟨r5 _ (Nat.le_refl _), hob⟩
    · rw [hU_n e] at hb
      exact ⟨(r2 b ob' hb).1, (r2 b ob' hb).2.kept (o1 b (r2 b ob' hb).2.lt)⟩
  · rw [o1 b (by omega)]
    exact r4 b hb hn
  · rw [o1 b (by omega)]
    exact e5 b hb hn
theorem hGet_e {st : List Value} {K : List Value → hW → Prop} {X : Nat → hW → Prop} (h : hGet F st w K X) : ∃ a r o k, st = .ref a :: r ∧ w.1 a = some (.inl o) ∧ (o.1, k) ∈ F ∧ K (o.2 k :: r) w := by
  unfold hGet at h
  split at h
  · rename_i a r
    split at h
    · rename_i o ho
      split at h
      · rename_i k hk
        exact ⟨a, r, o, k, rfl, ho, hfl_mem hk, h⟩
      · exact h.elim
    · exact h.elim
  · exact h.elim
theorem hPut_e {t : Nat} {st : List Value} {K : List Value → hW → Prop} {X : Nat → hW → Prop} (h : hPut F t st w K X) : ∃ v a r o k, st = v :: .ref a :: r ∧ w.1 a = some (.inl o) ∧ (o.1, k) ∈ F ∧ hVk t v ∧ K r (hU w.1 a (.inl (o.1, updV o.2 k v)), w.2) := by
  unfold hPut at h
  split at h
  · rename_i v a r
    split at h
    · rename_i o ho
      split at h
      · rename_i k hk
        exact ⟨v, a, r, o, k, rfl, ho, hfl_mem hk, h⟩
      · exact h.elim
    · exact h.elim
  · exact h.elim
theorem hGet_ok (hF : ∀ x ∈ F, hLk own idx x) (C : se_Cx p s m args meth c cc nL own ret) (hG : hGl g s) : se_Snd p l e R s m args below meth c Q nL (fun a => a) (hRM g H0) cc (.getfield idx) 3 (hGet F) := by
  intro pc L st w K X hd hK hX h
  obtain ⟨a, r, o, k, rfl, ho, hm, h1⟩ := hGet_e h
  intro H locs kc q ls hM hl'
  obtain ⟨⟨hx, hb, hml, hown, hts⟩, hlk, hrt⟩ := C
  obtain ⟨-, r', hr', hmn, cell, q1, q2, q3, q4⟩ := hM.2.2.1.2.1 a _ ho
  obtain ⟨r0, ref, g1, g2, g3, g4⟩ := hF _ hm
  have hr0 : r0 = r' := Option.some.inj (g1.symm.trans hr')
  subst hr0
  obtain ⟨ty, hty⟩ : ∃ ty, hTyF[o.1]? = some ty := by
    have : o.1 < hTyF.length := (List.getElem?_eq_some_iff.mp g1).1
    exact ⟨_, List.getElem?_eq_getElem this⟩
  obtain ⟨hin, htyk, hnm⟩ := hInf_all _ _ _ g1 hty
  obtain ⟨hS, hfc, kC, hkC, hkind⟩ := hG.1 o.1 r0 g1
  obtain ⟨cf, kf, fi, f', hi, hsl⟩ := hS k g2
  have hst := (u_facts hfc hkC (u_lays hts hin g2) hi).1
  have hi2 : s.fieldFound? ref (r0.2.1 k).2.1 (r0.2.1 k).2.2.1 = some (cf, kf, fi, f') := by
    rcases g4 with g4 | g4
    · rw [g4]; exact hi
    · exact u_same (hts _ g4) _ hi
  have hv : cell.slots[f'.slot]? = some (o.2 k) := by rw [hsl]; exact q4 k g2
  have kk := hK _ _ h1 H locs kc q ls hM hl'
  rw [se_map_id] at kk ⊢
  rcases g3 with g3 | ⟨host, g3⟩
  · exact W.getf hx hb hown (hts _ g3) hi2 hst q1 (by rw [q3]; exact fun z => by cases z) (v := o.2 k) hv rfl rfl hd kk
  · exact va_Wgetf hx hb hown (va_Nw.use rfl (hG.2.2.1 _ g3 rfl)) hi2 hst q1 (by rw [q3]; exact fun z => by cases z) (v := o.2 k) hv rfl rfl hd kk
theorem hApart (hts : ∀ w ∈ lw_all, w.before args s = true) (hG : hGl g s) {ci : Nat} {r : vw_C} {ty : Nat → FieldType} (h1 : hCl[ci]? = some r) (h2 : hTyF[ci]? = some ty) : ∀ x y, x < r.2.2 → y < r.2.2 → x ≠ y → gI_ g ci x ≠ gI_ g ci y := by
  obtain ⟨hin, htyk, hnm⟩ := hInf_all _ _ _ h1 h2
  exact va_apart (own := "") (D := (gC g, gI_ g)) (cl := hCl) (tys := []) (ci := ci) (s := s) hts hin ty htyk hnm ⟨hG.1, fun _ _ h => by simp at h⟩ h1
/-- a field of ours that isn't final -/
theorem hPut_ok {t : Nat} (hF : ∀ x ∈ F, hLk own idx x) (hf : ∀ x ∈ F, ∀ r ty, hCl[x.1]? = some r → hTyF[x.1]? = some ty → (r.2.1 x.2).2.2.2 = false ∧ hTyk (ty x.2) t) (C : se_Cx p s m args meth c cc nL own ret) (hG : hGl g s) : se_Snd p l e R s m args below meth c Q nL (fun a => a) (hRM g H0) cc (.putfield idx) 3 (hPut F t) := by
  intro pc L st w K X hd hK hX h
  obtain ⟨v, a, r, o, k, rfl, ho, hm, hvk, h1⟩ := hPut_e h
  intro H locs kc q ls hM hl'
  obtain ⟨⟨hx, hb, hml, hown, hts⟩, hlk, hrt⟩ := C
  obtain ⟨-, r', hr', hmn, cell, q1, q2, q3, q4⟩ := hM.2.2.1.2.1 a _ ho
  obtain ⟨r0, ref, g1, g2, g3, g4⟩ := hF _ hm
  have hr0 : r0 = r' := Option.some.inj (g1.symm.trans hr')
  subst hr0
  obtain ⟨ty, hty⟩ : ∃ ty, hTyF[o.1]? = some ty := by
    have : o.1 < hTyF.length := (List.getElem?_eq_some_iff.mp g1).1
    exact ⟨_, List.getElem?_eq_getElem this⟩
  obtain ⟨hfin, htk⟩ := hf _ hm r0 ty g1 hty
  obtain ⟨hin, htyk, hnm⟩ := hInf_all _ _ _ g1 hty
  have hap := hApart hts hG g1 hty
  obtain ⟨hS, hfc, kC, hkC, hkind⟩ := hG.1 o.1 r0 g1
  obtain ⟨cf, kf, fi, f', hi, hsl⟩ := hS k g2
  have hlay := hts _ (hin _ (u_in_lay g2))
  unfold u_lay at hlay
  rw [if_neg (by rw [hfin]; decide)] at hlay
  have hst := (u_facts hfc hkC (u_lays hts hin g2) hi).1
  obtain ⟨hnv, hfv⟩ := hVk_ok htk hvk
  have h6 := u_store hfc hkC hkind hlay hi (htyk k g2) hnv hfv
  have hi2 : s.fieldFound? ref (r0.2.1 k).2.1 (r0.2.1 k).2.2.1 = some (cf, kf, fi, f') := by
    rcases g4 with g4 | g4
    · rw [g4]; exact hi
    · exact u_same (hts _ g4) _ hi
  have fin : ∀ H' : Heap, H'[a]? = some (cell.setSlot f'.slot v) → H'.size = H.size → (∀ b : Nat, b ≠ a → H'[b]? = H[b]?) → W p l e R s m args below meth c H' (locs ++ [⟨a, f'.slot⟩]) kc q Q (F0 m (pc + 3) ls r) := by
    intro H' f1 f2 f3
    rw [hsl] at f1
    have kk := hK _ _ h1 H' (locs ++ [⟨a, f'.slot⟩]) kc q ls (hRM_set (i := f'.slot) (ob := .inl (o.1, updV o.2 k v)) hM ho f2 f3 ⟨r0, g1, ⟨_, f1, by obtain ⟨c9, z1, z2⟩ := hmn; cases q1.symm.trans z1; exact z2⟩, _, f1, q2, q3, t_set q4 hap g2 v⟩) hl'
    rw [se_map_id] at kk
    exact kk
  rw [se_map_id]
  rcases g3 with g3 | ⟨host, g3⟩
  · exact W.putK hx hb (f := f') ⟨hown, hts _ g3, ⟨_, _, _, hi2⟩, hst⟩ (by rw [q2]; exact h6) q1 q3 (by rw [hsl]; exact k2_hasslot (q4 k g2)) rfl rfl hd fun H' f1 f2 f3 => fin H' f1 f2 f3
  · exact va_WputK hx hb (f := f') hown (va_Nw.use rfl (hG.2.2.1 _ g3 rfl)) hi2 hst (by rw [q2]; exact h6) q1 q3 (by rw [hsl]; exact k2_hasslot (q4 k g2)) rfl rfl hd fun H' f1 f2 f3 => fin H' f1 f2 f3
/-- a final field, in its class's constructor -/
theorem hPutF_ok {t : Nat} (hF : ∀ x ∈ F, hLk own idx x) (hf : ∀ x ∈ F, ∀ r ty, hCl[x.1]? = some r → hTyF[x.1]? = some ty → (r.2.1 x.2).2.2.2 = true ∧ (r.2.1 x.2).1 = own ∧ hTyk (ty x.2) t ∧ Cond.fieldLink own idx own (r.2.1 x.2).2.1 (r.2.1 x.2).2.2.1 ∈ lw_all) (hnm0 : meth.name = "<init>") (C : se_Cx p s m args meth c cc nL own ret) (hG : hGl g s) : se_Snd p l e R s m args below meth c Q nL (fun a => a) (hRM g H0) cc (.putfield idx) 3 (hPut F t) := by
  intro pc L st w K X hd hK hX h
  obtain ⟨v, a, r, o, k, rfl, ho, hm, hvk, h1⟩ := hPut_e h
  intro H locs kc q ls hM hl'
  obtain ⟨⟨hx, hb, hml, hown, hts⟩, hlk, hrt⟩ := C
  obtain ⟨-, r', hr', hmn, cell, q1, q2, q3, q4⟩ := hM.2.2.1.2.1 a _ ho
  obtain ⟨r0, ref, g1, g2, -, -⟩ := hF _ hm
  have hr0 : r0 = r' := Option.some.inj (g1.symm.trans hr')
  subst hr0
  obtain ⟨ty, hty⟩ : ∃ ty, hTyF[o.1]? = some ty := by
    have : o.1 < hTyF.length := (List.getElem?_eq_some_iff.mp g1).1
    exact ⟨_, List.getElem?_eq_getElem this⟩
  obtain ⟨hfin, hdecl, htk, g3⟩ := hf _ hm r0 ty g1 hty
  obtain ⟨hin, htyk, hnm⟩ := hInf_all _ _ _ g1 hty
  have hap := hApart hts hG g1 hty
  obtain ⟨hS, hfc, kC, hkC, hkind⟩ := hG.1 o.1 r0 g1
  obtain ⟨cf, kf, fi, f', hi, hsl⟩ := hS k g2
  have hlay := hts _ (hin _ (u_in_lay g2))
  unfold u_lay at hlay
  rw [if_pos hfin] at hlay
  have hst := (u_facts hfc hkC (u_lays hts hin g2) hi).1
  have hcf : m.cls = cf := by
    obtain ⟨_, _, c', _, _, _, -, -, hf', -, -, -, hown2, -⟩ := Cond.laysFinal_spec hlay
    have e1 : c' = cf := by have := hi.symm.trans hf'; simp at this; exact this.1.symm
    rw [hdecl] at hown2
    rw [← e1]; exact Option.some.inj (hown.symm.trans hown2)
  obtain ⟨hnv, hfv⟩ := hVk_ok htk hvk
  have h6 := u_fits hfc hkC hkind (Or.inr hlay) hi (htyk k g2) hnv hfv
  have hi2 : s.fieldFound? own (r0.2.1 k).2.1 (r0.2.1 k).2.2.1 = some (cf, kf, fi, f') := by
    rw [← hdecl]; exact hi
  rw [se_map_id]
  refine W.putFinK hx hb hown (hts _ g3) hi2 hst hcf hnm0 (by rw [q2]; exact h6) q1 q3 (by rw [hsl]; exact k2_hasslot (q4 k g2)) rfl rfl hd fun H' f1 f2 f3 => ?_
  rw [hsl] at f1 ⊢
  have kk := hK _ _ h1 H' _ kc q ls (hRM_set (i := gI_ g o.1 k) (ob := .inl (o.1, updV o.2 k v)) hM ho f2 f3 ⟨r0, g1, ⟨_, f1, by obtain ⟨c9, z1, z2⟩ := hmn; cases q1.symm.trans z1; exact z2⟩, _, f1, q2, q3, t_set q4 hap g2 v⟩) hl'
  rw [se_map_id] at kk
  exact kk
end
section
variable {p : Program} {l : Launch} {e : Env} {R : Room} {s : State} {m : MethodId} {args : Array Value} {below : List Frame} {meth : Method} {c : Code} {nL : Nat} {cc : ByteArray} {ret : Option FieldType} {Q : State → Prop} {g : hG} {H0 : Heap} {idx : Nat} {own : String}
theorem hTy_at (hG : hGl g s) {t : Nat} {ty : FieldType} (ht : hTy[t]? = some ty) : ArrOfT s (gA_ g t) ty := (hG.2.1 t ty ht).1
theorem hTy_ref {t : Nat} (h4 : 4 ≤ t) (h8 : t < 8) : ∃ C, hTy[t]? = some (.object C) := by
  match t, h4, h8 with
  | 4, _, _ => exact ⟨_, rfl⟩
  | 5, _, _ => exact ⟨_, rfl⟩
  | 6, _, _ => exact ⟨_, rfl⟩
  | 7, _, _ => exact ⟨_, rfl⟩
theorem hIald_ok (C : se_Cx p s m args meth c cc nL own ret) (hG : hGl g s) : se_Snd p l e R s m args below meth c Q nL (fun a => a) (hRM g H0) cc .iaload 1 hIald := by
  intro pc L st w K X hd hK hX h
  unfold hIald at h
  split at h
  · rename_i i a r
    split at h
    · rename_i n f ho
      obtain ⟨hin, h⟩ := h
      intro H locs k q ls hM hl'
      obtain ⟨⟨hx, hb, hml, hown, hts⟩, hlk, hrt⟩ := C
      have hc := (hM.2.2.1.2.1 a _ ho).2.2
      have hlt : i.toNatClampNeg < n := Nat.not_le.mp fun q => hin (Or.inr q)
      have kk := hK _ _ h H locs k q ls hM hl'
      rw [se_map_id] at kk ⊢
      exact W.iald (v := .int (f i.toNatClampNeg)) hx hb hc (hTy_at hG (t := 0) rfl n (fun j => .int (f j))) (fun q => by cases q) (by show ¬ (i < 0 ∨ (arrV _ _ _).slots.size ≤ _); rw [arrV_size]; exact hin) (by show (arrV _ _ _).slots[_]? = _; rw [arrV_read _ _ hlt]) rfl rfl hd kk
    · exact h.elim
  · exact h.elim
theorem hBald_ok (C : se_Cx p s m args meth c cc nL own ret) (hG : hGl g s) : se_Snd p l e R s m args below meth c Q nL (fun a => a) (hRM g H0) cc .baload 1 hBald := by
  intro pc L st w K X hd hK hX h
  unfold hBald at h
  split at h
  · rename_i i a r
    split at h
    · rename_i n f ho
      obtain ⟨hin, h⟩ := h
      intro H locs k q ls hM hl'
      obtain ⟨⟨hx, hb, hml, hown, hts⟩, hlk, hrt⟩ := C
      have hc := (hM.2.2.1.2.1 a _ ho).2.2
      have hlt : i.toNatClampNeg < n := Nat.not_le.mp fun q => hin (Or.inr q)
      have kk := hK _ _ h H locs k q ls hM hl'
      rw [se_map_id] at kk ⊢
      exact W.zald (v := .int (f i.toNatClampNeg)) hx hb hc (hTy_at hG (t := 1) rfl n (fun j => .int (f j))) (fun q => by cases q) (by show ¬ (i < 0 ∨ (arrV _ _ _).slots.size ≤ _); rw [arrV_size]; exact hin) (by show (arrV _ _ _).slots[_]? = _; rw [arrV_read _ _ hlt]) rfl rfl hd kk
    · rename_i n f ho
      obtain ⟨hin, h⟩ := h
      intro H locs k q ls hM hl'
      obtain ⟨⟨hx, hb, hml, hown, hts⟩, hlk, hrt⟩ := C
      have hc := (hM.2.2.1.2.1 a _ ho).2.2
      have hlt : i.toNatClampNeg < n := Nat.not_le.mp fun q => hin (Or.inr q)
      have kk := hK _ _ h H locs k q ls hM hl'
      rw [se_map_id] at kk ⊢
      exact W.bald (v := .int (f i.toNatClampNeg)) hx hb hc (hTy_at hG (t := 2) rfl n (fun j => .int (f j))) (fun q => by cases q) (by show ¬ (i < 0 ∨ (arrV _ _ _).slots.size ≤ _); rw [arrV_size]; exact hin) (by show (arrV _ _ _).slots[_]? = _; rw [arrV_read _ _ hlt]) rfl rfl hd kk
    · exact h.elim
  · exact h.elim
theorem hLald_ok (C : se_Cx p s m args meth c cc nL own ret) (hG : hGl g s) : se_Snd p l e R s m args below meth c Q nL (fun a => a) (hRM g H0) cc .laload 1 hLald := by
  intro pc L st w K X hd hK hX h
  unfold hLald at h
  split at h
  · rename_i i a r
    split at h
    · rename_i n f ho
      obtain ⟨hin, h⟩ := h
      intro H locs k q ls hM hl'
      obtain ⟨⟨hx, hb, hml, hown, hts⟩, hlk, hrt⟩ := C
      have hc := (hM.2.2.1.2.1 a _ ho).2.2
      have hlt : i.toNatClampNeg < n := Nat.not_le.mp fun q => hin (Or.inr q)
      have kk := hK _ _ h H locs k q ls hM hl'
      rw [se_map_id] at kk ⊢
      exact W.lald (v := .long (f i.toNatClampNeg)) hx hb hc (hTy_at hG (t := 3) rfl n (fun j => .long (f j))) (fun q => by cases q) (by show ¬ (i < 0 ∨ (arrV _ _ _).slots.size ≤ _); rw [arrV_size]; exact hin) (by show (arrV _ _ _).slots[_]? = _; rw [arrV_read _ _ hlt]) rfl rfl hd kk
    · exact h.elim
  · exact h.elim
theorem hAald_ok (C : se_Cx p s m args meth c cc nL own ret) (hG : hGl g s) : se_Snd p l e R s m args below meth c Q nL (fun a => a) (hRM g H0) cc .aaload 1 hAald := by
  intro pc L st w K X hd hK hX h
  unfold hAald at h
  split at h
  · rename_i i a r
    split at h
    · rename_i t n f ho
      obtain ⟨h4, hin, h⟩ := h
      intro H locs k q ls hM hl'
      obtain ⟨⟨hx, hb, hml, hown, hts⟩, hlk, hrt⟩ := C
      obtain ⟨h8, hc⟩ := (hM.2.2.1.2.1 a _ ho).2
      obtain ⟨E, hE⟩ := hTy_ref h4 h8
      have hlt : i.toNatClampNeg < n := Nat.not_le.mp fun q => hin (Or.inr q)
      have kk := hK _ _ h H locs k q ls hM hl'
      rw [se_map_id] at kk ⊢
      exact W.aald (v := va_rf (f i.toNatClampNeg)) (ty := .object E) hx hb hc (hTy_at hG hE n (fun j => va_rf (f j))) rfl (fun q => by cases q) (by show ¬ (i < 0 ∨ (arrV _ _ _).slots.size ≤ _); rw [arrV_size]; exact hin) (by show (arrV _ _ _).slots[_]? = _; rw [arrV_read _ _ hlt]) rfl rfl hd kk
    · exact h.elim
  · exact h.elim
theorem hIast_ok (C : se_Cx p s m args meth c cc nL own ret) (hG : hGl g s) : se_Snd p l e R s m args below meth c Q nL (fun a => a) (hRM g H0) cc .iastore 1 hIast := by
  intro pc L st w K X hd hK hX h
  unfold hIast at h
  split at h
  · rename_i x i a r
    split at h
    · rename_i n f ho
      obtain ⟨hin, h⟩ := h
      intro H locs k q ls hM hl'
      obtain ⟨⟨hx, hb, hml, hown, hts⟩, hlk, hrt⟩ := C
      have hc := (hM.2.2.1.2.1 a _ ho).2.2
      rw [se_map_id]
      refine W.iast hx hb hc (hTy_at hG (t := 0) rfl n (fun j => .int (f j))) (fun q => by cases q) (by show ¬ (i < 0 ∨ (arrV _ _ _).slots.size ≤ _); rw [arrV_size]; exact hin) rfl rfl hd fun H1 e1 z oq => ?_
      have kk := hK _ _ h H1 (locs ++ [⟨a, i.toNatClampNeg⟩]) k q ls (hRM_set (ob := .inr (0, (n, .inl (upd f i.toNatClampNeg x)))) hM ho z oq ⟨(by decide : 0 < 8), ?_⟩) hl'
      · rw [se_map_id] at kk
        exact kk
      · rw [e1, vp_cell_i, vp_cell_i, arrV_store]
        congr 2
        funext j
        by_cases hj : j = i.toNatClampNeg <;> simp [updV, upd, hj]
    · exact h.elim
  · exact h.elim
theorem hBast_ok (C : se_Cx p s m args meth c cc nL own ret) (hG : hGl g s) : se_Snd p l e R s m args below meth c Q nL (fun a => a) (hRM g H0) cc .bastore 1 hBast := by
  intro pc L st w K X hd hK hX h
  unfold hBast at h
  split at h
  · rename_i x i a r
    split at h
    · rename_i n f ho
      obtain ⟨h01, hin, h⟩ := h
      intro H locs k q ls hM hl'
      obtain ⟨⟨hx, hb, hml, hown, hts⟩, hlk, hrt⟩ := C
      have hc := (hM.2.2.1.2.1 a _ ho).2.2
      rw [se_map_id]
      refine W.zast hx hb hc (hTy_at hG (t := 1) rfl n (fun j => .int (f j))) (fun q => by cases q) (by show ¬ (i < 0 ∨ (arrV _ _ _).slots.size ≤ _); rw [arrV_size]; exact hin) rfl rfl hd fun H1 e1 z oq => ?_
      have kk := hK _ _ h H1 (locs ++ [⟨a, i.toNatClampNeg⟩]) k q ls (hRM_set (ob := .inr (1, (n, .inl (upd f i.toNatClampNeg x)))) hM ho z oq ⟨(by decide : 1 < 8), ?_⟩) hl'
      · rw [se_map_id] at kk
        exact kk
      · rw [e1, vp_cell_i, vp_cell_i, arrV_store]
        congr 2
        funext j
        by_cases hj : j = i.toNatClampNeg
        · subst hj
          simp only [updV, upd, if_true]
          exact nar_z h01
        · simp [updV, upd, hj]
    · rename_i n f ho
      obtain ⟨hin, h⟩ := h
      intro H locs k q ls hM hl'
      obtain ⟨⟨hx, hb, hml, hown, hts⟩, hlk, hrt⟩ := C
      have hc := (hM.2.2.1.2.1 a _ ho).2.2
      rw [se_map_id]
      refine W.bast hx hb hc (hTy_at hG (t := 2) rfl n (fun j => .int (f j))) (fun q => by cases q) (by show ¬ (i < 0 ∨ (arrV _ _ _).slots.size ≤ _); rw [arrV_size]; exact hin) rfl rfl hd fun H1 e1 z oq => ?_
      have kk := hK _ _ h H1 (locs ++ [⟨a, i.toNatClampNeg⟩]) k q ls (hRM_set (ob := .inr (2, (n, .inl (upd f i.toNatClampNeg x.toInt8.toInt32)))) hM ho z oq ⟨(by decide : 2 < 8), ?_⟩) hl'
      · rw [se_map_id] at kk
        exact kk
      · rw [e1, vp_cell_i, vp_cell_i, arrV_store]
        congr 2
        funext j
        by_cases hj : j = i.toNatClampNeg
        · subst hj
          simp only [updV, upd, if_true]
          rfl
        · simp [updV, upd, hj]
    · exact h.elim
  · exact h.elim
theorem hLast_ok (C : se_Cx p s m args meth c cc nL own ret) (hG : hGl g s) : se_Snd p l e R s m args below meth c Q nL (fun a => a) (hRM g H0) cc .lastore 1 hLast := by
  intro pc L st w K X hd hK hX h
  unfold hLast at h
  split at h
  · rename_i x i a r
    split at h
    · rename_i n f ho
      obtain ⟨hin, h⟩ := h
      intro H locs k q ls hM hl'
      obtain ⟨⟨hx, hb, hml, hown, hts⟩, hlk, hrt⟩ := C
      have hc := (hM.2.2.1.2.1 a _ ho).2.2
      rw [se_map_id]
      refine W.last hx hb hc (hTy_at hG (t := 3) rfl n (fun j => .long (f j))) (fun q => by cases q) (by show ¬ (i < 0 ∨ (arrV _ _ _).slots.size ≤ _); rw [arrV_size]; exact hin) rfl rfl hd fun H1 e1 z oq => ?_
      have kk := hK _ _ h H1 (locs ++ [⟨a, i.toNatClampNeg⟩]) k q ls (hRM_set (ob := .inr (3, (n, .inr (.inl (vp_updL f i.toNatClampNeg x))))) hM ho z oq ⟨(by decide : 3 < 8), ?_⟩) hl'
      · rw [se_map_id] at kk
        exact kk
      · rw [e1, vp_cell_l, vp_cell_l, arrV_store]
        congr 2
        funext j
        by_cases hj : j = i.toNatClampNeg <;> simp [updV, vp_updL, hj]
    · exact h.elim
  · exact h.elim
theorem hTk_ok {t ci : Nat} (h : hTk t ci) : 4 ≤ t ∧ ∃ r, hCl[ci]? = some r ∧ hTy[t]? = some (.object r.1) := by
  rcases h with ⟨rfl, rfl⟩ | ⟨rfl, rfl⟩ | ⟨rfl, rfl⟩ <;> exact ⟨by decide, _, rfl, rfl⟩
theorem hAast_ok (C : se_Cx p s m args meth c cc nL own ret) (hG : hGl g s) : se_Snd p l e R s m args below meth c Q nL (fun a => a) (hRM g H0) cc .aastore 1 hAast := by
  intro pc L st w K X hd hK hX h
  unfold hAast at h
  split at h
  · rename_i i a r
    split at h
    · rename_i t n f ho
      obtain ⟨h4, hin, h⟩ := h
      intro H locs k q ls hM hl'
      obtain ⟨⟨hx, hb, hml, hown, hts⟩, hlk, hrt⟩ := C
      obtain ⟨h8, hc⟩ := (hM.2.2.1.2.1 a _ ho).2
      obtain ⟨E, hE⟩ := hTy_ref h4 h8
      rw [se_map_id]
      refine va_WaastN (C := E) hx hb hc (hTy_at hG hE n (fun j => va_rf (f j))) (fun h => by cases h) (by show ¬ (i < 0 ∨ (arrV _ _ _).slots.size ≤ _); rw [arrV_size]; exact hin) rfl rfl hd fun H1 e1 z oq => ?_
      have kk := hK _ _ h H1 (locs ++ [⟨a, i.toNatClampNeg⟩]) k q ls (hRM_set (ob := .inr (t, (n, .inr (.inr (.inr (.inr (va_up f i.toNatClampNeg none))))))) hM ho z oq ⟨h8, ?_⟩) hl'
      · rw [se_map_id] at kk
        exact kk
      · rw [e1, vp_cell_q, vp_cell_q, arrV_store]
        congr 2
        funext j
        by_cases hj : j = i.toNatClampNeg
        · subst hj
          simp [updV, va_up, va_rf]
        · simp [updV, va_up, hj]
    · exact h.elim
  · rename_i b i a r
    split at h
    · rename_i t n f ho
      split at h
      · rename_i ob hob
        obtain ⟨htk, hin, h⟩ := h
        intro H locs k q ls hM hl'
        obtain ⟨⟨hx, hb, hml, hown, hts⟩, hlk, hrt⟩ := C
        obtain ⟨h8, hc⟩ := (hM.2.2.1.2.1 a _ ho).2
        obtain ⟨h4, r0, hr0, hE⟩ := hTk_ok htk
        obtain ⟨-, r', hr', hmn, cellV, g1, g2, g3, -⟩ := hM.2.2.1.2.1 b _ hob
        have hcls := (hG.1 _ _ hr0).2
        obtain ⟨kA, comp, k1, k2, k3, -⟩ := (hG.2.1 _ _ hE).2
        have hcomp : comp = gC g ob.1 := Option.some.inj (k3.symm.trans hcls.1)
        subst hcomp
        obtain ⟨kC, hkC, -⟩ := hcls.2
        have hlt : i.toNatClampNeg < n := Nat.not_le.mp fun q => hin (Or.inr q)
        rw [se_map_id]
        refine W.aast hx hb hc (fun q h => by cases h) (fun h => by cases h) k1 k2 rfl hkC ⟨fun q => hin (Or.inl q), by show _ < (arrV _ _ _).slots.size; rw [arrV_size]; exact hlt⟩ g1 (fun q h => by rw [g3] at h; cases h) (by rw [g2]; exact hkC) (by rw [g2]; exact va_assign hcls) rfl rfl hd fun H1 e1 z oq => ?_
        have kk := hK _ _ h H1 (locs ++ [⟨a, i.toNatClampNeg⟩]) k q ls (hRM_set (ob := .inr (t, (n, .inr (.inr (.inr (.inr (va_up f i.toNatClampNeg (some b)))))))) hM ho z oq ⟨h8, ?_⟩) hl'
        · rw [se_map_id] at kk
          exact kk
        · rw [e1, vp_cell_q, vp_cell_q, arrV_store]
          congr 2
          funext j
          by_cases hj : j = i.toNatClampNeg
          · subst hj
            simp [updV, va_up, va_rf]
          · simp [updV, va_up, hj]
      · exact h.elim
    · exact h.elim
  · exact h.elim
theorem hAlen_ok (C : se_Cx p s m args meth c cc nL own ret) (hG : hGl g s) : se_Snd p l e R s m args below meth c Q nL (fun a => a) (hRM g H0) cc .arraylength 1 hAlen := by
  intro pc L st w K X hd hK hX h
  unfold hAlen at h
  split at h
  · rename_i a r
    split at h
    · rename_i o ho
      intro H locs k q ls hM hl'
      obtain ⟨⟨hx, hb, hml, hown, hts⟩, hlk, hrt⟩ := C
      obtain ⟨h8, hc⟩ := (hM.2.2.1.2.1 a _ ho).2
      have kk := hK _ _ h H locs k q ls hM hl'
      rw [se_map_id] at kk ⊢
      obtain ⟨ty, hty⟩ : ∃ ty, hTy[o.1]? = some ty := ⟨_, List.getElem?_eq_getElem (show o.1 < hTy.length from h8)⟩
      obtain ⟨t, n, f | f | f | f | f⟩ := o
      · exact W.alen (n := Int32.ofNat n) hx hb hc (hTy_at hG hty n (fun j => .int (f j))) (by rw [vp_cell_i, arrV_size] <;> rfl) rfl rfl hd kk
      · exact W.alen (n := Int32.ofNat n) hx hb hc (hTy_at hG hty n (fun j => .long (f j))) (by rw [vp_cell_l, arrV_size] <;> rfl) rfl rfl hd kk
      · exact W.alen (n := Int32.ofNat n) hx hb hc (hTy_at hG hty n (fun j => .float (f j))) (by rw [vp_cell_f, arrV_size] <;> rfl) rfl rfl hd kk
      · exact W.alen (n := Int32.ofNat n) hx hb hc (hTy_at hG hty n (fun j => .double (f j))) (by rw [vp_cell_d, arrV_size] <;> rfl) rfl rfl hd kk
      · exact W.alen (n := Int32.ofNat n) hx hb hc (hTy_at hG hty n (fun j => va_rf (f j))) (by rw [vp_cell_q, arrV_size] <;> rfl) rfl rfl hd kk
    · exact h.elim
  · exact h.elim
theorem hNew_ok {mc ms ci N fr lo : Nat} {d : Nat → Value} {r : vw_C} {ty : Nat → FieldType} (hc : hCl[ci]? = some r) (hty : hTyF[ci]? = some ty) (hN : r.2.2 = N) (hd0 : ∀ j, j < N → defaultValue (ty j) = d j) (h1 : Cond.classLink own idx r.1 ∈ lw_all) (h2 : Cond.instantiable r.1 N ∈ lw_all) (h3 : Cond.initialized r.1 ∈ lw_all)
    (C : se_Cx p s m args meth c cc nL own ret) (hG : hGl g s) : se_Snd p l e (hRoom fr lo mc ms) s m args below meth c Q nL (fun a => a) (hRM g H0) cc (.new idx) 3 (hNew mc ms ci N d) := by
  intro pc L st w K X hd hK hX h
  obtain ⟨hk1, hk2, h⟩ := h
  intro H locs k q ls hM hl'
  obtain ⟨⟨hx, hb, hml, hown, hts⟩, hlk, hrt⟩ := C
  have hKn := hG.1 ci r hc
  obtain ⟨hin, htyk, hnm⟩ := hInf_all _ _ _ hc hty
  rw [se_map_id]
  refine W.newcK hx hb hown (hts _ h1) (hts _ h2) (hts _ h3) rfl hd (by rw [hM.1]; exact hk1) (by rw [hM.2.1]; exact hk2) hKn.2.1 rfl fun H1 kC hkC e1 z1 o1 => ?_
  subst hN
  have kk := hK _ _ h H1 locs (k + 1) (q + r.2.2) ls (hRM_new (ob := .inl (ci, d)) hM z1 o1 ⟨r, hc, ⟨_, e1, rfl⟩, (u_born ty hts hin hKn hkC e1 htyk).to hd0⟩) hl'
  rw [se_map_id, hM.2.2.1.1] at kk
  exact kk
theorem hNewA_ok {mc ms fr lo t : Nat} {at0 : ArrayType} {ty : FieldType} (ht : (t = 0 ∧ at0 = .int ∧ ty = .int) ∨ (t = 1 ∧ at0 = .boolean ∧ ty = .boolean) ∨ (t = 2 ∧ at0 = .byte ∧ ty = .byte) ∨ (t = 3 ∧ at0 = .long ∧ ty = .long)) (h1 : Cond.arrayClass ty ∈ lw_all)
    (C : se_Cx p s m args meth c cc nL own ret) (hG : hGl g s) : se_Snd p l e (hRoom fr lo mc ms) s m args below meth c Q nL (fun a => a) (hRM g H0) cc (.newarray at0) 2 (hNewA mc ms t) := by
  intro pc L st w K X hd hK hX h
  unfold hNewA at h
  split at h
  · rename_i x r
    obtain ⟨hx0, hx1, hk1, hk2, h⟩ := h
    intro H locs k q ls hM hl'
    obtain ⟨⟨hx, hb, hml, hown, hts⟩, hlk, hrt⟩ := C
    rw [se_map_id]
    have hta : newarray.typeOf at0 = ty := by rcases ht with ⟨-, rfl, rfl⟩ | ⟨-, rfl, rfl⟩ | ⟨-, rfl, rfl⟩ | ⟨-, rfl, rfl⟩ <;> rfl
    refine va_newaK hx hb (by rw [hta]; exact hts _ h1) rfl hd rfl hx0 rfl (by rw [hta]; rcases ht with ⟨-, rfl, rfl⟩ | ⟨-, rfl, rfl⟩ | ⟨-, rfl, rfl⟩ | ⟨-, rfl, rfl⟩ <;> simp only [componentBytes] <;> omega) (by rw [hM.1]; exact hk1) (by rw [hM.2.1]; exact hk2) rfl fun H1 cA e1 z1 o1 hAr hNm => ?_
    have hcA : cA = gA_ g t := by
      rw [hta] at hNm
      rcases ht with ⟨rfl, -, rfl⟩ | ⟨rfl, -, rfl⟩ | ⟨rfl, -, rfl⟩ | ⟨rfl, -, rfl⟩
      · exact Option.some.inj (hNm.symm.trans (hG.2.1 0 _ rfl).2)
      · exact Option.some.inj (hNm.symm.trans (hG.2.1 1 _ rfl).2)
      · exact Option.some.inj (hNm.symm.trans (hG.2.1 2 _ rfl).2)
      · exact Option.some.inj (hNm.symm.trans (hG.2.1 3 _ rfl).2)
    have kk := hK _ _ h H1 locs (k + 1) (q + x.toNatClampNeg) ls (hRM_new (ob := .inr (t, hZero t x.toNatClampNeg)) hM z1 o1 ⟨by omega, ?_⟩) hl'
    · rw [se_map_id, hM.2.2.1.1] at kk
      exact kk
    · rw [e1, hcA, hta]
      rcases ht with ⟨rfl, -, rfl⟩ | ⟨rfl, -, rfl⟩ | ⟨rfl, -, rfl⟩ | ⟨rfl, -, rfl⟩ <;> rfl
  · exact h.elim
theorem hNewR_ok {mc ms fr lo t : Nat} {E : String} (h4 : 4 ≤ t) (ht : hTy[t]? = some (.object E)) (hAo : E ∈ hAO) (h1 : Cond.classLink own idx E ∈ lw_all)
    (C : se_Cx p s m args meth c cc nL own ret) (hG : hGl g s) : se_Snd p l e (hRoom fr lo mc ms) s m args below meth c Q nL (fun a => a) (hRM g H0) cc (.anewarray idx) 3 (hNewA mc ms t) := by
  intro pc L st w K X hd hK hX h
  unfold hNewA at h
  split at h
  · rename_i x r
    obtain ⟨hx0, hx1, hk1, hk2, h⟩ := h
    intro H locs k q ls hM hl'
    obtain ⟨⟨hx, hb, hml, hown, hts⟩, hlk, hrt⟩ := C
    rw [se_map_id]
    have h8 : t < 8 := (List.getElem?_eq_some_iff.mp ht).1
    refine W.anew hx hb hown (hts _ h1) (va_AO.use (hG.2.2.2.1 E hAo)) rfl hd rfl hx0 (by omega) (by rw [hM.1]; exact hk1) (by rw [hM.2.1]; exact hk2) fun cA kA comp f1 f2 f3 f4 => ?_
    obtain ⟨kA', comp', -, -, -, g4⟩ := (hG.2.1 t _ ht).2
    have hcA : cA = gA_ g t := Option.some.inj (f1.symm.trans g4)
    generalize hH1 : H.push ({ cls := cA, slots := Array.replicate x.toNatClampNeg .null, vm := .none } : Cell) = H1
    have z1 : H1.size = H.size + 1 := by rw [← hH1, Array.size_push]
    have e1 : H1[H.size]? = some (arrV cA x.toNatClampNeg (fun _ => .null)) := by rw [← hH1, Array.getElem?_push_size, ← arrV_new]
    have o1 : ∀ q : Nat, q < H.size → H1[q]? = H[q]? := fun q hq => by rw [← hH1, Array.getElem?_push, if_neg (Nat.ne_of_lt hq)]
    have kk := hK _ _ h H1 locs (k + 1) (q + x.toNatClampNeg) ls (hRM_new (ob := .inr (t, hZero t x.toNatClampNeg)) hM z1 o1 ⟨h8, ?_⟩) hl'
    · rw [se_map_id, hM.2.2.1.1] at kk
      exact kk
    · rw [e1, hcA]
      match t, h4, h8 with
      | 4, _, _ => rfl
      | 5, _, _ => rfl
      | 6, _, _ => rfl
      | 7, _, _ => rfl
  · exact h.elim
/-- the classes of an object of the abstract heap -/
theorem hRecv {w : hW} {H : Heap} {locs : List Loc} {k q a : Nat} {o : Nat × (Nat → Value)} {r : vw_C} (hG : hGl g s) (hM : hRM g H0 w H locs k q) (ho : w.1 a = some (.inl o)) (hr : hCl[o.1]? = some r) : ∃ cell : Cell, H[a]? = some cell ∧ cell.vm = .none ∧ s.vm.findClass r.1 = some cell.cls := by
  obtain ⟨-, r', hr', hmn, cell, g1, g2, g3, -⟩ := hM.2.2.1.2.1 a _ ho
  have hr0 : r = r' := Option.some.inj (hr.symm.trans hr')
  subst hr0
  exact ⟨cell, g1, g3, by rw [g2]; exact (hG.1 _ _ hr).2.1⟩
theorem hCast_ok {cs : List Nat} {nm : String} (h1 : Cond.classLink own idx nm ∈ lw_all) (h2 : ∀ ci ∈ cs, ∃ r, hCl[ci]? = some r ∧ (r.1 = nm ∨ Cond.castable r.1 nm ∈ lw_tbl)) (C : se_Cx p s m args meth c cc nL own ret) (hG : hGl g s) : se_Snd p l e R s m args below meth c Q nL (fun a => a) (hRM g H0) cc (.checkcast idx) 3 (hCast cs) := by
  intro pc L st w K X hd hK hX h
  unfold hCast at h
  split at h
  · intro H locs k q ls hM hl'
    obtain ⟨⟨hx, hb, hml, hown, hts⟩, hlk, hrt⟩ := C
    exact lv_castN hx hb hd (hK _ _ h H locs k q ls hM hl')
  · rename_i a r
    split at h
    · rename_i o ho
      obtain ⟨hci, h⟩ := h
      intro H locs k q ls hM hl'
      obtain ⟨⟨hx, hb, hml, hown, hts⟩, hlk, hrt⟩ := C
      obtain ⟨r0, hr0, hcast⟩ := h2 _ hci
      obtain ⟨cell, g1, g2, g3⟩ := hRecv hG hM ho hr0
      have kk := hK _ _ h H locs k q ls hM hl'
      rw [se_map_id] at kk ⊢
      rcases hcast with e | hcast
      · rw [e] at g3
        exact va_castE hx hb hown (hts _ h1) ⟨cell, g1, by rw [g2]; rfl, g3⟩ hd kk
      · exact va_castY hx hb hown (hts _ h1) (hG.2.2.1 _ hcast rfl) ⟨cell, g1, by rw [g2]; rfl, g3⟩ hd kk
    · exact h.elim
  · exact h.elim
theorem hThrow_ok (C : se_Cx p s m args meth c cc nL own ret) (hG : hGl g s) : se_Snd p l e R s m args below meth c Q nL (fun a => a) (hRM g H0) cc .athrow 1 hThrow := by
  intro pc L st w K X hd hK hX h
  unfold hThrow at h
  split at h
  · rename_i a r
    split at h
    · rename_i o ho
      obtain ⟨h22, h⟩ := h
      intro H locs k q ls hM hl'
      obtain ⟨⟨hx, hb, hml, hown, hts⟩, hlk, hrt⟩ := C
      obtain ⟨cell, g1, g2, g3⟩ := hRecv (r := (RX6, TX6, 8)) hG hM ho (by rw [h22]; rfl)
      rw [se_map_id]
      exact vx_athrow hx hb hd (hX _ _ h H locs k q ls r cell hM hl' g1 g2 g3)
    · exact h.elim
  · exact h.elim
end
