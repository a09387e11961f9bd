/-! MORE OPERATIONS OF THE HEAP: the class object of arrays, System.arraycopy, clone, any of several operations -/
def hGcl (g : hG) : se_Op hW := fun st w K _ => match st with
  | .ref a :: r => (match w.1 a with
    | some (.inr (4, _)) => se_c8 8 r ∧ K (.ref (gSa g 5) :: r) w
    | _ => False)
  | _ => False
def hLdM (g : hG) : se_Op hW := fun st w K _ => K (.ref (gSa g 5) :: st) w
def hCpy (g : hG) : se_Op hW := fun st w K _ => match st with
  | .int n :: .int dp :: .ref a :: .int sp :: .ref a0 :: r => (match w.1 a0, w.1 a with
    | some (.inr (4, (n0, .inr (.inr (.inr (.inr f)))))), some (.inr (4, (n1, .inr (.inr (.inr (.inr f1)))))) => se_c8 8 r ∧ ¬ sp < 0 ∧ ¬ dp < 0 ∧ ¬ n < 0 ∧ sp.toNatClampNeg + n.toNatClampNeg ≤ n0 ∧ dp.toNatClampNeg + n.toNatClampNeg ≤ n1 ∧
      (∀ i, i < n.toNatClampNeg → ∀ y, f (sp.toNatClampNeg + i) = some y → hAnyO g w.1 y) ∧ K r (hU w.1 a (.inr (4, (n1, .inr (.inr (.inr (.inr (va_cpy f f1 sp.toNatClampNeg dp.toNatClampNeg n.toNatClampNeg))))))), w.2)
    | _, _ => False)
  | _ => False
/-- a copy of an array of ints or booleans -/
def hCln (mc ms t : Nat) : se_Op hW := fun st w K _ => match st with
  | .ref a :: r => (match w.1 a with
    | some (.inr (t', (n, .inl f))) => t' = t ∧ se_c8 8 r ∧ (∀ i, i < n → fits (hTy.getD t .int) (.int (f i)) = true) ∧ w.2.2.1 + 1 ≤ mc ∧ w.2.2.2 + n ≤ ms ∧ K (.ref w.2.1 :: r) (hU w.1 w.2.1 (.inr (t, (n, .inl f))), w.2.1 + 1, w.2.2.1 + 1, w.2.2.2 + n)
    | _ => False)
  | _ => False
theorem vq_cf {cA : ClassId} {A : vp_A} : (vp_cell cA A).vm = .none ∧ (vp_cell cA A).cls = cA ∧ (vp_cell cA A).slots.size = A.1 ∧ ({ cls := (vp_cell cA A).cls, slots := (vp_cell cA A).slots } : Cell) = vp_cell cA A := by
  obtain ⟨n, f | f | f | f | f⟩ := A <;> exact ⟨rfl, rfl, arrV_size _ _ _, rfl⟩
section
variable {p : Program} {l : Launch} {e : Env} {R : Room} {s : State} {m : MethodId} {args : Array Value} {below : List Frame} {meth : Method} {c : Code} {nL : Nat} {cc : ByteArray} {ret : Option FieldType} {Q : State → Prop} {g : hG} {H0 : Heap} {idx mc ms fr lo : Nat} {own : String}
theorem se_ex {μ ι : Type} {f : Nat → Nat} {RM : μ → Heap → List Loc → Nat → Nat → Prop} {ins : Instr} {len : Nat} {O : ι → se_Op μ} (h1 : ∀ i, se_Snd p l e R s m args below meth c Q nL f RM cc ins len (O i)) : se_Snd p l e R s m args below meth c Q nL f RM cc ins len (fun st w K X => ∃ i, O i st w K X) := by
  intro pc L st w K X hd hK hX hx
  obtain ⟨i, hx⟩ := hx
  exact h1 i pc L st w K X hd hK hX hx
theorem hRM_setL {w : hW} {H H' : Heap} {locs : List Loc} {k q a : Nat} {ob ob0 : hO} {L : List Loc} (hM : hRM g H0 w H locs k q) (ha : w.1 a = some ob0) (f2 : H'.size = H.size) (f3 : ∀ b : Nat, b ≠ a → H'[b]? = H[b]?) (hob : hAt g a ob H') (hL : ∀ z ∈ L, z.base = a) : hRM g H0 (hU w.1 a ob, w.2) H' (locs ++ L) k q := by
  obtain ⟨e1, e2, e3, e4, e5, e6⟩ := hRM_set (i := 0) hM ha f2 f3 hob
  refine ⟨e1, e2, e3, e4, e5, fun z hz => ?_⟩
  rcases List.mem_append.mp hz with h | h
  · exact hM.2.2.2.2.2 z h
  · rw [hL z h]
    exact e6 ⟨a, 0⟩ (List.mem_append_right _ List.mem_cons_self)
theorem hGcl_ok (h1 : Cond.methodLink own idx ⟨"java/lang/Object", "getClass", "()Ljava/lang/Class;"⟩ ∈ lw_all) (hf : 1 ≤ fr) (hlo : 22 ≤ lo) (C : se_Cx p s m args meth c cc nL own ret) (hG : hGl g s) : se_Snd p l e (hRoom fr lo mc ms) s m args below meth c Q nL (fun a => a) (hRM g H0) cc (.invokevirtual idx) 3 (hGcl g) := by
  intro pc L st w K X hd hK hX h
  unfold hGcl at h
  split at h
  · rename_i a r
    split at h
    · rename_i A ho
      obtain ⟨h8, h⟩ := h
      intro H locs k q ls hM hl
      obtain ⟨⟨hx, hb, hml, hown, hts⟩, hlk, hrt⟩ := C
      have kk := hK _ _ h H locs k q ls hM hl
      have h8' := se_c8_le (fun a => a) 8 r h8
      rw [se_map_id] at kk h8' ⊢
      have hc := ((hM.2.2.1.2.1 a _ ho).2).2
      have hnm := va_nmO (hG.2.1 4 _ rfl).2 (nm := "[Ljava/lang/Object;") rfl
      refine va_getC (C := "[Ljava/lang/Object;") hx hb (hml.trans hl.1.1.symm) hown (hts _ h1) (va_Dc.use hG.2.2.2.2.2.1) (hts _ q2593) (hts _ q805) (hts _ q833) hG.2.2.2.2.1 ⟨_, hc, ?_, ?_⟩ hf ?_ hd kk
      · rw [vq_cf.1]; rfl
      · rw [vq_cf.2.1]; exact hnm
      · show _ ≤ lo
        have : (r.map fun v => v.category).sum ≤ 8 := h8'
        omega
    · exact h.elim
  · exact h.elim
theorem hLdM_ok (h1 : Cond.classLink own idx "[Ljava/lang/Object;" ∈ lw_all) (C : se_Cx p s m args meth c cc nL own ret) (hG : hGl g s) : se_Snd p l e R s m args below meth c Q nL (fun a => a) (hRM g H0) cc (.ldc idx) 2 (hLdM g) := by
  intro pc L st w K X hd hK hX h H locs k q ls hM hl'
  obtain ⟨⟨hxx, hb, hml, hown, hts⟩, hlk, hrt⟩ := C
  have kk := hK _ _ h H locs k q ls hM hl'
  rw [se_map_id] at kk ⊢
  exact va_ldcM hxx hb hown (hts _ h1) hG.2.2.2.2.1 hd kk
theorem hCpy_ok (h1 : Cond.methodLink own idx arraycopyName ∈ lw_all) (hf : 1 ≤ fr) (hlo : 8 + (nativeFrameWords "java/lang/System" "arraycopy" 5 + 11) ≤ lo) (C : se_Cx p s m args meth c cc nL own ret) (hG : hGl g s) (hS : hSt g s) : se_Snd p l e (hRoom fr lo mc ms) s m args below meth c Q nL (fun a => a) (hRM g H0) cc (.invokestatic idx) 3 (hCpy g) := by
  have nn : ∀ z : Int32, ¬ z < 0 → z.toInt = (z.toNatClampNeg : Int) := by
    intro z hz
    have hz0 : (0 : Int) ≤ z.toInt := by
      have := Int32.not_lt.mp hz
      simpa using Int32.le_iff_toInt_le.mp this
    show z.toInt = ((z.toInt.toNat : Nat) : Int)
    omega
  intro pc L st w K X hd hK hX h
  unfold hCpy at h
  split at h
  · rename_i n dp a sp a0 r
    split at h
    · rename_i n0 f n1 f1 ho0 ho1
      obtain ⟨h8, i1, i2, i3, i4, i5, hel, h⟩ := h
      intro H locs k q ls hM hl
      have hM0 := hM
      have hany := fun b => hAny_cell (b := b) hG hS hM
      obtain ⟨⟨hx, hb, hml, hown, hts⟩, hlk, hrt⟩ := C
      have h8' := se_c8_le (fun a => a) 8 r h8
      have hc0 := ((hM.2.2.1.2.1 a0 _ ho0).2).2
      obtain ⟨h4t, hc1⟩ := (hM.2.2.1.2.1 a _ ho1).2
      have kk := fun (L' : List Loc) (hL' : ∀ z ∈ L', z.base = a) => hK _ _ h (H.setIfInBounds a (vp_cell (gA_ g 4) (n1, .inr (.inr (.inr (.inr (va_cpy f f1 sp.toNatClampNeg dp.toNatClampNeg n.toNatClampNeg))))))) (locs ++ L') k q ls
        (hRM_setL hM ho1 (by simp) (fun b hb => by simp [Array.getElem?_setIfInBounds, Ne.symm hb]) ⟨h4t, by simp [Array.getElem?_setIfInBounds, (Array.getElem?_eq_some_iff.mp hc1).1]⟩ hL') hl
      simp only [se_map_id] at kk h8' ⊢
      intro T hT X0
      obtain ⟨-, k0, hk0, cm0, hkk0⟩ := hTy_at hG (t := 4) rfl n0 (fun j => va_rf (f j))
      obtain ⟨-, k1, hk1, cm1, hkk1⟩ := hTy_at hG (t := 4) rfl n1 (fun j => va_rf (f1 j))
      obtain ⟨vm', X', step⟩ := X0.arraycopy hx hown (hts _ h1) (hts _ q843) (hts _ q842) (hts _ q120) (src := a0) (dst := a) (cs := vp_cell (gA_ g 4) (n0, .inr (.inr (.inr (.inr f))))) (cd := vp_cell (gA_ g 4) (n1, .inr (.inr (.inr (.inr f1))))) (srcPos := sp) (destPos := dp) (n := n) (by rw [hT]; exact hc0) (by rw [hT]; exact hc1)
        (fun _ h => by cases h) (fun _ h => by cases h) (fun h => by cases h) (fun h => by cases h) hk0 hk1 hkk0 hkk1 rfl i1 i2 i3
        (by rw [nn sp i1, nn n i3]; show ¬ _ > ((arrV (gA_ g 4) n0 (fun j => va_rf (f j))).slots.size : Int); rw [arrV_size]; omega)
        (by rw [nn dp i2, nn n i3]; show ¬ _ > ((arrV (gA_ g 4) n1 (fun j => va_rf (f1 j))).slots.size : Int); rw [arrV_size]; omega)
        (fun vm₁ hal i hi => by
          have e : (vp_cell (gA_ g 4) (n0, .inr (.inr (.inr (.inr f))))).slots.getD (sp.toNatClampNeg + i) .null = va_rf (f (sp.toNatClampNeg + i)) := by
            show (arrV (gA_ g 4) n0 (fun j => va_rf (f j))).slots.getD _ _ = _
            rw [Array.getD_eq_getD_getElem?, arrV_read _ _ (by omega)]
            rfl
          rw [e]
          cases hy : f (sp.toNatClampNeg + i) with
          | none => exact ⟨rfl, trivial⟩
          | some y =>
            obtain ⟨cellV, Cn, g1, g3, g2, hca⟩ := hany y (hel i hi y hy)
            obtain ⟨kA, comp, r1, r2, r3, -⟩ := (hG.2.1 4 _ rfl).2
            cases hk1.symm.trans r1
            cases hkk1.symm.trans r2
            obtain ⟨kE, hkE, -⟩ := Vm.findClass_spec r3
            obtain ⟨kC, hkC, -⟩ := Vm.findClass_spec g2
            obtain ⟨kC', hkC', -⟩ := hal.2.2 _ _ hkC
            obtain ⟨kE', hkE', -⟩ := hal.2.2 _ _ hkE
            refine ⟨rfl, cellV, (show T.heap[y]? = some cellV by rw [hT]; exact g1), (fun q h => by rw [h] at g3; cases g3), ⟨kC', hkC'⟩, ?_, ?_⟩
            · exact ⟨kE', hkE'⟩
            · show vm₁.assignable _ _ = true
              rw [hal.assignable]
              exact vb_asgC hca _ _ r3 g2)
        (g := F0 m pc ls (.int n :: .int dp :: .ref a :: .int sp :: .ref a0 :: r)) rfl (by rw [hml]; exact hl.1.1) (rest := r) rfl (by rw [hb]; exact hd) hf (by show 2 * 0 + _ + _ ≤ lo; omega)
      have e1 : copied (vp_cell (gA_ g 4) (n0, .inr (.inr (.inr (.inr f))))) (vp_cell (gA_ g 4) (n1, .inr (.inr (.inr (.inr f1))))) sp dp n = vp_cell (gA_ g 4) (n1, .inr (.inr (.inr (.inr (va_cpy f f1 sp.toNatClampNeg dp.toNatClampNeg n.toNatClampNeg))))) := by
        rw [vp_cell_q, vp_cell_q, vp_cell_q]
        exact va_copied (fun z => va_rf z) (gA_ g 4) (gA_ g 4) f f1 i4
      rw [e1] at X' step
      have hheap : ((T.setVm vm').setCell a (vp_cell (gA_ g 4) (n1, .inr (.inr (.inr (.inr (va_cpy f f1 sp.toNatClampNeg dp.toNatClampNeg n.toNatClampNeg))))))).heap = H.setIfInBounds a (vp_cell (gA_ g 4) (n1, .inr (.inr (.inr (.inr (va_cpy f f1 sp.toNatClampNeg dp.toNatClampNeg n.toNatClampNeg)))))) := by rw [← hT]; rfl
      obtain ⟨t, a1, b1⟩ := kk _ (fun z hz => by
        obtain ⟨z', -, hz'⟩ := List.mem_map.mp hz
        rw [← hz']) _ hheap X'
      exact ⟨t, step t a1, b1⟩
    · exact h.elim
  · exact h.elim
theorem hCln_ok {t : Nat} {at0 : FieldType} {ad : String} (ht : (t = 0 ∧ at0 = .int ∧ ad = "[I") ∨ (t = 1 ∧ at0 = .boolean ∧ ad = "[Z")) (h1 : Cond.methodLink own idx ⟨ad, "clone", "()Ljava/lang/Object;"⟩ ∈ lw_all) (h2 : Cond.sameMethod ad "java/lang/Object" "clone" "()Ljava/lang/Object;" ∈ lw_all) (h3 : Cond.selects ad ⟨ad, "clone", "()Ljava/lang/Object;"⟩ ⟨"java/lang/Object", "clone", "()Ljava/lang/Object;"⟩ ∈ lw_all) (h4 : Cond.castable ad "java/lang/Cloneable" ∈ lw_tbl)
    (hf : 1 ≤ fr) (hlo : 22 ≤ lo) (C : se_Cx p s m args meth c cc nL own ret) (hG : hGl g s) : se_Snd p l e (hRoom fr lo mc ms) s m args below meth c Q nL (fun a => a) (hRM g H0) cc (.invokevirtual idx) 3 (hCln mc ms t) := by
  intro pc L st w K X hd hK hX h
  unfold hCln at h
  split at h
  · rename_i a r
    split at h
    · rename_i t' n f ho
      obtain ⟨rfl, h8, hfit, k1, k2, h⟩ := h
      intro H locs k q ls hM hl
      obtain ⟨⟨hx, hb, hml, hown, hts⟩, hlk, hrt⟩ := C
      have h8' := se_c8_le (fun a => a) 8 r h8
      have hc := ((hM.2.2.1.2.1 a _ ho).2).2
      have h8t : t' < 8 := by omega
      obtain ⟨ty, hty, hnm⟩ : ∃ ty, hTy[t']? = some ty ∧ s.vm.findClass ad = some (gA_ g t') := by
        rcases ht with ⟨rfl, rfl, rfl⟩ | ⟨rfl, rfl, rfl⟩
        · exact ⟨_, rfl, (hG.2.1 0 _ rfl).2⟩
        · exact ⟨_, rfl, (hG.2.1 1 _ rfl).2⟩
      have htd : hTy.getD t' .int = ty := by simp [List.getD_eq_getElem?_getD, hty]
      rw [htd] at hfit
      generalize hH1 : H.push (vp_cell (gA_ g t') (n, .inl f)) = H1
      have z1 : H1.size = H.size + 1 := by rw [← hH1, Array.size_push]
      have e1 : H1[H.size]? = some (vp_cell (gA_ g t') (n, .inl f)) := by rw [← hH1, Array.getElem?_push_size]
      have o1 : ∀ q : Nat, q < H.size → H1[q]? = H[q]? := fun q hq => by rw [← hH1, Array.getElem?_push, if_neg (Nat.ne_of_lt hq)]
      have kk := hK _ _ h H1 locs (k + 1) (q + n) ls (hRM_new (ob := .inr (t', (n, .inl f))) hM z1 o1 ⟨h8t, e1⟩) hl
      rw [se_map_id] at h8'
      rw [se_map_id, hM.2.2.1.1] at kk
      rw [se_map_id]
      obtain ⟨c0, t0', f1, f2, f3⟩ := Cond.castable_spec (va_Nw.use (A := args) rfl (hG.2.2.1 _ h4 rfl))
      cases hnm.symm.trans f1
      intro T hT X0
      have hcellT : T.heap[a]? = some (vp_cell (gA_ g t') (n, .inl f)) := by rw [hT]; exact hc
      obtain ⟨-, kA, hkA, comp, hkind⟩ := State.isArrayOf_alike X0.warmed.alike (hTy_at hG hty 0 (fun _ => .null))
      obtain ⟨-, kS, hkS, compS, hkindS⟩ := hTy_at hG hty 0 (fun _ => .null)
      obtain ⟨vm', X', st⟩ := X0.cloneArray hx hown (hts _ h1) (hts _ h2) (hts _ q1396) (hts _ q1397) (hts _ h3) (a := a) (cell := vp_cell (gA_ g t') (n, .inl f)) hcellT (fun k h => by cases h) (fun h => by cases h) (by exact hnm) f2 (by exact f3)
        (fun i v hv => by
          have hk' : T.vm.classes[gA_ g t']? = some kA := hkA
          have hi : i < n := by
            have := (Array.getElem?_eq_some_iff.mp hv).1
            rw [vq_cf.2.2.1] at this
            exact this
          have hv' : (arrV (gA_ g t') n (fun j => Value.int (f j))).slots[i]? = some v := hv
          rw [arrV_read _ _ hi] at hv'
          cases hv'
          simpa [State.fitsSlot, State.slotType?, hk', hkind, vq_cf.2.1] using hfit i hi)
        (g := F0 m pc ls (.ref a :: r)) rfl (by rw [hml]; exact hl.1.1) rfl (by rw [hb]; exact hd) hf (by show 2 * 0 + _ + 14 ≤ lo; omega) (by rw [hM.1]; exact k1) (by rw [vq_cf.2.2.1, hM.2.1]; exact k2) (hloader := by exact Vm.clonesLoader_of_array hkS hkindS)
      rw [vq_cf.2.2.2, vq_cf.2.2.1] at X'
      obtain ⟨t, b1, b2⟩ := kk _ (by rw [← hH1, ← hT]; rfl) X'
      exact ⟨t, by rw [hT] at st; exact st t b1, b2⟩
    · exact h.elim
  · exact h.elim
variable {na fr' lo' mc' ms' maxL' : Nat} {x y : MethodName} {cc' : ByteArray} {ret' : Option FieldType} {owner C : String}
theorem lw_O (h1 : Cond.methodLink own idx x ∈ lw_all) (h0 : Cond.sameMethod x.cls owner x.name x.desc ∈ lw_all) (h6 : Cond.instanceMethod ⟨owner, x.name, x.desc⟩ ∈ lw_all) (h3 : Cond.selects C x y ∈ lw_all) (h2 : Cond.instanceMethod y ∈ lw_all) (h4 : Cond.initialized y.cls ∈ lw_all) (h5 : Cond.code y cc' maxL' ret' ∈ lw_all) : GoodIn lw_all (va_wsO own idx C owner x y (ws_ y cc' maxL' ret')) := by
  refine lw_app ?_ (lw_meth h5)
  intro w hw
  simp only [List.mem_cons, List.not_mem_nil, or_false] at hw
  rcases hw with e | e | e | e | e | e
  · rw [e]; exact h1
  · rw [e]; exact h0
  · rw [e]; exact h6
  · rw [e]; exact h3
  · rw [e]; exact h2
  · rw [e]; exact h4
/-- an overriding method: x's own code isn't run -/
theorem hRunV_O {b0 : ByteArray} {m0 : Nat} {r0 : Option FieldType} (hts : ∀ w ∈ lw_all, w.before args s = true)
    (h1 : Cond.methodLink own idx x ∈ lw_all) (h0 : Cond.sameMethod x.cls owner x.name x.desc ∈ lw_all) (h6 : Cond.instanceMethod ⟨owner, x.name, x.desc⟩ ∈ lw_all) (h3 : Cond.selects C x y ∈ lw_all) (h2 : Cond.instanceMethod y ∈ lw_all) (h4 : Cond.initialized y.cls ∈ lw_all) (h5 : Cond.code y cc' maxL' ret' ∈ lw_all) (h7 : Cond.code ⟨owner, x.name, x.desc⟩ b0 m0 r0 ∈ lw_all)
    (hd0 : owner ≠ "java/lang/invoke/MethodHandle" ∧ owner ≠ "java/lang/invoke/VarHandle" ∧ (parseMethodDescriptor x.desc).map (fun d => d.parameters.length) = some na) (hR : fr' + 1 ≤ fr ∧ 8 + (maxL' + 11) + lo' ≤ lo) :
    hRunV p l e (hRoom fr lo mc ms) s m args below meth c nL cc own C y (ws_ y cc' maxL' ret') (hRoom fr' lo' mc' ms') na idx mc' ms' :=
  fun H locs k q pc ls b As rest Pc Qc XC free S hM hp hna hls hW hd hf => vx_runU S hM (va_cwO (R := hRoom fr lo mc ms) (rm := hRoom fr' lo' mc' ms') na hts (lw_O h1 h0 h6 h3 h2 h4 h5) rfl rfl rfl h7 hd0 hR) hp rfl hna hls rfl hW hd hf
/-- what never moves: a text, a box -/
def hLwO (g : hG) (C : String) (a : Nat) : Prop := (C = "java/lang/String" ∧ ∃ i, i < 29 ∧ a = gTx g i) ∨ (C = "java/lang/Integer" ∧ ∃ j, j < 256 ∧ a = gBx g j)
theorem hLw_T {g : hG} {a : Nat} {As : List Value} {P : Prop} (h : (∃ i, i < 29 ∧ a = gTx g i) ∧ P) : ∃ b As', Value.ref a :: As = Value.ref b :: As' ∧ hLwO g "java/lang/String" b := ⟨a, As, rfl, .inl ⟨rfl, h.1⟩⟩
theorem hLw_B {g : hG} {a : Nat} {As : List Value} {P : Prop} (h : (∃ i, i < 256 ∧ a = gBx g i) ∧ P) : ∃ b As', Value.ref a :: As = Value.ref b :: As' ∧ hLwO g "java/lang/Integer" b := ⟨a, As, rfl, .inr ⟨rfl, h.1⟩⟩
/-- a call through a text or a box -/
theorem hCVL_ok {pre : hPre} {post : hPost} {px : hPx} (hM : hCon l y (ws_ y cc' maxL' ret') fr' lo' mc' ms' pre post px) (hlow : ∀ g As h n, pre g As h n → ∃ b As', As = .ref b :: As' ∧ hLwO g y.cls b)
    (h1 : Cond.methodLink own idx y ∈ lw_all) (h2 : Cond.instanceMethod y ∈ lw_all) (h3 : Cond.selects y.cls y y ∈ lw_all) (h4 : Cond.initialized y.cls ∈ lw_all) (h5 : Cond.code y cc' maxL' ret' ∈ lw_all)
    (hd0 : y.cls ≠ "java/lang/invoke/MethodHandle" ∧ y.cls ≠ "java/lang/invoke/VarHandle" ∧ (parseMethodDescriptor y.desc).map (fun d => d.parameters.length) = some na) (hR : fr' + 1 ≤ fr ∧ 8 + (maxL' + 11) + lo' ≤ lo)
    (C : se_Cx p s m args meth c cc nL own ret) (hG : hGl g s) (hS : hSt g s) : se_Snd p l e (hRoom fr lo mc ms) s m args below meth c Q nL (fun a => a) (hRM g H0) cc (.invokevirtual idx) 3 (hCS g (na + 1) mc ms mc' ms' pre post px) := by
  intro pc L st w K X hd hK hX h
  obtain ⟨As0, r, rfl, hn0, h8, hpre, hk1, hk2, g1, g2⟩ := hPop_e h
  rw [List.append_nil] at hpre g1 g2
  obtain ⟨b, As, rfl, hlw⟩ := hlow _ _ _ _ hpre
  intro H locs k q ls hMM hl
  obtain ⟨⟨hx, hb, hml, hown, hts⟩, hlk, hrt⟩ := C
  obtain ⟨cell, q1, q2, q3⟩ : ∃ cell : Cell, H[b]? = some cell ∧ cell.vm.isStatics = false ∧ s.vm.findClass y.cls = some cell.cls := by
    rcases hlw with ⟨e, i, hi, rfl⟩ | ⟨e, i, hi, rfl⟩
    · obtain ⟨cell, z1, z2, z3, z4⟩ := (hS.2.2.2.2.2.2.2.2.1.1 i hi).1.kept (hLow hMM)
      exact ⟨cell, z1, z2, by rw [e]; exact z3⟩
    · obtain ⟨cell, z1, z2, z3, z4⟩ := (hS.2.2.2.2.2.2.2.1.1 i hi).kept (hLow hMM)
      exact ⟨cell, z1, z2, by rw [e]; exact z3⟩
  have hna : As.length = na := by simpa using hn0
  rw [se_map_id]
  refine hFin (K := K) (X := X) (post := post g (.ref b :: As) w.1 w.2.1) (px := px g (.ref b :: As) w.1 w.2.1) ?_ hMM hl hK hX g1 g2
  exact vx_runV (As := As) (rest := r) (b := b) ⟨hx, hb, hml, hown, hts⟩ (hM g (.ref b :: As) w.1 w.2.1 hMM.2.2.1.dom hpre)
    (cwV (R := hRoom fr lo mc ms) (rm := hRoom fr' lo' mc' ms') (C := y.cls) na hts (lw_V h1 h2 h3 h4 h5) rfl rfl rfl ⟨rfl, hd0⟩ hR)
    ⟨hBlind g _ _ _, ⟨cell, q1, q2, q3⟩, fun U hU hW => ⟨rfl, hG.moved hW, hS.moved hW, by rw [hU]; exact hMM.2.2.1⟩⟩
    rfl hna hl.1.1 (by simp) (lv_room (by have := se_c8_le (fun a => a) 8 r h8; rwa [se_map_id] at this)) hd ⟨by rw [hMM.1]; exact hk1, by rw [hMM.2.1]; exact hk2⟩
end
/-! ROWS of the operations over the typed memory -/
section
variable {w : yW} {K : List Value → yW → Prop} {Y : Nat → yW → Prop} {r st : List Value} {a b q t N : Nat} {x i : Int32} {u : Int64} {cs : List Nat} {g : hG} {mc ms : Nat}
theorem yGI_r : yGI cs q (.ref a :: r) w K Y = (yc w.1 a ∈ cs ∧ K (.int (yi w.1 a q) :: r) w) := rfl
theorem yGJ_r : yGJ cs q (.ref a :: r) w K Y = (yc w.1 a ∈ cs ∧ K (.long (yj w.1 a q) :: r) w) := rfl
theorem yGR_r : yGR cs q (.ref a :: r) w K Y = (yc w.1 a ∈ cs ∧ K (va_rf (yr w.1 a q) :: r) w) := rfl
theorem yPI_r : yPI cs q (.int x :: .ref a :: r) w K Y = (yc w.1 a ∈ cs ∧ K r (ywI w.1 a q x, w.2)) := rfl
theorem yPZ_r : yPZ cs q (.int x :: .ref a :: r) w K Y = (yc w.1 a ∈ cs ∧ (x = 0 ∨ x = 1) ∧ K r (ywI w.1 a q x, w.2)) := rfl
theorem yPJ_r : yPJ cs q (.long u :: .ref a :: r) w K Y = (yc w.1 a ∈ cs ∧ K r (ywJ w.1 a q u, w.2)) := rfl
theorem yPR_r : yPR cs q (.ref b :: .ref a :: r) w K Y = (yc w.1 a ∈ cs ∧ K r (ywR w.1 a q (some b), w.2)) := rfl
theorem yPR_n : yPR cs q (.null :: .ref a :: r) w K Y = (yc w.1 a ∈ cs ∧ K r (ywR w.1 a q none, w.2)) := rfl
theorem yIald_r : yIald (.int i :: .ref a :: r) w K Y = (yc w.1 a = 30 ∧ vp_in i (yl w.1 a) ∧ K (.int (yi w.1 a i.toNatClampNeg) :: r) w) := rfl
theorem yBald_r : yBald (.int i :: .ref a :: r) w K Y = ((yc w.1 a = 31 ∨ yc w.1 a = 32) ∧ vp_in i (yl w.1 a) ∧ K (.int (yi w.1 a i.toNatClampNeg) :: r) w) := rfl
theorem yLald_r : yLald (.int i :: .ref a :: r) w K Y = (yc w.1 a = 33 ∧ vp_in i (yl w.1 a) ∧ K (.long (yj w.1 a i.toNatClampNeg) :: r) w) := rfl
theorem yAaldB_r : yAaldB (.int i :: .ref a :: r) w K Y = ((yc w.1 a = 35 ∨ yc w.1 a = 36 ∨ yc w.1 a = 37 ∨ yc w.1 a = 44) ∧ vp_in i (yl w.1 a) ∧ K (va_rf (yr w.1 a i.toNatClampNeg) :: r) w) := rfl
theorem yIast_r : yIast (.int x :: .int i :: .ref a :: r) w K Y = (yc w.1 a = 30 ∧ vp_in i (yl w.1 a) ∧ K r (ywI w.1 a i.toNatClampNeg x, w.2)) := rfl
theorem yBastB_r : yBastB (.int x :: .int i :: .ref a :: r) w K Y = (vp_in i (yl w.1 a) ∧ ((yc w.1 a = 31 ∧ (x = 0 ∨ x = 1) ∧ K r (ywI w.1 a i.toNatClampNeg x, w.2)) ∨ (yc w.1 a = 32 ∧ K r (ywI w.1 a i.toNatClampNeg x.toInt8.toInt32, w.2)))) := rfl
theorem yLast_r : yLast (.long u :: .int i :: .ref a :: r) w K Y = (yc w.1 a = 33 ∧ vp_in i (yl w.1 a) ∧ K r (ywJ w.1 a i.toNatClampNeg u, w.2)) := rfl
theorem yAast_r : yAast (.ref b :: .int i :: .ref a :: r) w K Y = ((yc w.1 a = 35 ∧ yc w.1 b = 17 ∨ yc w.1 a = 36 ∧ yc w.1 b = 20 ∨ yc w.1 a = 37 ∧ yc w.1 b = 4) ∧ vp_in i (yl w.1 a) ∧ K r (ywR w.1 a i.toNatClampNeg (some b), w.2)) := rfl
theorem yAast_n : yAast (.null :: .int i :: .ref a :: r) w K Y = ((yc w.1 a = 35 ∨ yc w.1 a = 36 ∨ yc w.1 a = 37) ∧ vp_in i (yl w.1 a) ∧ K r (ywR w.1 a i.toNatClampNeg none, w.2)) := rfl
theorem yAlenB_r : yAlenB (.ref a :: r) w K Y = (((30 ≤ yc w.1 a ∧ yc w.1 a < 38) ∨ yc w.1 a = 44) ∧ K (.int (nI (yl w.1 a)) :: r) w) := rfl
theorem yNew_r : yNew mc ms t N st w K Y = (w.2.2.1 + 1 ≤ mc ∧ w.2.2.2 + N ≤ ms ∧ K (.ref w.2.1 :: st) (ynw w.1 w.2.1 t 0, w.2.1 + 1, w.2.2.1 + 1, w.2.2.2 + N)) := rfl
theorem yNewL_r : yNewL mc ms st w K Y = (w.2.2.1 + 1 ≤ mc ∧ w.2.2.2 + 3 ≤ ms ∧ K (.ref w.2.1 :: st) (ynw w.1 w.2.1 29 0, w.2.1 + 1, w.2.2.1 + 1, w.2.2.2 + 3)) := rfl
theorem yNewA_r : yNewA mc ms t (.int x :: r) w K Y = (¬ x < 0 ∧ x.toNatClampNeg ≤ 65536 ∧ w.2.2.1 + 1 ≤ mc ∧ w.2.2.2 + x.toNatClampNeg ≤ ms ∧ K (.ref w.2.1 :: r) (ynw w.1 w.2.1 (30 + t) x.toNatClampNeg, w.2.1 + 1, w.2.2.1 + 1, w.2.2.2 + x.toNatClampNeg)) := rfl
theorem yCast_r : yCast cs (.ref a :: r) w K Y = (yc w.1 a ∈ cs ∧ K (.ref a :: r) w) := rfl
theorem yCast_n : yCast cs (.null :: r) w K Y = K (.null :: r) w := rfl
theorem yThrow_r : yThrow (.ref a :: r) w K Y = (yc w.1 a = 22 ∧ Y a w) := rfl
theorem yGst_r : yGst g q st w K Y = (K (gV g q :: st) w) := rfl
theorem yLdc_r : yLdc q st w K Y = (K (.ref q :: st) w) := rfl
theorem yObj_r : yObj (.ref a :: r) w K Y = (se_c8 8 r ∧ K r w) := rfl
theorem sCI_r {μ : Type} {v : Int32} {w : μ} {K : List Value → μ → Prop} {Y : Nat → μ → Prop} : opCI v st w K Y = K (.int v :: st) w := rfl
theorem sCJ_r {μ : Type} {v : Int64} {w : μ} {K : List Value → μ → Prop} {Y : Nat → μ → Prop} : opCJ v st w K Y = K (.long v :: st) w := rfl
theorem yrf_s : va_rf (some a) = .ref a := rfl
theorem yrf_n : va_rf none = .null := rfl
end
section
variable {m : yM} {a b k j n c : Nat} {x : Int32} {u : Int64} {o : Option Nat} {f : Nat → Option Nat}
theorem yI_s : yi (ywI m a k x) a j = if j = k then x else yi m a j := by rw [yi_wI, if_pos rfl]; rfl
theorem yI_n (h : b ≠ a) : yi (ywI m a k x) b j = yi m b j := by rw [yi_wI, if_neg h]
theorem yI_c (h : yc m b ≠ yc m a) : yi (ywI m a k x) b j = yi m b j := yI_n fun e => h (by rw [e])
theorem yJ_s : yj (ywJ m a k u) a j = if j = k then u else yj m a j := by rw [yj_wJ, if_pos rfl]; rfl
theorem yJ_n (h : b ≠ a) : yj (ywJ m a k u) b j = yj m b j := by rw [yj_wJ, if_neg h]
theorem yJ_c (h : yc m b ≠ yc m a) : yj (ywJ m a k u) b j = yj m b j := yJ_n fun e => h (by rw [e])
theorem yR_s : yr (ywR m a k o) a j = if j = k then o else yr m a j := by rw [yr_wR, if_pos rfl]; rfl
theorem yR_n (h : b ≠ a) : yr (ywR m a k o) b j = yr m b j := by rw [yr_wR, if_neg h]
theorem yR_c (h : yc m b ≠ yc m a) : yr (ywR m a k o) b j = yr m b j := yR_n fun e => h (by rw [e])
theorem yN_cs : yc (ynw m a c n) a = c := by rw [yc_nw, if_pos rfl]
theorem yN_ls : yl (ynw m a c n) a = n := by rw [yl_nw, if_pos rfl]
theorem yN_is : yi (ynw m a c n) a j = 0 := by rw [yi_nw, if_pos rfl]
theorem yN_js : yj (ynw m a c n) a j = 0 := by rw [yj_nw, if_pos rfl]
theorem yN_rs : yr (ynw m a c n) a j = none := by rw [yr_nw, if_pos rfl]
theorem yN_c (h : b ≠ a) : yc (ynw m a c n) b = yc m b := by rw [yc_nw, if_neg h]
theorem yN_l (h : b ≠ a) : yl (ynw m a c n) b = yl m b := by rw [yl_nw, if_neg h]
theorem yN_i (h : b ≠ a) : yi (ynw m a c n) b j = yi m b j := by rw [yi_nw, if_neg h]
theorem yN_j (h : b ≠ a) : yj (ynw m a c n) b j = yj m b j := by rw [yj_nw, if_neg h]
theorem yN_r (h : b ≠ a) : yr (ynw m a c n) b j = yr m b j := by rw [yr_nw, if_neg h]
theorem yL_cs : yc (ywL m a n x f) a = 23 := by rw [yc_wL, if_pos rfl]
theorem yL_ls : yl (ywL m a n x f) a = n := by rw [yl_wL, if_pos rfl]
theorem yL_is : yi (ywL m a n x f) a j = x := by rw [yi_wL, if_pos rfl]
theorem yL_rs : yr (ywL m a n x f) a = f := by rw [yr_wL, if_pos rfl]
theorem yL_c (h : b ≠ a) : yc (ywL m a n x f) b = yc m b := by rw [yc_wL, if_neg h]
theorem yL_l (h : b ≠ a) : yl (ywL m a n x f) b = yl m b := by rw [yl_wL, if_neg h]
theorem yL_i (h : b ≠ a) : yi (ywL m a n x f) b j = yi m b j := by rw [yi_wL, if_neg h]
theorem yL_r (h : b ≠ a) : yr (ywL m a n x f) b = yr m b := by rw [yr_wL, if_neg h]
theorem yL_lc (h : yc m b ≠ yc m a) : yl (ywL m a n x f) b = yl m b := yL_l fun e => h (by rw [e])
theorem yL_ic (h : yc m b ≠ yc m a) : yi (ywL m a n x f) b j = yi m b j := yL_i fun e => h (by rw [e])
theorem yL_rc (h : yc m b ≠ yc m a) : yr (ywL m a n x f) b = yr m b := yL_r fun e => h (by rw [e])
end
/-! the heap's rows -/
section
variable {w : hW} {K : List Value → hW → Prop} {Y : Nat → hW → Prop} {r st : List Value} {a b q t : Nat} {x i n dp sp : Int32} {v : Value} {F : List (Nat × Nat)} {g : hG} {mc ms : Nat}
theorem hGet_r : hGet F (.ref a :: r) w K Y = (match w.1 a with
    | some (.inl o) => (match hfl F o.1 with
      | some k => K (o.2 k :: r) w
      | none => False)
    | _ => False) := rfl
theorem hPut_r : hPut F t (v :: .ref a :: r) w K Y = (match w.1 a with
    | some (.inl o) => (match hfl F o.1 with
      | some k => hVk t v ∧ K r (hU w.1 a (.inl (o.1, updV o.2 k v)), w.2)
      | none => False)
    | _ => False) := rfl
theorem hAald_r : hAald (.int i :: .ref a :: r) w K Y = (match w.1 a with
    | some (.inr (t, (n, .inr (.inr (.inr (.inr f)))))) => 4 ≤ t ∧ vp_in i n ∧ K (va_rf (f i.toNatClampNeg) :: r) w
    | _ => False) := rfl
theorem hAastO_r : hAastO g (.ref b :: .int i :: .ref a :: r) w K Y = (match w.1 a with
    | some (.inr (4, (n, .inr (.inr (.inr (.inr f)))))) => hAnyO g w.1 b ∧ vp_in i n ∧ K r (hU w.1 a (.inr (4, (n, .inr (.inr (.inr (.inr (va_up f i.toNatClampNeg (some b)))))))), w.2)
    | _ => False) := rfl
theorem hAastO_n : hAastO g (.null :: .int i :: .ref a :: r) w K Y = (match w.1 a with
    | some (.inr (4, (n, .inr (.inr (.inr (.inr f)))))) => vp_in i n ∧ K r (hU w.1 a (.inr (4, (n, .inr (.inr (.inr (.inr (va_up f i.toNatClampNeg none))))))), w.2)
    | _ => False) := rfl
theorem hCpy_r : hCpy g (.int n :: .int dp :: .ref a :: .int sp :: .ref b :: r) w K Y = (match w.1 b, w.1 a with
    | some (.inr (4, (n0, .inr (.inr (.inr (.inr f)))))), some (.inr (4, (n1, .inr (.inr (.inr (.inr f1)))))) => se_c8 8 r ∧ ¬ sp < 0 ∧ ¬ dp < 0 ∧ ¬ n < 0 ∧ sp.toNatClampNeg + n.toNatClampNeg ≤ n0 ∧ dp.toNatClampNeg + n.toNatClampNeg ≤ n1 ∧
      (∀ i, i < n.toNatClampNeg → ∀ y, f (sp.toNatClampNeg + i) = some y → hAnyO g w.1 y) ∧ K r (hU w.1 a (.inr (4, (n1, .inr (.inr (.inr (.inr (va_cpy f f1 sp.toNatClampNeg dp.toNatClampNeg n.toNatClampNeg))))))), w.2)
    | _, _ => False) := rfl
theorem hGcl_r : hGcl g (.ref a :: r) w K Y = (match w.1 a with
    | some (.inr (4, _)) => se_c8 8 r ∧ K (.ref (gSa g 5) :: r) w
    | _ => False) := rfl
theorem hNewA_r : hNewA mc ms t (.int x :: r) w K Y = (¬ x < 0 ∧ x.toNatClampNeg ≤ 65536 ∧ w.2.2.1 + 1 ≤ mc ∧ w.2.2.2 + x.toNatClampNeg ≤ ms ∧ K (.ref w.2.1 :: r) (hU w.1 w.2.1 (.inr (t, hZero t x.toNatClampNeg)), w.2.1 + 1, w.2.2.1 + 1, w.2.2.2 + x.toNatClampNeg)) := rfl
/-- the length of an array of the heap, or of the empty one -/
def hAlE (g : hG) : se_Op hW := fun st w K _ => match st with
  | .ref a :: r => (match w.1 a with
    | some (.inr o) => K (.int (Int32.ofNat o.2.1) :: r) w
    | _ => a = gSa g 0 ∧ K (.int 0 :: r) w)
  | _ => False
theorem hAlE_r : hAlE g (.ref a :: r) w K Y = (match w.1 a with
    | some (.inr o) => K (.int (Int32.ofNat o.2.1) :: r) w
    | _ => a = gSa g 0 ∧ K (.int 0 :: r) w) := rfl
theorem hUa_s {h : hH} {ob : hO} : hU h a ob a = some ob := if_pos rfl
theorem hUa_n {h : hH} {ob : hO} (e : b ≠ a) : hU h a ob b = h b := if_neg e
theorem updV_a {f : Nat → Value} {k j : Nat} : updV f k v j = if j = k then v else f j := rfl
end
section
variable {p : Program} {l : Launch} {e : Env} {R : Room} {s : State} {m : MethodId} {args : Array Value} {below : List Frame} {meth : Method} {c : Code} {nL : Nat} {cc : ByteArray} {ret : Option FieldType} {Q : State → Prop} {g : hG} {H0 : Heap} {own : String}
theorem hAlE_ok (C : se_Cx p s m args meth c cc nL own ret) (hG : hGl g s) (hS : hSt g s) : se_Snd p l e R s m args below meth c Q nL (fun a => a) (hRM g H0) cc .arraylength 1 (hAlE g) :=
  se_or (hAlen_ok C hG) (hEmL_ok C hS) fun st w K X h => by
    unfold hAlE at h
    split at h
    · split at h
      · rename_i a r o ho
        refine .inl ?_
        simp only [hAlen, ho]
        exact h
      · exact .inr h
    · exact h.elim
end
/-! NUMBERS: java.lang.Math -/
section
variable {p : Program} {l : Launch} {e : Env} {s : State} {m : MethodId} {args : Array Value} {below : List Frame} {meth : Method} {c : Code} {nL : Nat} {cc : ByteArray} {ret : Option FieldType} {Q : State → Prop} {g : hG} {H0 : Heap} {idx mc ms fr lo : Nat} {own : String}
def hMx (mc ms : Nat) : se_Op hW := fun st w K _ => match st with
  | .int y :: .int x :: r => se_c8 8 r ∧ w.2.2.1 ≤ mc ∧ w.2.2.2 ≤ ms ∧ K (.int (if x < y then y else x) :: r) w
  | _ => False
theorem hMx_r {w : hW} {K : List Value → hW → Prop} {Y : Nat → hW → Prop} {r : List Value} {y : Int32} {x : Int32} : hMx mc ms (.int y :: .int x :: r) w K Y = (se_c8 8 r ∧ w.2.2.1 ≤ mc ∧ w.2.2.2 ≤ ms ∧ K (.int (if x < y then y else x) :: r) w) := rfl
def yMx (mc ms : Nat) : se_Op yW := fun st w K _ => match st with
  | .int y :: .int x :: r => se_c8 8 r ∧ w.2.2.1 ≤ mc ∧ w.2.2.2 ≤ ms ∧ K (.int (if x < y then y else x) :: r) w
  | _ => False
theorem yMx_r {w : yW} {K : List Value → yW → Prop} {Y : Nat → yW → Prop} {r : List Value} {y : Int32} {x : Int32} : yMx mc ms (.int y :: .int x :: r) w K Y = (se_c8 8 r ∧ w.2.2.1 ≤ mc ∧ w.2.2.2 ≤ ms ∧ K (.int (if x < y then y else x) :: r) w) := rfl
theorem hMx_ok (h1 : Cond.methodLink own idx ({ cls := "java/lang/Math", name := "max", desc := "(II)I" } : Jvm.MethodName) ∈ lw_all) (hf : 1 ≤ fr) (hlo : 23 ≤ lo) (C : se_Cx p s m args meth c cc nL own ret) : se_Snd p l e (hRoom fr lo mc ms) s m args below meth c Q nL (fun a => a) (hRM g H0) cc (.invokestatic idx) 3 (hMx mc ms) := by
  intro pc L st w K X hd hK hX h
  unfold hMx at h
  split at h
  · rename_i y x r
    obtain ⟨h8, k1, k2, h⟩ := h
    intro H locs k q ls hM hl
    obtain ⟨⟨hx, hb, hml, hown, hts⟩, hlk, hrt⟩ := C
    have kk := hK _ _ h H locs k q ls hM hl
    have h8' := se_c8_le (fun a => a) 8 r h8
    rw [se_map_id] at kk h8' ⊢
    refine va_mmax hx hb (hml.trans hl.1.1.symm) hown (hts _ h1) (hts _ q532) (hts _ q111) (hts _ q533) hf ?_ (by rw [hM.1]; exact k1) (by rw [hM.2.1]; exact k2) hd kk
    show _ ≤ lo
    have : (r.map fun v => v.category).sum ≤ 8 := h8'
    omega
  · exact h.elim
theorem yMx_ok (hl : l.stackTraces = false) (h1 : Cond.methodLink own idx ({ cls := "java/lang/Math", name := "max", desc := "(II)I" } : Jvm.MethodName) ∈ lw_all) (hf : 1 ≤ fr) (hlo : 23 ≤ lo) (C : se_Cx p s m args meth c cc nL own ret) (hG : hGl g s) (hS : hSt g s) : se_Snd p l e (hRoom fr lo mc ms) s m args below meth c Q nL (fun a => a) (yRM g H0) cc (.invokestatic idx) 3 (yMx mc ms) :=
  yLift (hMx_ok (mc := mc) (ms := ms) h1 hf hlo C) fun st w K X hh hr hD h => by
    unfold yMx at h
    split at h
    · obtain ⟨h8, k1, k2, h⟩ := h
      exact ⟨h8, k1, k2, w.1, hr, h⟩
    · exact h.elim
def hMn (mc ms : Nat) : se_Op hW := fun st w K _ => match st with
  | .int y :: .int x :: r => se_c8 8 r ∧ w.2.2.1 ≤ mc ∧ w.2.2.2 ≤ ms ∧ K (.int (if y < x then y else x) :: r) w
  | _ => False
theorem hMn_r {w : hW} {K : List Value → hW → Prop} {Y : Nat → hW → Prop} {r : List Value} {y : Int32} {x : Int32} : hMn mc ms (.int y :: .int x :: r) w K Y = (se_c8 8 r ∧ w.2.2.1 ≤ mc ∧ w.2.2.2 ≤ ms ∧ K (.int (if y < x then y else x) :: r) w) := rfl
def yMn (mc ms : Nat) : se_Op yW := fun st w K _ => match st with
  | .int y :: .int x :: r => se_c8 8 r ∧ w.2.2.1 ≤ mc ∧ w.2.2.2 ≤ ms ∧ K (.int (if y < x then y else x) :: r) w
  | _ => False
theorem yMn_r {w : yW} {K : List Value → yW → Prop} {Y : Nat → yW → Prop} {r : List Value} {y : Int32} {x : Int32} : yMn mc ms (.int y :: .int x :: r) w K Y = (se_c8 8 r ∧ w.2.2.1 ≤ mc ∧ w.2.2.2 ≤ ms ∧ K (.int (if y < x then y else x) :: r) w) := rfl
theorem hMn_ok (h1 : Cond.methodLink own idx ({ cls := "java/lang/Math", name := "min", desc := "(II)I" } : Jvm.MethodName) ∈ lw_all) (hf : 1 ≤ fr) (hlo : 23 ≤ lo) (C : se_Cx p s m args meth c cc nL own ret) : se_Snd p l e (hRoom fr lo mc ms) s m args below meth c Q nL (fun a => a) (hRM g H0) cc (.invokestatic idx) 3 (hMn mc ms) := by
  intro pc L st w K X hd hK hX h
  unfold hMn at h
  split at h
  · rename_i y x r
    obtain ⟨h8, k1, k2, h⟩ := h
    intro H locs k q ls hM hl
    obtain ⟨⟨hx, hb, hml, hown, hts⟩, hlk, hrt⟩ := C
    have kk := hK _ _ h H locs k q ls hM hl
    have h8' := se_c8_le (fun a => a) 8 r h8
    rw [se_map_id] at kk h8' ⊢
    refine va_mmin hx hb (hml.trans hl.1.1.symm) hown (hts _ h1) (hts _ q535) (hts _ q111) (hts _ q536) hf ?_ (by rw [hM.1]; exact k1) (by rw [hM.2.1]; exact k2) hd kk
    show _ ≤ lo
    have : (r.map fun v => v.category).sum ≤ 8 := h8'
    omega
  · exact h.elim
theorem yMn_ok (hl : l.stackTraces = false) (h1 : Cond.methodLink own idx ({ cls := "java/lang/Math", name := "min", desc := "(II)I" } : Jvm.MethodName) ∈ lw_all) (hf : 1 ≤ fr) (hlo : 23 ≤ lo) (C : se_Cx p s m args meth c cc nL own ret) (hG : hGl g s) (hS : hSt g s) : se_Snd p l e (hRoom fr lo mc ms) s m args below meth c Q nL (fun a => a) (yRM g H0) cc (.invokestatic idx) 3 (yMn mc ms) :=
  yLift (hMn_ok (mc := mc) (ms := ms) h1 hf hlo C) fun st w K X hh hr hD h => by
    unfold yMn at h
    split at h
    · obtain ⟨h8, k1, k2, h⟩ := h
      exact ⟨h8, k1, k2, w.1, hr, h⟩
    · exact h.elim
def hAb (mc ms : Nat) : se_Op hW := fun st w K _ => match st with
  | .int x :: r => se_c8 8 r ∧ w.2.2.1 ≤ mc ∧ w.2.2.2 ≤ ms ∧ K (.int (if 0 ≤ x then x else 0 - x) :: r) w
  | _ => False
theorem hAb_r {w : hW} {K : List Value → hW → Prop} {Y : Nat → hW → Prop} {r : List Value} {x : Int32} : hAb mc ms (.int x :: r) w K Y = (se_c8 8 r ∧ w.2.2.1 ≤ mc ∧ w.2.2.2 ≤ ms ∧ K (.int (if 0 ≤ x then x else 0 - x) :: r) w) := rfl
def yAb (mc ms : Nat) : se_Op yW := fun st w K _ => match st with
  | .int x :: r => se_c8 8 r ∧ w.2.2.1 ≤ mc ∧ w.2.2.2 ≤ ms ∧ K (.int (if 0 ≤ x then x else 0 - x) :: r) w
  | _ => False
theorem yAb_r {w : yW} {K : List Value → yW → Prop} {Y : Nat → yW → Prop} {r : List Value} {x : Int32} : yAb mc ms (.int x :: r) w K Y = (se_c8 8 r ∧ w.2.2.1 ≤ mc ∧ w.2.2.2 ≤ ms ∧ K (.int (if 0 ≤ x then x else 0 - x) :: r) w) := rfl
theorem hAb_ok (h1 : Cond.methodLink own idx ({ cls := "java/lang/Math", name := "abs", desc := "(I)I" } : Jvm.MethodName) ∈ lw_all) (hf : 1 ≤ fr) (hlo : 23 ≤ lo) (C : se_Cx p s m args meth c cc nL own ret) : se_Snd p l e (hRoom fr lo mc ms) s m args below meth c Q nL (fun a => a) (hRM g H0) cc (.invokestatic idx) 3 (hAb mc ms) := by
  intro pc L st w K X hd hK hX h
  unfold hAb at h
  split at h
  · rename_i x r
    obtain ⟨h8, k1, k2, h⟩ := h
    intro H locs k q ls hM hl
    obtain ⟨⟨hx, hb, hml, hown, hts⟩, hlk, hrt⟩ := C
    have kk := hK _ _ h H locs k q ls hM hl
    have h8' := se_c8_le (fun a => a) 8 r h8
    rw [se_map_id] at kk h8' ⊢
    refine va_mabs hx hb (hml.trans hl.1.1.symm) hown (hts _ h1) (hts _ q1472) (hts _ q111) (hts _ q1473) hf ?_ (by rw [hM.1]; exact k1) (by rw [hM.2.1]; exact k2) hd kk
    show _ ≤ lo
    have : (r.map fun v => v.category).sum ≤ 8 := h8'
    omega
  · exact h.elim
theorem yAb_ok (hl : l.stackTraces = false) (h1 : Cond.methodLink own idx ({ cls := "java/lang/Math", name := "abs", desc := "(I)I" } : Jvm.MethodName) ∈ lw_all) (hf : 1 ≤ fr) (hlo : 23 ≤ lo) (C : se_Cx p s m args meth c cc nL own ret) (hG : hGl g s) (hS : hSt g s) : se_Snd p l e (hRoom fr lo mc ms) s m args below meth c Q nL (fun a => a) (yRM g H0) cc (.invokestatic idx) 3 (yAb mc ms) :=
  yLift (hAb_ok (mc := mc) (ms := ms) h1 hf hlo C) fun st w K X hh hr hD h => by
    unfold yAb at h
    split at h
    · obtain ⟨h8, k1, k2, h⟩ := h
      exact ⟨h8, k1, k2, w.1, hr, h⟩
    · exact h.elim
def hAj (mc ms : Nat) : se_Op hW := fun st w K _ => match st with
  | .long x :: r => se_c8 8 r ∧ w.2.2.1 ≤ mc ∧ w.2.2.2 ≤ ms ∧ K (.long (if 0 < x then x else -x) :: r) w
  | _ => False
theorem hAj_r {w : hW} {K : List Value → hW → Prop} {Y : Nat → hW → Prop} {r : List Value} {x : Int64} : hAj mc ms (.long x :: r) w K Y = (se_c8 8 r ∧ w.2.2.1 ≤ mc ∧ w.2.2.2 ≤ ms ∧ K (.long (if 0 < x then x else -x) :: r) w) := rfl
def yAj (mc ms : Nat) : se_Op yW := fun st w K _ => match st with
  | .long x :: r => se_c8 8 r ∧ w.2.2.1 ≤ mc ∧ w.2.2.2 ≤ ms ∧ K (.long (if 0 < x then x else -x) :: r) w
  | _ => False
theorem yAj_r {w : yW} {K : List Value → yW → Prop} {Y : Nat → yW → Prop} {r : List Value} {x : Int64} : yAj mc ms (.long x :: r) w K Y = (se_c8 8 r ∧ w.2.2.1 ≤ mc ∧ w.2.2.2 ≤ ms ∧ K (.long (if 0 < x then x else -x) :: r) w) := rfl
theorem hAj_ok (h1 : Cond.methodLink own idx ({ cls := "java/lang/Math", name := "abs", desc := "(J)J" } : Jvm.MethodName) ∈ lw_all) (hf : 1 ≤ fr) (hlo : 23 ≤ lo) (C : se_Cx p s m args meth c cc nL own ret) : se_Snd p l e (hRoom fr lo mc ms) s m args below meth c Q nL (fun a => a) (hRM g H0) cc (.invokestatic idx) 3 (hAj mc ms) := by
  intro pc L st w K X hd hK hX h
  unfold hAj at h
  split at h
  · rename_i x r
    obtain ⟨h8, k1, k2, h⟩ := h
    intro H locs k q ls hM hl
    obtain ⟨⟨hx, hb, hml, hown, hts⟩, hlk, hrt⟩ := C
    have kk := hK _ _ h H locs k q ls hM hl
    have h8' := se_c8_le (fun a => a) 8 r h8
    rw [se_map_id] at kk h8' ⊢
    refine va_mabs_long hx hb (hml.trans hl.1.1.symm) hown (hts _ h1) (hts _ q1548) (hts _ q111) (hts _ q1549) hf ?_ (by rw [hM.1]; exact k1) (by rw [hM.2.1]; exact k2) hd kk
    show _ ≤ lo
    have : (r.map fun v => v.category).sum ≤ 8 := h8'
    omega
  · exact h.elim
theorem yAj_ok (hl : l.stackTraces = false) (h1 : Cond.methodLink own idx ({ cls := "java/lang/Math", name := "abs", desc := "(J)J" } : Jvm.MethodName) ∈ lw_all) (hf : 1 ≤ fr) (hlo : 23 ≤ lo) (C : se_Cx p s m args meth c cc nL own ret) (hG : hGl g s) (hS : hSt g s) : se_Snd p l e (hRoom fr lo mc ms) s m args below meth c Q nL (fun a => a) (yRM g H0) cc (.invokestatic idx) 3 (yAj mc ms) :=
  yLift (hAj_ok (mc := mc) (ms := ms) h1 hf hlo C) fun st w K X hh hr hD h => by
    unfold yAj at h
    split at h
    · obtain ⟨h8, k1, k2, h⟩ := h
      exact ⟨h8, k1, k2, w.1, hr, h⟩
    · exact h.elim
end
/-! signatures over the heap -/
abbrev hm_IIIrI (l : Launch) (y : MethodName) (ws : List Cond) (fr lo mc ms : Nat) (P : hG → Int32 → Int32 → Int32 → hH → Nat → Prop) (Q : hG → Int32 → Int32 → Int32 → hH → Nat → Int32 → hH → Nat → Prop) : Prop := hCon l y ws fr lo mc ms (fun (g : hG) (av : List Value) (m : hH) (n : Nat) => ∃ (a0 : Int32) (a1 : Int32) (a2 : Int32), av = [.int a0, .int a1, .int a2] ∧ P g a0 a1 a2 m n) (fun (g : hG) (av : List Value) (m : hH) (n : Nat) (v : Option Value) (m' : hH) (n' : Nat) => ∀ (a0 : Int32) (a1 : Int32) (a2 : Int32), av = [.int a0, .int a1, .int a2] → ∃ x, v = some (.int x) ∧ Q g a0 a1 a2 m n x m' n') hNoX
def ho_IIIrI (g : hG) (mc ms mc' ms' : Nat) (P : hG → Int32 → Int32 → Int32 → hH → Nat → Prop) (Q : hG → Int32 → Int32 → Int32 → hH → Nat → Int32 → hH → Nat → Prop) : se_Op hW := fun st w K Y => match st with
  | .int a2 :: .int a1 :: .int a0 :: r => se_c8 8 r ∧ P g a0 a1 a2 w.1 w.2.1 ∧ w.2.2.1 + mc' ≤ mc ∧ w.2.2.2 + ms' ≤ ms ∧ ∀ x m' n', Q g a0 a1 a2 w.1 w.2.1 x m' n' → hDom g m' n' → w.2.1 ≤ n' → K (.int x :: r) (m', n', w.2.2.1 + mc', w.2.2.2 + ms')
  | _ => False
theorem ho_IIIrI_r {g : hG} {mc ms mc' ms' : Nat} {P : hG → Int32 → Int32 → Int32 → hH → Nat → Prop} {Q : hG → Int32 → Int32 → Int32 → hH → Nat → Int32 → hH → Nat → Prop} {a0 : Int32} {a1 : Int32} {a2 : Int32} {r : List Value} {w : hW} {K : List Value → hW → Prop} {Y : Nat → hW → Prop} : ho_IIIrI g mc ms mc' ms' P Q (.int a2 :: .int a1 :: .int a0 :: r) w K Y = (se_c8 8 r ∧ P g a0 a1 a2 w.1 w.2.1 ∧ w.2.2.1 + mc' ≤ mc ∧ w.2.2.2 + ms' ≤ ms ∧ ∀ x m' n', Q g a0 a1 a2 w.1 w.2.1 x m' n' → hDom g m' n' → w.2.1 ≤ n' → K (.int x :: r) (m', n', w.2.2.1 + mc', w.2.2.2 + ms')) := rfl
theorem ho_IIIrI_ok {g : hG} {mc ms mc' ms' : Nat} {P : hG → Int32 → Int32 → Int32 → hH → Nat → Prop} {Q : hG → Int32 → Int32 → Int32 → hH → Nat → Int32 → hH → Nat → Prop} {p : Program} {l : Launch} {e : Env} {R : Room} {s : State} {m : MethodId} {args : Array Value} {below : List Frame} {meth : Method} {c : Code} {nL : Nat} {cc : ByteArray} {Q0 : State → Prop} {H0 : Heap} {ins : Instr} {len : Nat} (hS : se_Snd p l e R s m args below meth c Q0 nL (fun a => a) (hRM g H0) cc ins len (hCS g 3 mc ms mc' ms' (fun (g : hG) (av : List Value) (m : hH) (n : Nat) => ∃ (a0 : Int32) (a1 : Int32) (a2 : Int32), av = [.int a0, .int a1, .int a2] ∧ P g a0 a1 a2 m n) (fun (g : hG) (av : List Value) (m : hH) (n : Nat) (v : Option Value) (m' : hH) (n' : Nat) => ∀ (a0 : Int32) (a1 : Int32) (a2 : Int32), av = [.int a0, .int a1, .int a2] → ∃ x, v = some (.int x) ∧ Q g a0 a1 a2 m n x m' n') hNoX)) : se_Snd p l e R s m args below meth c Q0 nL (fun a => a) (hRM g H0) cc ins len (ho_IIIrI g mc ms mc' ms' P Q) :=
  hS.mono fun st w K Y h => by
    unfold ho_IIIrI at h
    split at h
    · rename_i a2 a1 a0 r
      obtain ⟨h8, hP, r1, r2, hq⟩ := h
      exact (⟨h8, ⟨a0, a1, a2, rfl, hP⟩, r1, r2, fun v m' n' hp hi hn => by
              obtain ⟨x, rfl, hx⟩ := hp a0 a1 a2 rfl
              exact hq x m' n' hx hi hn, fun b m' n' hp => hp.elim⟩ : hGo g mc ms mc' ms' ((fun (g : hG) (av : List Value) (m : hH) (n : Nat) => ∃ (a0 : Int32) (a1 : Int32) (a2 : Int32), av = [.int a0, .int a1, .int a2] ∧ P g a0 a1 a2 m n) g) ((fun (g : hG) (av : List Value) (m : hH) (n : Nat) (v : Option Value) (m' : hH) (n' : Nat) => ∀ (a0 : Int32) (a1 : Int32) (a2 : Int32), av = [.int a0, .int a1, .int a2] → ∃ x, v = some (.int x) ∧ Q g a0 a1 a2 m n x m' n') g) (hNoX g) [.int a0, .int a1, .int a2] r w K Y)
    · exact h.elim
def hp_IIIrI (g : hG) (mc ms : Nat) (P : hG → Int32 → Int32 → Int32 → hH → Nat → Prop) (R0 : hG → Int32 → Int32 → Int32 → hH → Nat → Int32) : se_Op hW := fun st w K Y => match st with
  | .int a2 :: .int a1 :: .int a0 :: r => se_c8 8 r ∧ P g a0 a1 a2 w.1 w.2.1 ∧ w.2.2.1 ≤ mc ∧ w.2.2.2 ≤ ms ∧ K (.int (R0 g a0 a1 a2 w.1 w.2.1) :: r) w
  | _ => False
theorem hp_IIIrI_r {g : hG} {mc ms : Nat} {P : hG → Int32 → Int32 → Int32 → hH → Nat → Prop} {R0 : hG → Int32 → Int32 → Int32 → hH → Nat → Int32} {a0 : Int32} {a1 : Int32} {a2 : Int32} {r : List Value} {w : hW} {K : List Value → hW → Prop} {Y : Nat → hW → Prop} : hp_IIIrI g mc ms P R0 (.int a2 :: .int a1 :: .int a0 :: r) w K Y = (se_c8 8 r ∧ P g a0 a1 a2 w.1 w.2.1 ∧ w.2.2.1 ≤ mc ∧ w.2.2.2 ≤ ms ∧ K (.int (R0 g a0 a1 a2 w.1 w.2.1) :: r) w) := rfl
theorem hp_IIIrI_ok {g : hG} {mc ms : Nat} {P : hG → Int32 → Int32 → Int32 → hH → Nat → Prop} {R0 : hG → Int32 → Int32 → Int32 → hH → Nat → Int32} {p : Program} {l : Launch} {e : Env} {R : Room} {s : State} {m : MethodId} {args : Array Value} {below : List Frame} {meth : Method} {c : Code} {nL : Nat} {cc : ByteArray} {Q0 : State → Prop} {H0 : Heap} {ins : Instr} {len : Nat} (hS : se_Snd p l e R s m args below meth c Q0 nL (fun a => a) (hRM g H0) cc ins len (ho_IIIrI g mc ms 0 0 P (fun g a0 a1 a2 m n x m' n' => x = R0 g a0 a1 a2 m n ∧ m' = m ∧ n' = n))) : se_Snd p l e R s m args below meth c Q0 nL (fun a => a) (hRM g H0) cc ins len (hp_IIIrI g mc ms P R0) :=
  hS.mono fun st w K Y h => by
    unfold hp_IIIrI at h
    split at h
    · rename_i a2 a1 a0 r
      obtain ⟨h8, hP, r1, r2, hq⟩ := h
      exact ⟨h8, hP, r1, r2, fun x m' n' e _ _ => by
              obtain ⟨rfl, rfl, rfl⟩ := e
              exact hq⟩
    · exact h.elim
def hf_IIIrI (g : hG) (mc ms : Nat) (P : hG → Int32 → Int32 → Int32 → hH → Nat → Prop) (R0 : hG → Int32 → Int32 → Int32 → hH → Nat → Int32) (F : hG → Int32 → Int32 → Int32 → hH → Nat → hH) : se_Op hW := fun st w K Y => match st with
  | .int a2 :: .int a1 :: .int a0 :: r => se_c8 8 r ∧ P g a0 a1 a2 w.1 w.2.1 ∧ w.2.2.1 ≤ mc ∧ w.2.2.2 ≤ ms ∧ K (.int (R0 g a0 a1 a2 w.1 w.2.1) :: r) (F g a0 a1 a2 w.1 w.2.1, w.2)
  | _ => False
theorem hf_IIIrI_r {g : hG} {mc ms : Nat} {P : hG → Int32 → Int32 → Int32 → hH → Nat → Prop} {R0 : hG → Int32 → Int32 → Int32 → hH → Nat → Int32} {F : hG → Int32 → Int32 → Int32 → hH → Nat → hH} {a0 : Int32} {a1 : Int32} {a2 : Int32} {r : List Value} {w : hW} {K : List Value → hW → Prop} {Y : Nat → hW → Prop} : hf_IIIrI g mc ms P R0 F (.int a2 :: .int a1 :: .int a0 :: r) w K Y = (se_c8 8 r ∧ P g a0 a1 a2 w.1 w.2.1 ∧ w.2.2.1 ≤ mc ∧ w.2.2.2 ≤ ms ∧ K (.int (R0 g a0 a1 a2 w.1 w.2.1) :: r) (F g a0 a1 a2 w.1 w.2.1, w.2)) := rfl
theorem hf_IIIrI_ok {g : hG} {mc ms : Nat} {P : hG → Int32 → Int32 → Int32 → hH → Nat → Prop} {R0 : hG → Int32 → Int32 → Int32 → hH → Nat → Int32} {F : hG → Int32 → Int32 → Int32 → hH → Nat → hH} {p : Program} {l : Launch} {e : Env} {R : Room} {s : State} {m : MethodId} {args : Array Value} {below : List Frame} {meth : Method} {c : Code} {nL : Nat} {cc : ByteArray} {Q0 : State → Prop} {H0 : Heap} {ins : Instr} {len : Nat} (hS : se_Snd p l e R s m args below meth c Q0 nL (fun a => a) (hRM g H0) cc ins len (ho_IIIrI g mc ms 0 0 P (fun g a0 a1 a2 m n x m' n' => x = R0 g a0 a1 a2 m n ∧ m' = F g a0 a1 a2 m n ∧ n' = n))) : se_Snd p l e R s m args below meth c Q0 nL (fun a => a) (hRM g H0) cc ins len (hf_IIIrI g mc ms P R0 F) :=
  hS.mono fun st w K Y h => by
    unfold hf_IIIrI at h
    split at h
    · rename_i a2 a1 a0 r
      obtain ⟨h8, hP, r1, r2, hq⟩ := h
      exact ⟨h8, hP, r1, r2, fun x m' n' e _ _ => by
              obtain ⟨rfl, rfl, rfl⟩ := e
              exact hq⟩
    · exact h.elim
def ht_IIIrI (mc ms : Nat) (Q : hG → Int32 → Int32 → Int32 → hH → Nat → Int32 → hH → Nat → Prop) (g : hG) (a0 : Int32) (a1 : Int32) (a2 : Int32) (m : hH) (n : Nat) : Option Value → hW → Prop := hRt (some .int) mc ms ((fun (g : hG) (av : List Value) (m : hH) (n : Nat) (v : Option Value) (m' : hH) (n' : Nat) => ∀ (a0 : Int32) (a1 : Int32) (a2 : Int32), av = [.int a0, .int a1, .int a2] → ∃ x, v = some (.int x) ∧ Q g a0 a1 a2 m n x m' n') g [.int a0, .int a1, .int a2] m n)
theorem ht_IIIrI_e {mc ms : Nat} {Q : hG → Int32 → Int32 → Int32 → hH → Nat → Int32 → hH → Nat → Prop} {g : hG} {a0 : Int32} {a1 : Int32} {a2 : Int32} {m : hH} {n : Nat} {w : hW} {z : Int32} : ht_IIIrI mc ms Q g a0 a1 a2 m n (some (.int z)) w = (w.2.2.1 ≤ mc ∧ w.2.2.2 ≤ ms ∧ Q g a0 a1 a2 m n z w.1 w.2.1) := by
  apply propext
  constructor
  · intro h
    obtain ⟨x, e, hq⟩ := h.2.2.2 _ _ _ rfl
    cases e
    exact ⟨h.2.1, h.2.2.1, hq⟩
  · intro h
    obtain ⟨h1, h2, h3⟩ := h
    exact ⟨⟨_, rfl, rfl⟩, h1, h2, fun _ _ _ e => by
      cases e
      exact ⟨z, rfl, h3⟩⟩
theorem hm_IIIrI_of {l : Launch} {y : MethodName} {own : String} {cc : ByteArray} {maxL fr lo mc ms : Nat} {P : hG → Int32 → Int32 → Int32 → hH → Nat → Prop} {Q : hG → Int32 → Int32 → Int32 → hH → Nat → Int32 → hH → Nat → Prop} {T : hG → Nat → Nat → se_Op hW} (hy : plainName y.cls = true) (hyc : y.cls = own) (hT : hTS l own y.name cc maxL (some .int) fr lo mc ms T) (hL : 3 ≤ maxL)
    (body : ∀ (g : hG) (a0 : Int32) (a1 : Int32) (a2 : Int32) (m : hH) (n : Nat), hDom g m n → hVg g → P g a0 a1 a2 m n → ∀ G : Nat → se_L → List Value → hW → Prop, (∀ (stops : List Nat) (f pc : Nat) (L : se_L) (st : List Value) (w : hW), wpN True (T g) cc stops G (hXt mc ms (hNoX g [.int a0, .int a1, .int a2] m n)) (ht_IIIrI mc ms Q g a0 a1 a2 m n) f pc L st w → G pc L st w) → G 0 (se_ent [.int a0, .int a1, .int a2] maxL) [] (m, n, 0, 0)) : hm_IIIrI l y (ws_ y cc maxL (some .int)) fr lo mc ms P Q :=
  hOf hy hyc hT (fun g av m n h => by
    obtain ⟨a0, a1, a2, rfl, _⟩ := h
    exact hL) (fun g av m n h1 h2 hp G hG => by
    obtain ⟨a0, a1, a2, rfl, hp⟩ := hp
    exact body g a0 a1 a2 m n h1 h2 hp G hG)
abbrev hm_IINrI (l : Launch) (y : MethodName) (ws : List Cond) (fr lo mc ms : Nat) (P : hG → Int32 → Int32 → Option Nat → hH → Nat → Prop) (Q : hG → Int32 → Int32 → Option Nat → hH → Nat → Int32 → hH → Nat → Prop) : Prop := hCon l y ws fr lo mc ms (fun (g : hG) (av : List Value) (m : hH) (n : Nat) => ∃ (a0 : Int32) (a1 : Int32) (a2 : Option Nat), av = [.int a0, .int a1, va_rf a2] ∧ P g a0 a1 a2 m n) (fun (g : hG) (av : List Value) (m : hH) (n : Nat) (v : Option Value) (m' : hH) (n' : Nat) => ∀ (a0 : Int32) (a1 : Int32) (a2 : Option Nat), av = [.int a0, .int a1, va_rf a2] → ∃ x, v = some (.int x) ∧ Q g a0 a1 a2 m n x m' n') hNoX
def ho_IINrI (g : hG) (mc ms mc' ms' : Nat) (P : hG → Int32 → Int32 → Option Nat → hH → Nat → Prop) (Q : hG → Int32 → Int32 → Option Nat → hH → Nat → Int32 → hH → Nat → Prop) : se_Op hW := fun st w K Y => match st with
  | v2 :: .int a1 :: .int a0 :: r => (match va_un v2 with
    | some a2 => se_c8 8 r ∧ P g a0 a1 a2 w.1 w.2.1 ∧ w.2.2.1 + mc' ≤ mc ∧ w.2.2.2 + ms' ≤ ms ∧ ∀ x m' n', Q g a0 a1 a2 w.1 w.2.1 x m' n' → hDom g m' n' → w.2.1 ≤ n' → K (.int x :: r) (m', n', w.2.2.1 + mc', w.2.2.2 + ms')
    | none => False)
  | _ => False
theorem ho_IINrI_r {g : hG} {mc ms mc' ms' : Nat} {P : hG → Int32 → Int32 → Option Nat → hH → Nat → Prop} {Q : hG → Int32 → Int32 → Option Nat → hH → Nat → Int32 → hH → Nat → Prop} {a0 : Int32} {a1 : Int32} {a2 : Nat} {r : List Value} {w : hW} {K : List Value → hW → Prop} {Y : Nat → hW → Prop} : ho_IINrI g mc ms mc' ms' P Q (.ref a2 :: .int a1 :: .int a0 :: r) w K Y = (se_c8 8 r ∧ P g a0 a1 (some a2) w.1 w.2.1 ∧ w.2.2.1 + mc' ≤ mc ∧ w.2.2.2 + ms' ≤ ms ∧ ∀ x m' n', Q g a0 a1 (some a2) w.1 w.2.1 x m' n' → hDom g m' n' → w.2.1 ≤ n' → K (.int x :: r) (m', n', w.2.2.1 + mc', w.2.2.2 + ms')) := rfl
theorem ho_IINrI_n {g : hG} {mc ms mc' ms' : Nat} {P : hG → Int32 → Int32 → Option Nat → hH → Nat → Prop} {Q : hG → Int32 → Int32 → Option Nat → hH → Nat → Int32 → hH → Nat → Prop} {a0 : Int32} {a1 : Int32}  {r : List Value} {w : hW} {K : List Value → hW → Prop} {Y : Nat → hW → Prop} : ho_IINrI g mc ms mc' ms' P Q (.null :: .int a1 :: .int a0 :: r) w K Y = (se_c8 8 r ∧ P g a0 a1 none w.1 w.2.1 ∧ w.2.2.1 + mc' ≤ mc ∧ w.2.2.2 + ms' ≤ ms ∧ ∀ x m' n', Q g a0 a1 none w.1 w.2.1 x m' n' → hDom g m' n' → w.2.1 ≤ n' → K (.int x :: r) (m', n', w.2.2.1 + mc', w.2.2.2 + ms')) := rfl
theorem ho_IINrI_ok {g : hG} {mc ms mc' ms' : Nat} {P : hG → Int32 → Int32 → Option Nat → hH → Nat → Prop} {Q : hG → Int32 → Int32 → Option Nat → hH → Nat → Int32 → hH → Nat → Prop} {p : Program} {l : Launch} {e : Env} {R : Room} {s : State} {m : MethodId} {args : Array Value} {below : List Frame} {meth : Method} {c : Code} {nL : Nat} {cc : ByteArray} {Q0 : State → Prop} {H0 : Heap} {ins : Instr} {len : Nat} (hS : se_Snd p l e R s m args below meth c Q0 nL (fun a => a) (hRM g H0) cc ins len (hCS g 3 mc ms mc' ms' (fun (g : hG) (av : List Value) (m : hH) (n : Nat) => ∃ (a0 : Int32) (a1 : Int32) (a2 : Option Nat), av = [.int a0, .int a1, va_rf a2] ∧ P g a0 a1 a2 m n) (fun (g : hG) (av : List Value) (m : hH) (n : Nat) (v : Option Value) (m' : hH) (n' : Nat) => ∀ (a0 : Int32) (a1 : Int32) (a2 : Option Nat), av = [.int a0, .int a1, va_rf a2] → ∃ x, v = some (.int x) ∧ Q g a0 a1 a2 m n x m' n') hNoX)) : se_Snd p l e R s m args below meth c Q0 nL (fun a => a) (hRM g H0) cc ins len (ho_IINrI g mc ms mc' ms' P Q) :=
  hS.mono fun st w K Y h => by
    unfold ho_IINrI at h
    split at h
    · rename_i v2 a1 a0 r
      split at h
      · rename_i a2 e2
        obtain rfl := va_un_e e2
        obtain ⟨h8, hP, r1, r2, hq⟩ := h
        exact (⟨h8, ⟨a0, a1, a2, rfl, hP⟩, r1, r2, fun v m' n' hp hi hn => by
              obtain ⟨x, rfl, hx⟩ := hp a0 a1 a2 rfl
              exact hq x m' n' hx hi hn, fun b m' n' hp => hp.elim⟩ : hGo g mc ms mc' ms' ((fun (g : hG) (av : List Value) (m : hH) (n : Nat) => ∃ (a0 : Int32) (a1 : Int32) (a2 : Option Nat), av = [.int a0, .int a1, va_rf a2] ∧ P g a0 a1 a2 m n) g) ((fun (g : hG) (av : List Value) (m : hH) (n : Nat) (v : Option Value) (m' : hH) (n' : Nat) => ∀ (a0 : Int32) (a1 : Int32) (a2 : Option Nat), av = [.int a0, .int a1, va_rf a2] → ∃ x, v = some (.int x) ∧ Q g a0 a1 a2 m n x m' n') g) (hNoX g) [.int a0, .int a1, va_rf a2] r w K Y)
      · exact h.elim
    · exact h.elim
def hp_IINrI (g : hG) (mc ms : Nat) (P : hG → Int32 → Int32 → Option Nat → hH → Nat → Prop) (R0 : hG → Int32 → Int32 → Option Nat → hH → Nat → Int32) : se_Op hW := fun st w K Y => match st with
  | v2 :: .int a1 :: .int a0 :: r => (match va_un v2 with
    | some a2 => se_c8 8 r ∧ P g a0 a1 a2 w.1 w.2.1 ∧ w.2.2.1 ≤ mc ∧ w.2.2.2 ≤ ms ∧ K (.int (R0 g a0 a1 a2 w.1 w.2.1) :: r) w
    | none => False)
  | _ => False
theorem hp_IINrI_r {g : hG} {mc ms : Nat} {P : hG → Int32 → Int32 → Option Nat → hH → Nat → Prop} {R0 : hG → Int32 → Int32 → Option Nat → hH → Nat → Int32} {a0 : Int32} {a1 : Int32} {a2 : Nat} {r : List Value} {w : hW} {K : List Value → hW → Prop} {Y : Nat → hW → Prop} : hp_IINrI g mc ms P R0 (.ref a2 :: .int a1 :: .int a0 :: r) w K Y = (se_c8 8 r ∧ P g a0 a1 (some a2) w.1 w.2.1 ∧ w.2.2.1 ≤ mc ∧ w.2.2.2 ≤ ms ∧ K (.int (R0 g a0 a1 (some a2) w.1 w.2.1) :: r) w) := rfl
theorem hp_IINrI_n {g : hG} {mc ms : Nat} {P : hG → Int32 → Int32 → Option Nat → hH → Nat → Prop} {R0 : hG → Int32 → Int32 → Option Nat → hH → Nat → Int32} {a0 : Int32} {a1 : Int32}  {r : List Value} {w : hW} {K : List Value → hW → Prop} {Y : Nat → hW → Prop} : hp_IINrI g mc ms P R0 (.null :: .int a1 :: .int a0 :: r) w K Y = (se_c8 8 r ∧ P g a0 a1 none w.1 w.2.1 ∧ w.2.2.1 ≤ mc ∧ w.2.2.2 ≤ ms ∧ K (.int (R0 g a0 a1 none w.1 w.2.1) :: r) w) := rfl
theorem hp_IINrI_ok {g : hG} {mc ms : Nat} {P : hG → Int32 → Int32 → Option Nat → hH → Nat → Prop} {R0 : hG → Int32 → Int32 → Option Nat → hH → Nat → Int32} {p : Program} {l : Launch} {e : Env} {R : Room} {s : State} {m : MethodId} {args : Array Value} {below : List Frame} {meth : Method} {c : Code} {nL : Nat} {cc : ByteArray} {Q0 : State → Prop} {H0 : Heap} {ins : Instr} {len : Nat} (hS : se_Snd p l e R s m args below meth c Q0 nL (fun a => a) (hRM g H0) cc ins len (ho_IINrI g mc ms 0 0 P (fun g a0 a1 a2 m n x m' n' => x = R0 g a0 a1 a2 m n ∧ m' = m ∧ n' = n))) : se_Snd p l e R s m args below meth c Q0 nL (fun a => a) (hRM g H0) cc ins len (hp_IINrI g mc ms P R0) :=
  hS.mono fun st w K Y h => by
    unfold hp_IINrI at h
    split at h
    · rename_i v2 a1 a0 r
      split at h
      · rename_i a2 e2
        obtain rfl := va_un_e e2
        obtain ⟨h8, hP, r1, r2, hq⟩ := h
        simp only [ho_IINrI, va_un_rf]
        exact ⟨h8, hP, r1, r2, fun x m' n' e _ _ => by
              obtain ⟨rfl, rfl, rfl⟩ := e
              exact hq⟩
      · exact h.elim
    · exact h.elim
def hf_IINrI (g : hG) (mc ms : Nat) (P : hG → Int32 → Int32 → Option Nat → hH → Nat → Prop) (R0 : hG → Int32 → Int32 → Option Nat → hH → Nat → Int32) (F : hG → Int32 → Int32 → Option Nat → hH → Nat → hH) : se_Op hW := fun st w K Y => match st with
  | v2 :: .int a1 :: .int a0 :: r => (match va_un v2 with
    | some a2 => se_c8 8 r ∧ P g a0 a1 a2 w.1 w.2.1 ∧ w.2.2.1 ≤ mc ∧ w.2.2.2 ≤ ms ∧ K (.int (R0 g a0 a1 a2 w.1 w.2.1) :: r) (F g a0 a1 a2 w.1 w.2.1, w.2)
    | none => False)
  | _ => False
theorem hf_IINrI_r {g : hG} {mc ms : Nat} {P : hG → Int32 → Int32 → Option Nat → hH → Nat → Prop} {R0 : hG → Int32 → Int32 → Option Nat → hH → Nat → Int32} {F : hG → Int32 → Int32 → Option Nat → hH → Nat → hH} {a0 : Int32} {a1 : Int32} {a2 : Nat} {r : List Value} {w : hW} {K : List Value → hW → Prop} {Y : Nat → hW → Prop} : hf_IINrI g mc ms P R0 F (.ref a2 :: .int a1 :: .int a0 :: r) w K Y = (se_c8 8 r ∧ P g a0 a1 (some a2) w.1 w.2.1 ∧ w.2.2.1 ≤ mc ∧ w.2.2.2 ≤ ms ∧ K (.int (R0 g a0 a1 (some a2) w.1 w.2.1) :: r) (F g a0 a1 (some a2) w.1 w.2.1, w.2)) := rfl
theorem hf_IINrI_n {g : hG} {mc ms : Nat} {P : hG → Int32 → Int32 → Option Nat → hH → Nat → Prop} {R0 : hG → Int32 → Int32 → Option Nat → hH → Nat → Int32} {F : hG → Int32 → Int32 → Option Nat → hH → Nat → hH} {a0 : Int32} {a1 : Int32}  {r : List Value} {w : hW} {K : List Value → hW → Prop} {Y : Nat → hW → Prop} : hf_IINrI g mc ms P R0 F (.null :: .int a1 :: .int a0 :: r) w K Y = (se_c8 8 r ∧ P g a0 a1 none w.1 w.2.1 ∧ w.2.2.1 ≤ mc ∧ w.2.2.2 ≤ ms ∧ K (.int (R0 g a0 a1 none w.1 w.2.1) :: r) (F g a0 a1 none w.1 w.2.1, w.2)) := rfl
theorem hf_IINrI_ok {g : hG} {mc ms : Nat} {P : hG → Int32 → Int32 → Option Nat → hH → Nat → Prop} {R0 : hG → Int32 → Int32 → Option Nat → hH → Nat → Int32} {F : hG → Int32 → Int32 → Option Nat → hH → Nat → hH} {p : Program} {l : Launch} {e : Env} {R : Room} {s : State} {m : MethodId} {args : Array Value} {below : List Frame} {meth : Method} {c : Code} {nL : Nat} {cc : ByteArray} {Q0 : State → Prop} {H0 : Heap} {ins : Instr} {len : Nat} (hS : se_Snd p l e R s m args below meth c Q0 nL (fun a => a) (hRM g H0) cc ins len (ho_IINrI g mc ms 0 0 P (fun g a0 a1 a2 m n x m' n' => x = R0 g a0 a1 a2 m n ∧ m' = F g a0 a1 a2 m n ∧ n' = n))) : se_Snd p l e R s m args below meth c Q0 nL (fun a => a) (hRM g H0) cc ins len (hf_IINrI g mc ms P R0 F) :=
  hS.mono fun st w K Y h => by
    unfold hf_IINrI at h
    split at h
    · rename_i v2 a1 a0 r
      split at h
      · rename_i a2 e2
        obtain rfl := va_un_e e2
        obtain ⟨h8, hP, r1, r2, hq⟩ := h
        simp only [ho_IINrI, va_un_rf]
        exact ⟨h8, hP, r1, r2, fun x m' n' e _ _ => by
              obtain ⟨rfl, rfl, rfl⟩ := e
              exact hq⟩
      · exact h.elim
    · exact h.elim
def ht_IINrI (mc ms : Nat) (Q : hG → Int32 → Int32 → Option Nat → hH → Nat → Int32 → hH → Nat → Prop) (g : hG) (a0 : Int32) (a1 : Int32) (a2 : Option Nat) (m : hH) (n : Nat) : Option Value → hW → Prop := hRt (some .int) mc ms ((fun (g : hG) (av : List Value) (m : hH) (n : Nat) (v : Option Value) (m' : hH) (n' : Nat) => ∀ (a0 : Int32) (a1 : Int32) (a2 : Option Nat), av = [.int a0, .int a1, va_rf a2] → ∃ x, v = some (.int x) ∧ Q g a0 a1 a2 m n x m' n') g [.int a0, .int a1, va_rf a2] m n)
theorem ht_IINrI_e {mc ms : Nat} {Q : hG → Int32 → Int32 → Option Nat → hH → Nat → Int32 → hH → Nat → Prop} {g : hG} {a0 : Int32} {a1 : Int32} {a2 : Option Nat} {m : hH} {n : Nat} {w : hW} {z : Int32} : ht_IINrI mc ms Q g a0 a1 a2 m n (some (.int z)) w = (w.2.2.1 ≤ mc ∧ w.2.2.2 ≤ ms ∧ Q g a0 a1 a2 m n z w.1 w.2.1) := by
  apply propext
  constructor
  · intro h
    obtain ⟨x, e, hq⟩ := h.2.2.2 _ _ _ rfl
    cases e
    exact ⟨h.2.1, h.2.2.1, hq⟩
  · intro h
    obtain ⟨h1, h2, h3⟩ := h
    exact ⟨⟨_, rfl, rfl⟩, h1, h2, fun _ _ _ e => by
      simp only [List.cons.injEq, Value.int.injEq, Value.ref.injEq, Value.long.injEq, va_rf_inj, and_true] at e
      obtain ⟨rfl, rfl, rfl⟩ := e
      exact ⟨z, rfl, h3⟩⟩
theorem hm_IINrI_of {l : Launch} {y : MethodName} {own : String} {cc : ByteArray} {maxL fr lo mc ms : Nat} {P : hG → Int32 → Int32 → Option Nat → hH → Nat → Prop} {Q : hG → Int32 → Int32 → Option Nat → hH → Nat → Int32 → hH → Nat → Prop} {T : hG → Nat → Nat → se_Op hW} (hy : plainName y.cls = true) (hyc : y.cls = own) (hT : hTS l own y.name cc maxL (some .int) fr lo mc ms T) (hL : 3 ≤ maxL)
    (body : ∀ (g : hG) (a0 : Int32) (a1 : Int32) (a2 : Option Nat) (m : hH) (n : Nat), hDom g m n → hVg g → P g a0 a1 a2 m n → ∀ G : Nat → se_L → List Value → hW → Prop, (∀ (stops : List Nat) (f pc : Nat) (L : se_L) (st : List Value) (w : hW), wpN True (T g) cc stops G (hXt mc ms (hNoX g [.int a0, .int a1, va_rf a2] m n)) (ht_IINrI mc ms Q g a0 a1 a2 m n) f pc L st w → G pc L st w) → G 0 (se_ent [.int a0, .int a1, va_rf a2] maxL) [] (m, n, 0, 0)) : hm_IINrI l y (ws_ y cc maxL (some .int)) fr lo mc ms P Q :=
  hOf hy hyc hT (fun g av m n h => by
    obtain ⟨a0, a1, a2, rfl, _⟩ := h
    cases a2 <;> exact hL) (fun g av m n h1 h2 hp G hG => by
    obtain ⟨a0, a1, a2, rfl, hp⟩ := hp
    exact body g a0 a1 a2 m n h1 h2 hp G hG)
abbrev hm_IIrI (l : Launch) (y : MethodName) (ws : List Cond) (fr lo mc ms : Nat) (P : hG → Int32 → Int32 → hH → Nat → Prop) (Q : hG → Int32 → Int32 → hH → Nat → Int32 → hH → Nat → Prop) : Prop := hCon l y ws fr lo mc ms (fun (g : hG) (av : List Value) (m : hH) (n : Nat) => ∃ (a0 : Int32) (a1 : Int32), av = [.int a0, .int a1] ∧ P g a0 a1 m n) (fun (g : hG) (av : List Value) (m : hH) (n : Nat) (v : Option Value) (m' : hH) (n' : Nat) => ∀ (a0 : Int32) (a1 : Int32), av = [.int a0, .int a1] → ∃ x, v = some (.int x) ∧ Q g a0 a1 m n x m' n') hNoX
def ho_IIrI (g : hG) (mc ms mc' ms' : Nat) (P : hG → Int32 → Int32 → hH → Nat → Prop) (Q : hG → Int32 → Int32 → hH → Nat → Int32 → hH → Nat → Prop) : se_Op hW := fun st w K Y => match st with
  | .int a1 :: .int a0 :: r => se_c8 8 r ∧ P g a0 a1 w.1 w.2.1 ∧ w.2.2.1 + mc' ≤ mc ∧ w.2.2.2 + ms' ≤ ms ∧ ∀ x m' n', Q g a0 a1 w.1 w.2.1 x m' n' → hDom g m' n' → w.2.1 ≤ n' → K (.int x :: r) (m', n', w.2.2.1 + mc', w.2.2.2 + ms')
  | _ => False
theorem ho_IIrI_r {g : hG} {mc ms mc' ms' : Nat} {P : hG → Int32 → Int32 → hH → Nat → Prop} {Q : hG → Int32 → Int32 → hH → Nat → Int32 → hH → Nat → Prop} {a0 : Int32} {a1 : Int32} {r : List Value} {w : hW} {K : List Value → hW → Prop} {Y : Nat → hW → Prop} : ho_IIrI g mc ms mc' ms' P Q (.int a1 :: .int a0 :: r) w K Y = (se_c8 8 r ∧ P g a0 a1 w.1 w.2.1 ∧ w.2.2.1 + mc' ≤ mc ∧ w.2.2.2 + ms' ≤ ms ∧ ∀ x m' n', Q g a0 a1 w.1 w.2.1 x m' n' → hDom g m' n' → w.2.1 ≤ n' → K (.int x :: r) (m', n', w.2.2.1 + mc', w.2.2.2 + ms')) := rfl
theorem ho_IIrI_ok {g : hG} {mc ms mc' ms' : Nat} {P : hG → Int32 → Int32 → hH → Nat → Prop} {Q : hG → Int32 → Int32 → hH → Nat → Int32 → hH → Nat → Prop} {p : Program} {l : Launch} {e : Env} {R : Room} {s : State} {m : MethodId} {args : Array Value} {below : List Frame} {meth : Method} {c : Code} {nL : Nat} {cc : ByteArray} {Q0 : State → Prop} {H0 : Heap} {ins : Instr} {len : Nat} (hS : se_Snd p l e R s m args below meth c Q0 nL (fun a => a) (hRM g H0) cc ins len (hCS g 2 mc ms mc' ms' (fun (g : hG) (av : List Value) (m : hH) (n : Nat) => ∃ (a0 : Int32) (a1 : Int32), av = [.int a0, .int a1] ∧ P g a0 a1 m n) (fun (g : hG) (av : List Value) (m : hH) (n : Nat) (v : Option Value) (m' : hH) (n' : Nat) => ∀ (a0 : Int32) (a1 : Int32), av = [.int a0, .int a1] → ∃ x, v = some (.int x) ∧ Q g a0 a1 m n x m' n') hNoX)) : se_Snd p l e R s m args below meth c Q0 nL (fun a => a) (hRM g H0) cc ins len (ho_IIrI g mc ms mc' ms' P Q) :=
  hS.mono fun st w K Y h => by
    unfold ho_IIrI at h
    split at h
    · rename_i a1 a0 r
      obtain ⟨h8, hP, r1, r2, hq⟩ := h
      exact (⟨h8, ⟨a0, a1, rfl, hP⟩, r1, r2, fun v m' n' hp hi hn => by
              obtain ⟨x, rfl, hx⟩ := hp a0 a1 rfl
              exact hq x m' n' hx hi hn, fun b m' n' hp => hp.elim⟩ : hGo g mc ms mc' ms' ((fun (g : hG) (av : List Value) (m : hH) (n : Nat) => ∃ (a0 : Int32) (a1 : Int32), av = [.int a0, .int a1] ∧ P g a0 a1 m n) g) ((fun (g : hG) (av : List Value) (m : hH) (n : Nat) (v : Option Value) (m' : hH) (n' : Nat) => ∀ (a0 : Int32) (a1 : Int32), av = [.int a0, .int a1] → ∃ x, v = some (.int x) ∧ Q g a0 a1 m n x m' n') g) (hNoX g) [.int a0, .int a1] r w K Y)
    · exact h.elim
def hp_IIrI (g : hG) (mc ms : Nat) (P : hG → Int32 → Int32 → hH → Nat → Prop) (R0 : hG → Int32 → Int32 → hH → Nat → Int32) : se_Op hW := fun st w K Y => match st with
  | .int a1 :: .int a0 :: r => se_c8 8 r ∧ P g a0 a1 w.1 w.2.1 ∧ w.2.2.1 ≤ mc ∧ w.2.2.2 ≤ ms ∧ K (.int (R0 g a0 a1 w.1 w.2.1) :: r) w
  | _ => False
theorem hp_IIrI_r {g : hG} {mc ms : Nat} {P : hG → Int32 → Int32 → hH → Nat → Prop} {R0 : hG → Int32 → Int32 → hH → Nat → Int32} {a0 : Int32} {a1 : Int32} {r : List Value} {w : hW} {K : List Value → hW → Prop} {Y : Nat → hW → Prop} : hp_IIrI g mc ms P R0 (.int a1 :: .int a0 :: r) w K Y = (se_c8 8 r ∧ P g a0 a1 w.1 w.2.1 ∧ w.2.2.1 ≤ mc ∧ w.2.2.2 ≤ ms ∧ K (.int (R0 g a0 a1 w.1 w.2.1) :: r) w) := rfl
theorem hp_IIrI_ok {g : hG} {mc ms : Nat} {P : hG → Int32 → Int32 → hH → Nat → Prop} {R0 : hG → Int32 → Int32 → hH → Nat → Int32} {p : Program} {l : Launch} {e : Env} {R : Room} {s : State} {m : MethodId} {args : Array Value} {below : List Frame} {meth : Method} {c : Code} {nL : Nat} {cc : ByteArray} {Q0 : State → Prop} {H0 : Heap} {ins : Instr} {len : Nat} (hS : se_Snd p l e R s m args below meth c Q0 nL (fun a => a) (hRM g H0) cc ins len (ho_IIrI g mc ms 0 0 P (fun g a0 a1 m n x m' n' => x = R0 g a0 a1 m n ∧ m' = m ∧ n' = n))) : se_Snd p l e R s m args below meth c Q0 nL (fun a => a) (hRM g H0) cc ins len (hp_IIrI g mc ms P R0) :=
  hS.mono fun st w K Y h => by
    unfold hp_IIrI at h
    split at h
    · rename_i a1 a0 r
      obtain ⟨h8, hP, r1, r2, hq⟩ := h
      exact ⟨h8, hP, r1, r2, fun x m' n' e _ _ => by
              obtain ⟨rfl, rfl, rfl⟩ := e
              exact hq⟩
    · exact h.elim
def hf_IIrI (g : hG) (mc ms : Nat) (P : hG → Int32 → Int32 → hH → Nat → Prop) (R0 : hG → Int32 → Int32 → hH → Nat → Int32) (F : hG → Int32 → Int32 → hH → Nat → hH) : se_Op hW := fun st w K Y => match st with
  | .int a1 :: .int a0 :: r => se_c8 8 r ∧ P g a0 a1 w.1 w.2.1 ∧ w.2.2.1 ≤ mc ∧ w.2.2.2 ≤ ms ∧ K (.int (R0 g a0 a1 w.1 w.2.1) :: r) (F g a0 a1 w.1 w.2.1, w.2)
  | _ => False
theorem hf_IIrI_r {g : hG} {mc ms : Nat} {P : hG → Int32 → Int32 → hH → Nat → Prop} {R0 : hG → Int32 → Int32 → hH → Nat → Int32} {F : hG → Int32 → Int32 → hH → Nat → hH} {a0 : Int32} {a1 : Int32} {r : List Value} {w : hW} {K : List Value → hW → Prop} {Y : Nat → hW → Prop} : hf_IIrI g mc ms P R0 F (.int a1 :: .int a0 :: r) w K Y = (se_c8 8 r ∧ P g a0 a1 w.1 w.2.1 ∧ w.2.2.1 ≤ mc ∧ w.2.2.2 ≤ ms ∧ K (.int (R0 g a0 a1 w.1 w.2.1) :: r) (F g a0 a1 w.1 w.2.1, w.2)) := rfl
theorem hf_IIrI_ok {g : hG} {mc ms : Nat} {P : hG → Int32 → Int32 → hH → Nat → Prop} {R0 : hG → Int32 → Int32 → hH → Nat → Int32} {F : hG → Int32 → Int32 → hH → Nat → hH} {p : Program} {l : Launch} {e : Env} {R : Room} {s : State} {m : MethodId} {args : Array Value} {below : List Frame} {meth : Method} {c : Code} {nL : Nat} {cc : ByteArray} {Q0 : State → Prop} {H0 : Heap} {ins : Instr} {len : Nat} (hS : se_Snd p l e R s m args below meth c Q0 nL (fun a => a) (hRM g H0) cc ins len (ho_IIrI g mc ms 0 0 P (fun g a0 a1 m n x m' n' => x = R0 g a0 a1 m n ∧ m' = F g a0 a1 m n ∧ n' = n))) : se_Snd p l e R s m args below meth c Q0 nL (fun a => a) (hRM g H0) cc ins len (hf_IIrI g mc ms P R0 F) :=
  hS.mono fun st w K Y h => by
    unfold hf_IIrI at h
    split at h
    · rename_i a1 a0 r
      obtain ⟨h8, hP, r1, r2, hq⟩ := h
      exact ⟨h8, hP, r1, r2, fun x m' n' e _ _ => by
              obtain ⟨rfl, rfl, rfl⟩ := e
              exact hq⟩
    · exact h.elim
def ht_IIrI (mc ms : Nat) (Q : hG → Int32 → Int32 → hH → Nat → Int32 → hH → Nat → Prop) (g : hG) (a0 : Int32) (a1 : Int32) (m : hH) (n : Nat) : Option Value → hW → Prop := hRt (some .int) mc ms ((fun (g : hG) (av : List Value) (m : hH) (n : Nat) (v : Option Value) (m' : hH) (n' : Nat) => ∀ (a0 : Int32) (a1 : Int32), av = [.int a0, .int a1] → ∃ x, v = some (.int x) ∧ Q g a0 a1 m n x m' n') g [.int a0, .int a1] m n)
theorem ht_IIrI_e {mc ms : Nat} {Q : hG → Int32 → Int32 → hH → Nat → Int32 → hH → Nat → Prop} {g : hG} {a0 : Int32} {a1 : Int32} {m : hH} {n : Nat} {w : hW} {z : Int32} : ht_IIrI mc ms Q g a0 a1 m n (some (.int z)) w = (w.2.2.1 ≤ mc ∧ w.2.2.2 ≤ ms ∧ Q g a0 a1 m n z w.1 w.2.1) := by
  apply propext
  constructor
  · intro h
    obtain ⟨x, e, hq⟩ := h.2.2.2 _ _ rfl
    cases e
    exact ⟨h.2.1, h.2.2.1, hq⟩
  · intro h
    obtain ⟨h1, h2, h3⟩ := h
    exact ⟨⟨_, rfl, rfl⟩, h1, h2, fun _ _ e => by
      cases e
      exact ⟨z, rfl, h3⟩⟩
theorem hm_IIrI_of {l : Launch} {y : MethodName} {own : String} {cc : ByteArray} {maxL fr lo mc ms : Nat} {P : hG → Int32 → Int32 → hH → Nat → Prop} {Q : hG → Int32 → Int32 → hH → Nat → Int32 → hH → Nat → Prop} {T : hG → Nat → Nat → se_Op hW} (hy : plainName y.cls = true) (hyc : y.cls = own) (hT : hTS l own y.name cc maxL (some .int) fr lo mc ms T) (hL : 2 ≤ maxL)
    (body : ∀ (g : hG) (a0 : Int32) (a1 : Int32) (m : hH) (n : Nat), hDom g m n → hVg g → P g a0 a1 m n → ∀ G : Nat → se_L → List Value → hW → Prop, (∀ (stops : List Nat) (f pc : Nat) (L : se_L) (st : List Value) (w : hW), wpN True (T g) cc stops G (hXt mc ms (hNoX g [.int a0, .int a1] m n)) (ht_IIrI mc ms Q g a0 a1 m n) f pc L st w → G pc L st w) → G 0 (se_ent [.int a0, .int a1] maxL) [] (m, n, 0, 0)) : hm_IIrI l y (ws_ y cc maxL (some .int)) fr lo mc ms P Q :=
  hOf hy hyc hT (fun g av m n h => by
    obtain ⟨a0, a1, rfl, _⟩ := h
    exact hL) (fun g av m n h1 h2 hp G hG => by
    obtain ⟨a0, a1, rfl, hp⟩ := hp
    exact body g a0 a1 m n h1 h2 hp G hG)
abbrev hm_IIrV (l : Launch) (y : MethodName) (ws : List Cond) (fr lo mc ms : Nat) (P : hG → Int32 → Int32 → hH → Nat → Prop) (Q : hG → Int32 → Int32 → hH → Nat → hH → Nat → Prop) : Prop := hCon l y ws fr lo mc ms (fun (g : hG) (av : List Value) (m : hH) (n : Nat) => ∃ (a0 : Int32) (a1 : Int32), av = [.int a0, .int a1] ∧ P g a0 a1 m n) (fun (g : hG) (av : List Value) (m : hH) (n : Nat) (v : Option Value) (m' : hH) (n' : Nat) => ∀ (a0 : Int32) (a1 : Int32), av = [.int a0, .int a1] → v = none ∧ Q g a0 a1 m n m' n') hNoX
def ho_IIrV (g : hG) (mc ms mc' ms' : Nat) (P : hG → Int32 → Int32 → hH → Nat → Prop) (Q : hG → Int32 → Int32 → hH → Nat → hH → Nat → Prop) : se_Op hW := fun st w K Y => match st with
  | .int a1 :: .int a0 :: r => se_c8 8 r ∧ P g a0 a1 w.1 w.2.1 ∧ w.2.2.1 + mc' ≤ mc ∧ w.2.2.2 + ms' ≤ ms ∧ ∀ m' n', Q g a0 a1 w.1 w.2.1 m' n' → hDom g m' n' → w.2.1 ≤ n' → K r (m', n', w.2.2.1 + mc', w.2.2.2 + ms')
  | _ => False
theorem ho_IIrV_r {g : hG} {mc ms mc' ms' : Nat} {P : hG → Int32 → Int32 → hH → Nat → Prop} {Q : hG → Int32 → Int32 → hH → Nat → hH → Nat → Prop} {a0 : Int32} {a1 : Int32} {r : List Value} {w : hW} {K : List Value → hW → Prop} {Y : Nat → hW → Prop} : ho_IIrV g mc ms mc' ms' P Q (.int a1 :: .int a0 :: r) w K Y = (se_c8 8 r ∧ P g a0 a1 w.1 w.2.1 ∧ w.2.2.1 + mc' ≤ mc ∧ w.2.2.2 + ms' ≤ ms ∧ ∀ m' n', Q g a0 a1 w.1 w.2.1 m' n' → hDom g m' n' → w.2.1 ≤ n' → K r (m', n', w.2.2.1 + mc', w.2.2.2 + ms')) := rfl
theorem ho_IIrV_ok {g : hG} {mc ms mc' ms' : Nat} {P : hG → Int32 → Int32 → hH → Nat → Prop} {Q : hG → Int32 → Int32 → hH → Nat → hH → Nat → Prop} {p : Program} {l : Launch} {e : Env} {R : Room} {s : State} {m : MethodId} {args : Array Value} {below : List Frame} {meth : Method} {c : Code} {nL : Nat} {cc : ByteArray} {Q0 : State → Prop} {H0 : Heap} {ins : Instr} {len : Nat} (hS : se_Snd p l e R s m args below meth c Q0 nL (fun a => a) (hRM g H0) cc ins len (hCS g 2 mc ms mc' ms' (fun (g : hG) (av : List Value) (m : hH) (n : Nat) => ∃ (a0 : Int32) (a1 : Int32), av = [.int a0, .int a1] ∧ P g a0 a1 m n) (fun (g : hG) (av : List Value) (m : hH) (n : Nat) (v : Option Value) (m' : hH) (n' : Nat) => ∀ (a0 : Int32) (a1 : Int32), av = [.int a0, .int a1] → v = none ∧ Q g a0 a1 m n m' n') hNoX)) : se_Snd p l e R s m args below meth c Q0 nL (fun a => a) (hRM g H0) cc ins len (ho_IIrV g mc ms mc' ms' P Q) :=
  hS.mono fun st w K Y h => by
    unfold ho_IIrV at h
    split at h
    · rename_i a1 a0 r
      obtain ⟨h8, hP, r1, r2, hq⟩ := h
      exact (⟨h8, ⟨a0, a1, rfl, hP⟩, r1, r2, fun v m' n' hp hi hn => by
              obtain ⟨rfl, hx⟩ := hp a0 a1 rfl
              exact hq m' n' hx hi hn, fun b m' n' hp => hp.elim⟩ : hGo g mc ms mc' ms' ((fun (g : hG) (av : List Value) (m : hH) (n : Nat) => ∃ (a0 : Int32) (a1 : Int32), av = [.int a0, .int a1] ∧ P g a0 a1 m n) g) ((fun (g : hG) (av : List Value) (m : hH) (n : Nat) (v : Option Value) (m' : hH) (n' : Nat) => ∀ (a0 : Int32) (a1 : Int32), av = [.int a0, .int a1] → v = none ∧ Q g a0 a1 m n m' n') g) (hNoX g) [.int a0, .int a1] r w K Y)
    · exact h.elim
def hf_IIrV (g : hG) (mc ms : Nat) (P : hG → Int32 → Int32 → hH → Nat → Prop) (F : hG → Int32 → Int32 → hH → Nat → hH) : se_Op hW := fun st w K Y => match st with
  | .int a1 :: .int a0 :: r => se_c8 8 r ∧ P g a0 a1 w.1 w.2.1 ∧ w.2.2.1 ≤ mc ∧ w.2.2.2 ≤ ms ∧ K (r) (F g a0 a1 w.1 w.2.1, w.2)
  | _ => False
theorem hf_IIrV_r {g : hG} {mc ms : Nat} {P : hG → Int32 → Int32 → hH → Nat → Prop} {F : hG → Int32 → Int32 → hH → Nat → hH} {a0 : Int32} {a1 : Int32} {r : List Value} {w : hW} {K : List Value → hW → Prop} {Y : Nat → hW → Prop} : hf_IIrV g mc ms P F (.int a1 :: .int a0 :: r) w K Y = (se_c8 8 r ∧ P g a0 a1 w.1 w.2.1 ∧ w.2.2.1 ≤ mc ∧ w.2.2.2 ≤ ms ∧ K (r) (F g a0 a1 w.1 w.2.1, w.2)) := rfl
theorem hf_IIrV_ok {g : hG} {mc ms : Nat} {P : hG → Int32 → Int32 → hH → Nat → Prop} {F : hG → Int32 → Int32 → hH → Nat → hH} {p : Program} {l : Launch} {e : Env} {R : Room} {s : State} {m : MethodId} {args : Array Value} {below : List Frame} {meth : Method} {c : Code} {nL : Nat} {cc : ByteArray} {Q0 : State → Prop} {H0 : Heap} {ins : Instr} {len : Nat} (hS : se_Snd p l e R s m args below meth c Q0 nL (fun a => a) (hRM g H0) cc ins len (ho_IIrV g mc ms 0 0 P (fun g a0 a1 m n m' n' => m' = F g a0 a1 m n ∧ n' = n))) : se_Snd p l e R s m args below meth c Q0 nL (fun a => a) (hRM g H0) cc ins len (hf_IIrV g mc ms P F) :=
  hS.mono fun st w K Y h => by
    unfold hf_IIrV at h
    split at h
    · rename_i a1 a0 r
      obtain ⟨h8, hP, r1, r2, hq⟩ := h
      exact ⟨h8, hP, r1, r2, fun m' n' e _ _ => by
              obtain ⟨rfl, rfl⟩ := e
              exact hq⟩
    · exact h.elim
def ht_IIrV (mc ms : Nat) (Q : hG → Int32 → Int32 → hH → Nat → hH → Nat → Prop) (g : hG) (a0 : Int32) (a1 : Int32) (m : hH) (n : Nat) : Option Value → hW → Prop := hRt none mc ms ((fun (g : hG) (av : List Value) (m : hH) (n : Nat) (v : Option Value) (m' : hH) (n' : Nat) => ∀ (a0 : Int32) (a1 : Int32), av = [.int a0, .int a1] → v = none ∧ Q g a0 a1 m n m' n') g [.int a0, .int a1] m n)
theorem ht_IIrV_e {mc ms : Nat} {Q : hG → Int32 → Int32 → hH → Nat → hH → Nat → Prop} {g : hG} {a0 : Int32} {a1 : Int32} {m : hH} {n : Nat} {w : hW} : ht_IIrV mc ms Q g a0 a1 m n none w = (w.2.2.1 ≤ mc ∧ w.2.2.2 ≤ ms ∧ Q g a0 a1 m n w.1 w.2.1) := by
  apply propext
  exact ⟨fun h => ⟨h.2.1, h.2.2.1, (h.2.2.2 _ _ rfl).2⟩, fun h => ⟨rfl, h.1, h.2.1, fun _ _ e => by
    cases e
    exact ⟨rfl, h.2.2⟩⟩⟩
theorem hm_IIrV_of {l : Launch} {y : MethodName} {own : String} {cc : ByteArray} {maxL fr lo mc ms : Nat} {P : hG → Int32 → Int32 → hH → Nat → Prop} {Q : hG → Int32 → Int32 → hH → Nat → hH → Nat → Prop} {T : hG → Nat → Nat → se_Op hW} (hy : plainName y.cls = true) (hyc : y.cls = own) (hT : hTS l own y.name cc maxL none fr lo mc ms T) (hL : 2 ≤ maxL)
    (body : ∀ (g : hG) (a0 : Int32) (a1 : Int32) (m : hH) (n : Nat), hDom g m n → hVg g → P g a0 a1 m n → ∀ G : Nat → se_L → List Value → hW → Prop, (∀ (stops : List Nat) (f pc : Nat) (L : se_L) (st : List Value) (w : hW), wpN True (T g) cc stops G (hXt mc ms (hNoX g [.int a0, .int a1] m n)) (ht_IIrV mc ms Q g a0 a1 m n) f pc L st w → G pc L st w) → G 0 (se_ent [.int a0, .int a1] maxL) [] (m, n, 0, 0)) : hm_IIrV l y (ws_ y cc maxL none) fr lo mc ms P Q :=
  hOf hy hyc hT (fun g av m n h => by
    obtain ⟨a0, a1, rfl, _⟩ := h
    exact hL) (fun g av m n h1 h2 hp G hG => by
    obtain ⟨a0, a1, rfl, hp⟩ := hp
    exact body g a0 a1 m n h1 h2 hp G hG)
abbrev hm_IrI (l : Launch) (y : MethodName) (ws : List Cond) (fr lo mc ms : Nat) (P : hG → Int32 → hH → Nat → Prop) (Q : hG → Int32 → hH → Nat → Int32 → hH → Nat → Prop) : Prop := hCon l y ws fr lo mc ms (fun (g : hG) (av : List Value) (m : hH) (n : Nat) => ∃ (a0 : Int32), av = [.int a0] ∧ P g a0 m n) (fun (g : hG) (av : List Value) (m : hH) (n : Nat) (v : Option Value) (m' : hH) (n' : Nat) => ∀ (a0 : Int32), av = [.int a0] → ∃ x, v = some (.int x) ∧ Q g a0 m n x m' n') hNoX
def ho_IrI (g : hG) (mc ms mc' ms' : Nat) (P : hG → Int32 → hH → Nat → Prop) (Q : hG → Int32 → hH → Nat → Int32 → hH → Nat → Prop) : se_Op hW := fun st w K Y => match st with
  | .int a0 :: r => se_c8 8 r ∧ P g a0 w.1 w.2.1 ∧ w.2.2.1 + mc' ≤ mc ∧ w.2.2.2 + ms' ≤ ms ∧ ∀ x m' n', Q g a0 w.1 w.2.1 x m' n' → hDom g m' n' → w.2.1 ≤ n' → K (.int x :: r) (m', n', w.2.2.1 + mc', w.2.2.2 + ms')
  | _ => False
theorem ho_IrI_r {g : hG} {mc ms mc' ms' : Nat} {P : hG → Int32 → hH → Nat → Prop} {Q : hG → Int32 → hH → Nat → Int32 → hH → Nat → Prop} {a0 : Int32} {r : List Value} {w : hW} {K : List Value → hW → Prop} {Y : Nat → hW → Prop} : ho_IrI g mc ms mc' ms' P Q (.int a0 :: r) w K Y = (se_c8 8 r ∧ P g a0 w.1 w.2.1 ∧ w.2.2.1 + mc' ≤ mc ∧ w.2.2.2 + ms' ≤ ms ∧ ∀ x m' n', Q g a0 w.1 w.2.1 x m' n' → hDom g m' n' → w.2.1 ≤ n' → K (.int x :: r) (m', n', w.2.2.1 + mc', w.2.2.2 + ms')) := rfl
theorem ho_IrI_ok {g : hG} {mc ms mc' ms' : Nat} {P : hG → Int32 → hH → Nat → Prop} {Q : hG → Int32 → hH → Nat → Int32 → hH → Nat → Prop} {p : Program} {l : Launch} {e : Env} {R : Room} {s : State} {m : MethodId} {args : Array Value} {below : List Frame} {meth : Method} {c : Code} {nL : Nat} {cc : ByteArray} {Q0 : State → Prop} {H0 : Heap} {ins : Instr} {len : Nat} (hS : se_Snd p l e R s m args below meth c Q0 nL (fun a => a) (hRM g H0) cc ins len (hCS g 1 mc ms mc' ms' (fun (g : hG) (av : List Value) (m : hH) (n : Nat) => ∃ (a0 : Int32), av = [.int a0] ∧ P g a0 m n) (fun (g : hG) (av : List Value) (m : hH) (n : Nat) (v : Option Value) (m' : hH) (n' : Nat) => ∀ (a0 : Int32), av = [.int a0] → ∃ x, v = some (.int x) ∧ Q g a0 m n x m' n') hNoX)) : se_Snd p l e R s m args below meth c Q0 nL (fun a => a) (hRM g H0) cc ins len (ho_IrI g mc ms mc' ms' P Q) :=
  hS.mono fun st w K Y h => by
    unfold ho_IrI at h
    split at h
    · rename_i a0 r
      obtain ⟨h8, hP, r1, r2, hq⟩ := h
      exact (⟨h8, ⟨a0, rfl, hP⟩, r1, r2, fun v m' n' hp hi hn => by
              obtain ⟨x, rfl, hx⟩ := hp a0 rfl
              exact hq x m' n' hx hi hn, fun b m' n' hp => hp.elim⟩ : hGo g mc ms mc' ms' ((fun (g : hG) (av : List Value) (m : hH) (n : Nat) => ∃ (a0 : Int32), av = [.int a0] ∧ P g a0 m n) g) ((fun (g : hG) (av : List Value) (m : hH) (n : Nat) (v : Option Value) (m' : hH) (n' : Nat) => ∀ (a0 : Int32), av = [.int a0] → ∃ x, v = some (.int x) ∧ Q g a0 m n x m' n') g) (hNoX g) [.int a0] r w K Y)
    · exact h.elim
def hp_IrI (g : hG) (mc ms : Nat) (P : hG → Int32 → hH → Nat → Prop) (R0 : hG → Int32 → hH → Nat → Int32) : se_Op hW := fun st w K Y => match st with
  | .int a0 :: r => se_c8 8 r ∧ P g a0 w.1 w.2.1 ∧ w.2.2.1 ≤ mc ∧ w.2.2.2 ≤ ms ∧ K (.int (R0 g a0 w.1 w.2.1) :: r) w
  | _ => False
theorem hp_IrI_r {g : hG} {mc ms : Nat} {P : hG → Int32 → hH → Nat → Prop} {R0 : hG → Int32 → hH → Nat → Int32} {a0 : Int32} {r : List Value} {w : hW} {K : List Value → hW → Prop} {Y : Nat → hW → Prop} : hp_IrI g mc ms P R0 (.int a0 :: r) w K Y = (se_c8 8 r ∧ P g a0 w.1 w.2.1 ∧ w.2.2.1 ≤ mc ∧ w.2.2.2 ≤ ms ∧ K (.int (R0 g a0 w.1 w.2.1) :: r) w) := rfl
theorem hp_IrI_ok {g : hG} {mc ms : Nat} {P : hG → Int32 → hH → Nat → Prop} {R0 : hG → Int32 → hH → Nat → Int32} {p : Program} {l : Launch} {e : Env} {R : Room} {s : State} {m : MethodId} {args : Array Value} {below : List Frame} {meth : Method} {c : Code} {nL : Nat} {cc : ByteArray} {Q0 : State → Prop} {H0 : Heap} {ins : Instr} {len : Nat} (hS : se_Snd p l e R s m args below meth c Q0 nL (fun a => a) (hRM g H0) cc ins len (ho_IrI g mc ms 0 0 P (fun g a0 m n x m' n' => x = R0 g a0 m n ∧ m' = m ∧ n' = n))) : se_Snd p l e R s m args below meth c Q0 nL (fun a => a) (hRM g H0) cc ins len (hp_IrI g mc ms P R0) :=
  hS.mono fun st w K Y h => by
    unfold hp_IrI at h
    split at h
    · rename_i a0 r
      obtain ⟨h8, hP, r1, r2, hq⟩ := h
      exact ⟨h8, hP, r1, r2, fun x m' n' e _ _ => by
              obtain ⟨rfl, rfl, rfl⟩ := e
              exact hq⟩
    · exact h.elim
def hf_IrI (g : hG) (mc ms : Nat) (P : hG → Int32 → hH → Nat → Prop) (R0 : hG → Int32 → hH → Nat → Int32) (F : hG → Int32 → hH → Nat → hH) : se_Op hW := fun st w K Y => match st with
  | .int a0 :: r => se_c8 8 r ∧ P g a0 w.1 w.2.1 ∧ w.2.2.1 ≤ mc ∧ w.2.2.2 ≤ ms ∧ K (.int (R0 g a0 w.1 w.2.1) :: r) (F g a0 w.1 w.2.1, w.2)
  | _ => False
theorem hf_IrI_r {g : hG} {mc ms : Nat} {P : hG → Int32 → hH → Nat → Prop} {R0 : hG → Int32 → hH → Nat → Int32} {F : hG → Int32 → hH → Nat → hH} {a0 : Int32} {r : List Value} {w : hW} {K : List Value → hW → Prop} {Y : Nat → hW → Prop} : hf_IrI g mc ms P R0 F (.int a0 :: r) w K Y = (se_c8 8 r ∧ P g a0 w.1 w.2.1 ∧ w.2.2.1 ≤ mc ∧ w.2.2.2 ≤ ms ∧ K (.int (R0 g a0 w.1 w.2.1) :: r) (F g a0 w.1 w.2.1, w.2)) := rfl
theorem hf_IrI_ok {g : hG} {mc ms : Nat} {P : hG → Int32 → hH → Nat → Prop} {R0 : hG → Int32 → hH → Nat → Int32} {F : hG → Int32 → hH → Nat → hH} {p : Program} {l : Launch} {e : Env} {R : Room} {s : State} {m : MethodId} {args : Array Value} {below : List Frame} {meth : Method} {c : Code} {nL : Nat} {cc : ByteArray} {Q0 : State → Prop} {H0 : Heap} {ins : Instr} {len : Nat} (hS : se_Snd p l e R s m args below meth c Q0 nL (fun a => a) (hRM g H0) cc ins len (ho_IrI g mc ms 0 0 P (fun g a0 m n x m' n' => x = R0 g a0 m n ∧ m' = F g a0 m n ∧ n' = n))) : se_Snd p l e R s m args below meth c Q0 nL (fun a => a) (hRM g H0) cc ins len (hf_IrI g mc ms P R0 F) :=
  hS.mono fun st w K Y h => by
    unfold hf_IrI at h
    split at h
    · rename_i a0 r
      obtain ⟨h8, hP, r1, r2, hq⟩ := h
      exact ⟨h8, hP, r1, r2, fun x m' n' e _ _ => by
              obtain ⟨rfl, rfl, rfl⟩ := e
              exact hq⟩
    · exact h.elim
def ht_IrI (mc ms : Nat) (Q : hG → Int32 → hH → Nat → Int32 → hH → Nat → Prop) (g : hG) (a0 : Int32) (m : hH) (n : Nat) : Option Value → hW → Prop := hRt (some .int) mc ms ((fun (g : hG) (av : List Value) (m : hH) (n : Nat) (v : Option Value) (m' : hH) (n' : Nat) => ∀ (a0 : Int32), av = [.int a0] → ∃ x, v = some (.int x) ∧ Q g a0 m n x m' n') g [.int a0] m n)
theorem ht_IrI_e {mc ms : Nat} {Q : hG → Int32 → hH → Nat → Int32 → hH → Nat → Prop} {g : hG} {a0 : Int32} {m : hH} {n : Nat} {w : hW} {z : Int32} : ht_IrI mc ms Q g a0 m n (some (.int z)) w = (w.2.2.1 ≤ mc ∧ w.2.2.2 ≤ ms ∧ Q g a0 m n z w.1 w.2.1) := by
  apply propext
  constructor
  · intro h
    obtain ⟨x, e, hq⟩ := h.2.2.2 _ rfl
    cases e
    exact ⟨h.2.1, h.2.2.1, hq⟩
  · intro h
    obtain ⟨h1, h2, h3⟩ := h
    exact ⟨⟨_, rfl, rfl⟩, h1, h2, fun _ e => by
      cases e
      exact ⟨z, rfl, h3⟩⟩
theorem hm_IrI_of {l : Launch} {y : MethodName} {own : String} {cc : ByteArray} {maxL fr lo mc ms : Nat} {P : hG → Int32 → hH → Nat → Prop} {Q : hG → Int32 → hH → Nat → Int32 → hH → Nat → Prop} {T : hG → Nat → Nat → se_Op hW} (hy : plainName y.cls = true) (hyc : y.cls = own) (hT : hTS l own y.name cc maxL (some .int) fr lo mc ms T) (hL : 1 ≤ maxL)
    (body : ∀ (g : hG) (a0 : Int32) (m : hH) (n : Nat), hDom g m n → hVg g → P g a0 m n → ∀ G : Nat → se_L → List Value → hW → Prop, (∀ (stops : List Nat) (f pc : Nat) (L : se_L) (st : List Value) (w : hW), wpN True (T g) cc stops G (hXt mc ms (hNoX g [.int a0] m n)) (ht_IrI mc ms Q g a0 m n) f pc L st w → G pc L st w) → G 0 (se_ent [.int a0] maxL) [] (m, n, 0, 0)) : hm_IrI l y (ws_ y cc maxL (some .int)) fr lo mc ms P Q :=
  hOf hy hyc hT (fun g av m n h => by
    obtain ⟨a0, rfl, _⟩ := h
    exact hL) (fun g av m n h1 h2 hp G hG => by
    obtain ⟨a0, rfl, hp⟩ := hp
    exact body g a0 m n h1 h2 hp G hG)
abbrev hm_IrL (l : Launch) (y : MethodName) (ws : List Cond) (fr lo mc ms : Nat) (P : hG → Int32 → hH → Nat → Prop) (Q : hG → Int32 → hH → Nat → Option Nat → hH → Nat → Prop) : Prop := hCon l y ws fr lo mc ms (fun (g : hG) (av : List Value) (m : hH) (n : Nat) => ∃ (a0 : Int32), av = [.int a0] ∧ P g a0 m n) (fun (g : hG) (av : List Value) (m : hH) (n : Nat) (v : Option Value) (m' : hH) (n' : Nat) => ∀ (a0 : Int32), av = [.int a0] → ∃ x, v = some (va_rf x) ∧ Q g a0 m n x m' n') hNoX
def ho_IrL (g : hG) (mc ms mc' ms' : Nat) (P : hG → Int32 → hH → Nat → Prop) (Q : hG → Int32 → hH → Nat → Option Nat → hH → Nat → Prop) : se_Op hW := fun st w K Y => match st with
  | .int a0 :: r => se_c8 8 r ∧ P g a0 w.1 w.2.1 ∧ w.2.2.1 + mc' ≤ mc ∧ w.2.2.2 + ms' ≤ ms ∧ ∀ x m' n', Q g a0 w.1 w.2.1 x m' n' → hDom g m' n' → w.2.1 ≤ n' → K (va_rf x :: r) (m', n', w.2.2.1 + mc', w.2.2.2 + ms')
  | _ => False
theorem ho_IrL_r {g : hG} {mc ms mc' ms' : Nat} {P : hG → Int32 → hH → Nat → Prop} {Q : hG → Int32 → hH → Nat → Option Nat → hH → Nat → Prop} {a0 : Int32} {r : List Value} {w : hW} {K : List Value → hW → Prop} {Y : Nat → hW → Prop} : ho_IrL g mc ms mc' ms' P Q (.int a0 :: r) w K Y = (se_c8 8 r ∧ P g a0 w.1 w.2.1 ∧ w.2.2.1 + mc' ≤ mc ∧ w.2.2.2 + ms' ≤ ms ∧ ∀ x m' n', Q g a0 w.1 w.2.1 x m' n' → hDom g m' n' → w.2.1 ≤ n' → K (va_rf x :: r) (m', n', w.2.2.1 + mc', w.2.2.2 + ms')) := rfl
theorem ho_IrL_ok {g : hG} {mc ms mc' ms' : Nat} {P : hG → Int32 → hH → Nat → Prop} {Q : hG → Int32 → hH → Nat → Option Nat → hH → Nat → Prop} {p : Program} {l : Launch} {e : Env} {R : Room} {s : State} {m : MethodId} {args : Array Value} {below : List Frame} {meth : Method} {c : Code} {nL : Nat} {cc : ByteArray} {Q0 : State → Prop} {H0 : Heap} {ins : Instr} {len : Nat} (hS : se_Snd p l e R s m args below meth c Q0 nL (fun a => a) (hRM g H0) cc ins len (hCS g 1 mc ms mc' ms' (fun (g : hG) (av : List Value) (m : hH) (n : Nat) => ∃ (a0 : Int32), av = [.int a0] ∧ P g a0 m n) (fun (g : hG) (av : List Value) (m : hH) (n : Nat) (v : Option Value) (m' : hH) (n' : Nat) => ∀ (a0 : Int32), av = [.int a0] → ∃ x, v = some (va_rf x) ∧ Q g a0 m n x m' n') hNoX)) : se_Snd p l e R s m args below meth c Q0 nL (fun a => a) (hRM g H0) cc ins len (ho_IrL g mc ms mc' ms' P Q) :=
  hS.mono fun st w K Y h => by
    unfold ho_IrL at h
    split at h
    · rename_i a0 r
      obtain ⟨h8, hP, r1, r2, hq⟩ := h
      exact (⟨h8, ⟨a0, rfl, hP⟩, r1, r2, fun v m' n' hp hi hn => by
              obtain ⟨x, rfl, hx⟩ := hp a0 rfl
              exact hq x m' n' hx hi hn, fun b m' n' hp => hp.elim⟩ : hGo g mc ms mc' ms' ((fun (g : hG) (av : List Value) (m : hH) (n : Nat) => ∃ (a0 : Int32), av = [.int a0] ∧ P g a0 m n) g) ((fun (g : hG) (av : List Value) (m : hH) (n : Nat) (v : Option Value) (m' : hH) (n' : Nat) => ∀ (a0 : Int32), av = [.int a0] → ∃ x, v = some (va_rf x) ∧ Q g a0 m n x m' n') g) (hNoX g) [.int a0] r w K Y)
    · exact h.elim
def hp_IrL (g : hG) (mc ms : Nat) (P : hG → Int32 → hH → Nat → Prop) (R0 : hG → Int32 → hH → Nat → Option Nat) : se_Op hW := fun st w K Y => match st with
  | .int a0 :: r => se_c8 8 r ∧ P g a0 w.1 w.2.1 ∧ w.2.2.1 ≤ mc ∧ w.2.2.2 ≤ ms ∧ K (va_rf (R0 g a0 w.1 w.2.1) :: r) w
  | _ => False
theorem hp_IrL_r {g : hG} {mc ms : Nat} {P : hG → Int32 → hH → Nat → Prop} {R0 : hG → Int32 → hH → Nat → Option Nat} {a0 : Int32} {r : List Value} {w : hW} {K : List Value → hW → Prop} {Y : Nat → hW → Prop} : hp_IrL g mc ms P R0 (.int a0 :: r) w K Y = (se_c8 8 r ∧ P g a0 w.1 w.2.1 ∧ w.2.2.1 ≤ mc ∧ w.2.2.2 ≤ ms ∧ K (va_rf (R0 g a0 w.1 w.2.1) :: r) w) := rfl
theorem hp_IrL_ok {g : hG} {mc ms : Nat} {P : hG → Int32 → hH → Nat → Prop} {R0 : hG → Int32 → hH → Nat → Option Nat} {p : Program} {l : Launch} {e : Env} {R : Room} {s : State} {m : MethodId} {args : Array Value} {below : List Frame} {meth : Method} {c : Code} {nL : Nat} {cc : ByteArray} {Q0 : State → Prop} {H0 : Heap} {ins : Instr} {len : Nat} (hS : se_Snd p l e R s m args below meth c Q0 nL (fun a => a) (hRM g H0) cc ins len (ho_IrL g mc ms 0 0 P (fun g a0 m n x m' n' => x = R0 g a0 m n ∧ m' = m ∧ n' = n))) : se_Snd p l e R s m args below meth c Q0 nL (fun a => a) (hRM g H0) cc ins len (hp_IrL g mc ms P R0) :=
  hS.mono fun st w K Y h => by
    unfold hp_IrL at h
    split at h
    · rename_i a0 r
      obtain ⟨h8, hP, r1, r2, hq⟩ := h
      exact ⟨h8, hP, r1, r2, fun x m' n' e _ _ => by
              obtain ⟨rfl, rfl, rfl⟩ := e
              exact hq⟩
    · exact h.elim
def hf_IrL (g : hG) (mc ms : Nat) (P : hG → Int32 → hH → Nat → Prop) (R0 : hG → Int32 → hH → Nat → Option Nat) (F : hG → Int32 → hH → Nat → hH) : se_Op hW := fun st w K Y => match st with
  | .int a0 :: r => se_c8 8 r ∧ P g a0 w.1 w.2.1 ∧ w.2.2.1 ≤ mc ∧ w.2.2.2 ≤ ms ∧ K (va_rf (R0 g a0 w.1 w.2.1) :: r) (F g a0 w.1 w.2.1, w.2)
  | _ => False
theorem hf_IrL_r {g : hG} {mc ms : Nat} {P : hG → Int32 → hH → Nat → Prop} {R0 : hG → Int32 → hH → Nat → Option Nat} {F : hG → Int32 → hH → Nat → hH} {a0 : Int32} {r : List Value} {w : hW} {K : List Value → hW → Prop} {Y : Nat → hW → Prop} : hf_IrL g mc ms P R0 F (.int a0 :: r) w K Y = (se_c8 8 r ∧ P g a0 w.1 w.2.1 ∧ w.2.2.1 ≤ mc ∧ w.2.2.2 ≤ ms ∧ K (va_rf (R0 g a0 w.1 w.2.1) :: r) (F g a0 w.1 w.2.1, w.2)) := rfl
theorem hf_IrL_ok {g : hG} {mc ms : Nat} {P : hG → Int32 → hH → Nat → Prop} {R0 : hG → Int32 → hH → Nat → Option Nat} {F : hG → Int32 → hH → Nat → hH} {p : Program} {l : Launch} {e : Env} {R : Room} {s : State} {m : MethodId} {args : Array Value} {below : List Frame} {meth : Method} {c : Code} {nL : Nat} {cc : ByteArray} {Q0 : State → Prop} {H0 : Heap} {ins : Instr} {len : Nat} (hS : se_Snd p l e R s m args below meth c Q0 nL (fun a => a) (hRM g H0) cc ins len (ho_IrL g mc ms 0 0 P (fun g a0 m n x m' n' => x = R0 g a0 m n ∧ m' = F g a0 m n ∧ n' = n))) : se_Snd p l e R s m args below meth c Q0 nL (fun a => a) (hRM g H0) cc ins len (hf_IrL g mc ms P R0 F) :=
  hS.mono fun st w K Y h => by
    unfold hf_IrL at h
    split at h
    · rename_i a0 r
      obtain ⟨h8, hP, r1, r2, hq⟩ := h
      exact ⟨h8, hP, r1, r2, fun x m' n' e _ _ => by
              obtain ⟨rfl, rfl, rfl⟩ := e
              exact hq⟩
    · exact h.elim
def ht_IrL (rty : FieldType) (mc ms : Nat) (Q : hG → Int32 → hH → Nat → Option Nat → hH → Nat → Prop) (g : hG) (a0 : Int32) (m : hH) (n : Nat) : Option Value → hW → Prop := hRt (some rty) mc ms ((fun (g : hG) (av : List Value) (m : hH) (n : Nat) (v : Option Value) (m' : hH) (n' : Nat) => ∀ (a0 : Int32), av = [.int a0] → ∃ x, v = some (va_rf x) ∧ Q g a0 m n x m' n') g [.int a0] m n)
theorem ht_IrL_e {rty : FieldType} {mc ms : Nat} {Q : hG → Int32 → hH → Nat → Option Nat → hH → Nat → Prop} {g : hG} {a0 : Int32} {m : hH} {n : Nat} {w : hW} {z : Nat} (hr : (∃ n, rty = .object n) ∨ ∃ t, rty = .array t) : ht_IrL rty mc ms Q g a0 m n (some (.ref z)) w = (w.2.2.1 ≤ mc ∧ w.2.2.2 ≤ ms ∧ Q g a0 m n (some z) w.1 w.2.1) := by
  apply propext
  constructor
  · intro h
    obtain ⟨x, e, hq⟩ := h.2.2.2 _ rfl
    cases x with
    | none => cases e
    | some x => cases e; exact ⟨h.2.1, h.2.2.1, hq⟩
  · intro h
    obtain ⟨h1, h2, h3⟩ := h
    exact ⟨⟨_, rfl, hr⟩, h1, h2, fun _ e => by
      cases e
      exact ⟨some z, rfl, h3⟩⟩
theorem ht_IrL_n {rty : FieldType} {mc ms : Nat} {Q : hG → Int32 → hH → Nat → Option Nat → hH → Nat → Prop} {g : hG} {a0 : Int32} {m : hH} {n : Nat} {w : hW} (hr : (∃ n, rty = .object n) ∨ ∃ t, rty = .array t) : ht_IrL rty mc ms Q g a0 m n (some .null) w = (w.2.2.1 ≤ mc ∧ w.2.2.2 ≤ ms ∧ Q g a0 m n none w.1 w.2.1) := by
  apply propext
  constructor
  · intro h
    obtain ⟨x, e, hq⟩ := h.2.2.2 _ rfl
    cases x with
    | none => exact ⟨h.2.1, h.2.2.1, hq⟩
    | some x => cases e
  · intro h
    obtain ⟨h1, h2, h3⟩ := h
    exact ⟨⟨_, rfl, hr⟩, h1, h2, fun _ e => by
      cases e
      exact ⟨none, rfl, h3⟩⟩
theorem hm_IrL_of {l : Launch} {y : MethodName} {own : String} {cc : ByteArray} {maxL fr lo mc ms : Nat} {rty : FieldType} {P : hG → Int32 → hH → Nat → Prop} {Q : hG → Int32 → hH → Nat → Option Nat → hH → Nat → Prop} {T : hG → Nat → Nat → se_Op hW} (hy : plainName y.cls = true) (hyc : y.cls = own) (hT : hTS l own y.name cc maxL (some rty) fr lo mc ms T) (hL : 1 ≤ maxL)
    (body : ∀ (g : hG) (a0 : Int32) (m : hH) (n : Nat), hDom g m n → hVg g → P g a0 m n → ∀ G : Nat → se_L → List Value → hW → Prop, (∀ (stops : List Nat) (f pc : Nat) (L : se_L) (st : List Value) (w : hW), wpN True (T g) cc stops G (hXt mc ms (hNoX g [.int a0] m n)) (ht_IrL rty mc ms Q g a0 m n) f pc L st w → G pc L st w) → G 0 (se_ent [.int a0] maxL) [] (m, n, 0, 0)) : hm_IrL l y (ws_ y cc maxL (some rty)) fr lo mc ms P Q :=
  hOf hy hyc hT (fun g av m n h => by
    obtain ⟨a0, rfl, _⟩ := h
    exact hL) (fun g av m n h1 h2 hp G hG => by
    obtain ⟨a0, rfl, hp⟩ := hp
    exact body g a0 m n h1 h2 hp G hG)
abbrev hm_IrZ (l : Launch) (y : MethodName) (ws : List Cond) (fr lo mc ms : Nat) (P : hG → Int32 → hH → Nat → Prop) (Q : hG → Int32 → hH → Nat → Bool → hH → Nat → Prop) : Prop := hCon l y ws fr lo mc ms (fun (g : hG) (av : List Value) (m : hH) (n : Nat) => ∃ (a0 : Int32), av = [.int a0] ∧ P g a0 m n) (fun (g : hG) (av : List Value) (m : hH) (n : Nat) (v : Option Value) (m' : hH) (n' : Nat) => ∀ (a0 : Int32), av = [.int a0] → ∃ x, v = some (.int (bI x)) ∧ Q g a0 m n x m' n') hNoX
def ho_IrZ (g : hG) (mc ms mc' ms' : Nat) (P : hG → Int32 → hH → Nat → Prop) (Q : hG → Int32 → hH → Nat → Bool → hH → Nat → Prop) : se_Op hW := fun st w K Y => match st with
  | .int a0 :: r => se_c8 8 r ∧ P g a0 w.1 w.2.1 ∧ w.2.2.1 + mc' ≤ mc ∧ w.2.2.2 + ms' ≤ ms ∧ ∀ x m' n', Q g a0 w.1 w.2.1 x m' n' → hDom g m' n' → w.2.1 ≤ n' → K (.int (bI x) :: r) (m', n', w.2.2.1 + mc', w.2.2.2 + ms')
  | _ => False
theorem ho_IrZ_r {g : hG} {mc ms mc' ms' : Nat} {P : hG → Int32 → hH → Nat → Prop} {Q : hG → Int32 → hH → Nat → Bool → hH → Nat → Prop} {a0 : Int32} {r : List Value} {w : hW} {K : List Value → hW → Prop} {Y : Nat → hW → Prop} : ho_IrZ g mc ms mc' ms' P Q (.int a0 :: r) w K Y = (se_c8 8 r ∧ P g a0 w.1 w.2.1 ∧ w.2.2.1 + mc' ≤ mc ∧ w.2.2.2 + ms' ≤ ms ∧ ∀ x m' n', Q g a0 w.1 w.2.1 x m' n' → hDom g m' n' → w.2.1 ≤ n' → K (.int (bI x) :: r) (m', n', w.2.2.1 + mc', w.2.2.2 + ms')) := rfl
theorem ho_IrZ_ok {g : hG} {mc ms mc' ms' : Nat} {P : hG → Int32 → hH → Nat → Prop} {Q : hG → Int32 → hH → Nat → Bool → hH → Nat → Prop} {p : Program} {l : Launch} {e : Env} {R : Room} {s : State} {m : MethodId} {args : Array Value} {below : List Frame} {meth : Method} {c : Code} {nL : Nat} {cc : ByteArray} {Q0 : State → Prop} {H0 : Heap} {ins : Instr} {len : Nat} (hS : se_Snd p l e R s m args below meth c Q0 nL (fun a => a) (hRM g H0) cc ins len (hCS g 1 mc ms mc' ms' (fun (g : hG) (av : List Value) (m : hH) (n : Nat) => ∃ (a0 : Int32), av = [.int a0] ∧ P g a0 m n) (fun (g : hG) (av : List Value) (m : hH) (n : Nat) (v : Option Value) (m' : hH) (n' : Nat) => ∀ (a0 : Int32), av = [.int a0] → ∃ x, v = some (.int (bI x)) ∧ Q g a0 m n x m' n') hNoX)) : se_Snd p l e R s m args below meth c Q0 nL (fun a => a) (hRM g H0) cc ins len (ho_IrZ g mc ms mc' ms' P Q) :=
  hS.mono fun st w K Y h => by
    unfold ho_IrZ at h
    split at h
    · rename_i a0 r
      obtain ⟨h8, hP, r1, r2, hq⟩ := h
      exact (⟨h8, ⟨a0, rfl, hP⟩, r1, r2, fun v m' n' hp hi hn => by
              obtain ⟨x, rfl, hx⟩ := hp a0 rfl
              exact hq x m' n' hx hi hn, fun b m' n' hp => hp.elim⟩ : hGo g mc ms mc' ms' ((fun (g : hG) (av : List Value) (m : hH) (n : Nat) => ∃ (a0 : Int32), av = [.int a0] ∧ P g a0 m n) g) ((fun (g : hG) (av : List Value) (m : hH) (n : Nat) (v : Option Value) (m' : hH) (n' : Nat) => ∀ (a0 : Int32), av = [.int a0] → ∃ x, v = some (.int (bI x)) ∧ Q g a0 m n x m' n') g) (hNoX g) [.int a0] r w K Y)
    · exact h.elim
def hp_IrZ (g : hG) (mc ms : Nat) (P : hG → Int32 → hH → Nat → Prop) (R0 : hG → Int32 → hH → Nat → Bool) : se_Op hW := fun st w K Y => match st with
  | .int a0 :: r => se_c8 8 r ∧ P g a0 w.1 w.2.1 ∧ w.2.2.1 ≤ mc ∧ w.2.2.2 ≤ ms ∧ K (.int (bI (R0 g a0 w.1 w.2.1)) :: r) w
  | _ => False
theorem hp_IrZ_r {g : hG} {mc ms : Nat} {P : hG → Int32 → hH → Nat → Prop} {R0 : hG → Int32 → hH → Nat → Bool} {a0 : Int32} {r : List Value} {w : hW} {K : List Value → hW → Prop} {Y : Nat → hW → Prop} : hp_IrZ g mc ms P R0 (.int a0 :: r) w K Y = (se_c8 8 r ∧ P g a0 w.1 w.2.1 ∧ w.2.2.1 ≤ mc ∧ w.2.2.2 ≤ ms ∧ K (.int (bI (R0 g a0 w.1 w.2.1)) :: r) w) := rfl
theorem hp_IrZ_ok {g : hG} {mc ms : Nat} {P : hG → Int32 → hH → Nat → Prop} {R0 : hG → Int32 → hH → Nat → Bool} {p : Program} {l : Launch} {e : Env} {R : Room} {s : State} {m : MethodId} {args : Array Value} {below : List Frame} {meth : Method} {c : Code} {nL : Nat} {cc : ByteArray} {Q0 : State → Prop} {H0 : Heap} {ins : Instr} {len : Nat} (hS : se_Snd p l e R s m args below meth c Q0 nL (fun a => a) (hRM g H0) cc ins len (ho_IrZ g mc ms 0 0 P (fun g a0 m n x m' n' => x = R0 g a0 m n ∧ m' = m ∧ n' = n))) : se_Snd p l e R s m args below meth c Q0 nL (fun a => a) (hRM g H0) cc ins len (hp_IrZ g mc ms P R0) :=
  hS.mono fun st w K Y h => by
    unfold hp_IrZ at h
    split at h
    · rename_i a0 r
      obtain ⟨h8, hP, r1, r2, hq⟩ := h
      exact ⟨h8, hP, r1, r2, fun x m' n' e _ _ => by
              obtain ⟨rfl, rfl, rfl⟩ := e
              exact hq⟩
    · exact h.elim
def hf_IrZ (g : hG) (mc ms : Nat) (P : hG → Int32 → hH → Nat → Prop) (R0 : hG → Int32 → hH → Nat → Bool) (F : hG → Int32 → hH → Nat → hH) : se_Op hW := fun st w K Y => match st with
  | .int a0 :: r => se_c8 8 r ∧ P g a0 w.1 w.2.1 ∧ w.2.2.1 ≤ mc ∧ w.2.2.2 ≤ ms ∧ K (.int (bI (R0 g a0 w.1 w.2.1)) :: r) (F g a0 w.1 w.2.1, w.2)
  | _ => False
theorem hf_IrZ_r {g : hG} {mc ms : Nat} {P : hG → Int32 → hH → Nat → Prop} {R0 : hG → Int32 → hH → Nat → Bool} {F : hG → Int32 → hH → Nat → hH} {a0 : Int32} {r : List Value} {w : hW} {K : List Value → hW → Prop} {Y : Nat → hW → Prop} : hf_IrZ g mc ms P R0 F (.int a0 :: r) w K Y = (se_c8 8 r ∧ P g a0 w.1 w.2.1 ∧ w.2.2.1 ≤ mc ∧ w.2.2.2 ≤ ms ∧ K (.int (bI (R0 g a0 w.1 w.2.1)) :: r) (F g a0 w.1 w.2.1, w.2)) := rfl
theorem hf_IrZ_ok {g : hG} {mc ms : Nat} {P : hG → Int32 → hH → Nat → Prop} {R0 : hG → Int32 → hH → Nat → Bool} {F : hG → Int32 → hH → Nat → hH} {p : Program} {l : Launch} {e : Env} {R : Room} {s : State} {m : MethodId} {args : Array Value} {below : List Frame} {meth : Method} {c : Code} {nL : Nat} {cc : ByteArray} {Q0 : State → Prop} {H0 : Heap} {ins : Instr} {len : Nat} (hS : se_Snd p l e R s m args below meth c Q0 nL (fun a => a) (hRM g H0) cc ins len (ho_IrZ g mc ms 0 0 P (fun g a0 m n x m' n' => x = R0 g a0 m n ∧ m' = F g a0 m n ∧ n' = n))) : se_Snd p l e R s m args below meth c Q0 nL (fun a => a) (hRM g H0) cc ins len (hf_IrZ g mc ms P R0 F) :=
  hS.mono fun st w K Y h => by
    unfold hf_IrZ at h
    split at h
    · rename_i a0 r
      obtain ⟨h8, hP, r1, r2, hq⟩ := h
      exact ⟨h8, hP, r1, r2, fun x m' n' e _ _ => by
              obtain ⟨rfl, rfl, rfl⟩ := e
              exact hq⟩
    · exact h.elim
def ht_IrZ (mc ms : Nat) (Q : hG → Int32 → hH → Nat → Bool → hH → Nat → Prop) (g : hG) (a0 : Int32) (m : hH) (n : Nat) : Option Value → hW → Prop := hRt (some .boolean) mc ms ((fun (g : hG) (av : List Value) (m : hH) (n : Nat) (v : Option Value) (m' : hH) (n' : Nat) => ∀ (a0 : Int32), av = [.int a0] → ∃ x, v = some (.int (bI x)) ∧ Q g a0 m n x m' n') g [.int a0] m n)
theorem ht_IrZ_e {mc ms : Nat} {Q : hG → Int32 → hH → Nat → Bool → hH → Nat → Prop} {g : hG} {a0 : Int32} {m : hH} {n : Nat} {w : hW} {z : Int32} : ht_IrZ mc ms Q g a0 m n (some (.int z)) w = (w.2.2.1 ≤ mc ∧ w.2.2.2 ≤ ms ∧ rz z fun x => Q g a0 m n x w.1 w.2.1) := by
  apply propext
  constructor
  · intro h
    obtain ⟨x, e, hq⟩ := h.2.2.2 _ rfl
    cases e
    exact ⟨h.2.1, h.2.2.1, ⟨x, rfl, hq⟩⟩
  · intro h
    obtain ⟨h1, h2, h3⟩ := h
    obtain ⟨x, rfl, h3⟩ := h3
    exact ⟨⟨_, rfl, bI_nar x⟩, h1, h2, fun _ e => by
      cases e
      exact ⟨x, rfl, h3⟩⟩
theorem hm_IrZ_of {l : Launch} {y : MethodName} {own : String} {cc : ByteArray} {maxL fr lo mc ms : Nat} {P : hG → Int32 → hH → Nat → Prop} {Q : hG → Int32 → hH → Nat → Bool → hH → Nat → Prop} {T : hG → Nat → Nat → se_Op hW} (hy : plainName y.cls = true) (hyc : y.cls = own) (hT : hTS l own y.name cc maxL (some .boolean) fr lo mc ms T) (hL : 1 ≤ maxL)
    (body : ∀ (g : hG) (a0 : Int32) (m : hH) (n : Nat), hDom g m n → hVg g → P g a0 m n → ∀ G : Nat → se_L → List Value → hW → Prop, (∀ (stops : List Nat) (f pc : Nat) (L : se_L) (st : List Value) (w : hW), wpN True (T g) cc stops G (hXt mc ms (hNoX g [.int a0] m n)) (ht_IrZ mc ms Q g a0 m n) f pc L st w → G pc L st w) → G 0 (se_ent [.int a0] maxL) [] (m, n, 0, 0)) : hm_IrZ l y (ws_ y cc maxL (some .boolean)) fr lo mc ms P Q :=
  hOf hy hyc hT (fun g av m n h => by
    obtain ⟨a0, rfl, _⟩ := h
    exact hL) (fun g av m n h1 h2 hp G hG => by
    obtain ⟨a0, rfl, hp⟩ := hp
    exact body g a0 m n h1 h2 hp G hG)
abbrev hm_JrI (l : Launch) (y : MethodName) (ws : List Cond) (fr lo mc ms : Nat) (P : hG → Int64 → hH → Nat → Prop) (Q : hG → Int64 → hH → Nat → Int32 → hH → Nat → Prop) : Prop := hCon l y ws fr lo mc ms (fun (g : hG) (av : List Value) (m : hH) (n : Nat) => ∃ (a0 : Int64), av = [.long a0] ∧ P g a0 m n) (fun (g : hG) (av : List Value) (m : hH) (n : Nat) (v : Option Value) (m' : hH) (n' : Nat) => ∀ (a0 : Int64), av = [.long a0] → ∃ x, v = some (.int x) ∧ Q g a0 m n x m' n') hNoX
def ho_JrI (g : hG) (mc ms mc' ms' : Nat) (P : hG → Int64 → hH → Nat → Prop) (Q : hG → Int64 → hH → Nat → Int32 → hH → Nat → Prop) : se_Op hW := fun st w K Y => match st with
  | .long a0 :: r => se_c8 8 r ∧ P g a0 w.1 w.2.1 ∧ w.2.2.1 + mc' ≤ mc ∧ w.2.2.2 + ms' ≤ ms ∧ ∀ x m' n', Q g a0 w.1 w.2.1 x m' n' → hDom g m' n' → w.2.1 ≤ n' → K (.int x :: r) (m', n', w.2.2.1 + mc', w.2.2.2 + ms')
  | _ => False
theorem ho_JrI_r {g : hG} {mc ms mc' ms' : Nat} {P : hG → Int64 → hH → Nat → Prop} {Q : hG → Int64 → hH → Nat → Int32 → hH → Nat → Prop} {a0 : Int64} {r : List Value} {w : hW} {K : List Value → hW → Prop} {Y : Nat → hW → Prop} : ho_JrI g mc ms mc' ms' P Q (.long a0 :: r) w K Y = (se_c8 8 r ∧ P g a0 w.1 w.2.1 ∧ w.2.2.1 + mc' ≤ mc ∧ w.2.2.2 + ms' ≤ ms ∧ ∀ x m' n', Q g a0 w.1 w.2.1 x m' n' → hDom g m' n' → w.2.1 ≤ n' → K (.int x :: r) (m', n', w.2.2.1 + mc', w.2.2.2 + ms')) := rfl
theorem ho_JrI_ok {g : hG} {mc ms mc' ms' : Nat} {P : hG → Int64 → hH → Nat → Prop} {Q : hG → Int64 → hH → Nat → Int32 → hH → Nat → Prop} {p : Program} {l : Launch} {e : Env} {R : Room} {s : State} {m : MethodId} {args : Array Value} {below : List Frame} {meth : Method} {c : Code} {nL : Nat} {cc : ByteArray} {Q0 : State → Prop} {H0 : Heap} {ins : Instr} {len : Nat} (hS : se_Snd p l e R s m args below meth c Q0 nL (fun a => a) (hRM g H0) cc ins len (hCS g 1 mc ms mc' ms' (fun (g : hG) (av : List Value) (m : hH) (n : Nat) => ∃ (a0 : Int64), av = [.long a0] ∧ P g a0 m n) (fun (g : hG) (av : List Value) (m : hH) (n : Nat) (v : Option Value) (m' : hH) (n' : Nat) => ∀ (a0 : Int64), av = [.long a0] → ∃ x, v = some (.int x) ∧ Q g a0 m n x m' n') hNoX)) : se_Snd p l e R s m args below meth c Q0 nL (fun a => a) (hRM g H0) cc ins len (ho_JrI g mc ms mc' ms' P Q) :=
  hS.mono fun st w K Y h => by
    unfold ho_JrI at h
    split at h
    · rename_i a0 r
      obtain ⟨h8, hP, r1, r2, hq⟩ := h
      exact (⟨h8, ⟨a0, rfl, hP⟩, r1, r2, fun v m' n' hp hi hn => by
              obtain ⟨x, rfl, hx⟩ := hp a0 rfl
              exact hq x m' n' hx hi hn, fun b m' n' hp => hp.elim⟩ : hGo g mc ms mc' ms' ((fun (g : hG) (av : List Value) (m : hH) (n : Nat) => ∃ (a0 : Int64), av = [.long a0] ∧ P g a0 m n) g) ((fun (g : hG) (av : List Value) (m : hH) (n : Nat) (v : Option Value) (m' : hH) (n' : Nat) => ∀ (a0 : Int64), av = [.long a0] → ∃ x, v = some (.int x) ∧ Q g a0 m n x m' n') g) (hNoX g) [.long a0] r w K Y)
    · exact h.elim
def hp_JrI (g : hG) (mc ms : Nat) (P : hG → Int64 → hH → Nat → Prop) (R0 : hG → Int64 → hH → Nat → Int32) : se_Op hW := fun st w K Y => match st with
  | .long a0 :: r => se_c8 8 r ∧ P g a0 w.1 w.2.1 ∧ w.2.2.1 ≤ mc ∧ w.2.2.2 ≤ ms ∧ K (.int (R0 g a0 w.1 w.2.1) :: r) w
  | _ => False
theorem hp_JrI_r {g : hG} {mc ms : Nat} {P : hG → Int64 → hH → Nat → Prop} {R0 : hG → Int64 → hH → Nat → Int32} {a0 : Int64} {r : List Value} {w : hW} {K : List Value → hW → Prop} {Y : Nat → hW → Prop} : hp_JrI g mc ms P R0 (.long a0 :: r) w K Y = (se_c8 8 r ∧ P g a0 w.1 w.2.1 ∧ w.2.2.1 ≤ mc ∧ w.2.2.2 ≤ ms ∧ K (.int (R0 g a0 w.1 w.2.1) :: r) w) := rfl
theorem hp_JrI_ok {g : hG} {mc ms : Nat} {P : hG → Int64 → hH → Nat → Prop} {R0 : hG → Int64 → hH → Nat → Int32} {p : Program} {l : Launch} {e : Env} {R : Room} {s : State} {m : MethodId} {args : Array Value} {below : List Frame} {meth : Method} {c : Code} {nL : Nat} {cc : ByteArray} {Q0 : State → Prop} {H0 : Heap} {ins : Instr} {len : Nat} (hS : se_Snd p l e R s m args below meth c Q0 nL (fun a => a) (hRM g H0) cc ins len (ho_JrI g mc ms 0 0 P (fun g a0 m n x m' n' => x = R0 g a0 m n ∧ m' = m ∧ n' = n))) : se_Snd p l e R s m args below meth c Q0 nL (fun a => a) (hRM g H0) cc ins len (hp_JrI g mc ms P R0) :=
  hS.mono fun st w K Y h => by
    unfold hp_JrI at h
    split at h
    · rename_i a0 r
      obtain ⟨h8, hP, r1, r2, hq⟩ := h
      exact ⟨h8, hP, r1, r2, fun x m' n' e _ _ => by
              obtain ⟨rfl, rfl, rfl⟩ := e
              exact hq⟩
    · exact h.elim
def hf_JrI (g : hG) (mc ms : Nat) (P : hG → Int64 → hH → Nat → Prop) (R0 : hG → Int64 → hH → Nat → Int32) (F : hG → Int64 → hH → Nat → hH) : se_Op hW := fun st w K Y => match st with
  | .long a0 :: r => se_c8 8 r ∧ P g a0 w.1 w.2.1 ∧ w.2.2.1 ≤ mc ∧ w.2.2.2 ≤ ms ∧ K (.int (R0 g a0 w.1 w.2.1) :: r) (F g a0 w.1 w.2.1, w.2)
  | _ => False
theorem hf_JrI_r {g : hG} {mc ms : Nat} {P : hG → Int64 → hH → Nat → Prop} {R0 : hG → Int64 → hH → Nat → Int32} {F : hG → Int64 → hH → Nat → hH} {a0 : Int64} {r : List Value} {w : hW} {K : List Value → hW → Prop} {Y : Nat → hW → Prop} : hf_JrI g mc ms P R0 F (.long a0 :: r) w K Y = (se_c8 8 r ∧ P g a0 w.1 w.2.1 ∧ w.2.2.1 ≤ mc ∧ w.2.2.2 ≤ ms ∧ K (.int (R0 g a0 w.1 w.2.1) :: r) (F g a0 w.1 w.2.1, w.2)) := rfl
theorem hf_JrI_ok {g : hG} {mc ms : Nat} {P : hG → Int64 → hH → Nat → Prop} {R0 : hG → Int64 → hH → Nat → Int32} {F : hG → Int64 → hH → Nat → hH} {p : Program} {l : Launch} {e : Env} {R : Room} {s : State} {m : MethodId} {args : Array Value} {below : List Frame} {meth : Method} {c : Code} {nL : Nat} {cc : ByteArray} {Q0 : State → Prop} {H0 : Heap} {ins : Instr} {len : Nat} (hS : se_Snd p l e R s m args below meth c Q0 nL (fun a => a) (hRM g H0) cc ins len (ho_JrI g mc ms 0 0 P (fun g a0 m n x m' n' => x = R0 g a0 m n ∧ m' = F g a0 m n ∧ n' = n))) : se_Snd p l e R s m args below meth c Q0 nL (fun a => a) (hRM g H0) cc ins len (hf_JrI g mc ms P R0 F) :=
  hS.mono fun st w K Y h => by
    unfold hf_JrI at h
    split at h
    · rename_i a0 r
      obtain ⟨h8, hP, r1, r2, hq⟩ := h
      exact ⟨h8, hP, r1, r2, fun x m' n' e _ _ => by
              obtain ⟨rfl, rfl, rfl⟩ := e
              exact hq⟩
    · exact h.elim
def ht_JrI (mc ms : Nat) (Q : hG → Int64 → hH → Nat → Int32 → hH → Nat → Prop) (g : hG) (a0 : Int64) (m : hH) (n : Nat) : Option Value → hW → Prop := hRt (some .int) mc ms ((fun (g : hG) (av : List Value) (m : hH) (n : Nat) (v : Option Value) (m' : hH) (n' : Nat) => ∀ (a0 : Int64), av = [.long a0] → ∃ x, v = some (.int x) ∧ Q g a0 m n x m' n') g [.long a0] m n)
theorem ht_JrI_e {mc ms : Nat} {Q : hG → Int64 → hH → Nat → Int32 → hH → Nat → Prop} {g : hG} {a0 : Int64} {m : hH} {n : Nat} {w : hW} {z : Int32} : ht_JrI mc ms Q g a0 m n (some (.int z)) w = (w.2.2.1 ≤ mc ∧ w.2.2.2 ≤ ms ∧ Q g a0 m n z w.1 w.2.1) := by
  apply propext
  constructor
  · intro h
    obtain ⟨x, e, hq⟩ := h.2.2.2 _ rfl
    cases e
    exact ⟨h.2.1, h.2.2.1, hq⟩
  · intro h
    obtain ⟨h1, h2, h3⟩ := h
    exact ⟨⟨_, rfl, rfl⟩, h1, h2, fun _ e => by
      cases e
      exact ⟨z, rfl, h3⟩⟩
theorem hm_JrI_of {l : Launch} {y : MethodName} {own : String} {cc : ByteArray} {maxL fr lo mc ms : Nat} {P : hG → Int64 → hH → Nat → Prop} {Q : hG → Int64 → hH → Nat → Int32 → hH → Nat → Prop} {T : hG → Nat → Nat → se_Op hW} (hy : plainName y.cls = true) (hyc : y.cls = own) (hT : hTS l own y.name cc maxL (some .int) fr lo mc ms T) (hL : 2 ≤ maxL)
    (body : ∀ (g : hG) (a0 : Int64) (m : hH) (n : Nat), hDom g m n → hVg g → P g a0 m n → ∀ G : Nat → se_L → List Value → hW → Prop, (∀ (stops : List Nat) (f pc : Nat) (L : se_L) (st : List Value) (w : hW), wpN True (T g) cc stops G (hXt mc ms (hNoX g [.long a0] m n)) (ht_JrI mc ms Q g a0 m n) f pc L st w → G pc L st w) → G 0 (se_ent [.long a0] maxL) [] (m, n, 0, 0)) : hm_JrI l y (ws_ y cc maxL (some .int)) fr lo mc ms P Q :=
  hOf hy hyc hT (fun g av m n h => by
    obtain ⟨a0, rfl, _⟩ := h
    exact hL) (fun g av m n h1 h2 hp G hG => by
    obtain ⟨a0, rfl, hp⟩ := hp
    exact body g a0 m n h1 h2 hp G hG)
abbrev hm_JrJ (l : Launch) (y : MethodName) (ws : List Cond) (fr lo mc ms : Nat) (P : hG → Int64 → hH → Nat → Prop) (Q : hG → Int64 → hH → Nat → Int64 → hH → Nat → Prop) : Prop := hCon l y ws fr lo mc ms (fun (g : hG) (av : List Value) (m : hH) (n : Nat) => ∃ (a0 : Int64), av = [.long a0] ∧ P g a0 m n) (fun (g : hG) (av : List Value) (m : hH) (n : Nat) (v : Option Value) (m' : hH) (n' : Nat) => ∀ (a0 : Int64), av = [.long a0] → ∃ x, v = some (.long x) ∧ Q g a0 m n x m' n') hNoX
def ho_JrJ (g : hG) (mc ms mc' ms' : Nat) (P : hG → Int64 → hH → Nat → Prop) (Q : hG → Int64 → hH → Nat → Int64 → hH → Nat → Prop) : se_Op hW := fun st w K Y => match st with
  | .long a0 :: r => se_c8 8 r ∧ P g a0 w.1 w.2.1 ∧ w.2.2.1 + mc' ≤ mc ∧ w.2.2.2 + ms' ≤ ms ∧ ∀ x m' n', Q g a0 w.1 w.2.1 x m' n' → hDom g m' n' → w.2.1 ≤ n' → K (.long x :: r) (m', n', w.2.2.1 + mc', w.2.2.2 + ms')
  | _ => False
theorem ho_JrJ_r {g : hG} {mc ms mc' ms' : Nat} {P : hG → Int64 → hH → Nat → Prop} {Q : hG → Int64 → hH → Nat → Int64 → hH → Nat → Prop} {a0 : Int64} {r : List Value} {w : hW} {K : List Value → hW → Prop} {Y : Nat → hW → Prop} : ho_JrJ g mc ms mc' ms' P Q (.long a0 :: r) w K Y = (se_c8 8 r ∧ P g a0 w.1 w.2.1 ∧ w.2.2.1 + mc' ≤ mc ∧ w.2.2.2 + ms' ≤ ms ∧ ∀ x m' n', Q g a0 w.1 w.2.1 x m' n' → hDom g m' n' → w.2.1 ≤ n' → K (.long x :: r) (m', n', w.2.2.1 + mc', w.2.2.2 + ms')) := rfl
theorem ho_JrJ_ok {g : hG} {mc ms mc' ms' : Nat} {P : hG → Int64 → hH → Nat → Prop} {Q : hG → Int64 → hH → Nat → Int64 → hH → Nat → Prop} {p : Program} {l : Launch} {e : Env} {R : Room} {s : State} {m : MethodId} {args : Array Value} {below : List Frame} {meth : Method} {c : Code} {nL : Nat} {cc : ByteArray} {Q0 : State → Prop} {H0 : Heap} {ins : Instr} {len : Nat} (hS : se_Snd p l e R s m args below meth c Q0 nL (fun a => a) (hRM g H0) cc ins len (hCS g 1 mc ms mc' ms' (fun (g : hG) (av : List Value) (m : hH) (n : Nat) => ∃ (a0 : Int64), av = [.long a0] ∧ P g a0 m n) (fun (g : hG) (av : List Value) (m : hH) (n : Nat) (v : Option Value) (m' : hH) (n' : Nat) => ∀ (a0 : Int64), av = [.long a0] → ∃ x, v = some (.long x) ∧ Q g a0 m n x m' n') hNoX)) : se_Snd p l e R s m args below meth c Q0 nL (fun a => a) (hRM g H0) cc ins len (ho_JrJ g mc ms mc' ms' P Q) :=
  hS.mono fun st w K Y h => by
    unfold ho_JrJ at h
    split at h
    · rename_i a0 r
      obtain ⟨h8, hP, r1, r2, hq⟩ := h
      exact (⟨h8, ⟨a0, rfl, hP⟩, r1, r2, fun v m' n' hp hi hn => by
              obtain ⟨x, rfl, hx⟩ := hp a0 rfl
              exact hq x m' n' hx hi hn, fun b m' n' hp => hp.elim⟩ : hGo g mc ms mc' ms' ((fun (g : hG) (av : List Value) (m : hH) (n : Nat) => ∃ (a0 : Int64), av = [.long a0] ∧ P g a0 m n) g) ((fun (g : hG) (av : List Value) (m : hH) (n : Nat) (v : Option Value) (m' : hH) (n' : Nat) => ∀ (a0 : Int64), av = [.long a0] → ∃ x, v = some (.long x) ∧ Q g a0 m n x m' n') g) (hNoX g) [.long a0] r w K Y)
    · exact h.elim
def hp_JrJ (g : hG) (mc ms : Nat) (P : hG → Int64 → hH → Nat → Prop) (R0 : hG → Int64 → hH → Nat → Int64) : se_Op hW := fun st w K Y => match st with
  | .long a0 :: r => se_c8 8 r ∧ P g a0 w.1 w.2.1 ∧ w.2.2.1 ≤ mc ∧ w.2.2.2 ≤ ms ∧ K (.long (R0 g a0 w.1 w.2.1) :: r) w
  | _ => False
theorem hp_JrJ_r {g : hG} {mc ms : Nat} {P : hG → Int64 → hH → Nat → Prop} {R0 : hG → Int64 → hH → Nat → Int64} {a0 : Int64} {r : List Value} {w : hW} {K : List Value → hW → Prop} {Y : Nat → hW → Prop} : hp_JrJ g mc ms P R0 (.long a0 :: r) w K Y = (se_c8 8 r ∧ P g a0 w.1 w.2.1 ∧ w.2.2.1 ≤ mc ∧ w.2.2.2 ≤ ms ∧ K (.long (R0 g a0 w.1 w.2.1) :: r) w) := rfl
theorem hp_JrJ_ok {g : hG} {mc ms : Nat} {P : hG → Int64 → hH → Nat → Prop} {R0 : hG → Int64 → hH → Nat → Int64} {p : Program} {l : Launch} {e : Env} {R : Room} {s : State} {m : MethodId} {args : Array Value} {below : List Frame} {meth : Method} {c : Code} {nL : Nat} {cc : ByteArray} {Q0 : State → Prop} {H0 : Heap} {ins : Instr} {len : Nat} (hS : se_Snd p l e R s m args below meth c Q0 nL (fun a => a) (hRM g H0) cc ins len (ho_JrJ g mc ms 0 0 P (fun g a0 m n x m' n' => x = R0 g a0 m n ∧ m' = m ∧ n' = n))) : se_Snd p l e R s m args below meth c Q0 nL (fun a => a) (hRM g H0) cc ins len (hp_JrJ g mc ms P R0) :=
  hS.mono fun st w K Y h => by
    unfold hp_JrJ at h
    split at h
    · rename_i a0 r
      obtain ⟨h8, hP, r1, r2, hq⟩ := h
      exact ⟨h8, hP, r1, r2, fun x m' n' e _ _ => by
              obtain ⟨rfl, rfl, rfl⟩ := e
              exact hq⟩
    · exact h.elim
def hf_JrJ (g : hG) (mc ms : Nat) (P : hG → Int64 → hH → Nat → Prop) (R0 : hG → Int64 → hH → Nat → Int64) (F : hG → Int64 → hH → Nat → hH) : se_Op hW := fun st w K Y => match st with
  | .long a0 :: r => se_c8 8 r ∧ P g a0 w.1 w.2.1 ∧ w.2.2.1 ≤ mc ∧ w.2.2.2 ≤ ms ∧ K (.long (R0 g a0 w.1 w.2.1) :: r) (F g a0 w.1 w.2.1, w.2)
  | _ => False
theorem hf_JrJ_r {g : hG} {mc ms : Nat} {P : hG → Int64 → hH → Nat → Prop} {R0 : hG → Int64 → hH → Nat → Int64} {F : hG → Int64 → hH → Nat → hH} {a0 : Int64} {r : List Value} {w : hW} {K : List Value → hW → Prop} {Y : Nat → hW → Prop} : hf_JrJ g mc ms P R0 F (.long a0 :: r) w K Y = (se_c8 8 r ∧ P g a0 w.1 w.2.1 ∧ w.2.2.1 ≤ mc ∧ w.2.2.2 ≤ ms ∧ K (.long (R0 g a0 w.1 w.2.1) :: r) (F g a0 w.1 w.2.1, w.2)) := rfl
theorem hf_JrJ_ok {g : hG} {mc ms : Nat} {P : hG → Int64 → hH → Nat → Prop} {R0 : hG → Int64 → hH → Nat → Int64} {F : hG → Int64 → hH → Nat → hH} {p : Program} {l : Launch} {e : Env} {R : Room} {s : State} {m : MethodId} {args : Array Value} {below : List Frame} {meth : Method} {c : Code} {nL : Nat} {cc : ByteArray} {Q0 : State → Prop} {H0 : Heap} {ins : Instr} {len : Nat} (hS : se_Snd p l e R s m args below meth c Q0 nL (fun a => a) (hRM g H0) cc ins len (ho_JrJ g mc ms 0 0 P (fun g a0 m n x m' n' => x = R0 g a0 m n ∧ m' = F g a0 m n ∧ n' = n))) : se_Snd p l e R s m args below meth c Q0 nL (fun a => a) (hRM g H0) cc ins len (hf_JrJ g mc ms P R0 F) :=
  hS.mono fun st w K Y h => by
    unfold hf_JrJ at h
    split at h
    · rename_i a0 r
      obtain ⟨h8, hP, r1, r2, hq⟩ := h
      exact ⟨h8, hP, r1, r2, fun x m' n' e _ _ => by
              obtain ⟨rfl, rfl, rfl⟩ := e
              exact hq⟩
    · exact h.elim
def ht_JrJ (mc ms : Nat) (Q : hG → Int64 → hH → Nat → Int64 → hH → Nat → Prop) (g : hG) (a0 : Int64) (m : hH) (n : Nat) : Option Value → hW → Prop := hRt (some .long) mc ms ((fun (g : hG) (av : List Value) (m : hH) (n : Nat) (v : Option Value) (m' : hH) (n' : Nat) => ∀ (a0 : Int64), av = [.long a0] → ∃ x, v = some (.long x) ∧ Q g a0 m n x m' n') g [.long a0] m n)
theorem ht_JrJ_e {mc ms : Nat} {Q : hG → Int64 → hH → Nat → Int64 → hH → Nat → Prop} {g : hG} {a0 : Int64} {m : hH} {n : Nat} {w : hW} {z : Int64} : ht_JrJ mc ms Q g a0 m n (some (.long z)) w = (w.2.2.1 ≤ mc ∧ w.2.2.2 ≤ ms ∧ Q g a0 m n z w.1 w.2.1) := by
  apply propext
  constructor
  · intro h
    obtain ⟨x, e, hq⟩ := h.2.2.2 _ rfl
    cases e
    exact ⟨h.2.1, h.2.2.1, hq⟩
  · intro h
    obtain ⟨h1, h2, h3⟩ := h
    exact ⟨rfl, h1, h2, fun _ e => by
      cases e
      exact ⟨z, rfl, h3⟩⟩
theorem hm_JrJ_of {l : Launch} {y : MethodName} {own : String} {cc : ByteArray} {maxL fr lo mc ms : Nat} {P : hG → Int64 → hH → Nat → Prop} {Q : hG → Int64 → hH → Nat → Int64 → hH → Nat → Prop} {T : hG → Nat → Nat → se_Op hW} (hy : plainName y.cls = true) (hyc : y.cls = own) (hT : hTS l own y.name cc maxL (some .long) fr lo mc ms T) (hL : 2 ≤ maxL)
    (body : ∀ (g : hG) (a0 : Int64) (m : hH) (n : Nat), hDom g m n → hVg g → P g a0 m n → ∀ G : Nat → se_L → List Value → hW → Prop, (∀ (stops : List Nat) (f pc : Nat) (L : se_L) (st : List Value) (w : hW), wpN True (T g) cc stops G (hXt mc ms (hNoX g [.long a0] m n)) (ht_JrJ mc ms Q g a0 m n) f pc L st w → G pc L st w) → G 0 (se_ent [.long a0] maxL) [] (m, n, 0, 0)) : hm_JrJ l y (ws_ y cc maxL (some .long)) fr lo mc ms P Q :=
  hOf hy hyc hT (fun g av m n h => by
    obtain ⟨a0, rfl, _⟩ := h
    exact hL) (fun g av m n h1 h2 hp G hG => by
    obtain ⟨a0, rfl, hp⟩ := hp
    exact body g a0 m n h1 h2 hp G hG)
abbrev hm_LIIIrI (l : Launch) (y : MethodName) (ws : List Cond) (fr lo mc ms : Nat) (P : hG → Nat → Int32 → Int32 → Int32 → hH → Nat → Prop) (Q : hG → Nat → Int32 → Int32 → Int32 → hH → Nat → Int32 → hH → Nat → Prop) : Prop := hCon l y ws fr lo mc ms (fun (g : hG) (av : List Value) (m : hH) (n : Nat) => ∃ (a0 : Nat) (a1 : Int32) (a2 : Int32) (a3 : Int32), av = [.ref a0, .int a1, .int a2, .int a3] ∧ P g a0 a1 a2 a3 m n) (fun (g : hG) (av : List Value) (m : hH) (n : Nat) (v : Option Value) (m' : hH) (n' : Nat) => ∀ (a0 : Nat) (a1 : Int32) (a2 : Int32) (a3 : Int32), av = [.ref a0, .int a1, .int a2, .int a3] → ∃ x, v = some (.int x) ∧ Q g a0 a1 a2 a3 m n x m' n') hNoX
def ho_LIIIrI (g : hG) (mc ms mc' ms' : Nat) (P : hG → Nat → Int32 → Int32 → Int32 → hH → Nat → Prop) (Q : hG → Nat → Int32 → Int32 → Int32 → hH → Nat → Int32 → hH → Nat → Prop) : se_Op hW := fun st w K Y => match st with
  | .int a3 :: .int a2 :: .int a1 :: .ref a0 :: r => se_c8 8 r ∧ P g a0 a1 a2 a3 w.1 w.2.1 ∧ w.2.2.1 + mc' ≤ mc ∧ w.2.2.2 + ms' ≤ ms ∧ ∀ x m' n', Q g a0 a1 a2 a3 w.1 w.2.1 x m' n' → hDom g m' n' → w.2.1 ≤ n' → K (.int x :: r) (m', n', w.2.2.1 + mc', w.2.2.2 + ms')
  | _ => False
theorem ho_LIIIrI_r {g : hG} {mc ms mc' ms' : Nat} {P : hG → Nat → Int32 → Int32 → Int32 → hH → Nat → Prop} {Q : hG → Nat → Int32 → Int32 → Int32 → hH → Nat → Int32 → hH → Nat → Prop} {a0 : Nat} {a1 : Int32} {a2 : Int32} {a3 : Int32} {r : List Value} {w : hW} {K : List Value → hW → Prop} {Y : Nat → hW → Prop} : ho_LIIIrI g mc ms mc' ms' P Q (.int a3 :: .int a2 :: .int a1 :: .ref a0 :: r) w K Y = (se_c8 8 r ∧ P g a0 a1 a2 a3 w.1 w.2.1 ∧ w.2.2.1 + mc' ≤ mc ∧ w.2.2.2 + ms' ≤ ms ∧ ∀ x m' n', Q g a0 a1 a2 a3 w.1 w.2.1 x m' n' → hDom g m' n' → w.2.1 ≤ n' → K (.int x :: r) (m', n', w.2.2.1 + mc', w.2.2.2 + ms')) := rfl
theorem ho_LIIIrI_ok {g : hG} {mc ms mc' ms' : Nat} {P : hG → Nat → Int32 → Int32 → Int32 → hH → Nat → Prop} {Q : hG → Nat → Int32 → Int32 → Int32 → hH → Nat → Int32 → hH → Nat → Prop} {p : Program} {l : Launch} {e : Env} {R : Room} {s : State} {m : MethodId} {args : Array Value} {below : List Frame} {meth : Method} {c : Code} {nL : Nat} {cc : ByteArray} {Q0 : State → Prop} {H0 : Heap} {ins : Instr} {len : Nat} (hS : se_Snd p l e R s m args below meth c Q0 nL (fun a => a) (hRM g H0) cc ins len (hCS g 4 mc ms mc' ms' (fun (g : hG) (av : List Value) (m : hH) (n : Nat) => ∃ (a0 : Nat) (a1 : Int32) (a2 : Int32) (a3 : Int32), av = [.ref a0, .int a1, .int a2, .int a3] ∧ P g a0 a1 a2 a3 m n) (fun (g : hG) (av : List Value) (m : hH) (n : Nat) (v : Option Value) (m' : hH) (n' : Nat) => ∀ (a0 : Nat) (a1 : Int32) (a2 : Int32) (a3 : Int32), av = [.ref a0, .int a1, .int a2, .int a3] → ∃ x, v = some (.int x) ∧ Q g a0 a1 a2 a3 m n x m' n') hNoX)) : se_Snd p l e R s m args below meth c Q0 nL (fun a => a) (hRM g H0) cc ins len (ho_LIIIrI g mc ms mc' ms' P Q) :=
  hS.mono fun st w K Y h => by
    unfold ho_LIIIrI at h
    split at h
    · rename_i a3 a2 a1 a0 r
      obtain ⟨h8, hP, r1, r2, hq⟩ := h
      exact (⟨h8, ⟨a0, a1, a2, a3, rfl, hP⟩, r1, r2, fun v m' n' hp hi hn => by
              obtain ⟨x, rfl, hx⟩ := hp a0 a1 a2 a3 rfl
              exact hq x m' n' hx hi hn, fun b m' n' hp => hp.elim⟩ : hGo g mc ms mc' ms' ((fun (g : hG) (av : List Value) (m : hH) (n : Nat) => ∃ (a0 : Nat) (a1 : Int32) (a2 : Int32) (a3 : Int32), av = [.ref a0, .int a1, .int a2, .int a3] ∧ P g a0 a1 a2 a3 m n) g) ((fun (g : hG) (av : List Value) (m : hH) (n : Nat) (v : Option Value) (m' : hH) (n' : Nat) => ∀ (a0 : Nat) (a1 : Int32) (a2 : Int32) (a3 : Int32), av = [.ref a0, .int a1, .int a2, .int a3] → ∃ x, v = some (.int x) ∧ Q g a0 a1 a2 a3 m n x m' n') g) (hNoX g) [.ref a0, .int a1, .int a2, .int a3] r w K Y)
    · exact h.elim
def hp_LIIIrI (g : hG) (mc ms : Nat) (P : hG → Nat → Int32 → Int32 → Int32 → hH → Nat → Prop) (R0 : hG → Nat → Int32 → Int32 → Int32 → hH → Nat → Int32) : se_Op hW := fun st w K Y => match st with
  | .int a3 :: .int a2 :: .int a1 :: .ref a0 :: r => se_c8 8 r ∧ P g a0 a1 a2 a3 w.1 w.2.1 ∧ w.2.2.1 ≤ mc ∧ w.2.2.2 ≤ ms ∧ K (.int (R0 g a0 a1 a2 a3 w.1 w.2.1) :: r) w
  | _ => False
theorem hp_LIIIrI_r {g : hG} {mc ms : Nat} {P : hG → Nat → Int32 → Int32 → Int32 → hH → Nat → Prop} {R0 : hG → Nat → Int32 → Int32 → Int32 → hH → Nat → Int32} {a0 : Nat} {a1 : Int32} {a2 : Int32} {a3 : Int32} {r : List Value} {w : hW} {K : List Value → hW → Prop} {Y : Nat → hW → Prop} : hp_LIIIrI g mc ms P R0 (.int a3 :: .int a2 :: .int a1 :: .ref a0 :: r) w K Y = (se_c8 8 r ∧ P g a0 a1 a2 a3 w.1 w.2.1 ∧ w.2.2.1 ≤ mc ∧ w.2.2.2 ≤ ms ∧ K (.int (R0 g a0 a1 a2 a3 w.1 w.2.1) :: r) w) := rfl
theorem hp_LIIIrI_ok {g : hG} {mc ms : Nat} {P : hG → Nat → Int32 → Int32 → Int32 → hH → Nat → Prop} {R0 : hG → Nat → Int32 → Int32 → Int32 → hH → Nat → Int32} {p : Program} {l : Launch} {e : Env} {R : Room} {s : State} {m : MethodId} {args : Array Value} {below : List Frame} {meth : Method} {c : Code} {nL : Nat} {cc : ByteArray} {Q0 : State → Prop} {H0 : Heap} {ins : Instr} {len : Nat} (hS : se_Snd p l e R s m args below meth c Q0 nL (fun a => a) (hRM g H0) cc ins len (ho_LIIIrI g mc ms 0 0 P (fun g a0 a1 a2 a3 m n x m' n' => x = R0 g a0 a1 a2 a3 m n ∧ m' = m ∧ n' = n))) : se_Snd p l e R s m args below meth c Q0 nL (fun a => a) (hRM g H0) cc ins len (hp_LIIIrI g mc ms P R0) :=
  hS.mono fun st w K Y h => by
    unfold hp_LIIIrI at h
    split at h
    · rename_i a3 a2 a1 a0 r
      obtain ⟨h8, hP, r1, r2, hq⟩ := h
      exact ⟨h8, hP, r1, r2, fun x m' n' e _ _ => by
              obtain ⟨rfl, rfl, rfl⟩ := e
              exact hq⟩
    · exact h.elim
def hf_LIIIrI (g : hG) (mc ms : Nat) (P : hG → Nat → Int32 → Int32 → Int32 → hH → Nat → Prop) (R0 : hG → Nat → Int32 → Int32 → Int32 → hH → Nat → Int32) (F : hG → Nat → Int32 → Int32 → Int32 → hH → Nat → hH) : se_Op hW := fun st w K Y => match st with
  | .int a3 :: .int a2 :: .int a1 :: .ref a0 :: r => se_c8 8 r ∧ P g a0 a1 a2 a3 w.1 w.2.1 ∧ w.2.2.1 ≤ mc ∧ w.2.2.2 ≤ ms ∧ K (.int (R0 g a0 a1 a2 a3 w.1 w.2.1) :: r) (F g a0 a1 a2 a3 w.1 w.2.1, w.2)
  | _ => False
theorem hf_LIIIrI_r {g : hG} {mc ms : Nat} {P : hG → Nat → Int32 → Int32 → Int32 → hH → Nat → Prop} {R0 : hG → Nat → Int32 → Int32 → Int32 → hH → Nat → Int32} {F : hG → Nat → Int32 → Int32 → Int32 → hH → Nat → hH} {a0 : Nat} {a1 : Int32} {a2 : Int32} {a3 : Int32} {r : List Value} {w : hW} {K : List Value → hW → Prop} {Y : Nat → hW → Prop} : hf_LIIIrI g mc ms P R0 F (.int a3 :: .int a2 :: .int a1 :: .ref a0 :: r) w K Y = (se_c8 8 r ∧ P g a0 a1 a2 a3 w.1 w.2.1 ∧ w.2.2.1 ≤ mc ∧ w.2.2.2 ≤ ms ∧ K (.int (R0 g a0 a1 a2 a3 w.1 w.2.1) :: r) (F g a0 a1 a2 a3 w.1 w.2.1, w.2)) := rfl
theorem hf_LIIIrI_ok {g : hG} {mc ms : Nat} {P : hG → Nat → Int32 → Int32 → Int32 → hH → Nat → Prop} {R0 : hG → Nat → Int32 → Int32 → Int32 → hH → Nat → Int32} {F : hG → Nat → Int32 → Int32 → Int32 → hH → Nat → hH} {p : Program} {l : Launch} {e : Env} {R : Room} {s : State} {m : MethodId} {args : Array Value} {below : List Frame} {meth : Method} {c : Code} {nL : Nat} {cc : ByteArray} {Q0 : State → Prop} {H0 : Heap} {ins : Instr} {len : Nat} (hS : se_Snd p l e R s m args below meth c Q0 nL (fun a => a) (hRM g H0) cc ins len (ho_LIIIrI g mc ms 0 0 P (fun g a0 a1 a2 a3 m n x m' n' => x = R0 g a0 a1 a2 a3 m n ∧ m' = F g a0 a1 a2 a3 m n ∧ n' = n))) : se_Snd p l e R s m args below meth c Q0 nL (fun a => a) (hRM g H0) cc ins len (hf_LIIIrI g mc ms P R0 F) :=
  hS.mono fun st w K Y h => by
    unfold hf_LIIIrI at h
    split at h
    · rename_i a3 a2 a1 a0 r
      obtain ⟨h8, hP, r1, r2, hq⟩ := h
      exact ⟨h8, hP, r1, r2, fun x m' n' e _ _ => by
              obtain ⟨rfl, rfl, rfl⟩ := e
              exact hq⟩
    · exact h.elim
def ht_LIIIrI (mc ms : Nat) (Q : hG → Nat → Int32 → Int32 → Int32 → hH → Nat → Int32 → hH → Nat → Prop) (g : hG) (a0 : Nat) (a1 : Int32) (a2 : Int32) (a3 : Int32) (m : hH) (n : Nat) : Option Value → hW → Prop := hRt (some .int) mc ms ((fun (g : hG) (av : List Value) (m : hH) (n : Nat) (v : Option Value) (m' : hH) (n' : Nat) => ∀ (a0 : Nat) (a1 : Int32) (a2 : Int32) (a3 : Int32), av = [.ref a0, .int a1, .int a2, .int a3] → ∃ x, v = some (.int x) ∧ Q g a0 a1 a2 a3 m n x m' n') g [.ref a0, .int a1, .int a2, .int a3] m n)
theorem ht_LIIIrI_e {mc ms : Nat} {Q : hG → Nat → Int32 → Int32 → Int32 → hH → Nat → Int32 → hH → Nat → Prop} {g : hG} {a0 : Nat} {a1 : Int32} {a2 : Int32} {a3 : Int32} {m : hH} {n : Nat} {w : hW} {z : Int32} : ht_LIIIrI mc ms Q g a0 a1 a2 a3 m n (some (.int z)) w = (w.2.2.1 ≤ mc ∧ w.2.2.2 ≤ ms ∧ Q g a0 a1 a2 a3 m n z w.1 w.2.1) := by
  apply propext
  constructor
  · intro h
    obtain ⟨x, e, hq⟩ := h.2.2.2 _ _ _ _ rfl
    cases e
    exact ⟨h.2.1, h.2.2.1, hq⟩
  · intro h
    obtain ⟨h1, h2, h3⟩ := h
    exact ⟨⟨_, rfl, rfl⟩, h1, h2, fun _ _ _ _ e => by
      cases e
      exact ⟨z, rfl, h3⟩⟩
theorem hm_LIIIrI_of {l : Launch} {y : MethodName} {own : String} {cc : ByteArray} {maxL fr lo mc ms : Nat} {P : hG → Nat → Int32 → Int32 → Int32 → hH → Nat → Prop} {Q : hG → Nat → Int32 → Int32 → Int32 → hH → Nat → Int32 → hH → Nat → Prop} {T : hG → Nat → Nat → se_Op hW} (hy : plainName y.cls = true) (hyc : y.cls = own) (hT : hTS l own y.name cc maxL (some .int) fr lo mc ms T) (hL : 4 ≤ maxL)
    (body : ∀ (g : hG) (a0 : Nat) (a1 : Int32) (a2 : Int32) (a3 : Int32) (m : hH) (n : Nat), hDom g m n → hVg g → P g a0 a1 a2 a3 m n → ∀ G : Nat → se_L → List Value → hW → Prop, (∀ (stops : List Nat) (f pc : Nat) (L : se_L) (st : List Value) (w : hW), wpN True (T g) cc stops G (hXt mc ms (hNoX g [.ref a0, .int a1, .int a2, .int a3] m n)) (ht_LIIIrI mc ms Q g a0 a1 a2 a3 m n) f pc L st w → G pc L st w) → G 0 (se_ent [.ref a0, .int a1, .int a2, .int a3] maxL) [] (m, n, 0, 0)) : hm_LIIIrI l y (ws_ y cc maxL (some .int)) fr lo mc ms P Q :=
  hOf hy hyc hT (fun g av m n h => by
    obtain ⟨a0, a1, a2, a3, rfl, _⟩ := h
    exact hL) (fun g av m n h1 h2 hp G hG => by
    obtain ⟨a0, a1, a2, a3, rfl, hp⟩ := hp
    exact body g a0 a1 a2 a3 m n h1 h2 hp G hG)
abbrev hm_LIIrI (l : Launch) (y : MethodName) (ws : List Cond) (fr lo mc ms : Nat) (P : hG → Nat → Int32 → Int32 → hH → Nat → Prop) (Q : hG → Nat → Int32 → Int32 → hH → Nat → Int32 → hH → Nat → Prop) : Prop := hCon l y ws fr lo mc ms (fun (g : hG) (av : List Value) (m : hH) (n : Nat) => ∃ (a0 : Nat) (a1 : Int32) (a2 : Int32), av = [.ref a0, .int a1, .int a2] ∧ P g a0 a1 a2 m n) (fun (g : hG) (av : List Value) (m : hH) (n : Nat) (v : Option Value) (m' : hH) (n' : Nat) => ∀ (a0 : Nat) (a1 : Int32) (a2 : Int32), av = [.ref a0, .int a1, .int a2] → ∃ x, v = some (.int x) ∧ Q g a0 a1 a2 m n x m' n') hNoX
def ho_LIIrI (g : hG) (mc ms mc' ms' : Nat) (P : hG → Nat → Int32 → Int32 → hH → Nat → Prop) (Q : hG → Nat → Int32 → Int32 → hH → Nat → Int32 → hH → Nat → Prop) : se_Op hW := fun st w K Y => match st with
  | .int a2 :: .int a1 :: .ref a0 :: r => se_c8 8 r ∧ P g a0 a1 a2 w.1 w.2.1 ∧ w.2.2.1 + mc' ≤ mc ∧ w.2.2.2 + ms' ≤ ms ∧ ∀ x m' n', Q g a0 a1 a2 w.1 w.2.1 x m' n' → hDom g m' n' → w.2.1 ≤ n' → K (.int x :: r) (m', n', w.2.2.1 + mc', w.2.2.2 + ms')
  | _ => False
theorem ho_LIIrI_r {g : hG} {mc ms mc' ms' : Nat} {P : hG → Nat → Int32 → Int32 → hH → Nat → Prop} {Q : hG → Nat → Int32 → Int32 → hH → Nat → Int32 → hH → Nat → Prop} {a0 : Nat} {a1 : Int32} {a2 : Int32} {r : List Value} {w : hW} {K : List Value → hW → Prop} {Y : Nat → hW → Prop} : ho_LIIrI g mc ms mc' ms' P Q (.int a2 :: .int a1 :: .ref a0 :: r) w K Y = (se_c8 8 r ∧ P g a0 a1 a2 w.1 w.2.1 ∧ w.2.2.1 + mc' ≤ mc ∧ w.2.2.2 + ms' ≤ ms ∧ ∀ x m' n', Q g a0 a1 a2 w.1 w.2.1 x m' n' → hDom g m' n' → w.2.1 ≤ n' → K (.int x :: r) (m', n', w.2.2.1 + mc', w.2.2.2 + ms')) := rfl
theorem ho_LIIrI_ok {g : hG} {mc ms mc' ms' : Nat} {P : hG → Nat → Int32 → Int32 → hH → Nat → Prop} {Q : hG → Nat → Int32 → Int32 → hH → Nat → Int32 → hH → Nat → Prop} {p : Program} {l : Launch} {e : Env} {R : Room} {s : State} {m : MethodId} {args : Array Value} {below : List Frame} {meth : Method} {c : Code} {nL : Nat} {cc : ByteArray} {Q0 : State → Prop} {H0 : Heap} {ins : Instr} {len : Nat} (hS : se_Snd p l e R s m args below meth c Q0 nL (fun a => a) (hRM g H0) cc ins len (hCS g 3 mc ms mc' ms' (fun (g : hG) (av : List Value) (m : hH) (n : Nat) => ∃ (a0 : Nat) (a1 : Int32) (a2 : Int32), av = [.ref a0, .int a1, .int a2] ∧ P g a0 a1 a2 m n) (fun (g : hG) (av : List Value) (m : hH) (n : Nat) (v : Option Value) (m' : hH) (n' : Nat) => ∀ (a0 : Nat) (a1 : Int32) (a2 : Int32), av = [.ref a0, .int a1, .int a2] → ∃ x, v = some (.int x) ∧ Q g a0 a1 a2 m n x m' n') hNoX)) : se_Snd p l e R s m args below meth c Q0 nL (fun a => a) (hRM g H0) cc ins len (ho_LIIrI g mc ms mc' ms' P Q) :=
  hS.mono fun st w K Y h => by
    unfold ho_LIIrI at h
    split at h
    · rename_i a2 a1 a0 r
      obtain ⟨h8, hP, r1, r2, hq⟩ := h
      exact (⟨h8, ⟨a0, a1, a2, rfl, hP⟩, r1, r2, fun v m' n' hp hi hn => by
              obtain ⟨x, rfl, hx⟩ := hp a0 a1 a2 rfl
              exact hq x m' n' hx hi hn, fun b m' n' hp => hp.elim⟩ : hGo g mc ms mc' ms' ((fun (g : hG) (av : List Value) (m : hH) (n : Nat) => ∃ (a0 : Nat) (a1 : Int32) (a2 : Int32), av = [.ref a0, .int a1, .int a2] ∧ P g a0 a1 a2 m n) g) ((fun (g : hG) (av : List Value) (m : hH) (n : Nat) (v : Option Value) (m' : hH) (n' : Nat) => ∀ (a0 : Nat) (a1 : Int32) (a2 : Int32), av = [.ref a0, .int a1, .int a2] → ∃ x, v = some (.int x) ∧ Q g a0 a1 a2 m n x m' n') g) (hNoX g) [.ref a0, .int a1, .int a2] r w K Y)
    · exact h.elim
def hov_LIIrI (g : hG) (mc ms mc' ms' : Nat) (cs : List Nat) (P : hG → Nat → Int32 → Int32 → hH → Nat → Prop) (Q : hG → Nat → Int32 → Int32 → hH → Nat → Int32 → hH → Nat → Prop) : se_Op hW := fun st w K Y => match st with
  | .int a2 :: .int a1 :: .ref a0 :: r => hRcv cs w.1 [.ref a0] ∧ se_c8 8 r ∧ P g a0 a1 a2 w.1 w.2.1 ∧ w.2.2.1 + mc' ≤ mc ∧ w.2.2.2 + ms' ≤ ms ∧ ∀ x m' n', Q g a0 a1 a2 w.1 w.2.1 x m' n' → hDom g m' n' → w.2.1 ≤ n' → K (.int x :: r) (m', n', w.2.2.1 + mc', w.2.2.2 + ms')
  | _ => False
theorem hov_LIIrI_r {g : hG} {mc ms mc' ms' : Nat} {cs : List Nat} {P : hG → Nat → Int32 → Int32 → hH → Nat → Prop} {Q : hG → Nat → Int32 → Int32 → hH → Nat → Int32 → hH → Nat → Prop} {a0 : Nat} {a1 : Int32} {a2 : Int32} {r : List Value} {w : hW} {K : List Value → hW → Prop} {Y : Nat → hW → Prop} : hov_LIIrI g mc ms mc' ms' cs P Q (.int a2 :: .int a1 :: .ref a0 :: r) w K Y = (hRcv cs w.1 [.ref a0] ∧ se_c8 8 r ∧ P g a0 a1 a2 w.1 w.2.1 ∧ w.2.2.1 + mc' ≤ mc ∧ w.2.2.2 + ms' ≤ ms ∧ ∀ x m' n', Q g a0 a1 a2 w.1 w.2.1 x m' n' → hDom g m' n' → w.2.1 ≤ n' → K (.int x :: r) (m', n', w.2.2.1 + mc', w.2.2.2 + ms')) := rfl
theorem hov_LIIrI_ok {g : hG} {mc ms mc' ms' : Nat} {cs : List Nat} {P : hG → Nat → Int32 → Int32 → hH → Nat → Prop} {Q : hG → Nat → Int32 → Int32 → hH → Nat → Int32 → hH → Nat → Prop} {p : Program} {l : Launch} {e : Env} {R : Room} {s : State} {m : MethodId} {args : Array Value} {below : List Frame} {meth : Method} {c : Code} {nL : Nat} {cc : ByteArray} {Q0 : State → Prop} {H0 : Heap} {ins : Instr} {len : Nat} (hS : se_Snd p l e R s m args below meth c Q0 nL (fun a => a) (hRM g H0) cc ins len (hCV g 2 mc ms mc' ms' cs (fun (g : hG) (av : List Value) (m : hH) (n : Nat) => ∃ (a0 : Nat) (a1 : Int32) (a2 : Int32), av = [.ref a0, .int a1, .int a2] ∧ P g a0 a1 a2 m n) (fun (g : hG) (av : List Value) (m : hH) (n : Nat) (v : Option Value) (m' : hH) (n' : Nat) => ∀ (a0 : Nat) (a1 : Int32) (a2 : Int32), av = [.ref a0, .int a1, .int a2] → ∃ x, v = some (.int x) ∧ Q g a0 a1 a2 m n x m' n') hNoX)) : se_Snd p l e R s m args below meth c Q0 nL (fun a => a) (hRM g H0) cc ins len (hov_LIIrI g mc ms mc' ms' cs P Q) :=
  hS.mono fun st w K Y h => by
    unfold hov_LIIrI at h
    split at h
    · rename_i a2 a1 a0 r
      obtain ⟨hc, h8, hP, r1, r2, hq⟩ := h
      exact (⟨hc, h8, ⟨a0, a1, a2, rfl, hP⟩, r1, r2, fun v m' n' hp hi hn => by
              obtain ⟨x, rfl, hx⟩ := hp a0 a1 a2 rfl
              exact hq x m' n' hx hi hn, fun b m' n' hp => hp.elim⟩ : (hRcv cs w.1 [.ref a0, .int a1, .int a2] ∧ hGo g mc ms mc' ms' ((fun (g : hG) (av : List Value) (m : hH) (n : Nat) => ∃ (a0 : Nat) (a1 : Int32) (a2 : Int32), av = [.ref a0, .int a1, .int a2] ∧ P g a0 a1 a2 m n) g) ((fun (g : hG) (av : List Value) (m : hH) (n : Nat) (v : Option Value) (m' : hH) (n' : Nat) => ∀ (a0 : Nat) (a1 : Int32) (a2 : Int32), av = [.ref a0, .int a1, .int a2] → ∃ x, v = some (.int x) ∧ Q g a0 a1 a2 m n x m' n') g) (hNoX g) [.ref a0, .int a1, .int a2] r w K Y))
    · exact h.elim
def hp_LIIrI (g : hG) (mc ms : Nat) (P : hG → Nat → Int32 → Int32 → hH → Nat → Prop) (R0 : hG → Nat → Int32 → Int32 → hH → Nat → Int32) : se_Op hW := fun st w K Y => match st with
  | .int a2 :: .int a1 :: .ref a0 :: r => se_c8 8 r ∧ P g a0 a1 a2 w.1 w.2.1 ∧ w.2.2.1 ≤ mc ∧ w.2.2.2 ≤ ms ∧ K (.int (R0 g a0 a1 a2 w.1 w.2.1) :: r) w
  | _ => False
theorem hp_LIIrI_r {g : hG} {mc ms : Nat} {P : hG → Nat → Int32 → Int32 → hH → Nat → Prop} {R0 : hG → Nat → Int32 → Int32 → hH → Nat → Int32} {a0 : Nat} {a1 : Int32} {a2 : Int32} {r : List Value} {w : hW} {K : List Value → hW → Prop} {Y : Nat → hW → Prop} : hp_LIIrI g mc ms P R0 (.int a2 :: .int a1 :: .ref a0 :: r) w K Y = (se_c8 8 r ∧ P g a0 a1 a2 w.1 w.2.1 ∧ w.2.2.1 ≤ mc ∧ w.2.2.2 ≤ ms ∧ K (.int (R0 g a0 a1 a2 w.1 w.2.1) :: r) w) := rfl
theorem hp_LIIrI_ok {g : hG} {mc ms : Nat} {P : hG → Nat → Int32 → Int32 → hH → Nat → Prop} {R0 : hG → Nat → Int32 → Int32 → hH → Nat → Int32} {p : Program} {l : Launch} {e : Env} {R : Room} {s : State} {m : MethodId} {args : Array Value} {below : List Frame} {meth : Method} {c : Code} {nL : Nat} {cc : ByteArray} {Q0 : State → Prop} {H0 : Heap} {ins : Instr} {len : Nat} (hS : se_Snd p l e R s m args below meth c Q0 nL (fun a => a) (hRM g H0) cc ins len (ho_LIIrI g mc ms 0 0 P (fun g a0 a1 a2 m n x m' n' => x = R0 g a0 a1 a2 m n ∧ m' = m ∧ n' = n))) : se_Snd p l e R s m args below meth c Q0 nL (fun a => a) (hRM g H0) cc ins len (hp_LIIrI g mc ms P R0) :=
  hS.mono fun st w K Y h => by
    unfold hp_LIIrI at h
    split at h
    · rename_i a2 a1 a0 r
      obtain ⟨h8, hP, r1, r2, hq⟩ := h
      exact ⟨h8, hP, r1, r2, fun x m' n' e _ _ => by
              obtain ⟨rfl, rfl, rfl⟩ := e
              exact hq⟩
    · exact h.elim
def hpv_LIIrI (g : hG) (mc ms : Nat) (cs : List Nat) (P : hG → Nat → Int32 → Int32 → hH → Nat → Prop) (R0 : hG → Nat → Int32 → Int32 → hH → Nat → Int32) : se_Op hW := fun st w K Y => match st with
  | .int a2 :: .int a1 :: .ref a0 :: r => hRcv cs w.1 [.ref a0] ∧ se_c8 8 r ∧ P g a0 a1 a2 w.1 w.2.1 ∧ w.2.2.1 ≤ mc ∧ w.2.2.2 ≤ ms ∧ K (.int (R0 g a0 a1 a2 w.1 w.2.1) :: r) w
  | _ => False
theorem hpv_LIIrI_r {g : hG} {mc ms : Nat} {cs : List Nat} {P : hG → Nat → Int32 → Int32 → hH → Nat → Prop} {R0 : hG → Nat → Int32 → Int32 → hH → Nat → Int32} {a0 : Nat} {a1 : Int32} {a2 : Int32} {r : List Value} {w : hW} {K : List Value → hW → Prop} {Y : Nat → hW → Prop} : hpv_LIIrI g mc ms cs P R0 (.int a2 :: .int a1 :: .ref a0 :: r) w K Y = (hRcv cs w.1 [.ref a0] ∧ se_c8 8 r ∧ P g a0 a1 a2 w.1 w.2.1 ∧ w.2.2.1 ≤ mc ∧ w.2.2.2 ≤ ms ∧ K (.int (R0 g a0 a1 a2 w.1 w.2.1) :: r) w) := rfl
theorem hpv_LIIrI_ok {g : hG} {mc ms : Nat} {cs : List Nat} {P : hG → Nat → Int32 → Int32 → hH → Nat → Prop} {R0 : hG → Nat → Int32 → Int32 → hH → Nat → Int32} {p : Program} {l : Launch} {e : Env} {R : Room} {s : State} {m : MethodId} {args : Array Value} {below : List Frame} {meth : Method} {c : Code} {nL : Nat} {cc : ByteArray} {Q0 : State → Prop} {H0 : Heap} {ins : Instr} {len : Nat} (hS : se_Snd p l e R s m args below meth c Q0 nL (fun a => a) (hRM g H0) cc ins len (hov_LIIrI g mc ms 0 0 cs P (fun g a0 a1 a2 m n x m' n' => x = R0 g a0 a1 a2 m n ∧ m' = m ∧ n' = n))) : se_Snd p l e R s m args below meth c Q0 nL (fun a => a) (hRM g H0) cc ins len (hpv_LIIrI g mc ms cs P R0) :=
  hS.mono fun st w K Y h => by
    unfold hpv_LIIrI at h
    split at h
    · rename_i a2 a1 a0 r
      obtain ⟨hc, h8, hP, r1, r2, hq⟩ := h
      exact ⟨hc, h8, hP, r1, r2, fun x m' n' e _ _ => by
              obtain ⟨rfl, rfl, rfl⟩ := e
              exact hq⟩
    · exact h.elim
def hf_LIIrI (g : hG) (mc ms : Nat) (P : hG → Nat → Int32 → Int32 → hH → Nat → Prop) (R0 : hG → Nat → Int32 → Int32 → hH → Nat → Int32) (F : hG → Nat → Int32 → Int32 → hH → Nat → hH) : se_Op hW := fun st w K Y => match st with
  | .int a2 :: .int a1 :: .ref a0 :: r => se_c8 8 r ∧ P g a0 a1 a2 w.1 w.2.1 ∧ w.2.2.1 ≤ mc ∧ w.2.2.2 ≤ ms ∧ K (.int (R0 g a0 a1 a2 w.1 w.2.1) :: r) (F g a0 a1 a2 w.1 w.2.1, w.2)
  | _ => False
theorem hf_LIIrI_r {g : hG} {mc ms : Nat} {P : hG → Nat → Int32 → Int32 → hH → Nat → Prop} {R0 : hG → Nat → Int32 → Int32 → hH → Nat → Int32} {F : hG → Nat → Int32 → Int32 → hH → Nat → hH} {a0 : Nat} {a1 : Int32} {a2 : Int32} {r : List Value} {w : hW} {K : List Value → hW → Prop} {Y : Nat → hW → Prop} : hf_LIIrI g mc ms P R0 F (.int a2 :: .int a1 :: .ref a0 :: r) w K Y = (se_c8 8 r ∧ P g a0 a1 a2 w.1 w.2.1 ∧ w.2.2.1 ≤ mc ∧ w.2.2.2 ≤ ms ∧ K (.int (R0 g a0 a1 a2 w.1 w.2.1) :: r) (F g a0 a1 a2 w.1 w.2.1, w.2)) := rfl
theorem hf_LIIrI_ok {g : hG} {mc ms : Nat} {P : hG → Nat → Int32 → Int32 → hH → Nat → Prop} {R0 : hG → Nat → Int32 → Int32 → hH → Nat → Int32} {F : hG → Nat → Int32 → Int32 → hH → Nat → hH} {p : Program} {l : Launch} {e : Env} {R : Room} {s : State} {m : MethodId} {args : Array Value} {below : List Frame} {meth : Method} {c : Code} {nL : Nat} {cc : ByteArray} {Q0 : State → Prop} {H0 : Heap} {ins : Instr} {len : Nat} (hS : se_Snd p l e R s m args below meth c Q0 nL (fun a => a) (hRM g H0) cc ins len (ho_LIIrI g mc ms 0 0 P (fun g a0 a1 a2 m n x m' n' => x = R0 g a0 a1 a2 m n ∧ m' = F g a0 a1 a2 m n ∧ n' = n))) : se_Snd p l e R s m args below meth c Q0 nL (fun a => a) (hRM g H0) cc ins len (hf_LIIrI g mc ms P R0 F) :=
  hS.mono fun st w K Y h => by
    unfold hf_LIIrI at h
    split at h
    · rename_i a2 a1 a0 r
      obtain ⟨h8, hP, r1, r2, hq⟩ := h
      exact ⟨h8, hP, r1, r2, fun x m' n' e _ _ => by
              obtain ⟨rfl, rfl, rfl⟩ := e
              exact hq⟩
    · exact h.elim
def hfv_LIIrI (g : hG) (mc ms : Nat) (cs : List Nat) (P : hG → Nat → Int32 → Int32 → hH → Nat → Prop) (R0 : hG → Nat → Int32 → Int32 → hH → Nat → Int32) (F : hG → Nat → Int32 → Int32 → hH → Nat → hH) : se_Op hW := fun st w K Y => match st with
  | .int a2 :: .int a1 :: .ref a0 :: r => hRcv cs w.1 [.ref a0] ∧ se_c8 8 r ∧ P g a0 a1 a2 w.1 w.2.1 ∧ w.2.2.1 ≤ mc ∧ w.2.2.2 ≤ ms ∧ K (.int (R0 g a0 a1 a2 w.1 w.2.1) :: r) (F g a0 a1 a2 w.1 w.2.1, w.2)
  | _ => False
theorem hfv_LIIrI_r {g : hG} {mc ms : Nat} {cs : List Nat} {P : hG → Nat → Int32 → Int32 → hH → Nat → Prop} {R0 : hG → Nat → Int32 → Int32 → hH → Nat → Int32} {F : hG → Nat → Int32 → Int32 → hH → Nat → hH} {a0 : Nat} {a1 : Int32} {a2 : Int32} {r : List Value} {w : hW} {K : List Value → hW → Prop} {Y : Nat → hW → Prop} : hfv_LIIrI g mc ms cs P R0 F (.int a2 :: .int a1 :: .ref a0 :: r) w K Y = (hRcv cs w.1 [.ref a0] ∧ se_c8 8 r ∧ P g a0 a1 a2 w.1 w.2.1 ∧ w.2.2.1 ≤ mc ∧ w.2.2.2 ≤ ms ∧ K (.int (R0 g a0 a1 a2 w.1 w.2.1) :: r) (F g a0 a1 a2 w.1 w.2.1, w.2)) := rfl
theorem hfv_LIIrI_ok {g : hG} {mc ms : Nat} {cs : List Nat} {P : hG → Nat → Int32 → Int32 → hH → Nat → Prop} {R0 : hG → Nat → Int32 → Int32 → hH → Nat → Int32} {F : hG → Nat → Int32 → Int32 → hH → Nat → hH} {p : Program} {l : Launch} {e : Env} {R : Room} {s : State} {m : MethodId} {args : Array Value} {below : List Frame} {meth : Method} {c : Code} {nL : Nat} {cc : ByteArray} {Q0 : State → Prop} {H0 : Heap} {ins : Instr} {len : Nat} (hS : se_Snd p l e R s m args below meth c Q0 nL (fun a => a) (hRM g H0) cc ins len (hov_LIIrI g mc ms 0 0 cs P (fun g a0 a1 a2 m n x m' n' => x = R0 g a0 a1 a2 m n ∧ m' = F g a0 a1 a2 m n ∧ n' = n))) : se_Snd p l e R s m args below meth c Q0 nL (fun a => a) (hRM g H0) cc ins len (hfv_LIIrI g mc ms cs P R0 F) :=
  hS.mono fun st w K Y h => by
    unfold hfv_LIIrI at h
    split at h
    · rename_i a2 a1 a0 r
      obtain ⟨hc, h8, hP, r1, r2, hq⟩ := h
      exact ⟨hc, h8, hP, r1, r2, fun x m' n' e _ _ => by
              obtain ⟨rfl, rfl, rfl⟩ := e
              exact hq⟩
    · exact h.elim
def ht_LIIrI (mc ms : Nat) (Q : hG → Nat → Int32 → Int32 → hH → Nat → Int32 → hH → Nat → Prop) (g : hG) (a0 : Nat) (a1 : Int32) (a2 : Int32) (m : hH) (n : Nat) : Option Value → hW → Prop := hRt (some .int) mc ms ((fun (g : hG) (av : List Value) (m : hH) (n : Nat) (v : Option Value) (m' : hH) (n' : Nat) => ∀ (a0 : Nat) (a1 : Int32) (a2 : Int32), av = [.ref a0, .int a1, .int a2] → ∃ x, v = some (.int x) ∧ Q g a0 a1 a2 m n x m' n') g [.ref a0, .int a1, .int a2] m n)
theorem ht_LIIrI_e {mc ms : Nat} {Q : hG → Nat → Int32 → Int32 → hH → Nat → Int32 → hH → Nat → Prop} {g : hG} {a0 : Nat} {a1 : Int32} {a2 : Int32} {m : hH} {n : Nat} {w : hW} {z : Int32} : ht_LIIrI mc ms Q g a0 a1 a2 m n (some (.int z)) w = (w.2.2.1 ≤ mc ∧ w.2.2.2 ≤ ms ∧ Q g a0 a1 a2 m n z w.1 w.2.1) := by
  apply propext
  constructor
  · intro h
    obtain ⟨x, e, hq⟩ := h.2.2.2 _ _ _ rfl
    cases e
    exact ⟨h.2.1, h.2.2.1, hq⟩
  · intro h
    obtain ⟨h1, h2, h3⟩ := h
    exact ⟨⟨_, rfl, rfl⟩, h1, h2, fun _ _ _ e => by
      cases e
      exact ⟨z, rfl, h3⟩⟩
theorem hm_LIIrI_of {l : Launch} {y : MethodName} {own : String} {cc : ByteArray} {maxL fr lo mc ms : Nat} {P : hG → Nat → Int32 → Int32 → hH → Nat → Prop} {Q : hG → Nat → Int32 → Int32 → hH → Nat → Int32 → hH → Nat → Prop} {T : hG → Nat → Nat → se_Op hW} (hy : plainName y.cls = true) (hyc : y.cls = own) (hT : hTS l own y.name cc maxL (some .int) fr lo mc ms T) (hL : 3 ≤ maxL)
    (body : ∀ (g : hG) (a0 : Nat) (a1 : Int32) (a2 : Int32) (m : hH) (n : Nat), hDom g m n → hVg g → P g a0 a1 a2 m n → ∀ G : Nat → se_L → List Value → hW → Prop, (∀ (stops : List Nat) (f pc : Nat) (L : se_L) (st : List Value) (w : hW), wpN True (T g) cc stops G (hXt mc ms (hNoX g [.ref a0, .int a1, .int a2] m n)) (ht_LIIrI mc ms Q g a0 a1 a2 m n) f pc L st w → G pc L st w) → G 0 (se_ent [.ref a0, .int a1, .int a2] maxL) [] (m, n, 0, 0)) : hm_LIIrI l y (ws_ y cc maxL (some .int)) fr lo mc ms P Q :=
  hOf hy hyc hT (fun g av m n h => by
    obtain ⟨a0, a1, a2, rfl, _⟩ := h
    exact hL) (fun g av m n h1 h2 hp G hG => by
    obtain ⟨a0, a1, a2, rfl, hp⟩ := hp
    exact body g a0 a1 a2 m n h1 h2 hp G hG)
abbrev hm_LILrL (l : Launch) (y : MethodName) (ws : List Cond) (fr lo mc ms : Nat) (P : hG → Nat → Int32 → Nat → hH → Nat → Prop) (Q : hG → Nat → Int32 → Nat → hH → Nat → Option Nat → hH → Nat → Prop) : Prop := hCon l y ws fr lo mc ms (fun (g : hG) (av : List Value) (m : hH) (n : Nat) => ∃ (a0 : Nat) (a1 : Int32) (a2 : Nat), av = [.ref a0, .int a1, .ref a2] ∧ P g a0 a1 a2 m n) (fun (g : hG) (av : List Value) (m : hH) (n : Nat) (v : Option Value) (m' : hH) (n' : Nat) => ∀ (a0 : Nat) (a1 : Int32) (a2 : Nat), av = [.ref a0, .int a1, .ref a2] → ∃ x, v = some (va_rf x) ∧ Q g a0 a1 a2 m n x m' n') hNoX
def ho_LILrL (g : hG) (mc ms mc' ms' : Nat) (P : hG → Nat → Int32 → Nat → hH → Nat → Prop) (Q : hG → Nat → Int32 → Nat → hH → Nat → Option Nat → hH → Nat → Prop) : se_Op hW := fun st w K Y => match st with
  | .ref a2 :: .int a1 :: .ref a0 :: r => se_c8 8 r ∧ P g a0 a1 a2 w.1 w.2.1 ∧ w.2.2.1 + mc' ≤ mc ∧ w.2.2.2 + ms' ≤ ms ∧ ∀ x m' n', Q g a0 a1 a2 w.1 w.2.1 x m' n' → hDom g m' n' → w.2.1 ≤ n' → K (va_rf x :: r) (m', n', w.2.2.1 + mc', w.2.2.2 + ms')
  | _ => False
theorem ho_LILrL_r {g : hG} {mc ms mc' ms' : Nat} {P : hG → Nat → Int32 → Nat → hH → Nat → Prop} {Q : hG → Nat → Int32 → Nat → hH → Nat → Option Nat → hH → Nat → Prop} {a0 : Nat} {a1 : Int32} {a2 : Nat} {r : List Value} {w : hW} {K : List Value → hW → Prop} {Y : Nat → hW → Prop} : ho_LILrL g mc ms mc' ms' P Q (.ref a2 :: .int a1 :: .ref a0 :: r) w K Y = (se_c8 8 r ∧ P g a0 a1 a2 w.1 w.2.1 ∧ w.2.2.1 + mc' ≤ mc ∧ w.2.2.2 + ms' ≤ ms ∧ ∀ x m' n', Q g a0 a1 a2 w.1 w.2.1 x m' n' → hDom g m' n' → w.2.1 ≤ n' → K (va_rf x :: r) (m', n', w.2.2.1 + mc', w.2.2.2 + ms')) := rfl
theorem ho_LILrL_ok {g : hG} {mc ms mc' ms' : Nat} {P : hG → Nat → Int32 → Nat → hH → Nat → Prop} {Q : hG → Nat → Int32 → Nat → hH → Nat → Option Nat → hH → Nat → Prop} {p : Program} {l : Launch} {e : Env} {R : Room} {s : State} {m : MethodId} {args : Array Value} {below : List Frame} {meth : Method} {c : Code} {nL : Nat} {cc : ByteArray} {Q0 : State → Prop} {H0 : Heap} {ins : Instr} {len : Nat} (hS : se_Snd p l e R s m args below meth c Q0 nL (fun a => a) (hRM g H0) cc ins len (hCS g 3 mc ms mc' ms' (fun (g : hG) (av : List Value) (m : hH) (n : Nat) => ∃ (a0 : Nat) (a1 : Int32) (a2 : Nat), av = [.ref a0, .int a1, .ref a2] ∧ P g a0 a1 a2 m n) (fun (g : hG) (av : List Value) (m : hH) (n : Nat) (v : Option Value) (m' : hH) (n' : Nat) => ∀ (a0 : Nat) (a1 : Int32) (a2 : Nat), av = [.ref a0, .int a1, .ref a2] → ∃ x, v = some (va_rf x) ∧ Q g a0 a1 a2 m n x m' n') hNoX)) : se_Snd p l e R s m args below meth c Q0 nL (fun a => a) (hRM g H0) cc ins len (ho_LILrL g mc ms mc' ms' P Q) :=
  hS.mono fun st w K Y h => by
    unfold ho_LILrL at h
    split at h
    · rename_i a2 a1 a0 r
      obtain ⟨h8, hP, r1, r2, hq⟩ := h
      exact (⟨h8, ⟨a0, a1, a2, rfl, hP⟩, r1, r2, fun v m' n' hp hi hn => by
              obtain ⟨x, rfl, hx⟩ := hp a0 a1 a2 rfl
              exact hq x m' n' hx hi hn, fun b m' n' hp => hp.elim⟩ : hGo g mc ms mc' ms' ((fun (g : hG) (av : List Value) (m : hH) (n : Nat) => ∃ (a0 : Nat) (a1 : Int32) (a2 : Nat), av = [.ref a0, .int a1, .ref a2] ∧ P g a0 a1 a2 m n) g) ((fun (g : hG) (av : List Value) (m : hH) (n : Nat) (v : Option Value) (m' : hH) (n' : Nat) => ∀ (a0 : Nat) (a1 : Int32) (a2 : Nat), av = [.ref a0, .int a1, .ref a2] → ∃ x, v = some (va_rf x) ∧ Q g a0 a1 a2 m n x m' n') g) (hNoX g) [.ref a0, .int a1, .ref a2] r w K Y)
    · exact h.elim
def hp_LILrL (g : hG) (mc ms : Nat) (P : hG → Nat → Int32 → Nat → hH → Nat → Prop) (R0 : hG → Nat → Int32 → Nat → hH → Nat → Option Nat) : se_Op hW := fun st w K Y => match st with
  | .ref a2 :: .int a1 :: .ref a0 :: r => se_c8 8 r ∧ P g a0 a1 a2 w.1 w.2.1 ∧ w.2.2.1 ≤ mc ∧ w.2.2.2 ≤ ms ∧ K (va_rf (R0 g a0 a1 a2 w.1 w.2.1) :: r) w
  | _ => False
theorem hp_LILrL_r {g : hG} {mc ms : Nat} {P : hG → Nat → Int32 → Nat → hH → Nat → Prop} {R0 : hG → Nat → Int32 → Nat → hH → Nat → Option Nat} {a0 : Nat} {a1 : Int32} {a2 : Nat} {r : List Value} {w : hW} {K : List Value → hW → Prop} {Y : Nat → hW → Prop} : hp_LILrL g mc ms P R0 (.ref a2 :: .int a1 :: .ref a0 :: r) w K Y = (se_c8 8 r ∧ P g a0 a1 a2 w.1 w.2.1 ∧ w.2.2.1 ≤ mc ∧ w.2.2.2 ≤ ms ∧ K (va_rf (R0 g a0 a1 a2 w.1 w.2.1) :: r) w) := rfl
theorem hp_LILrL_ok {g : hG} {mc ms : Nat} {P : hG → Nat → Int32 → Nat → hH → Nat → Prop} {R0 : hG → Nat → Int32 → Nat → hH → Nat → Option Nat} {p : Program} {l : Launch} {e : Env} {R : Room} {s : State} {m : MethodId} {args : Array Value} {below : List Frame} {meth : Method} {c : Code} {nL : Nat} {cc : ByteArray} {Q0 : State → Prop} {H0 : Heap} {ins : Instr} {len : Nat} (hS : se_Snd p l e R s m args below meth c Q0 nL (fun a => a) (hRM g H0) cc ins len (ho_LILrL g mc ms 0 0 P (fun g a0 a1 a2 m n x m' n' => x = R0 g a0 a1 a2 m n ∧ m' = m ∧ n' = n))) : se_Snd p l e R s m args below meth c Q0 nL (fun a => a) (hRM g H0) cc ins len (hp_LILrL g mc ms P R0) :=
  hS.mono fun st w K Y h => by
    unfold hp_LILrL at h
    split at h
    · rename_i a2 a1 a0 r
      obtain ⟨h8, hP, r1, r2, hq⟩ := h
      exact ⟨h8, hP, r1, r2, fun x m' n' e _ _ => by
              obtain ⟨rfl, rfl, rfl⟩ := e
              exact hq⟩
    · exact h.elim
def hf_LILrL (g : hG) (mc ms : Nat) (P : hG → Nat → Int32 → Nat → hH → Nat → Prop) (R0 : hG → Nat → Int32 → Nat → hH → Nat → Option Nat) (F : hG → Nat → Int32 → Nat → hH → Nat → hH) : se_Op hW := fun st w K Y => match st with
  | .ref a2 :: .int a1 :: .ref a0 :: r => se_c8 8 r ∧ P g a0 a1 a2 w.1 w.2.1 ∧ w.2.2.1 ≤ mc ∧ w.2.2.2 ≤ ms ∧ K (va_rf (R0 g a0 a1 a2 w.1 w.2.1) :: r) (F g a0 a1 a2 w.1 w.2.1, w.2)
  | _ => False
theorem hf_LILrL_r {g : hG} {mc ms : Nat} {P : hG → Nat → Int32 → Nat → hH → Nat → Prop} {R0 : hG → Nat → Int32 → Nat → hH → Nat → Option Nat} {F : hG → Nat → Int32 → Nat → hH → Nat → hH} {a0 : Nat} {a1 : Int32} {a2 : Nat} {r : List Value} {w : hW} {K : List Value → hW → Prop} {Y : Nat → hW → Prop} : hf_LILrL g mc ms P R0 F (.ref a2 :: .int a1 :: .ref a0 :: r) w K Y = (se_c8 8 r ∧ P g a0 a1 a2 w.1 w.2.1 ∧ w.2.2.1 ≤ mc ∧ w.2.2.2 ≤ ms ∧ K (va_rf (R0 g a0 a1 a2 w.1 w.2.1) :: r) (F g a0 a1 a2 w.1 w.2.1, w.2)) := rfl
theorem hf_LILrL_ok {g : hG} {mc ms : Nat} {P : hG → Nat → Int32 → Nat → hH → Nat → Prop} {R0 : hG → Nat → Int32 → Nat → hH → Nat → Option Nat} {F : hG → Nat → Int32 → Nat → hH → Nat → hH} {p : Program} {l : Launch} {e : Env} {R : Room} {s : State} {m : MethodId} {args : Array Value} {below : List Frame} {meth : Method} {c : Code} {nL : Nat} {cc : ByteArray} {Q0 : State → Prop} {H0 : Heap} {ins : Instr} {len : Nat} (hS : se_Snd p l e R s m args below meth c Q0 nL (fun a => a) (hRM g H0) cc ins len (ho_LILrL g mc ms 0 0 P (fun g a0 a1 a2 m n x m' n' => x = R0 g a0 a1 a2 m n ∧ m' = F g a0 a1 a2 m n ∧ n' = n))) : se_Snd p l e R s m args below meth c Q0 nL (fun a => a) (hRM g H0) cc ins len (hf_LILrL g mc ms P R0 F) :=
  hS.mono fun st w K Y h => by
    unfold hf_LILrL at h
    split at h
    · rename_i a2 a1 a0 r
      obtain ⟨h8, hP, r1, r2, hq⟩ := h
      exact ⟨h8, hP, r1, r2, fun x m' n' e _ _ => by
              obtain ⟨rfl, rfl, rfl⟩ := e
              exact hq⟩
    · exact h.elim
def ht_LILrL (rty : FieldType) (mc ms : Nat) (Q : hG → Nat → Int32 → Nat → hH → Nat → Option Nat → hH → Nat → Prop) (g : hG) (a0 : Nat) (a1 : Int32) (a2 : Nat) (m : hH) (n : Nat) : Option Value → hW → Prop := hRt (some rty) mc ms ((fun (g : hG) (av : List Value) (m : hH) (n : Nat) (v : Option Value) (m' : hH) (n' : Nat) => ∀ (a0 : Nat) (a1 : Int32) (a2 : Nat), av = [.ref a0, .int a1, .ref a2] → ∃ x, v = some (va_rf x) ∧ Q g a0 a1 a2 m n x m' n') g [.ref a0, .int a1, .ref a2] m n)
theorem ht_LILrL_e {rty : FieldType} {mc ms : Nat} {Q : hG → Nat → Int32 → Nat → hH → Nat → Option Nat → hH → Nat → Prop} {g : hG} {a0 : Nat} {a1 : Int32} {a2 : Nat} {m : hH} {n : Nat} {w : hW} {z : Nat} (hr : (∃ n, rty = .object n) ∨ ∃ t, rty = .array t) : ht_LILrL rty mc ms Q g a0 a1 a2 m n (some (.ref z)) w = (w.2.2.1 ≤ mc ∧ w.2.2.2 ≤ ms ∧ Q g a0 a1 a2 m n (some z) w.1 w.2.1) := by
  apply propext
  constructor
  · intro h
    obtain ⟨x, e, hq⟩ := h.2.2.2 _ _ _ rfl
    cases x with
    | none => cases e
    | some x => cases e; exact ⟨h.2.1, h.2.2.1, hq⟩
  · intro h
    obtain ⟨h1, h2, h3⟩ := h
    exact ⟨⟨_, rfl, hr⟩, h1, h2, fun _ _ _ e => by
      cases e
      exact ⟨some z, rfl, h3⟩⟩
theorem ht_LILrL_n {rty : FieldType} {mc ms : Nat} {Q : hG → Nat → Int32 → Nat → hH → Nat → Option Nat → hH → Nat → Prop} {g : hG} {a0 : Nat} {a1 : Int32} {a2 : Nat} {m : hH} {n : Nat} {w : hW} (hr : (∃ n, rty = .object n) ∨ ∃ t, rty = .array t) : ht_LILrL rty mc ms Q g a0 a1 a2 m n (some .null) w = (w.2.2.1 ≤ mc ∧ w.2.2.2 ≤ ms ∧ Q g a0 a1 a2 m n none w.1 w.2.1) := by
  apply propext
  constructor
  · intro h
    obtain ⟨x, e, hq⟩ := h.2.2.2 _ _ _ rfl
    cases x with
    | none => exact ⟨h.2.1, h.2.2.1, hq⟩
    | some x => cases e
  · intro h
    obtain ⟨h1, h2, h3⟩ := h
    exact ⟨⟨_, rfl, hr⟩, h1, h2, fun _ _ _ e => by
      cases e
      exact ⟨none, rfl, h3⟩⟩
theorem hm_LILrL_of {l : Launch} {y : MethodName} {own : String} {cc : ByteArray} {maxL fr lo mc ms : Nat} {rty : FieldType} {P : hG → Nat → Int32 → Nat → hH → Nat → Prop} {Q : hG → Nat → Int32 → Nat → hH → Nat → Option Nat → hH → Nat → Prop} {T : hG → Nat → Nat → se_Op hW} (hy : plainName y.cls = true) (hyc : y.cls = own) (hT : hTS l own y.name cc maxL (some rty) fr lo mc ms T) (hL : 3 ≤ maxL)
    (body : ∀ (g : hG) (a0 : Nat) (a1 : Int32) (a2 : Nat) (m : hH) (n : Nat), hDom g m n → hVg g → P g a0 a1 a2 m n → ∀ G : Nat → se_L → List Value → hW → Prop, (∀ (stops : List Nat) (f pc : Nat) (L : se_L) (st : List Value) (w : hW), wpN True (T g) cc stops G (hXt mc ms (hNoX g [.ref a0, .int a1, .ref a2] m n)) (ht_LILrL rty mc ms Q g a0 a1 a2 m n) f pc L st w → G pc L st w) → G 0 (se_ent [.ref a0, .int a1, .ref a2] maxL) [] (m, n, 0, 0)) : hm_LILrL l y (ws_ y cc maxL (some rty)) fr lo mc ms P Q :=
  hOf hy hyc hT (fun g av m n h => by
    obtain ⟨a0, a1, a2, rfl, _⟩ := h
    exact hL) (fun g av m n h1 h2 hp G hG => by
    obtain ⟨a0, a1, a2, rfl, hp⟩ := hp
    exact body g a0 a1 a2 m n h1 h2 hp G hG)
abbrev hm_LILrV (l : Launch) (y : MethodName) (ws : List Cond) (fr lo mc ms : Nat) (P : hG → Nat → Int32 → Nat → hH → Nat → Prop) (Q : hG → Nat → Int32 → Nat → hH → Nat → hH → Nat → Prop) : Prop := hCon l y ws fr lo mc ms (fun (g : hG) (av : List Value) (m : hH) (n : Nat) => ∃ (a0 : Nat) (a1 : Int32) (a2 : Nat), av = [.ref a0, .int a1, .ref a2] ∧ P g a0 a1 a2 m n) (fun (g : hG) (av : List Value) (m : hH) (n : Nat) (v : Option Value) (m' : hH) (n' : Nat) => ∀ (a0 : Nat) (a1 : Int32) (a2 : Nat), av = [.ref a0, .int a1, .ref a2] → v = none ∧ Q g a0 a1 a2 m n m' n') hNoX
def hov_LILrV (g : hG) (mc ms mc' ms' : Nat) (cs : List Nat) (P : hG → Nat → Int32 → Nat → hH → Nat → Prop) (Q : hG → Nat → Int32 → Nat → hH → Nat → hH → Nat → Prop) : se_Op hW := fun st w K Y => match st with
  | .ref a2 :: .int a1 :: .ref a0 :: r => hRcv cs w.1 [.ref a0] ∧ se_c8 8 r ∧ P g a0 a1 a2 w.1 w.2.1 ∧ w.2.2.1 + mc' ≤ mc ∧ w.2.2.2 + ms' ≤ ms ∧ ∀ m' n', Q g a0 a1 a2 w.1 w.2.1 m' n' → hDom g m' n' → w.2.1 ≤ n' → K r (m', n', w.2.2.1 + mc', w.2.2.2 + ms')
  | _ => False
theorem hov_LILrV_r {g : hG} {mc ms mc' ms' : Nat} {cs : List Nat} {P : hG → Nat → Int32 → Nat → hH → Nat → Prop} {Q : hG → Nat → Int32 → Nat → hH → Nat → hH → Nat → Prop} {a0 : Nat} {a1 : Int32} {a2 : Nat} {r : List Value} {w : hW} {K : List Value → hW → Prop} {Y : Nat → hW → Prop} : hov_LILrV g mc ms mc' ms' cs P Q (.ref a2 :: .int a1 :: .ref a0 :: r) w K Y = (hRcv cs w.1 [.ref a0] ∧ se_c8 8 r ∧ P g a0 a1 a2 w.1 w.2.1 ∧ w.2.2.1 + mc' ≤ mc ∧ w.2.2.2 + ms' ≤ ms ∧ ∀ m' n', Q g a0 a1 a2 w.1 w.2.1 m' n' → hDom g m' n' → w.2.1 ≤ n' → K r (m', n', w.2.2.1 + mc', w.2.2.2 + ms')) := rfl
theorem hov_LILrV_ok {g : hG} {mc ms mc' ms' : Nat} {cs : List Nat} {P : hG → Nat → Int32 → Nat → hH → Nat → Prop} {Q : hG → Nat → Int32 → Nat → hH → Nat → hH → Nat → Prop} {p : Program} {l : Launch} {e : Env} {R : Room} {s : State} {m : MethodId} {args : Array Value} {below : List Frame} {meth : Method} {c : Code} {nL : Nat} {cc : ByteArray} {Q0 : State → Prop} {H0 : Heap} {ins : Instr} {len : Nat} (hS : se_Snd p l e R s m args below meth c Q0 nL (fun a => a) (hRM g H0) cc ins len (hCV g 2 mc ms mc' ms' cs (fun (g : hG) (av : List Value) (m : hH) (n : Nat) => ∃ (a0 : Nat) (a1 : Int32) (a2 : Nat), av = [.ref a0, .int a1, .ref a2] ∧ P g a0 a1 a2 m n) (fun (g : hG) (av : List Value) (m : hH) (n : Nat) (v : Option Value) (m' : hH) (n' : Nat) => ∀ (a0 : Nat) (a1 : Int32) (a2 : Nat), av = [.ref a0, .int a1, .ref a2] → v = none ∧ Q g a0 a1 a2 m n m' n') hNoX)) : se_Snd p l e R s m args below meth c Q0 nL (fun a => a) (hRM g H0) cc ins len (hov_LILrV g mc ms mc' ms' cs P Q) :=
  hS.mono fun st w K Y h => by
    unfold hov_LILrV at h
    split at h
    · rename_i a2 a1 a0 r
      obtain ⟨hc, h8, hP, r1, r2, hq⟩ := h
      exact (⟨hc, h8, ⟨a0, a1, a2, rfl, hP⟩, r1, r2, fun v m' n' hp hi hn => by
              obtain ⟨rfl, hx⟩ := hp a0 a1 a2 rfl
              exact hq m' n' hx hi hn, fun b m' n' hp => hp.elim⟩ : (hRcv cs w.1 [.ref a0, .int a1, .ref a2] ∧ hGo g mc ms mc' ms' ((fun (g : hG) (av : List Value) (m : hH) (n : Nat) => ∃ (a0 : Nat) (a1 : Int32) (a2 : Nat), av = [.ref a0, .int a1, .ref a2] ∧ P g a0 a1 a2 m n) g) ((fun (g : hG) (av : List Value) (m : hH) (n : Nat) (v : Option Value) (m' : hH) (n' : Nat) => ∀ (a0 : Nat) (a1 : Int32) (a2 : Nat), av = [.ref a0, .int a1, .ref a2] → v = none ∧ Q g a0 a1 a2 m n m' n') g) (hNoX g) [.ref a0, .int a1, .ref a2] r w K Y))
    · exact h.elim
def hfv_LILrV (g : hG) (mc ms : Nat) (cs : List Nat) (P : hG → Nat → Int32 → Nat → hH → Nat → Prop) (F : hG → Nat → Int32 → Nat → hH → Nat → hH) : se_Op hW := fun st w K Y => match st with
  | .ref a2 :: .int a1 :: .ref a0 :: r => hRcv cs w.1 [.ref a0] ∧ se_c8 8 r ∧ P g a0 a1 a2 w.1 w.2.1 ∧ w.2.2.1 ≤ mc ∧ w.2.2.2 ≤ ms ∧ K (r) (F g a0 a1 a2 w.1 w.2.1, w.2)
  | _ => False
theorem hfv_LILrV_r {g : hG} {mc ms : Nat} {cs : List Nat} {P : hG → Nat → Int32 → Nat → hH → Nat → Prop} {F : hG → Nat → Int32 → Nat → hH → Nat → hH} {a0 : Nat} {a1 : Int32} {a2 : Nat} {r : List Value} {w : hW} {K : List Value → hW → Prop} {Y : Nat → hW → Prop} : hfv_LILrV g mc ms cs P F (.ref a2 :: .int a1 :: .ref a0 :: r) w K Y = (hRcv cs w.1 [.ref a0] ∧ se_c8 8 r ∧ P g a0 a1 a2 w.1 w.2.1 ∧ w.2.2.1 ≤ mc ∧ w.2.2.2 ≤ ms ∧ K (r) (F g a0 a1 a2 w.1 w.2.1, w.2)) := rfl
theorem hfv_LILrV_ok {g : hG} {mc ms : Nat} {cs : List Nat} {P : hG → Nat → Int32 → Nat → hH → Nat → Prop} {F : hG → Nat → Int32 → Nat → hH → Nat → hH} {p : Program} {l : Launch} {e : Env} {R : Room} {s : State} {m : MethodId} {args : Array Value} {below : List Frame} {meth : Method} {c : Code} {nL : Nat} {cc : ByteArray} {Q0 : State → Prop} {H0 : Heap} {ins : Instr} {len : Nat} (hS : se_Snd p l e R s m args below meth c Q0 nL (fun a => a) (hRM g H0) cc ins len (hov_LILrV g mc ms 0 0 cs P (fun g a0 a1 a2 m n m' n' => m' = F g a0 a1 a2 m n ∧ n' = n))) : se_Snd p l e R s m args below meth c Q0 nL (fun a => a) (hRM g H0) cc ins len (hfv_LILrV g mc ms cs P F) :=
  hS.mono fun st w K Y h => by
    unfold hfv_LILrV at h
    split at h
    · rename_i a2 a1 a0 r
      obtain ⟨hc, h8, hP, r1, r2, hq⟩ := h
      exact ⟨hc, h8, hP, r1, r2, fun m' n' e _ _ => by
              obtain ⟨rfl, rfl⟩ := e
              exact hq⟩
    · exact h.elim
def ht_LILrV (mc ms : Nat) (Q : hG → Nat → Int32 → Nat → hH → Nat → hH → Nat → Prop) (g : hG) (a0 : Nat) (a1 : Int32) (a2 : Nat) (m : hH) (n : Nat) : Option Value → hW → Prop := hRt none mc ms ((fun (g : hG) (av : List Value) (m : hH) (n : Nat) (v : Option Value) (m' : hH) (n' : Nat) => ∀ (a0 : Nat) (a1 : Int32) (a2 : Nat), av = [.ref a0, .int a1, .ref a2] → v = none ∧ Q g a0 a1 a2 m n m' n') g [.ref a0, .int a1, .ref a2] m n)
theorem ht_LILrV_e {mc ms : Nat} {Q : hG → Nat → Int32 → Nat → hH → Nat → hH → Nat → Prop} {g : hG} {a0 : Nat} {a1 : Int32} {a2 : Nat} {m : hH} {n : Nat} {w : hW} : ht_LILrV mc ms Q g a0 a1 a2 m n none w = (w.2.2.1 ≤ mc ∧ w.2.2.2 ≤ ms ∧ Q g a0 a1 a2 m n w.1 w.2.1) := by
  apply propext
  exact ⟨fun h => ⟨h.2.1, h.2.2.1, (h.2.2.2 _ _ _ rfl).2⟩, fun h => ⟨rfl, h.1, h.2.1, fun _ _ _ e => by
    cases e
    exact ⟨rfl, h.2.2⟩⟩⟩
theorem hm_LILrV_of {l : Launch} {y : MethodName} {own : String} {cc : ByteArray} {maxL fr lo mc ms : Nat} {P : hG → Nat → Int32 → Nat → hH → Nat → Prop} {Q : hG → Nat → Int32 → Nat → hH → Nat → hH → Nat → Prop} {T : hG → Nat → Nat → se_Op hW} (hy : plainName y.cls = true) (hyc : y.cls = own) (hT : hTS l own y.name cc maxL none fr lo mc ms T) (hL : 3 ≤ maxL)
    (body : ∀ (g : hG) (a0 : Nat) (a1 : Int32) (a2 : Nat) (m : hH) (n : Nat), hDom g m n → hVg g → P g a0 a1 a2 m n → ∀ G : Nat → se_L → List Value → hW → Prop, (∀ (stops : List Nat) (f pc : Nat) (L : se_L) (st : List Value) (w : hW), wpN True (T g) cc stops G (hXt mc ms (hNoX g [.ref a0, .int a1, .ref a2] m n)) (ht_LILrV mc ms Q g a0 a1 a2 m n) f pc L st w → G pc L st w) → G 0 (se_ent [.ref a0, .int a1, .ref a2] maxL) [] (m, n, 0, 0)) : hm_LILrV l y (ws_ y cc maxL none) fr lo mc ms P Q :=
  hOf hy hyc hT (fun g av m n h => by
    obtain ⟨a0, a1, a2, rfl, _⟩ := h
    exact hL) (fun g av m n h1 h2 hp G hG => by
    obtain ⟨a0, a1, a2, rfl, hp⟩ := hp
    exact body g a0 a1 a2 m n h1 h2 hp G hG)
abbrev hm_LIrC (l : Launch) (y : MethodName) (ws : List Cond) (fr lo mc ms : Nat) (P : hG → Nat → Int32 → hH → Nat → Prop) (Q : hG → Nat → Int32 → hH → Nat → Int32 → hH → Nat → Prop) : Prop := hCon l y ws fr lo mc ms (fun (g : hG) (av : List Value) (m : hH) (n : Nat) => ∃ (a0 : Nat) (a1 : Int32), av = [.ref a0, .int a1] ∧ P g a0 a1 m n) (fun (g : hG) (av : List Value) (m : hH) (n : Nat) (v : Option Value) (m' : hH) (n' : Nat) => ∀ (a0 : Nat) (a1 : Int32), av = [.ref a0, .int a1] → ∃ x, v = some (.int x) ∧ Q g a0 a1 m n x m' n') hNoX
def ho_LIrC (g : hG) (mc ms mc' ms' : Nat) (P : hG → Nat → Int32 → hH → Nat → Prop) (Q : hG → Nat → Int32 → hH → Nat → Int32 → hH → Nat → Prop) : se_Op hW := fun st w K Y => match st with
  | .int a1 :: .ref a0 :: r => se_c8 8 r ∧ P g a0 a1 w.1 w.2.1 ∧ w.2.2.1 + mc' ≤ mc ∧ w.2.2.2 + ms' ≤ ms ∧ ∀ x m' n', Q g a0 a1 w.1 w.2.1 x m' n' → hDom g m' n' → w.2.1 ≤ n' → K (.int x :: r) (m', n', w.2.2.1 + mc', w.2.2.2 + ms')
  | _ => False
theorem ho_LIrC_r {g : hG} {mc ms mc' ms' : Nat} {P : hG → Nat → Int32 → hH → Nat → Prop} {Q : hG → Nat → Int32 → hH → Nat → Int32 → hH → Nat → Prop} {a0 : Nat} {a1 : Int32} {r : List Value} {w : hW} {K : List Value → hW → Prop} {Y : Nat → hW → Prop} : ho_LIrC g mc ms mc' ms' P Q (.int a1 :: .ref a0 :: r) w K Y = (se_c8 8 r ∧ P g a0 a1 w.1 w.2.1 ∧ w.2.2.1 + mc' ≤ mc ∧ w.2.2.2 + ms' ≤ ms ∧ ∀ x m' n', Q g a0 a1 w.1 w.2.1 x m' n' → hDom g m' n' → w.2.1 ≤ n' → K (.int x :: r) (m', n', w.2.2.1 + mc', w.2.2.2 + ms')) := rfl
theorem ho_LIrC_ok {g : hG} {mc ms mc' ms' : Nat} {P : hG → Nat → Int32 → hH → Nat → Prop} {Q : hG → Nat → Int32 → hH → Nat → Int32 → hH → Nat → Prop} {p : Program} {l : Launch} {e : Env} {R : Room} {s : State} {m : MethodId} {args : Array Value} {below : List Frame} {meth : Method} {c : Code} {nL : Nat} {cc : ByteArray} {Q0 : State → Prop} {H0 : Heap} {ins : Instr} {len : Nat} (hS : se_Snd p l e R s m args below meth c Q0 nL (fun a => a) (hRM g H0) cc ins len (hCS g 2 mc ms mc' ms' (fun (g : hG) (av : List Value) (m : hH) (n : Nat) => ∃ (a0 : Nat) (a1 : Int32), av = [.ref a0, .int a1] ∧ P g a0 a1 m n) (fun (g : hG) (av : List Value) (m : hH) (n : Nat) (v : Option Value) (m' : hH) (n' : Nat) => ∀ (a0 : Nat) (a1 : Int32), av = [.ref a0, .int a1] → ∃ x, v = some (.int x) ∧ Q g a0 a1 m n x m' n') hNoX)) : se_Snd p l e R s m args below meth c Q0 nL (fun a => a) (hRM g H0) cc ins len (ho_LIrC g mc ms mc' ms' P Q) :=
  hS.mono fun st w K Y h => by
    unfold ho_LIrC at h
    split at h
    · rename_i a1 a0 r
      obtain ⟨h8, hP, r1, r2, hq⟩ := h
      exact (⟨h8, ⟨a0, a1, rfl, hP⟩, r1, r2, fun v m' n' hp hi hn => by
              obtain ⟨x, rfl, hx⟩ := hp a0 a1 rfl
              exact hq x m' n' hx hi hn, fun b m' n' hp => hp.elim⟩ : hGo g mc ms mc' ms' ((fun (g : hG) (av : List Value) (m : hH) (n : Nat) => ∃ (a0 : Nat) (a1 : Int32), av = [.ref a0, .int a1] ∧ P g a0 a1 m n) g) ((fun (g : hG) (av : List Value) (m : hH) (n : Nat) (v : Option Value) (m' : hH) (n' : Nat) => ∀ (a0 : Nat) (a1 : Int32), av = [.ref a0, .int a1] → ∃ x, v = some (.int x) ∧ Q g a0 a1 m n x m' n') g) (hNoX g) [.ref a0, .int a1] r w K Y)
    · exact h.elim
def hov_LIrC (g : hG) (mc ms mc' ms' : Nat) (cs : List Nat) (P : hG → Nat → Int32 → hH → Nat → Prop) (Q : hG → Nat → Int32 → hH → Nat → Int32 → hH → Nat → Prop) : se_Op hW := fun st w K Y => match st with
  | .int a1 :: .ref a0 :: r => hRcv cs w.1 [.ref a0] ∧ se_c8 8 r ∧ P g a0 a1 w.1 w.2.1 ∧ w.2.2.1 + mc' ≤ mc ∧ w.2.2.2 + ms' ≤ ms ∧ ∀ x m' n', Q g a0 a1 w.1 w.2.1 x m' n' → hDom g m' n' → w.2.1 ≤ n' → K (.int x :: r) (m', n', w.2.2.1 + mc', w.2.2.2 + ms')
  | _ => False
theorem hov_LIrC_r {g : hG} {mc ms mc' ms' : Nat} {cs : List Nat} {P : hG → Nat → Int32 → hH → Nat → Prop} {Q : hG → Nat → Int32 → hH → Nat → Int32 → hH → Nat → Prop} {a0 : Nat} {a1 : Int32} {r : List Value} {w : hW} {K : List Value → hW → Prop} {Y : Nat → hW → Prop} : hov_LIrC g mc ms mc' ms' cs P Q (.int a1 :: .ref a0 :: r) w K Y = (hRcv cs w.1 [.ref a0] ∧ se_c8 8 r ∧ P g a0 a1 w.1 w.2.1 ∧ w.2.2.1 + mc' ≤ mc ∧ w.2.2.2 + ms' ≤ ms ∧ ∀ x m' n', Q g a0 a1 w.1 w.2.1 x m' n' → hDom g m' n' → w.2.1 ≤ n' → K (.int x :: r) (m', n', w.2.2.1 + mc', w.2.2.2 + ms')) := rfl
theorem hov_LIrC_ok {g : hG} {mc ms mc' ms' : Nat} {cs : List Nat} {P : hG → Nat → Int32 → hH → Nat → Prop} {Q : hG → Nat → Int32 → hH → Nat → Int32 → hH → Nat → Prop} {p : Program} {l : Launch} {e : Env} {R : Room} {s : State} {m : MethodId} {args : Array Value} {below : List Frame} {meth : Method} {c : Code} {nL : Nat} {cc : ByteArray} {Q0 : State → Prop} {H0 : Heap} {ins : Instr} {len : Nat} (hS : se_Snd p l e R s m args below meth c Q0 nL (fun a => a) (hRM g H0) cc ins len (hCV g 1 mc ms mc' ms' cs (fun (g : hG) (av : List Value) (m : hH) (n : Nat) => ∃ (a0 : Nat) (a1 : Int32), av = [.ref a0, .int a1] ∧ P g a0 a1 m n) (fun (g : hG) (av : List Value) (m : hH) (n : Nat) (v : Option Value) (m' : hH) (n' : Nat) => ∀ (a0 : Nat) (a1 : Int32), av = [.ref a0, .int a1] → ∃ x, v = some (.int x) ∧ Q g a0 a1 m n x m' n') hNoX)) : se_Snd p l e R s m args below meth c Q0 nL (fun a => a) (hRM g H0) cc ins len (hov_LIrC g mc ms mc' ms' cs P Q) :=
  hS.mono fun st w K Y h => by
    unfold hov_LIrC at h
    split at h
    · rename_i a1 a0 r
      obtain ⟨hc, h8, hP, r1, r2, hq⟩ := h
      exact (⟨hc, h8, ⟨a0, a1, rfl, hP⟩, r1, r2, fun v m' n' hp hi hn => by
              obtain ⟨x, rfl, hx⟩ := hp a0 a1 rfl
              exact hq x m' n' hx hi hn, fun b m' n' hp => hp.elim⟩ : (hRcv cs w.1 [.ref a0, .int a1] ∧ hGo g mc ms mc' ms' ((fun (g : hG) (av : List Value) (m : hH) (n : Nat) => ∃ (a0 : Nat) (a1 : Int32), av = [.ref a0, .int a1] ∧ P g a0 a1 m n) g) ((fun (g : hG) (av : List Value) (m : hH) (n : Nat) (v : Option Value) (m' : hH) (n' : Nat) => ∀ (a0 : Nat) (a1 : Int32), av = [.ref a0, .int a1] → ∃ x, v = some (.int x) ∧ Q g a0 a1 m n x m' n') g) (hNoX g) [.ref a0, .int a1] r w K Y))
    · exact h.elim
def hp_LIrC (g : hG) (mc ms : Nat) (P : hG → Nat → Int32 → hH → Nat → Prop) (R0 : hG → Nat → Int32 → hH → Nat → Int32) : se_Op hW := fun st w K Y => match st with
  | .int a1 :: .ref a0 :: r => se_c8 8 r ∧ P g a0 a1 w.1 w.2.1 ∧ w.2.2.1 ≤ mc ∧ w.2.2.2 ≤ ms ∧ K (.int (R0 g a0 a1 w.1 w.2.1) :: r) w
  | _ => False
theorem hp_LIrC_r {g : hG} {mc ms : Nat} {P : hG → Nat → Int32 → hH → Nat → Prop} {R0 : hG → Nat → Int32 → hH → Nat → Int32} {a0 : Nat} {a1 : Int32} {r : List Value} {w : hW} {K : List Value → hW → Prop} {Y : Nat → hW → Prop} : hp_LIrC g mc ms P R0 (.int a1 :: .ref a0 :: r) w K Y = (se_c8 8 r ∧ P g a0 a1 w.1 w.2.1 ∧ w.2.2.1 ≤ mc ∧ w.2.2.2 ≤ ms ∧ K (.int (R0 g a0 a1 w.1 w.2.1) :: r) w) := rfl
theorem hp_LIrC_ok {g : hG} {mc ms : Nat} {P : hG → Nat → Int32 → hH → Nat → Prop} {R0 : hG → Nat → Int32 → hH → Nat → Int32} {p : Program} {l : Launch} {e : Env} {R : Room} {s : State} {m : MethodId} {args : Array Value} {below : List Frame} {meth : Method} {c : Code} {nL : Nat} {cc : ByteArray} {Q0 : State → Prop} {H0 : Heap} {ins : Instr} {len : Nat} (hS : se_Snd p l e R s m args below meth c Q0 nL (fun a => a) (hRM g H0) cc ins len (ho_LIrC g mc ms 0 0 P (fun g a0 a1 m n x m' n' => x = R0 g a0 a1 m n ∧ m' = m ∧ n' = n))) : se_Snd p l e R s m args below meth c Q0 nL (fun a => a) (hRM g H0) cc ins len (hp_LIrC g mc ms P R0) :=
  hS.mono fun st w K Y h => by
    unfold hp_LIrC at h
    split at h
    · rename_i a1 a0 r
      obtain ⟨h8, hP, r1, r2, hq⟩ := h
      exact ⟨h8, hP, r1, r2, fun x m' n' e _ _ => by
              obtain ⟨rfl, rfl, rfl⟩ := e
              exact hq⟩
    · exact h.elim
def hpv_LIrC (g : hG) (mc ms : Nat) (cs : List Nat) (P : hG → Nat → Int32 → hH → Nat → Prop) (R0 : hG → Nat → Int32 → hH → Nat → Int32) : se_Op hW := fun st w K Y => match st with
  | .int a1 :: .ref a0 :: r => hRcv cs w.1 [.ref a0] ∧ se_c8 8 r ∧ P g a0 a1 w.1 w.2.1 ∧ w.2.2.1 ≤ mc ∧ w.2.2.2 ≤ ms ∧ K (.int (R0 g a0 a1 w.1 w.2.1) :: r) w
  | _ => False
theorem hpv_LIrC_r {g : hG} {mc ms : Nat} {cs : List Nat} {P : hG → Nat → Int32 → hH → Nat → Prop} {R0 : hG → Nat → Int32 → hH → Nat → Int32} {a0 : Nat} {a1 : Int32} {r : List Value} {w : hW} {K : List Value → hW → Prop} {Y : Nat → hW → Prop} : hpv_LIrC g mc ms cs P R0 (.int a1 :: .ref a0 :: r) w K Y = (hRcv cs w.1 [.ref a0] ∧ se_c8 8 r ∧ P g a0 a1 w.1 w.2.1 ∧ w.2.2.1 ≤ mc ∧ w.2.2.2 ≤ ms ∧ K (.int (R0 g a0 a1 w.1 w.2.1) :: r) w) := rfl
theorem hpv_LIrC_ok {g : hG} {mc ms : Nat} {cs : List Nat} {P : hG → Nat → Int32 → hH → Nat → Prop} {R0 : hG → Nat → Int32 → hH → Nat → Int32} {p : Program} {l : Launch} {e : Env} {R : Room} {s : State} {m : MethodId} {args : Array Value} {below : List Frame} {meth : Method} {c : Code} {nL : Nat} {cc : ByteArray} {Q0 : State → Prop} {H0 : Heap} {ins : Instr} {len : Nat} (hS : se_Snd p l e R s m args below meth c Q0 nL (fun a => a) (hRM g H0) cc ins len (hov_LIrC g mc ms 0 0 cs P (fun g a0 a1 m n x m' n' => x = R0 g a0 a1 m n ∧ m' = m ∧ n' = n))) : se_Snd p l e R s m args below meth c Q0 nL (fun a => a) (hRM g H0) cc ins len (hpv_LIrC g mc ms cs P R0) :=
  hS.mono fun st w K Y h => by
    unfold hpv_LIrC at h
    split at h
    · rename_i a1 a0 r
      obtain ⟨hc, h8, hP, r1, r2, hq⟩ := h
      exact ⟨hc, h8, hP, r1, r2, fun x m' n' e _ _ => by
              obtain ⟨rfl, rfl, rfl⟩ := e
              exact hq⟩
    · exact h.elim
def hf_LIrC (g : hG) (mc ms : Nat) (P : hG → Nat → Int32 → hH → Nat → Prop) (R0 : hG → Nat → Int32 → hH → Nat → Int32) (F : hG → Nat → Int32 → hH → Nat → hH) : se_Op hW := fun st w K Y => match st with
  | .int a1 :: .ref a0 :: r => se_c8 8 r ∧ P g a0 a1 w.1 w.2.1 ∧ w.2.2.1 ≤ mc ∧ w.2.2.2 ≤ ms ∧ K (.int (R0 g a0 a1 w.1 w.2.1) :: r) (F g a0 a1 w.1 w.2.1, w.2)
  | _ => False
theorem hf_LIrC_r {g : hG} {mc ms : Nat} {P : hG → Nat → Int32 → hH → Nat → Prop} {R0 : hG → Nat → Int32 → hH → Nat → Int32} {F : hG → Nat → Int32 → hH → Nat → hH} {a0 : Nat} {a1 : Int32} {r : List Value} {w : hW} {K : List Value → hW → Prop} {Y : Nat → hW → Prop} : hf_LIrC g mc ms P R0 F (.int a1 :: .ref a0 :: r) w K Y = (se_c8 8 r ∧ P g a0 a1 w.1 w.2.1 ∧ w.2.2.1 ≤ mc ∧ w.2.2.2 ≤ ms ∧ K (.int (R0 g a0 a1 w.1 w.2.1) :: r) (F g a0 a1 w.1 w.2.1, w.2)) := rfl
theorem hf_LIrC_ok {g : hG} {mc ms : Nat} {P : hG → Nat → Int32 → hH → Nat → Prop} {R0 : hG → Nat → Int32 → hH → Nat → Int32} {F : hG → Nat → Int32 → hH → Nat → hH} {p : Program} {l : Launch} {e : Env} {R : Room} {s : State} {m : MethodId} {args : Array Value} {below : List Frame} {meth : Method} {c : Code} {nL : Nat} {cc : ByteArray} {Q0 : State → Prop} {H0 : Heap} {ins : Instr} {len : Nat} (hS : se_Snd p l e R s m args below meth c Q0 nL (fun a => a) (hRM g H0) cc ins len (ho_LIrC g mc ms 0 0 P (fun g a0 a1 m n x m' n' => x = R0 g a0 a1 m n ∧ m' = F g a0 a1 m n ∧ n' = n))) : se_Snd p l e R s m args below meth c Q0 nL (fun a => a) (hRM g H0) cc ins len (hf_LIrC g mc ms P R0 F) :=
  hS.mono fun st w K Y h => by
    unfold hf_LIrC at h
    split at h
    · rename_i a1 a0 r
      obtain ⟨h8, hP, r1, r2, hq⟩ := h
      exact ⟨h8, hP, r1, r2, fun x m' n' e _ _ => by
              obtain ⟨rfl, rfl, rfl⟩ := e
              exact hq⟩
    · exact h.elim
def hfv_LIrC (g : hG) (mc ms : Nat) (cs : List Nat) (P : hG → Nat → Int32 → hH → Nat → Prop) (R0 : hG → Nat → Int32 → hH → Nat → Int32) (F : hG → Nat → Int32 → hH → Nat → hH) : se_Op hW := fun st w K Y => match st with
  | .int a1 :: .ref a0 :: r => hRcv cs w.1 [.ref a0] ∧ se_c8 8 r ∧ P g a0 a1 w.1 w.2.1 ∧ w.2.2.1 ≤ mc ∧ w.2.2.2 ≤ ms ∧ K (.int (R0 g a0 a1 w.1 w.2.1) :: r) (F g a0 a1 w.1 w.2.1, w.2)
  | _ => False
theorem hfv_LIrC_r {g : hG} {mc ms : Nat} {cs : List Nat} {P : hG → Nat → Int32 → hH → Nat → Prop} {R0 : hG → Nat → Int32 → hH → Nat → Int32} {F : hG → Nat → Int32 → hH → Nat → hH} {a0 : Nat} {a1 : Int32} {r : List Value} {w : hW} {K : List Value → hW → Prop} {Y : Nat → hW → Prop} : hfv_LIrC g mc ms cs P R0 F (.int a1 :: .ref a0 :: r) w K Y = (hRcv cs w.1 [.ref a0] ∧ se_c8 8 r ∧ P g a0 a1 w.1 w.2.1 ∧ w.2.2.1 ≤ mc ∧ w.2.2.2 ≤ ms ∧ K (.int (R0 g a0 a1 w.1 w.2.1) :: r) (F g a0 a1 w.1 w.2.1, w.2)) := rfl
theorem hfv_LIrC_ok {g : hG} {mc ms : Nat} {cs : List Nat} {P : hG → Nat → Int32 → hH → Nat → Prop} {R0 : hG → Nat → Int32 → hH → Nat → Int32} {F : hG → Nat → Int32 → hH → Nat → hH} {p : Program} {l : Launch} {e : Env} {R : Room} {s : State} {m : MethodId} {args : Array Value} {below : List Frame} {meth : Method} {c : Code} {nL : Nat} {cc : ByteArray} {Q0 : State → Prop} {H0 : Heap} {ins : Instr} {len : Nat} (hS : se_Snd p l e R s m args below meth c Q0 nL (fun a => a) (hRM g H0) cc ins len (hov_LIrC g mc ms 0 0 cs P (fun g a0 a1 m n x m' n' => x = R0 g a0 a1 m n ∧ m' = F g a0 a1 m n ∧ n' = n))) : se_Snd p l e R s m args below meth c Q0 nL (fun a => a) (hRM g H0) cc ins len (hfv_LIrC g mc ms cs P R0 F) :=
  hS.mono fun st w K Y h => by
    unfold hfv_LIrC at h
    split at h
    · rename_i a1 a0 r
      obtain ⟨hc, h8, hP, r1, r2, hq⟩ := h
      exact ⟨hc, h8, hP, r1, r2, fun x m' n' e _ _ => by
              obtain ⟨rfl, rfl, rfl⟩ := e
              exact hq⟩
    · exact h.elim
def ht_LIrC (mc ms : Nat) (Q : hG → Nat → Int32 → hH → Nat → Int32 → hH → Nat → Prop) (g : hG) (a0 : Nat) (a1 : Int32) (m : hH) (n : Nat) : Option Value → hW → Prop := hRt (some .char) mc ms ((fun (g : hG) (av : List Value) (m : hH) (n : Nat) (v : Option Value) (m' : hH) (n' : Nat) => ∀ (a0 : Nat) (a1 : Int32), av = [.ref a0, .int a1] → ∃ x, v = some (.int x) ∧ Q g a0 a1 m n x m' n') g [.ref a0, .int a1] m n)
theorem ht_LIrC_e {mc ms : Nat} {Q : hG → Nat → Int32 → hH → Nat → Int32 → hH → Nat → Prop} {g : hG} {a0 : Nat} {a1 : Int32} {m : hH} {n : Nat} {w : hW} {z : Int32} (hz : narrow .char (.int z) = .int z) : ht_LIrC mc ms Q g a0 a1 m n (some (.int z)) w = (w.2.2.1 ≤ mc ∧ w.2.2.2 ≤ ms ∧ Q g a0 a1 m n z w.1 w.2.1) := by
  apply propext
  constructor
  · intro h
    obtain ⟨x, e, hq⟩ := h.2.2.2 _ _ rfl
    cases e
    exact ⟨h.2.1, h.2.2.1, hq⟩
  · intro h
    obtain ⟨h1, h2, h3⟩ := h
    exact ⟨⟨_, rfl, hz⟩, h1, h2, fun _ _ e => by
      cases e
      exact ⟨z, rfl, h3⟩⟩
theorem hm_LIrC_of {l : Launch} {y : MethodName} {own : String} {cc : ByteArray} {maxL fr lo mc ms : Nat} {P : hG → Nat → Int32 → hH → Nat → Prop} {Q : hG → Nat → Int32 → hH → Nat → Int32 → hH → Nat → Prop} {T : hG → Nat → Nat → se_Op hW} (hy : plainName y.cls = true) (hyc : y.cls = own) (hT : hTS l own y.name cc maxL (some .char) fr lo mc ms T) (hL : 2 ≤ maxL)
    (body : ∀ (g : hG) (a0 : Nat) (a1 : Int32) (m : hH) (n : Nat), hDom g m n → hVg g → P g a0 a1 m n → ∀ G : Nat → se_L → List Value → hW → Prop, (∀ (stops : List Nat) (f pc : Nat) (L : se_L) (st : List Value) (w : hW), wpN True (T g) cc stops G (hXt mc ms (hNoX g [.ref a0, .int a1] m n)) (ht_LIrC mc ms Q g a0 a1 m n) f pc L st w → G pc L st w) → G 0 (se_ent [.ref a0, .int a1] maxL) [] (m, n, 0, 0)) : hm_LIrC l y (ws_ y cc maxL (some .char)) fr lo mc ms P Q :=
  hOf hy hyc hT (fun g av m n h => by
    obtain ⟨a0, a1, rfl, _⟩ := h
    exact hL) (fun g av m n h1 h2 hp G hG => by
    obtain ⟨a0, a1, rfl, hp⟩ := hp
    exact body g a0 a1 m n h1 h2 hp G hG)
abbrev hm_LIrI (l : Launch) (y : MethodName) (ws : List Cond) (fr lo mc ms : Nat) (P : hG → Nat → Int32 → hH → Nat → Prop) (Q : hG → Nat → Int32 → hH → Nat → Int32 → hH → Nat → Prop) : Prop := hCon l y ws fr lo mc ms (fun (g : hG) (av : List Value) (m : hH) (n : Nat) => ∃ (a0 : Nat) (a1 : Int32), av = [.ref a0, .int a1] ∧ P g a0 a1 m n) (fun (g : hG) (av : List Value) (m : hH) (n : Nat) (v : Option Value) (m' : hH) (n' : Nat) => ∀ (a0 : Nat) (a1 : Int32), av = [.ref a0, .int a1] → ∃ x, v = some (.int x) ∧ Q g a0 a1 m n x m' n') hNoX
def ho_LIrI (g : hG) (mc ms mc' ms' : Nat) (P : hG → Nat → Int32 → hH → Nat → Prop) (Q : hG → Nat → Int32 → hH → Nat → Int32 → hH → Nat → Prop) : se_Op hW := fun st w K Y => match st with
  | .int a1 :: .ref a0 :: r => se_c8 8 r ∧ P g a0 a1 w.1 w.2.1 ∧ w.2.2.1 + mc' ≤ mc ∧ w.2.2.2 + ms' ≤ ms ∧ ∀ x m' n', Q g a0 a1 w.1 w.2.1 x m' n' → hDom g m' n' → w.2.1 ≤ n' → K (.int x :: r) (m', n', w.2.2.1 + mc', w.2.2.2 + ms')
  | _ => False
theorem ho_LIrI_r {g : hG} {mc ms mc' ms' : Nat} {P : hG → Nat → Int32 → hH → Nat → Prop} {Q : hG → Nat → Int32 → hH → Nat → Int32 → hH → Nat → Prop} {a0 : Nat} {a1 : Int32} {r : List Value} {w : hW} {K : List Value → hW → Prop} {Y : Nat → hW → Prop} : ho_LIrI g mc ms mc' ms' P Q (.int a1 :: .ref a0 :: r) w K Y = (se_c8 8 r ∧ P g a0 a1 w.1 w.2.1 ∧ w.2.2.1 + mc' ≤ mc ∧ w.2.2.2 + ms' ≤ ms ∧ ∀ x m' n', Q g a0 a1 w.1 w.2.1 x m' n' → hDom g m' n' → w.2.1 ≤ n' → K (.int x :: r) (m', n', w.2.2.1 + mc', w.2.2.2 + ms')) := rfl
theorem ho_LIrI_ok {g : hG} {mc ms mc' ms' : Nat} {P : hG → Nat → Int32 → hH → Nat → Prop} {Q : hG → Nat → Int32 → hH → Nat → Int32 → hH → Nat → Prop} {p : Program} {l : Launch} {e : Env} {R : Room} {s : State} {m : MethodId} {args : Array Value} {below : List Frame} {meth : Method} {c : Code} {nL : Nat} {cc : ByteArray} {Q0 : State → Prop} {H0 : Heap} {ins : Instr} {len : Nat} (hS : se_Snd p l e R s m args below meth c Q0 nL (fun a => a) (hRM g H0) cc ins len (hCS g 2 mc ms mc' ms' (fun (g : hG) (av : List Value) (m : hH) (n : Nat) => ∃ (a0 : Nat) (a1 : Int32), av = [.ref a0, .int a1] ∧ P g a0 a1 m n) (fun (g : hG) (av : List Value) (m : hH) (n : Nat) (v : Option Value) (m' : hH) (n' : Nat) => ∀ (a0 : Nat) (a1 : Int32), av = [.ref a0, .int a1] → ∃ x, v = some (.int x) ∧ Q g a0 a1 m n x m' n') hNoX)) : se_Snd p l e R s m args below meth c Q0 nL (fun a => a) (hRM g H0) cc ins len (ho_LIrI g mc ms mc' ms' P Q) :=
  hS.mono fun st w K Y h => by
    unfold ho_LIrI at h
    split at h
    · rename_i a1 a0 r
      obtain ⟨h8, hP, r1, r2, hq⟩ := h
      exact (⟨h8, ⟨a0, a1, rfl, hP⟩, r1, r2, fun v m' n' hp hi hn => by
              obtain ⟨x, rfl, hx⟩ := hp a0 a1 rfl
              exact hq x m' n' hx hi hn, fun b m' n' hp => hp.elim⟩ : hGo g mc ms mc' ms' ((fun (g : hG) (av : List Value) (m : hH) (n : Nat) => ∃ (a0 : Nat) (a1 : Int32), av = [.ref a0, .int a1] ∧ P g a0 a1 m n) g) ((fun (g : hG) (av : List Value) (m : hH) (n : Nat) (v : Option Value) (m' : hH) (n' : Nat) => ∀ (a0 : Nat) (a1 : Int32), av = [.ref a0, .int a1] → ∃ x, v = some (.int x) ∧ Q g a0 a1 m n x m' n') g) (hNoX g) [.ref a0, .int a1] r w K Y)
    · exact h.elim
def hov_LIrI (g : hG) (mc ms mc' ms' : Nat) (cs : List Nat) (P : hG → Nat → Int32 → hH → Nat → Prop) (Q : hG → Nat → Int32 → hH → Nat → Int32 → hH → Nat → Prop) : se_Op hW := fun st w K Y => match st with
  | .int a1 :: .ref a0 :: r => hRcv cs w.1 [.ref a0] ∧ se_c8 8 r ∧ P g a0 a1 w.1 w.2.1 ∧ w.2.2.1 + mc' ≤ mc ∧ w.2.2.2 + ms' ≤ ms ∧ ∀ x m' n', Q g a0 a1 w.1 w.2.1 x m' n' → hDom g m' n' → w.2.1 ≤ n' → K (.int x :: r) (m', n', w.2.2.1 + mc', w.2.2.2 + ms')
  | _ => False
theorem hov_LIrI_r {g : hG} {mc ms mc' ms' : Nat} {cs : List Nat} {P : hG → Nat → Int32 → hH → Nat → Prop} {Q : hG → Nat → Int32 → hH → Nat → Int32 → hH → Nat → Prop} {a0 : Nat} {a1 : Int32} {r : List Value} {w : hW} {K : List Value → hW → Prop} {Y : Nat → hW → Prop} : hov_LIrI g mc ms mc' ms' cs P Q (.int a1 :: .ref a0 :: r) w K Y = (hRcv cs w.1 [.ref a0] ∧ se_c8 8 r ∧ P g a0 a1 w.1 w.2.1 ∧ w.2.2.1 + mc' ≤ mc ∧ w.2.2.2 + ms' ≤ ms ∧ ∀ x m' n', Q g a0 a1 w.1 w.2.1 x m' n' → hDom g m' n' → w.2.1 ≤ n' → K (.int x :: r) (m', n', w.2.2.1 + mc', w.2.2.2 + ms')) := rfl
theorem hov_LIrI_ok {g : hG} {mc ms mc' ms' : Nat} {cs : List Nat} {P : hG → Nat → Int32 → hH → Nat → Prop} {Q : hG → Nat → Int32 → hH → Nat → Int32 → hH → Nat → Prop} {p : Program} {l : Launch} {e : Env} {R : Room} {s : State} {m : MethodId} {args : Array Value} {below : List Frame} {meth : Method} {c : Code} {nL : Nat} {cc : ByteArray} {Q0 : State → Prop} {H0 : Heap} {ins : Instr} {len : Nat} (hS : se_Snd p l e R s m args below meth c Q0 nL (fun a => a) (hRM g H0) cc ins len (hCV g 1 mc ms mc' ms' cs (fun (g : hG) (av : List Value) (m : hH) (n : Nat) => ∃ (a0 : Nat) (a1 : Int32), av = [.ref a0, .int a1] ∧ P g a0 a1 m n) (fun (g : hG) (av : List Value) (m : hH) (n : Nat) (v : Option Value) (m' : hH) (n' : Nat) => ∀ (a0 : Nat) (a1 : Int32), av = [.ref a0, .int a1] → ∃ x, v = some (.int x) ∧ Q g a0 a1 m n x m' n') hNoX)) : se_Snd p l e R s m args below meth c Q0 nL (fun a => a) (hRM g H0) cc ins len (hov_LIrI g mc ms mc' ms' cs P Q) :=
  hS.mono fun st w K Y h => by
    unfold hov_LIrI at h
    split at h
    · rename_i a1 a0 r
      obtain ⟨hc, h8, hP, r1, r2, hq⟩ := h
      exact (⟨hc, h8, ⟨a0, a1, rfl, hP⟩, r1, r2, fun v m' n' hp hi hn => by
              obtain ⟨x, rfl, hx⟩ := hp a0 a1 rfl
              exact hq x m' n' hx hi hn, fun b m' n' hp => hp.elim⟩ : (hRcv cs w.1 [.ref a0, .int a1] ∧ hGo g mc ms mc' ms' ((fun (g : hG) (av : List Value) (m : hH) (n : Nat) => ∃ (a0 : Nat) (a1 : Int32), av = [.ref a0, .int a1] ∧ P g a0 a1 m n) g) ((fun (g : hG) (av : List Value) (m : hH) (n : Nat) (v : Option Value) (m' : hH) (n' : Nat) => ∀ (a0 : Nat) (a1 : Int32), av = [.ref a0, .int a1] → ∃ x, v = some (.int x) ∧ Q g a0 a1 m n x m' n') g) (hNoX g) [.ref a0, .int a1] r w K Y))
    · exact h.elim
def hp_LIrI (g : hG) (mc ms : Nat) (P : hG → Nat → Int32 → hH → Nat → Prop) (R0 : hG → Nat → Int32 → hH → Nat → Int32) : se_Op hW := fun st w K Y => match st with
  | .int a1 :: .ref a0 :: r => se_c8 8 r ∧ P g a0 a1 w.1 w.2.1 ∧ w.2.2.1 ≤ mc ∧ w.2.2.2 ≤ ms ∧ K (.int (R0 g a0 a1 w.1 w.2.1) :: r) w
  | _ => False
theorem hp_LIrI_r {g : hG} {mc ms : Nat} {P : hG → Nat → Int32 → hH → Nat → Prop} {R0 : hG → Nat → Int32 → hH → Nat → Int32} {a0 : Nat} {a1 : Int32} {r : List Value} {w : hW} {K : List Value → hW → Prop} {Y : Nat → hW → Prop} : hp_LIrI g mc ms P R0 (.int a1 :: .ref a0 :: r) w K Y = (se_c8 8 r ∧ P g a0 a1 w.1 w.2.1 ∧ w.2.2.1 ≤ mc ∧ w.2.2.2 ≤ ms ∧ K (.int (R0 g a0 a1 w.1 w.2.1) :: r) w) := rfl
theorem hp_LIrI_ok {g : hG} {mc ms : Nat} {P : hG → Nat → Int32 → hH → Nat → Prop} {R0 : hG → Nat → Int32 → hH → Nat → Int32} {p : Program} {l : Launch} {e : Env} {R : Room} {s : State} {m : MethodId} {args : Array Value} {below : List Frame} {meth : Method} {c : Code} {nL : Nat} {cc : ByteArray} {Q0 : State → Prop} {H0 : Heap} {ins : Instr} {len : Nat} (hS : se_Snd p l e R s m args below meth c Q0 nL (fun a => a) (hRM g H0) cc ins len (ho_LIrI g mc ms 0 0 P (fun g a0 a1 m n x m' n' => x = R0 g a0 a1 m n ∧ m' = m ∧ n' = n))) : se_Snd p l e R s m args below meth c Q0 nL (fun a => a) (hRM g H0) cc ins len (hp_LIrI g mc ms P R0) :=
  hS.mono fun st w K Y h => by
    unfold hp_LIrI at h
    split at h
    · rename_i a1 a0 r
      obtain ⟨h8, hP, r1, r2, hq⟩ := h
      exact ⟨h8, hP, r1, r2, fun x m' n' e _ _ => by
              obtain ⟨rfl, rfl, rfl⟩ := e
              exact hq⟩
    · exact h.elim
def hpv_LIrI (g : hG) (mc ms : Nat) (cs : List Nat) (P : hG → Nat → Int32 → hH → Nat → Prop) (R0 : hG → Nat → Int32 → hH → Nat → Int32) : se_Op hW := fun st w K Y => match st with
  | .int a1 :: .ref a0 :: r => hRcv cs w.1 [.ref a0] ∧ se_c8 8 r ∧ P g a0 a1 w.1 w.2.1 ∧ w.2.2.1 ≤ mc ∧ w.2.2.2 ≤ ms ∧ K (.int (R0 g a0 a1 w.1 w.2.1) :: r) w
  | _ => False
theorem hpv_LIrI_r {g : hG} {mc ms : Nat} {cs : List Nat} {P : hG → Nat → Int32 → hH → Nat → Prop} {R0 : hG → Nat → Int32 → hH → Nat → Int32} {a0 : Nat} {a1 : Int32} {r : List Value} {w : hW} {K : List Value → hW → Prop} {Y : Nat → hW → Prop} : hpv_LIrI g mc ms cs P R0 (.int a1 :: .ref a0 :: r) w K Y = (hRcv cs w.1 [.ref a0] ∧ se_c8 8 r ∧ P g a0 a1 w.1 w.2.1 ∧ w.2.2.1 ≤ mc ∧ w.2.2.2 ≤ ms ∧ K (.int (R0 g a0 a1 w.1 w.2.1) :: r) w) := rfl
theorem hpv_LIrI_ok {g : hG} {mc ms : Nat} {cs : List Nat} {P : hG → Nat → Int32 → hH → Nat → Prop} {R0 : hG → Nat → Int32 → hH → Nat → Int32} {p : Program} {l : Launch} {e : Env} {R : Room} {s : State} {m : MethodId} {args : Array Value} {below : List Frame} {meth : Method} {c : Code} {nL : Nat} {cc : ByteArray} {Q0 : State → Prop} {H0 : Heap} {ins : Instr} {len : Nat} (hS : se_Snd p l e R s m args below meth c Q0 nL (fun a => a) (hRM g H0) cc ins len (hov_LIrI g mc ms 0 0 cs P (fun g a0 a1 m n x m' n' => x = R0 g a0 a1 m n ∧ m' = m ∧ n' = n))) : se_Snd p l e R s m args below meth c Q0 nL (fun a => a) (hRM g H0) cc ins len (hpv_LIrI g mc ms cs P R0) :=
  hS.mono fun st w K Y h => by
    unfold hpv_LIrI at h
    split at h
    · rename_i a1 a0 r
      obtain ⟨hc, h8, hP, r1, r2, hq⟩ := h
      exact ⟨hc, h8, hP, r1, r2, fun x m' n' e _ _ => by
              obtain ⟨rfl, rfl, rfl⟩ := e
              exact hq⟩
    · exact h.elim
def hf_LIrI (g : hG) (mc ms : Nat) (P : hG → Nat → Int32 → hH → Nat → Prop) (R0 : hG → Nat → Int32 → hH → Nat → Int32) (F : hG → Nat → Int32 → hH → Nat → hH) : se_Op hW := fun st w K Y => match st with
  | .int a1 :: .ref a0 :: r => se_c8 8 r ∧ P g a0 a1 w.1 w.2.1 ∧ w.2.2.1 ≤ mc ∧ w.2.2.2 ≤ ms ∧ K (.int (R0 g a0 a1 w.1 w.2.1) :: r) (F g a0 a1 w.1 w.2.1, w.2)
  | _ => False
theorem hf_LIrI_r {g : hG} {mc ms : Nat} {P : hG → Nat → Int32 → hH → Nat → Prop} {R0 : hG → Nat → Int32 → hH → Nat → Int32} {F : hG → Nat → Int32 → hH → Nat → hH} {a0 : Nat} {a1 : Int32} {r : List Value} {w : hW} {K : List Value → hW → Prop} {Y : Nat → hW → Prop} : hf_LIrI g mc ms P R0 F (.int a1 :: .ref a0 :: r) w K Y = (se_c8 8 r ∧ P g a0 a1 w.1 w.2.1 ∧ w.2.2.1 ≤ mc ∧ w.2.2.2 ≤ ms ∧ K (.int (R0 g a0 a1 w.1 w.2.1) :: r) (F g a0 a1 w.1 w.2.1, w.2)) := rfl
theorem hf_LIrI_ok {g : hG} {mc ms : Nat} {P : hG → Nat → Int32 → hH → Nat → Prop} {R0 : hG → Nat → Int32 → hH → Nat → Int32} {F : hG → Nat → Int32 → hH → Nat → hH} {p : Program} {l : Launch} {e : Env} {R : Room} {s : State} {m : MethodId} {args : Array Value} {below : List Frame} {meth : Method} {c : Code} {nL : Nat} {cc : ByteArray} {Q0 : State → Prop} {H0 : Heap} {ins : Instr} {len : Nat} (hS : se_Snd p l e R s m args below meth c Q0 nL (fun a => a) (hRM g H0) cc ins len (ho_LIrI g mc ms 0 0 P (fun g a0 a1 m n x m' n' => x = R0 g a0 a1 m n ∧ m' = F g a0 a1 m n ∧ n' = n))) : se_Snd p l e R s m args below meth c Q0 nL (fun a => a) (hRM g H0) cc ins len (hf_LIrI g mc ms P R0 F) :=
  hS.mono fun st w K Y h => by
    unfold hf_LIrI at h
    split at h
    · rename_i a1 a0 r
      obtain ⟨h8, hP, r1, r2, hq⟩ := h
      exact ⟨h8, hP, r1, r2, fun x m' n' e _ _ => by
              obtain ⟨rfl, rfl, rfl⟩ := e
              exact hq⟩
    · exact h.elim
def hfv_LIrI (g : hG) (mc ms : Nat) (cs : List Nat) (P : hG → Nat → Int32 → hH → Nat → Prop) (R0 : hG → Nat → Int32 → hH → Nat → Int32) (F : hG → Nat → Int32 → hH → Nat → hH) : se_Op hW := fun st w K Y => match st with
  | .int a1 :: .ref a0 :: r => hRcv cs w.1 [.ref a0] ∧ se_c8 8 r ∧ P g a0 a1 w.1 w.2.1 ∧ w.2.2.1 ≤ mc ∧ w.2.2.2 ≤ ms ∧ K (.int (R0 g a0 a1 w.1 w.2.1) :: r) (F g a0 a1 w.1 w.2.1, w.2)
  | _ => False
theorem hfv_LIrI_r {g : hG} {mc ms : Nat} {cs : List Nat} {P : hG → Nat → Int32 → hH → Nat → Prop} {R0 : hG → Nat → Int32 → hH → Nat → Int32} {F : hG → Nat → Int32 → hH → Nat → hH} {a0 : Nat} {a1 : Int32} {r : List Value} {w : hW} {K : List Value → hW → Prop} {Y : Nat → hW → Prop} : hfv_LIrI g mc ms cs P R0 F (.int a1 :: .ref a0 :: r) w K Y = (hRcv cs w.1 [.ref a0] ∧ se_c8 8 r ∧ P g a0 a1 w.1 w.2.1 ∧ w.2.2.1 ≤ mc ∧ w.2.2.2 ≤ ms ∧ K (.int (R0 g a0 a1 w.1 w.2.1) :: r) (F g a0 a1 w.1 w.2.1, w.2)) := rfl
theorem hfv_LIrI_ok {g : hG} {mc ms : Nat} {cs : List Nat} {P : hG → Nat → Int32 → hH → Nat → Prop} {R0 : hG → Nat → Int32 → hH → Nat → Int32} {F : hG → Nat → Int32 → hH → Nat → hH} {p : Program} {l : Launch} {e : Env} {R : Room} {s : State} {m : MethodId} {args : Array Value} {below : List Frame} {meth : Method} {c : Code} {nL : Nat} {cc : ByteArray} {Q0 : State → Prop} {H0 : Heap} {ins : Instr} {len : Nat} (hS : se_Snd p l e R s m args below meth c Q0 nL (fun a => a) (hRM g H0) cc ins len (hov_LIrI g mc ms 0 0 cs P (fun g a0 a1 m n x m' n' => x = R0 g a0 a1 m n ∧ m' = F g a0 a1 m n ∧ n' = n))) : se_Snd p l e R s m args below meth c Q0 nL (fun a => a) (hRM g H0) cc ins len (hfv_LIrI g mc ms cs P R0 F) :=
  hS.mono fun st w K Y h => by
    unfold hfv_LIrI at h
    split at h
    · rename_i a1 a0 r
      obtain ⟨hc, h8, hP, r1, r2, hq⟩ := h
      exact ⟨hc, h8, hP, r1, r2, fun x m' n' e _ _ => by
              obtain ⟨rfl, rfl, rfl⟩ := e
              exact hq⟩
    · exact h.elim
def ht_LIrI (mc ms : Nat) (Q : hG → Nat → Int32 → hH → Nat → Int32 → hH → Nat → Prop) (g : hG) (a0 : Nat) (a1 : Int32) (m : hH) (n : Nat) : Option Value → hW → Prop := hRt (some .int) mc ms ((fun (g : hG) (av : List Value) (m : hH) (n : Nat) (v : Option Value) (m' : hH) (n' : Nat) => ∀ (a0 : Nat) (a1 : Int32), av = [.ref a0, .int a1] → ∃ x, v = some (.int x) ∧ Q g a0 a1 m n x m' n') g [.ref a0, .int a1] m n)
theorem ht_LIrI_e {mc ms : Nat} {Q : hG → Nat → Int32 → hH → Nat → Int32 → hH → Nat → Prop} {g : hG} {a0 : Nat} {a1 : Int32} {m : hH} {n : Nat} {w : hW} {z : Int32} : ht_LIrI mc ms Q g a0 a1 m n (some (.int z)) w = (w.2.2.1 ≤ mc ∧ w.2.2.2 ≤ ms ∧ Q g a0 a1 m n z w.1 w.2.1) := by
  apply propext
  constructor
  · intro h
    obtain ⟨x, e, hq⟩ := h.2.2.2 _ _ rfl
    cases e
    exact ⟨h.2.1, h.2.2.1, hq⟩
  · intro h
    obtain ⟨h1, h2, h3⟩ := h
    exact ⟨⟨_, rfl, rfl⟩, h1, h2, fun _ _ e => by
      cases e
      exact ⟨z, rfl, h3⟩⟩
theorem hm_LIrI_of {l : Launch} {y : MethodName} {own : String} {cc : ByteArray} {maxL fr lo mc ms : Nat} {P : hG → Nat → Int32 → hH → Nat → Prop} {Q : hG → Nat → Int32 → hH → Nat → Int32 → hH → Nat → Prop} {T : hG → Nat → Nat → se_Op hW} (hy : plainName y.cls = true) (hyc : y.cls = own) (hT : hTS l own y.name cc maxL (some .int) fr lo mc ms T) (hL : 2 ≤ maxL)
    (body : ∀ (g : hG) (a0 : Nat) (a1 : Int32) (m : hH) (n : Nat), hDom g m n → hVg g → P g a0 a1 m n → ∀ G : Nat → se_L → List Value → hW → Prop, (∀ (stops : List Nat) (f pc : Nat) (L : se_L) (st : List Value) (w : hW), wpN True (T g) cc stops G (hXt mc ms (hNoX g [.ref a0, .int a1] m n)) (ht_LIrI mc ms Q g a0 a1 m n) f pc L st w → G pc L st w) → G 0 (se_ent [.ref a0, .int a1] maxL) [] (m, n, 0, 0)) : hm_LIrI l y (ws_ y cc maxL (some .int)) fr lo mc ms P Q :=
  hOf hy hyc hT (fun g av m n h => by
    obtain ⟨a0, a1, rfl, _⟩ := h
    exact hL) (fun g av m n h1 h2 hp G hG => by
    obtain ⟨a0, a1, rfl, hp⟩ := hp
    exact body g a0 a1 m n h1 h2 hp G hG)
abbrev hm_LIrL (l : Launch) (y : MethodName) (ws : List Cond) (fr lo mc ms : Nat) (P : hG → Nat → Int32 → hH → Nat → Prop) (Q : hG → Nat → Int32 → hH → Nat → Option Nat → hH → Nat → Prop) : Prop := hCon l y ws fr lo mc ms (fun (g : hG) (av : List Value) (m : hH) (n : Nat) => ∃ (a0 : Nat) (a1 : Int32), av = [.ref a0, .int a1] ∧ P g a0 a1 m n) (fun (g : hG) (av : List Value) (m : hH) (n : Nat) (v : Option Value) (m' : hH) (n' : Nat) => ∀ (a0 : Nat) (a1 : Int32), av = [.ref a0, .int a1] → ∃ x, v = some (va_rf x) ∧ Q g a0 a1 m n x m' n') hNoX
def ho_LIrL (g : hG) (mc ms mc' ms' : Nat) (P : hG → Nat → Int32 → hH → Nat → Prop) (Q : hG → Nat → Int32 → hH → Nat → Option Nat → hH → Nat → Prop) : se_Op hW := fun st w K Y => match st with
  | .int a1 :: .ref a0 :: r => se_c8 8 r ∧ P g a0 a1 w.1 w.2.1 ∧ w.2.2.1 + mc' ≤ mc ∧ w.2.2.2 + ms' ≤ ms ∧ ∀ x m' n', Q g a0 a1 w.1 w.2.1 x m' n' → hDom g m' n' → w.2.1 ≤ n' → K (va_rf x :: r) (m', n', w.2.2.1 + mc', w.2.2.2 + ms')
  | _ => False
theorem ho_LIrL_r {g : hG} {mc ms mc' ms' : Nat} {P : hG → Nat → Int32 → hH → Nat → Prop} {Q : hG → Nat → Int32 → hH → Nat → Option Nat → hH → Nat → Prop} {a0 : Nat} {a1 : Int32} {r : List Value} {w : hW} {K : List Value → hW → Prop} {Y : Nat → hW → Prop} : ho_LIrL g mc ms mc' ms' P Q (.int a1 :: .ref a0 :: r) w K Y = (se_c8 8 r ∧ P g a0 a1 w.1 w.2.1 ∧ w.2.2.1 + mc' ≤ mc ∧ w.2.2.2 + ms' ≤ ms ∧ ∀ x m' n', Q g a0 a1 w.1 w.2.1 x m' n' → hDom g m' n' → w.2.1 ≤ n' → K (va_rf x :: r) (m', n', w.2.2.1 + mc', w.2.2.2 + ms')) := rfl
theorem ho_LIrL_ok {g : hG} {mc ms mc' ms' : Nat} {P : hG → Nat → Int32 → hH → Nat → Prop} {Q : hG → Nat → Int32 → hH → Nat → Option Nat → hH → Nat → Prop} {p : Program} {l : Launch} {e : Env} {R : Room} {s : State} {m : MethodId} {args : Array Value} {below : List Frame} {meth : Method} {c : Code} {nL : Nat} {cc : ByteArray} {Q0 : State → Prop} {H0 : Heap} {ins : Instr} {len : Nat} (hS : se_Snd p l e R s m args below meth c Q0 nL (fun a => a) (hRM g H0) cc ins len (hCS g 2 mc ms mc' ms' (fun (g : hG) (av : List Value) (m : hH) (n : Nat) => ∃ (a0 : Nat) (a1 : Int32), av = [.ref a0, .int a1] ∧ P g a0 a1 m n) (fun (g : hG) (av : List Value) (m : hH) (n : Nat) (v : Option Value) (m' : hH) (n' : Nat) => ∀ (a0 : Nat) (a1 : Int32), av = [.ref a0, .int a1] → ∃ x, v = some (va_rf x) ∧ Q g a0 a1 m n x m' n') hNoX)) : se_Snd p l e R s m args below meth c Q0 nL (fun a => a) (hRM g H0) cc ins len (ho_LIrL g mc ms mc' ms' P Q) :=
  hS.mono fun st w K Y h => by
    unfold ho_LIrL at h
    split at h
    · rename_i a1 a0 r
      obtain ⟨h8, hP, r1, r2, hq⟩ := h
      exact (⟨h8, ⟨a0, a1, rfl, hP⟩, r1, r2, fun v m' n' hp hi hn => by
              obtain ⟨x, rfl, hx⟩ := hp a0 a1 rfl
              exact hq x m' n' hx hi hn, fun b m' n' hp => hp.elim⟩ : hGo g mc ms mc' ms' ((fun (g : hG) (av : List Value) (m : hH) (n : Nat) => ∃ (a0 : Nat) (a1 : Int32), av = [.ref a0, .int a1] ∧ P g a0 a1 m n) g) ((fun (g : hG) (av : List Value) (m : hH) (n : Nat) (v : Option Value) (m' : hH) (n' : Nat) => ∀ (a0 : Nat) (a1 : Int32), av = [.ref a0, .int a1] → ∃ x, v = some (va_rf x) ∧ Q g a0 a1 m n x m' n') g) (hNoX g) [.ref a0, .int a1] r w K Y)
    · exact h.elim
def hov_LIrL (g : hG) (mc ms mc' ms' : Nat) (cs : List Nat) (P : hG → Nat → Int32 → hH → Nat → Prop) (Q : hG → Nat → Int32 → hH → Nat → Option Nat → hH → Nat → Prop) : se_Op hW := fun st w K Y => match st with
  | .int a1 :: .ref a0 :: r => hRcv cs w.1 [.ref a0] ∧ se_c8 8 r ∧ P g a0 a1 w.1 w.2.1 ∧ w.2.2.1 + mc' ≤ mc ∧ w.2.2.2 + ms' ≤ ms ∧ ∀ x m' n', Q g a0 a1 w.1 w.2.1 x m' n' → hDom g m' n' → w.2.1 ≤ n' → K (va_rf x :: r) (m', n', w.2.2.1 + mc', w.2.2.2 + ms')
  | _ => False
theorem hov_LIrL_r {g : hG} {mc ms mc' ms' : Nat} {cs : List Nat} {P : hG → Nat → Int32 → hH → Nat → Prop} {Q : hG → Nat → Int32 → hH → Nat → Option Nat → hH → Nat → Prop} {a0 : Nat} {a1 : Int32} {r : List Value} {w : hW} {K : List Value → hW → Prop} {Y : Nat → hW → Prop} : hov_LIrL g mc ms mc' ms' cs P Q (.int a1 :: .ref a0 :: r) w K Y = (hRcv cs w.1 [.ref a0] ∧ se_c8 8 r ∧ P g a0 a1 w.1 w.2.1 ∧ w.2.2.1 + mc' ≤ mc ∧ w.2.2.2 + ms' ≤ ms ∧ ∀ x m' n', Q g a0 a1 w.1 w.2.1 x m' n' → hDom g m' n' → w.2.1 ≤ n' → K (va_rf x :: r) (m', n', w.2.2.1 + mc', w.2.2.2 + ms')) := rfl
theorem hov_LIrL_ok {g : hG} {mc ms mc' ms' : Nat} {cs : List Nat} {P : hG → Nat → Int32 → hH → Nat → Prop} {Q : hG → Nat → Int32 → hH → Nat → Option Nat → hH → Nat → Prop} {p : Program} {l : Launch} {e : Env} {R : Room} {s : State} {m : MethodId} {args : Array Value} {below : List Frame} {meth : Method} {c : Code} {nL : Nat} {cc : ByteArray} {Q0 : State → Prop} {H0 : Heap} {ins : Instr} {len : Nat} (hS : se_Snd p l e R s m args below meth c Q0 nL (fun a => a) (hRM g H0) cc ins len (hCV g 1 mc ms mc' ms' cs (fun (g : hG) (av : List Value) (m : hH) (n : Nat) => ∃ (a0 : Nat) (a1 : Int32), av = [.ref a0, .int a1] ∧ P g a0 a1 m n) (fun (g : hG) (av : List Value) (m : hH) (n : Nat) (v : Option Value) (m' : hH) (n' : Nat) => ∀ (a0 : Nat) (a1 : Int32), av = [.ref a0, .int a1] → ∃ x, v = some (va_rf x) ∧ Q g a0 a1 m n x m' n') hNoX)) : se_Snd p l e R s m args below meth c Q0 nL (fun a => a) (hRM g H0) cc ins len (hov_LIrL g mc ms mc' ms' cs P Q) :=
  hS.mono fun st w K Y h => by
    unfold hov_LIrL at h
    split at h
    · rename_i a1 a0 r
      obtain ⟨hc, h8, hP, r1, r2, hq⟩ := h
      exact (⟨hc, h8, ⟨a0, a1, rfl, hP⟩, r1, r2, fun v m' n' hp hi hn => by
              obtain ⟨x, rfl, hx⟩ := hp a0 a1 rfl
              exact hq x m' n' hx hi hn, fun b m' n' hp => hp.elim⟩ : (hRcv cs w.1 [.ref a0, .int a1] ∧ hGo g mc ms mc' ms' ((fun (g : hG) (av : List Value) (m : hH) (n : Nat) => ∃ (a0 : Nat) (a1 : Int32), av = [.ref a0, .int a1] ∧ P g a0 a1 m n) g) ((fun (g : hG) (av : List Value) (m : hH) (n : Nat) (v : Option Value) (m' : hH) (n' : Nat) => ∀ (a0 : Nat) (a1 : Int32), av = [.ref a0, .int a1] → ∃ x, v = some (va_rf x) ∧ Q g a0 a1 m n x m' n') g) (hNoX g) [.ref a0, .int a1] r w K Y))
    · exact h.elim
def hp_LIrL (g : hG) (mc ms : Nat) (P : hG → Nat → Int32 → hH → Nat → Prop) (R0 : hG → Nat → Int32 → hH → Nat → Option Nat) : se_Op hW := fun st w K Y => match st with
  | .int a1 :: .ref a0 :: r => se_c8 8 r ∧ P g a0 a1 w.1 w.2.1 ∧ w.2.2.1 ≤ mc ∧ w.2.2.2 ≤ ms ∧ K (va_rf (R0 g a0 a1 w.1 w.2.1) :: r) w
  | _ => False
theorem hp_LIrL_r {g : hG} {mc ms : Nat} {P : hG → Nat → Int32 → hH → Nat → Prop} {R0 : hG → Nat → Int32 → hH → Nat → Option Nat} {a0 : Nat} {a1 : Int32} {r : List Value} {w : hW} {K : List Value → hW → Prop} {Y : Nat → hW → Prop} : hp_LIrL g mc ms P R0 (.int a1 :: .ref a0 :: r) w K Y = (se_c8 8 r ∧ P g a0 a1 w.1 w.2.1 ∧ w.2.2.1 ≤ mc ∧ w.2.2.2 ≤ ms ∧ K (va_rf (R0 g a0 a1 w.1 w.2.1) :: r) w) := rfl
theorem hp_LIrL_ok {g : hG} {mc ms : Nat} {P : hG → Nat → Int32 → hH → Nat → Prop} {R0 : hG → Nat → Int32 → hH → Nat → Option Nat} {p : Program} {l : Launch} {e : Env} {R : Room} {s : State} {m : MethodId} {args : Array Value} {below : List Frame} {meth : Method} {c : Code} {nL : Nat} {cc : ByteArray} {Q0 : State → Prop} {H0 : Heap} {ins : Instr} {len : Nat} (hS : se_Snd p l e R s m args below meth c Q0 nL (fun a => a) (hRM g H0) cc ins len (ho_LIrL g mc ms 0 0 P (fun g a0 a1 m n x m' n' => x = R0 g a0 a1 m n ∧ m' = m ∧ n' = n))) : se_Snd p l e R s m args below meth c Q0 nL (fun a => a) (hRM g H0) cc ins len (hp_LIrL g mc ms P R0) :=
  hS.mono fun st w K Y h => by
    unfold hp_LIrL at h
    split at h
    · rename_i a1 a0 r
      obtain ⟨h8, hP, r1, r2, hq⟩ := h
      exact ⟨h8, hP, r1, r2, fun x m' n' e _ _ => by
              obtain ⟨rfl, rfl, rfl⟩ := e
              exact hq⟩
    · exact h.elim
def hpv_LIrL (g : hG) (mc ms : Nat) (cs : List Nat) (P : hG → Nat → Int32 → hH → Nat → Prop) (R0 : hG → Nat → Int32 → hH → Nat → Option Nat) : se_Op hW := fun st w K Y => match st with
  | .int a1 :: .ref a0 :: r => hRcv cs w.1 [.ref a0] ∧ se_c8 8 r ∧ P g a0 a1 w.1 w.2.1 ∧ w.2.2.1 ≤ mc ∧ w.2.2.2 ≤ ms ∧ K (va_rf (R0 g a0 a1 w.1 w.2.1) :: r) w
  | _ => False
theorem hpv_LIrL_r {g : hG} {mc ms : Nat} {cs : List Nat} {P : hG → Nat → Int32 → hH → Nat → Prop} {R0 : hG → Nat → Int32 → hH → Nat → Option Nat} {a0 : Nat} {a1 : Int32} {r : List Value} {w : hW} {K : List Value → hW → Prop} {Y : Nat → hW → Prop} : hpv_LIrL g mc ms cs P R0 (.int a1 :: .ref a0 :: r) w K Y = (hRcv cs w.1 [.ref a0] ∧ se_c8 8 r ∧ P g a0 a1 w.1 w.2.1 ∧ w.2.2.1 ≤ mc ∧ w.2.2.2 ≤ ms ∧ K (va_rf (R0 g a0 a1 w.1 w.2.1) :: r) w) := rfl
theorem hpv_LIrL_ok {g : hG} {mc ms : Nat} {cs : List Nat} {P : hG → Nat → Int32 → hH → Nat → Prop} {R0 : hG → Nat → Int32 → hH → Nat → Option Nat} {p : Program} {l : Launch} {e : Env} {R : Room} {s : State} {m : MethodId} {args : Array Value} {below : List Frame} {meth : Method} {c : Code} {nL : Nat} {cc : ByteArray} {Q0 : State → Prop} {H0 : Heap} {ins : Instr} {len : Nat} (hS : se_Snd p l e R s m args below meth c Q0 nL (fun a => a) (hRM g H0) cc ins len (hov_LIrL g mc ms 0 0 cs P (fun g a0 a1 m n x m' n' => x = R0 g a0 a1 m n ∧ m' = m ∧ n' = n))) : se_Snd p l e R s m args below meth c Q0 nL (fun a => a) (hRM g H0) cc ins len (hpv_LIrL g mc ms cs P R0) :=
  hS.mono fun st w K Y h => by
    unfold hpv_LIrL at h
    split at h
    · rename_i a1 a0 r
      obtain ⟨hc, h8, hP, r1, r2, hq⟩ := h
      exact ⟨hc, h8, hP, r1, r2, fun x m' n' e _ _ => by
              obtain ⟨rfl, rfl, rfl⟩ := e
              exact hq⟩
    · exact h.elim
def hf_LIrL (g : hG) (mc ms : Nat) (P : hG → Nat → Int32 → hH → Nat → Prop) (R0 : hG → Nat → Int32 → hH → Nat → Option Nat) (F : hG → Nat → Int32 → hH → Nat → hH) : se_Op hW := fun st w K Y => match st with
  | .int a1 :: .ref a0 :: r => se_c8 8 r ∧ P g a0 a1 w.1 w.2.1 ∧ w.2.2.1 ≤ mc ∧ w.2.2.2 ≤ ms ∧ K (va_rf (R0 g a0 a1 w.1 w.2.1) :: r) (F g a0 a1 w.1 w.2.1, w.2)
  | _ => False
theorem hf_LIrL_r {g : hG} {mc ms : Nat} {P : hG → Nat → Int32 → hH → Nat → Prop} {R0 : hG → Nat → Int32 → hH → Nat → Option Nat} {F : hG → Nat → Int32 → hH → Nat → hH} {a0 : Nat} {a1 : Int32} {r : List Value} {w : hW} {K : List Value → hW → Prop} {Y : Nat → hW → Prop} : hf_LIrL g mc ms P R0 F (.int a1 :: .ref a0 :: r) w K Y = (se_c8 8 r ∧ P g a0 a1 w.1 w.2.1 ∧ w.2.2.1 ≤ mc ∧ w.2.2.2 ≤ ms ∧ K (va_rf (R0 g a0 a1 w.1 w.2.1) :: r) (F g a0 a1 w.1 w.2.1, w.2)) := rfl
theorem hf_LIrL_ok {g : hG} {mc ms : Nat} {P : hG → Nat → Int32 → hH → Nat → Prop} {R0 : hG → Nat → Int32 → hH → Nat → Option Nat} {F : hG → Nat → Int32 → hH → Nat → hH} {p : Program} {l : Launch} {e : Env} {R : Room} {s : State} {m : MethodId} {args : Array Value} {below : List Frame} {meth : Method} {c : Code} {nL : Nat} {cc : ByteArray} {Q0 : State → Prop} {H0 : Heap} {ins : Instr} {len : Nat} (hS : se_Snd p l e R s m args below meth c Q0 nL (fun a => a) (hRM g H0) cc ins len (ho_LIrL g mc ms 0 0 P (fun g a0 a1 m n x m' n' => x = R0 g a0 a1 m n ∧ m' = F g a0 a1 m n ∧ n' = n))) : se_Snd p l e R s m args below meth c Q0 nL (fun a => a) (hRM g H0) cc ins len (hf_LIrL g mc ms P R0 F) :=
  hS.mono fun st w K Y h => by
    unfold hf_LIrL at h
    split at h
    · rename_i a1 a0 r
      obtain ⟨h8, hP, r1, r2, hq⟩ := h
      exact ⟨h8, hP, r1, r2, fun x m' n' e _ _ => by
              obtain ⟨rfl, rfl, rfl⟩ := e
              exact hq⟩
    · exact h.elim
def hfv_LIrL (g : hG) (mc ms : Nat) (cs : List Nat) (P : hG → Nat → Int32 → hH → Nat → Prop) (R0 : hG → Nat → Int32 → hH → Nat → Option Nat) (F : hG → Nat → Int32 → hH → Nat → hH) : se_Op hW := fun st w K Y => match st with
  | .int a1 :: .ref a0 :: r => hRcv cs w.1 [.ref a0] ∧ se_c8 8 r ∧ P g a0 a1 w.1 w.2.1 ∧ w.2.2.1 ≤ mc ∧ w.2.2.2 ≤ ms ∧ K (va_rf (R0 g a0 a1 w.1 w.2.1) :: r) (F g a0 a1 w.1 w.2.1, w.2)
  | _ => False
theorem hfv_LIrL_r {g : hG} {mc ms : Nat} {cs : List Nat} {P : hG → Nat → Int32 → hH → Nat → Prop} {R0 : hG → Nat → Int32 → hH → Nat → Option Nat} {F : hG → Nat → Int32 → hH → Nat → hH} {a0 : Nat} {a1 : Int32} {r : List Value} {w : hW} {K : List Value → hW → Prop} {Y : Nat → hW → Prop} : hfv_LIrL g mc ms cs P R0 F (.int a1 :: .ref a0 :: r) w K Y = (hRcv cs w.1 [.ref a0] ∧ se_c8 8 r ∧ P g a0 a1 w.1 w.2.1 ∧ w.2.2.1 ≤ mc ∧ w.2.2.2 ≤ ms ∧ K (va_rf (R0 g a0 a1 w.1 w.2.1) :: r) (F g a0 a1 w.1 w.2.1, w.2)) := rfl
theorem hfv_LIrL_ok {g : hG} {mc ms : Nat} {cs : List Nat} {P : hG → Nat → Int32 → hH → Nat → Prop} {R0 : hG → Nat → Int32 → hH → Nat → Option Nat} {F : hG → Nat → Int32 → hH → Nat → hH} {p : Program} {l : Launch} {e : Env} {R : Room} {s : State} {m : MethodId} {args : Array Value} {below : List Frame} {meth : Method} {c : Code} {nL : Nat} {cc : ByteArray} {Q0 : State → Prop} {H0 : Heap} {ins : Instr} {len : Nat} (hS : se_Snd p l e R s m args below meth c Q0 nL (fun a => a) (hRM g H0) cc ins len (hov_LIrL g mc ms 0 0 cs P (fun g a0 a1 m n x m' n' => x = R0 g a0 a1 m n ∧ m' = F g a0 a1 m n ∧ n' = n))) : se_Snd p l e R s m args below meth c Q0 nL (fun a => a) (hRM g H0) cc ins len (hfv_LIrL g mc ms cs P R0 F) :=
  hS.mono fun st w K Y h => by
    unfold hfv_LIrL at h
    split at h
    · rename_i a1 a0 r
      obtain ⟨hc, h8, hP, r1, r2, hq⟩ := h
      exact ⟨hc, h8, hP, r1, r2, fun x m' n' e _ _ => by
              obtain ⟨rfl, rfl, rfl⟩ := e
              exact hq⟩
    · exact h.elim
def ht_LIrL (rty : FieldType) (mc ms : Nat) (Q : hG → Nat → Int32 → hH → Nat → Option Nat → hH → Nat → Prop) (g : hG) (a0 : Nat) (a1 : Int32) (m : hH) (n : Nat) : Option Value → hW → Prop := hRt (some rty) mc ms ((fun (g : hG) (av : List Value) (m : hH) (n : Nat) (v : Option Value) (m' : hH) (n' : Nat) => ∀ (a0 : Nat) (a1 : Int32), av = [.ref a0, .int a1] → ∃ x, v = some (va_rf x) ∧ Q g a0 a1 m n x m' n') g [.ref a0, .int a1] m n)
theorem ht_LIrL_e {rty : FieldType} {mc ms : Nat} {Q : hG → Nat → Int32 → hH → Nat → Option Nat → hH → Nat → Prop} {g : hG} {a0 : Nat} {a1 : Int32} {m : hH} {n : Nat} {w : hW} {z : Nat} (hr : (∃ n, rty = .object n) ∨ ∃ t, rty = .array t) : ht_LIrL rty mc ms Q g a0 a1 m n (some (.ref z)) w = (w.2.2.1 ≤ mc ∧ w.2.2.2 ≤ ms ∧ Q g a0 a1 m n (some z) w.1 w.2.1) := by
  apply propext
  constructor
  · intro h
    obtain ⟨x, e, hq⟩ := h.2.2.2 _ _ rfl
    cases x with
    | none => cases e
    | some x => cases e; exact ⟨h.2.1, h.2.2.1, hq⟩
  · intro h
    obtain ⟨h1, h2, h3⟩ := h
    exact ⟨⟨_, rfl, hr⟩, h1, h2, fun _ _ e => by
      cases e
      exact ⟨some z, rfl, h3⟩⟩
theorem ht_LIrL_n {rty : FieldType} {mc ms : Nat} {Q : hG → Nat → Int32 → hH → Nat → Option Nat → hH → Nat → Prop} {g : hG} {a0 : Nat} {a1 : Int32} {m : hH} {n : Nat} {w : hW} (hr : (∃ n, rty = .object n) ∨ ∃ t, rty = .array t) : ht_LIrL rty mc ms Q g a0 a1 m n (some .null) w = (w.2.2.1 ≤ mc ∧ w.2.2.2 ≤ ms ∧ Q g a0 a1 m n none w.1 w.2.1) := by
  apply propext
  constructor
  · intro h
    obtain ⟨x, e, hq⟩ := h.2.2.2 _ _ rfl
    cases x with
    | none => exact ⟨h.2.1, h.2.2.1, hq⟩
    | some x => cases e
  · intro h
    obtain ⟨h1, h2, h3⟩ := h
    exact ⟨⟨_, rfl, hr⟩, h1, h2, fun _ _ e => by
      cases e
      exact ⟨none, rfl, h3⟩⟩
theorem hm_LIrL_of {l : Launch} {y : MethodName} {own : String} {cc : ByteArray} {maxL fr lo mc ms : Nat} {rty : FieldType} {P : hG → Nat → Int32 → hH → Nat → Prop} {Q : hG → Nat → Int32 → hH → Nat → Option Nat → hH → Nat → Prop} {T : hG → Nat → Nat → se_Op hW} (hy : plainName y.cls = true) (hyc : y.cls = own) (hT : hTS l own y.name cc maxL (some rty) fr lo mc ms T) (hL : 2 ≤ maxL)
    (body : ∀ (g : hG) (a0 : Nat) (a1 : Int32) (m : hH) (n : Nat), hDom g m n → hVg g → P g a0 a1 m n → ∀ G : Nat → se_L → List Value → hW → Prop, (∀ (stops : List Nat) (f pc : Nat) (L : se_L) (st : List Value) (w : hW), wpN True (T g) cc stops G (hXt mc ms (hNoX g [.ref a0, .int a1] m n)) (ht_LIrL rty mc ms Q g a0 a1 m n) f pc L st w → G pc L st w) → G 0 (se_ent [.ref a0, .int a1] maxL) [] (m, n, 0, 0)) : hm_LIrL l y (ws_ y cc maxL (some rty)) fr lo mc ms P Q :=
  hOf hy hyc hT (fun g av m n h => by
    obtain ⟨a0, a1, rfl, _⟩ := h
    exact hL) (fun g av m n h1 h2 hp G hG => by
    obtain ⟨a0, a1, rfl, hp⟩ := hp
    exact body g a0 a1 m n h1 h2 hp G hG)
abbrev hm_LIrV (l : Launch) (y : MethodName) (ws : List Cond) (fr lo mc ms : Nat) (P : hG → Nat → Int32 → hH → Nat → Prop) (Q : hG → Nat → Int32 → hH → Nat → hH → Nat → Prop) : Prop := hCon l y ws fr lo mc ms (fun (g : hG) (av : List Value) (m : hH) (n : Nat) => ∃ (a0 : Nat) (a1 : Int32), av = [.ref a0, .int a1] ∧ P g a0 a1 m n) (fun (g : hG) (av : List Value) (m : hH) (n : Nat) (v : Option Value) (m' : hH) (n' : Nat) => ∀ (a0 : Nat) (a1 : Int32), av = [.ref a0, .int a1] → v = none ∧ Q g a0 a1 m n m' n') hNoX
def ho_LIrV (g : hG) (mc ms mc' ms' : Nat) (P : hG → Nat → Int32 → hH → Nat → Prop) (Q : hG → Nat → Int32 → hH → Nat → hH → Nat → Prop) : se_Op hW := fun st w K Y => match st with
  | .int a1 :: .ref a0 :: r => se_c8 8 r ∧ P g a0 a1 w.1 w.2.1 ∧ w.2.2.1 + mc' ≤ mc ∧ w.2.2.2 + ms' ≤ ms ∧ ∀ m' n', Q g a0 a1 w.1 w.2.1 m' n' → hDom g m' n' → w.2.1 ≤ n' → K r (m', n', w.2.2.1 + mc', w.2.2.2 + ms')
  | _ => False
theorem ho_LIrV_r {g : hG} {mc ms mc' ms' : Nat} {P : hG → Nat → Int32 → hH → Nat → Prop} {Q : hG → Nat → Int32 → hH → Nat → hH → Nat → Prop} {a0 : Nat} {a1 : Int32} {r : List Value} {w : hW} {K : List Value → hW → Prop} {Y : Nat → hW → Prop} : ho_LIrV g mc ms mc' ms' P Q (.int a1 :: .ref a0 :: r) w K Y = (se_c8 8 r ∧ P g a0 a1 w.1 w.2.1 ∧ w.2.2.1 + mc' ≤ mc ∧ w.2.2.2 + ms' ≤ ms ∧ ∀ m' n', Q g a0 a1 w.1 w.2.1 m' n' → hDom g m' n' → w.2.1 ≤ n' → K r (m', n', w.2.2.1 + mc', w.2.2.2 + ms')) := rfl
theorem ho_LIrV_ok {g : hG} {mc ms mc' ms' : Nat} {P : hG → Nat → Int32 → hH → Nat → Prop} {Q : hG → Nat → Int32 → hH → Nat → hH → Nat → Prop} {p : Program} {l : Launch} {e : Env} {R : Room} {s : State} {m : MethodId} {args : Array Value} {below : List Frame} {meth : Method} {c : Code} {nL : Nat} {cc : ByteArray} {Q0 : State → Prop} {H0 : Heap} {ins : Instr} {len : Nat} (hS : se_Snd p l e R s m args below meth c Q0 nL (fun a => a) (hRM g H0) cc ins len (hCS g 2 mc ms mc' ms' (fun (g : hG) (av : List Value) (m : hH) (n : Nat) => ∃ (a0 : Nat) (a1 : Int32), av = [.ref a0, .int a1] ∧ P g a0 a1 m n) (fun (g : hG) (av : List Value) (m : hH) (n : Nat) (v : Option Value) (m' : hH) (n' : Nat) => ∀ (a0 : Nat) (a1 : Int32), av = [.ref a0, .int a1] → v = none ∧ Q g a0 a1 m n m' n') hNoX)) : se_Snd p l e R s m args below meth c Q0 nL (fun a => a) (hRM g H0) cc ins len (ho_LIrV g mc ms mc' ms' P Q) :=
  hS.mono fun st w K Y h => by
    unfold ho_LIrV at h
    split at h
    · rename_i a1 a0 r
      obtain ⟨h8, hP, r1, r2, hq⟩ := h
      exact (⟨h8, ⟨a0, a1, rfl, hP⟩, r1, r2, fun v m' n' hp hi hn => by
              obtain ⟨rfl, hx⟩ := hp a0 a1 rfl
              exact hq m' n' hx hi hn, fun b m' n' hp => hp.elim⟩ : hGo g mc ms mc' ms' ((fun (g : hG) (av : List Value) (m : hH) (n : Nat) => ∃ (a0 : Nat) (a1 : Int32), av = [.ref a0, .int a1] ∧ P g a0 a1 m n) g) ((fun (g : hG) (av : List Value) (m : hH) (n : Nat) (v : Option Value) (m' : hH) (n' : Nat) => ∀ (a0 : Nat) (a1 : Int32), av = [.ref a0, .int a1] → v = none ∧ Q g a0 a1 m n m' n') g) (hNoX g) [.ref a0, .int a1] r w K Y)
    · exact h.elim
def hov_LIrV (g : hG) (mc ms mc' ms' : Nat) (cs : List Nat) (P : hG → Nat → Int32 → hH → Nat → Prop) (Q : hG → Nat → Int32 → hH → Nat → hH → Nat → Prop) : se_Op hW := fun st w K Y => match st with
  | .int a1 :: .ref a0 :: r => hRcv cs w.1 [.ref a0] ∧ se_c8 8 r ∧ P g a0 a1 w.1 w.2.1 ∧ w.2.2.1 + mc' ≤ mc ∧ w.2.2.2 + ms' ≤ ms ∧ ∀ m' n', Q g a0 a1 w.1 w.2.1 m' n' → hDom g m' n' → w.2.1 ≤ n' → K r (m', n', w.2.2.1 + mc', w.2.2.2 + ms')
  | _ => False
theorem hov_LIrV_r {g : hG} {mc ms mc' ms' : Nat} {cs : List Nat} {P : hG → Nat → Int32 → hH → Nat → Prop} {Q : hG → Nat → Int32 → hH → Nat → hH → Nat → Prop} {a0 : Nat} {a1 : Int32} {r : List Value} {w : hW} {K : List Value → hW → Prop} {Y : Nat → hW → Prop} : hov_LIrV g mc ms mc' ms' cs P Q (.int a1 :: .ref a0 :: r) w K Y = (hRcv cs w.1 [.ref a0] ∧ se_c8 8 r ∧ P g a0 a1 w.1 w.2.1 ∧ w.2.2.1 + mc' ≤ mc ∧ w.2.2.2 + ms' ≤ ms ∧ ∀ m' n', Q g a0 a1 w.1 w.2.1 m' n' → hDom g m' n' → w.2.1 ≤ n' → K r (m', n', w.2.2.1 + mc', w.2.2.2 + ms')) := rfl
theorem hov_LIrV_ok {g : hG} {mc ms mc' ms' : Nat} {cs : List Nat} {P : hG → Nat → Int32 → hH → Nat → Prop} {Q : hG → Nat → Int32 → hH → Nat → hH → Nat → Prop} {p : Program} {l : Launch} {e : Env} {R : Room} {s : State} {m : MethodId} {args : Array Value} {below : List Frame} {meth : Method} {c : Code} {nL : Nat} {cc : ByteArray} {Q0 : State → Prop} {H0 : Heap} {ins : Instr} {len : Nat} (hS : se_Snd p l e R s m args below meth c Q0 nL (fun a => a) (hRM g H0) cc ins len (hCV g 1 mc ms mc' ms' cs (fun (g : hG) (av : List Value) (m : hH) (n : Nat) => ∃ (a0 : Nat) (a1 : Int32), av = [.ref a0, .int a1] ∧ P g a0 a1 m n) (fun (g : hG) (av : List Value) (m : hH) (n : Nat) (v : Option Value) (m' : hH) (n' : Nat) => ∀ (a0 : Nat) (a1 : Int32), av = [.ref a0, .int a1] → v = none ∧ Q g a0 a1 m n m' n') hNoX)) : se_Snd p l e R s m args below meth c Q0 nL (fun a => a) (hRM g H0) cc ins len (hov_LIrV g mc ms mc' ms' cs P Q) :=
  hS.mono fun st w K Y h => by
    unfold hov_LIrV at h
    split at h
    · rename_i a1 a0 r
      obtain ⟨hc, h8, hP, r1, r2, hq⟩ := h
      exact (⟨hc, h8, ⟨a0, a1, rfl, hP⟩, r1, r2, fun v m' n' hp hi hn => by
              obtain ⟨rfl, hx⟩ := hp a0 a1 rfl
              exact hq m' n' hx hi hn, fun b m' n' hp => hp.elim⟩ : (hRcv cs w.1 [.ref a0, .int a1] ∧ hGo g mc ms mc' ms' ((fun (g : hG) (av : List Value) (m : hH) (n : Nat) => ∃ (a0 : Nat) (a1 : Int32), av = [.ref a0, .int a1] ∧ P g a0 a1 m n) g) ((fun (g : hG) (av : List Value) (m : hH) (n : Nat) (v : Option Value) (m' : hH) (n' : Nat) => ∀ (a0 : Nat) (a1 : Int32), av = [.ref a0, .int a1] → v = none ∧ Q g a0 a1 m n m' n') g) (hNoX g) [.ref a0, .int a1] r w K Y))
    · exact h.elim
def hf_LIrV (g : hG) (mc ms : Nat) (P : hG → Nat → Int32 → hH → Nat → Prop) (F : hG → Nat → Int32 → hH → Nat → hH) : se_Op hW := fun st w K Y => match st with
  | .int a1 :: .ref a0 :: r => se_c8 8 r ∧ P g a0 a1 w.1 w.2.1 ∧ w.2.2.1 ≤ mc ∧ w.2.2.2 ≤ ms ∧ K (r) (F g a0 a1 w.1 w.2.1, w.2)
  | _ => False
theorem hf_LIrV_r {g : hG} {mc ms : Nat} {P : hG → Nat → Int32 → hH → Nat → Prop} {F : hG → Nat → Int32 → hH → Nat → hH} {a0 : Nat} {a1 : Int32} {r : List Value} {w : hW} {K : List Value → hW → Prop} {Y : Nat → hW → Prop} : hf_LIrV g mc ms P F (.int a1 :: .ref a0 :: r) w K Y = (se_c8 8 r ∧ P g a0 a1 w.1 w.2.1 ∧ w.2.2.1 ≤ mc ∧ w.2.2.2 ≤ ms ∧ K (r) (F g a0 a1 w.1 w.2.1, w.2)) := rfl
theorem hf_LIrV_ok {g : hG} {mc ms : Nat} {P : hG → Nat → Int32 → hH → Nat → Prop} {F : hG → Nat → Int32 → hH → Nat → hH} {p : Program} {l : Launch} {e : Env} {R : Room} {s : State} {m : MethodId} {args : Array Value} {below : List Frame} {meth : Method} {c : Code} {nL : Nat} {cc : ByteArray} {Q0 : State → Prop} {H0 : Heap} {ins : Instr} {len : Nat} (hS : se_Snd p l e R s m args below meth c Q0 nL (fun a => a) (hRM g H0) cc ins len (ho_LIrV g mc ms 0 0 P (fun g a0 a1 m n m' n' => m' = F g a0 a1 m n ∧ n' = n))) : se_Snd p l e R s m args below meth c Q0 nL (fun a => a) (hRM g H0) cc ins len (hf_LIrV g mc ms P F) :=
  hS.mono fun st w K Y h => by
    unfold hf_LIrV at h
    split at h
    · rename_i a1 a0 r
      obtain ⟨h8, hP, r1, r2, hq⟩ := h
      exact ⟨h8, hP, r1, r2, fun m' n' e _ _ => by
              obtain ⟨rfl, rfl⟩ := e
              exact hq⟩
    · exact h.elim
def hfv_LIrV (g : hG) (mc ms : Nat) (cs : List Nat) (P : hG → Nat → Int32 → hH → Nat → Prop) (F : hG → Nat → Int32 → hH → Nat → hH) : se_Op hW := fun st w K Y => match st with
  | .int a1 :: .ref a0 :: r => hRcv cs w.1 [.ref a0] ∧ se_c8 8 r ∧ P g a0 a1 w.1 w.2.1 ∧ w.2.2.1 ≤ mc ∧ w.2.2.2 ≤ ms ∧ K (r) (F g a0 a1 w.1 w.2.1, w.2)
  | _ => False
theorem hfv_LIrV_r {g : hG} {mc ms : Nat} {cs : List Nat} {P : hG → Nat → Int32 → hH → Nat → Prop} {F : hG → Nat → Int32 → hH → Nat → hH} {a0 : Nat} {a1 : Int32} {r : List Value} {w : hW} {K : List Value → hW → Prop} {Y : Nat → hW → Prop} : hfv_LIrV g mc ms cs P F (.int a1 :: .ref a0 :: r) w K Y = (hRcv cs w.1 [.ref a0] ∧ se_c8 8 r ∧ P g a0 a1 w.1 w.2.1 ∧ w.2.2.1 ≤ mc ∧ w.2.2.2 ≤ ms ∧ K (r) (F g a0 a1 w.1 w.2.1, w.2)) := rfl
theorem hfv_LIrV_ok {g : hG} {mc ms : Nat} {cs : List Nat} {P : hG → Nat → Int32 → hH → Nat → Prop} {F : hG → Nat → Int32 → hH → Nat → hH} {p : Program} {l : Launch} {e : Env} {R : Room} {s : State} {m : MethodId} {args : Array Value} {below : List Frame} {meth : Method} {c : Code} {nL : Nat} {cc : ByteArray} {Q0 : State → Prop} {H0 : Heap} {ins : Instr} {len : Nat} (hS : se_Snd p l e R s m args below meth c Q0 nL (fun a => a) (hRM g H0) cc ins len (hov_LIrV g mc ms 0 0 cs P (fun g a0 a1 m n m' n' => m' = F g a0 a1 m n ∧ n' = n))) : se_Snd p l e R s m args below meth c Q0 nL (fun a => a) (hRM g H0) cc ins len (hfv_LIrV g mc ms cs P F) :=
  hS.mono fun st w K Y h => by
    unfold hfv_LIrV at h
    split at h
    · rename_i a1 a0 r
      obtain ⟨hc, h8, hP, r1, r2, hq⟩ := h
      exact ⟨hc, h8, hP, r1, r2, fun m' n' e _ _ => by
              obtain ⟨rfl, rfl⟩ := e
              exact hq⟩
    · exact h.elim
def ht_LIrV (mc ms : Nat) (Q : hG → Nat → Int32 → hH → Nat → hH → Nat → Prop) (g : hG) (a0 : Nat) (a1 : Int32) (m : hH) (n : Nat) : Option Value → hW → Prop := hRt none mc ms ((fun (g : hG) (av : List Value) (m : hH) (n : Nat) (v : Option Value) (m' : hH) (n' : Nat) => ∀ (a0 : Nat) (a1 : Int32), av = [.ref a0, .int a1] → v = none ∧ Q g a0 a1 m n m' n') g [.ref a0, .int a1] m n)
theorem ht_LIrV_e {mc ms : Nat} {Q : hG → Nat → Int32 → hH → Nat → hH → Nat → Prop} {g : hG} {a0 : Nat} {a1 : Int32} {m : hH} {n : Nat} {w : hW} : ht_LIrV mc ms Q g a0 a1 m n none w = (w.2.2.1 ≤ mc ∧ w.2.2.2 ≤ ms ∧ Q g a0 a1 m n w.1 w.2.1) := by
  apply propext
  exact ⟨fun h => ⟨h.2.1, h.2.2.1, (h.2.2.2 _ _ rfl).2⟩, fun h => ⟨rfl, h.1, h.2.1, fun _ _ e => by
    cases e
    exact ⟨rfl, h.2.2⟩⟩⟩
theorem hm_LIrV_of {l : Launch} {y : MethodName} {own : String} {cc : ByteArray} {maxL fr lo mc ms : Nat} {P : hG → Nat → Int32 → hH → Nat → Prop} {Q : hG → Nat → Int32 → hH → Nat → hH → Nat → Prop} {T : hG → Nat → Nat → se_Op hW} (hy : plainName y.cls = true) (hyc : y.cls = own) (hT : hTS l own y.name cc maxL none fr lo mc ms T) (hL : 2 ≤ maxL)
    (body : ∀ (g : hG) (a0 : Nat) (a1 : Int32) (m : hH) (n : Nat), hDom g m n → hVg g → P g a0 a1 m n → ∀ G : Nat → se_L → List Value → hW → Prop, (∀ (stops : List Nat) (f pc : Nat) (L : se_L) (st : List Value) (w : hW), wpN True (T g) cc stops G (hXt mc ms (hNoX g [.ref a0, .int a1] m n)) (ht_LIrV mc ms Q g a0 a1 m n) f pc L st w → G pc L st w) → G 0 (se_ent [.ref a0, .int a1] maxL) [] (m, n, 0, 0)) : hm_LIrV l y (ws_ y cc maxL none) fr lo mc ms P Q :=
  hOf hy hyc hT (fun g av m n h => by
    obtain ⟨a0, a1, rfl, _⟩ := h
    exact hL) (fun g av m n h1 h2 hp G hG => by
    obtain ⟨a0, a1, rfl, hp⟩ := hp
    exact body g a0 a1 m n h1 h2 hp G hG)
abbrev hm_LLIrV (l : Launch) (y : MethodName) (ws : List Cond) (fr lo mc ms : Nat) (P : hG → Nat → Nat → Int32 → hH → Nat → Prop) (Q : hG → Nat → Nat → Int32 → hH → Nat → hH → Nat → Prop) : Prop := hCon l y ws fr lo mc ms (fun (g : hG) (av : List Value) (m : hH) (n : Nat) => ∃ (a0 : Nat) (a1 : Nat) (a2 : Int32), av = [.ref a0, .ref a1, .int a2] ∧ P g a0 a1 a2 m n) (fun (g : hG) (av : List Value) (m : hH) (n : Nat) (v : Option Value) (m' : hH) (n' : Nat) => ∀ (a0 : Nat) (a1 : Nat) (a2 : Int32), av = [.ref a0, .ref a1, .int a2] → v = none ∧ Q g a0 a1 a2 m n m' n') hNoX
def hov_LLIrV (g : hG) (mc ms mc' ms' : Nat) (cs : List Nat) (P : hG → Nat → Nat → Int32 → hH → Nat → Prop) (Q : hG → Nat → Nat → Int32 → hH → Nat → hH → Nat → Prop) : se_Op hW := fun st w K Y => match st with
  | .int a2 :: .ref a1 :: .ref a0 :: r => hRcv cs w.1 [.ref a0] ∧ se_c8 8 r ∧ P g a0 a1 a2 w.1 w.2.1 ∧ w.2.2.1 + mc' ≤ mc ∧ w.2.2.2 + ms' ≤ ms ∧ ∀ m' n', Q g a0 a1 a2 w.1 w.2.1 m' n' → hDom g m' n' → w.2.1 ≤ n' → K r (m', n', w.2.2.1 + mc', w.2.2.2 + ms')
  | _ => False
theorem hov_LLIrV_r {g : hG} {mc ms mc' ms' : Nat} {cs : List Nat} {P : hG → Nat → Nat → Int32 → hH → Nat → Prop} {Q : hG → Nat → Nat → Int32 → hH → Nat → hH → Nat → Prop} {a0 : Nat} {a1 : Nat} {a2 : Int32} {r : List Value} {w : hW} {K : List Value → hW → Prop} {Y : Nat → hW → Prop} : hov_LLIrV g mc ms mc' ms' cs P Q (.int a2 :: .ref a1 :: .ref a0 :: r) w K Y = (hRcv cs w.1 [.ref a0] ∧ se_c8 8 r ∧ P g a0 a1 a2 w.1 w.2.1 ∧ w.2.2.1 + mc' ≤ mc ∧ w.2.2.2 + ms' ≤ ms ∧ ∀ m' n', Q g a0 a1 a2 w.1 w.2.1 m' n' → hDom g m' n' → w.2.1 ≤ n' → K r (m', n', w.2.2.1 + mc', w.2.2.2 + ms')) := rfl
theorem hov_LLIrV_ok {g : hG} {mc ms mc' ms' : Nat} {cs : List Nat} {P : hG → Nat → Nat → Int32 → hH → Nat → Prop} {Q : hG → Nat → Nat → Int32 → hH → Nat → hH → Nat → Prop} {p : Program} {l : Launch} {e : Env} {R : Room} {s : State} {m : MethodId} {args : Array Value} {below : List Frame} {meth : Method} {c : Code} {nL : Nat} {cc : ByteArray} {Q0 : State → Prop} {H0 : Heap} {ins : Instr} {len : Nat} (hS : se_Snd p l e R s m args below meth c Q0 nL (fun a => a) (hRM g H0) cc ins len (hCV g 2 mc ms mc' ms' cs (fun (g : hG) (av : List Value) (m : hH) (n : Nat) => ∃ (a0 : Nat) (a1 : Nat) (a2 : Int32), av = [.ref a0, .ref a1, .int a2] ∧ P g a0 a1 a2 m n) (fun (g : hG) (av : List Value) (m : hH) (n : Nat) (v : Option Value) (m' : hH) (n' : Nat) => ∀ (a0 : Nat) (a1 : Nat) (a2 : Int32), av = [.ref a0, .ref a1, .int a2] → v = none ∧ Q g a0 a1 a2 m n m' n') hNoX)) : se_Snd p l e R s m args below meth c Q0 nL (fun a => a) (hRM g H0) cc ins len (hov_LLIrV g mc ms mc' ms' cs P Q) :=
  hS.mono fun st w K Y h => by
    unfold hov_LLIrV at h
    split at h
    · rename_i a2 a1 a0 r
      obtain ⟨hc, h8, hP, r1, r2, hq⟩ := h
      exact (⟨hc, h8, ⟨a0, a1, a2, rfl, hP⟩, r1, r2, fun v m' n' hp hi hn => by
              obtain ⟨rfl, hx⟩ := hp a0 a1 a2 rfl
              exact hq m' n' hx hi hn, fun b m' n' hp => hp.elim⟩ : (hRcv cs w.1 [.ref a0, .ref a1, .int a2] ∧ hGo g mc ms mc' ms' ((fun (g : hG) (av : List Value) (m : hH) (n : Nat) => ∃ (a0 : Nat) (a1 : Nat) (a2 : Int32), av = [.ref a0, .ref a1, .int a2] ∧ P g a0 a1 a2 m n) g) ((fun (g : hG) (av : List Value) (m : hH) (n : Nat) (v : Option Value) (m' : hH) (n' : Nat) => ∀ (a0 : Nat) (a1 : Nat) (a2 : Int32), av = [.ref a0, .ref a1, .int a2] → v = none ∧ Q g a0 a1 a2 m n m' n') g) (hNoX g) [.ref a0, .ref a1, .int a2] r w K Y))
    · exact h.elim
def hfv_LLIrV (g : hG) (mc ms : Nat) (cs : List Nat) (P : hG → Nat → Nat → Int32 → hH → Nat → Prop) (F : hG → Nat → Nat → Int32 → hH → Nat → hH) : se_Op hW := fun st w K Y => match st with
  | .int a2 :: .ref a1 :: .ref a0 :: r => hRcv cs w.1 [.ref a0] ∧ se_c8 8 r ∧ P g a0 a1 a2 w.1 w.2.1 ∧ w.2.2.1 ≤ mc ∧ w.2.2.2 ≤ ms ∧ K (r) (F g a0 a1 a2 w.1 w.2.1, w.2)
  | _ => False
theorem hfv_LLIrV_r {g : hG} {mc ms : Nat} {cs : List Nat} {P : hG → Nat → Nat → Int32 → hH → Nat → Prop} {F : hG → Nat → Nat → Int32 → hH → Nat → hH} {a0 : Nat} {a1 : Nat} {a2 : Int32} {r : List Value} {w : hW} {K : List Value → hW → Prop} {Y : Nat → hW → Prop} : hfv_LLIrV g mc ms cs P F (.int a2 :: .ref a1 :: .ref a0 :: r) w K Y = (hRcv cs w.1 [.ref a0] ∧ se_c8 8 r ∧ P g a0 a1 a2 w.1 w.2.1 ∧ w.2.2.1 ≤ mc ∧ w.2.2.2 ≤ ms ∧ K (r) (F g a0 a1 a2 w.1 w.2.1, w.2)) := rfl
theorem hfv_LLIrV_ok {g : hG} {mc ms : Nat} {cs : List Nat} {P : hG → Nat → Nat → Int32 → hH → Nat → Prop} {F : hG → Nat → Nat → Int32 → hH → Nat → hH} {p : Program} {l : Launch} {e : Env} {R : Room} {s : State} {m : MethodId} {args : Array Value} {below : List Frame} {meth : Method} {c : Code} {nL : Nat} {cc : ByteArray} {Q0 : State → Prop} {H0 : Heap} {ins : Instr} {len : Nat} (hS : se_Snd p l e R s m args below meth c Q0 nL (fun a => a) (hRM g H0) cc ins len (hov_LLIrV g mc ms 0 0 cs P (fun g a0 a1 a2 m n m' n' => m' = F g a0 a1 a2 m n ∧ n' = n))) : se_Snd p l e R s m args below meth c Q0 nL (fun a => a) (hRM g H0) cc ins len (hfv_LLIrV g mc ms cs P F) :=
  hS.mono fun st w K Y h => by
    unfold hfv_LLIrV at h
    split at h
    · rename_i a2 a1 a0 r
      obtain ⟨hc, h8, hP, r1, r2, hq⟩ := h
      exact ⟨hc, h8, hP, r1, r2, fun m' n' e _ _ => by
              obtain ⟨rfl, rfl⟩ := e
              exact hq⟩
    · exact h.elim
def ht_LLIrV (mc ms : Nat) (Q : hG → Nat → Nat → Int32 → hH → Nat → hH → Nat → Prop) (g : hG) (a0 : Nat) (a1 : Nat) (a2 : Int32) (m : hH) (n : Nat) : Option Value → hW → Prop := hRt none mc ms ((fun (g : hG) (av : List Value) (m : hH) (n : Nat) (v : Option Value) (m' : hH) (n' : Nat) => ∀ (a0 : Nat) (a1 : Nat) (a2 : Int32), av = [.ref a0, .ref a1, .int a2] → v = none ∧ Q g a0 a1 a2 m n m' n') g [.ref a0, .ref a1, .int a2] m n)
theorem ht_LLIrV_e {mc ms : Nat} {Q : hG → Nat → Nat → Int32 → hH → Nat → hH → Nat → Prop} {g : hG} {a0 : Nat} {a1 : Nat} {a2 : Int32} {m : hH} {n : Nat} {w : hW} : ht_LLIrV mc ms Q g a0 a1 a2 m n none w = (w.2.2.1 ≤ mc ∧ w.2.2.2 ≤ ms ∧ Q g a0 a1 a2 m n w.1 w.2.1) := by
  apply propext
  exact ⟨fun h => ⟨h.2.1, h.2.2.1, (h.2.2.2 _ _ _ rfl).2⟩, fun h => ⟨rfl, h.1, h.2.1, fun _ _ _ e => by
    cases e
    exact ⟨rfl, h.2.2⟩⟩⟩
theorem hm_LLIrV_of {l : Launch} {y : MethodName} {own : String} {cc : ByteArray} {maxL fr lo mc ms : Nat} {P : hG → Nat → Nat → Int32 → hH → Nat → Prop} {Q : hG → Nat → Nat → Int32 → hH → Nat → hH → Nat → Prop} {T : hG → Nat → Nat → se_Op hW} (hy : plainName y.cls = true) (hyc : y.cls = own) (hT : hTS l own y.name cc maxL none fr lo mc ms T) (hL : 3 ≤ maxL)
    (body : ∀ (g : hG) (a0 : Nat) (a1 : Nat) (a2 : Int32) (m : hH) (n : Nat), hDom g m n → hVg g → P g a0 a1 a2 m n → ∀ G : Nat → se_L → List Value → hW → Prop, (∀ (stops : List Nat) (f pc : Nat) (L : se_L) (st : List Value) (w : hW), wpN True (T g) cc stops G (hXt mc ms (hNoX g [.ref a0, .ref a1, .int a2] m n)) (ht_LLIrV mc ms Q g a0 a1 a2 m n) f pc L st w → G pc L st w) → G 0 (se_ent [.ref a0, .ref a1, .int a2] maxL) [] (m, n, 0, 0)) : hm_LLIrV l y (ws_ y cc maxL none) fr lo mc ms P Q :=
  hOf hy hyc hT (fun g av m n h => by
    obtain ⟨a0, a1, a2, rfl, _⟩ := h
    exact hL) (fun g av m n h1 h2 hp G hG => by
    obtain ⟨a0, a1, a2, rfl, hp⟩ := hp
    exact body g a0 a1 a2 m n h1 h2 hp G hG)
abbrev hm_LLLIrV (l : Launch) (y : MethodName) (ws : List Cond) (fr lo mc ms : Nat) (P : hG → Nat → Nat → Nat → Int32 → hH → Nat → Prop) (Q : hG → Nat → Nat → Nat → Int32 → hH → Nat → hH → Nat → Prop) : Prop := hCon l y ws fr lo mc ms (fun (g : hG) (av : List Value) (m : hH) (n : Nat) => ∃ (a0 : Nat) (a1 : Nat) (a2 : Nat) (a3 : Int32), av = [.ref a0, .ref a1, .ref a2, .int a3] ∧ P g a0 a1 a2 a3 m n) (fun (g : hG) (av : List Value) (m : hH) (n : Nat) (v : Option Value) (m' : hH) (n' : Nat) => ∀ (a0 : Nat) (a1 : Nat) (a2 : Nat) (a3 : Int32), av = [.ref a0, .ref a1, .ref a2, .int a3] → v = none ∧ Q g a0 a1 a2 a3 m n m' n') hNoX
def hov_LLLIrV (g : hG) (mc ms mc' ms' : Nat) (cs : List Nat) (P : hG → Nat → Nat → Nat → Int32 → hH → Nat → Prop) (Q : hG → Nat → Nat → Nat → Int32 → hH → Nat → hH → Nat → Prop) : se_Op hW := fun st w K Y => match st with
  | .int a3 :: .ref a2 :: .ref a1 :: .ref a0 :: r => hRcv cs w.1 [.ref a0] ∧ se_c8 8 r ∧ P g a0 a1 a2 a3 w.1 w.2.1 ∧ w.2.2.1 + mc' ≤ mc ∧ w.2.2.2 + ms' ≤ ms ∧ ∀ m' n', Q g a0 a1 a2 a3 w.1 w.2.1 m' n' → hDom g m' n' → w.2.1 ≤ n' → K r (m', n', w.2.2.1 + mc', w.2.2.2 + ms')
  | _ => False
theorem hov_LLLIrV_r {g : hG} {mc ms mc' ms' : Nat} {cs : List Nat} {P : hG → Nat → Nat → Nat → Int32 → hH → Nat → Prop} {Q : hG → Nat → Nat → Nat → Int32 → hH → Nat → hH → Nat → Prop} {a0 : Nat} {a1 : Nat} {a2 : Nat} {a3 : Int32} {r : List Value} {w : hW} {K : List Value → hW → Prop} {Y : Nat → hW → Prop} : hov_LLLIrV g mc ms mc' ms' cs P Q (.int a3 :: .ref a2 :: .ref a1 :: .ref a0 :: r) w K Y = (hRcv cs w.1 [.ref a0] ∧ se_c8 8 r ∧ P g a0 a1 a2 a3 w.1 w.2.1 ∧ w.2.2.1 + mc' ≤ mc ∧ w.2.2.2 + ms' ≤ ms ∧ ∀ m' n', Q g a0 a1 a2 a3 w.1 w.2.1 m' n' → hDom g m' n' → w.2.1 ≤ n' → K r (m', n', w.2.2.1 + mc', w.2.2.2 + ms')) := rfl
theorem hov_LLLIrV_ok {g : hG} {mc ms mc' ms' : Nat} {cs : List Nat} {P : hG → Nat → Nat → Nat → Int32 → hH → Nat → Prop} {Q : hG → Nat → Nat → Nat → Int32 → hH → Nat → hH → Nat → Prop} {p : Program} {l : Launch} {e : Env} {R : Room} {s : State} {m : MethodId} {args : Array Value} {below : List Frame} {meth : Method} {c : Code} {nL : Nat} {cc : ByteArray} {Q0 : State → Prop} {H0 : Heap} {ins : Instr} {len : Nat} (hS : se_Snd p l e R s m args below meth c Q0 nL (fun a => a) (hRM g H0) cc ins len (hCV g 3 mc ms mc' ms' cs (fun (g : hG) (av : List Value) (m : hH) (n : Nat) => ∃ (a0 : Nat) (a1 : Nat) (a2 : Nat) (a3 : Int32), av = [.ref a0, .ref a1, .ref a2, .int a3] ∧ P g a0 a1 a2 a3 m n) (fun (g : hG) (av : List Value) (m : hH) (n : Nat) (v : Option Value) (m' : hH) (n' : Nat) => ∀ (a0 : Nat) (a1 : Nat) (a2 : Nat) (a3 : Int32), av = [.ref a0, .ref a1, .ref a2, .int a3] → v = none ∧ Q g a0 a1 a2 a3 m n m' n') hNoX)) : se_Snd p l e R s m args below meth c Q0 nL (fun a => a) (hRM g H0) cc ins len (hov_LLLIrV g mc ms mc' ms' cs P Q) :=
  hS.mono fun st w K Y h => by
    unfold hov_LLLIrV at h
    split at h
    · rename_i a3 a2 a1 a0 r
      obtain ⟨hc, h8, hP, r1, r2, hq⟩ := h
      exact (⟨hc, h8, ⟨a0, a1, a2, a3, rfl, hP⟩, r1, r2, fun v m' n' hp hi hn => by
              obtain ⟨rfl, hx⟩ := hp a0 a1 a2 a3 rfl
              exact hq m' n' hx hi hn, fun b m' n' hp => hp.elim⟩ : (hRcv cs w.1 [.ref a0, .ref a1, .ref a2, .int a3] ∧ hGo g mc ms mc' ms' ((fun (g : hG) (av : List Value) (m : hH) (n : Nat) => ∃ (a0 : Nat) (a1 : Nat) (a2 : Nat) (a3 : Int32), av = [.ref a0, .ref a1, .ref a2, .int a3] ∧ P g a0 a1 a2 a3 m n) g) ((fun (g : hG) (av : List Value) (m : hH) (n : Nat) (v : Option Value) (m' : hH) (n' : Nat) => ∀ (a0 : Nat) (a1 : Nat) (a2 : Nat) (a3 : Int32), av = [.ref a0, .ref a1, .ref a2, .int a3] → v = none ∧ Q g a0 a1 a2 a3 m n m' n') g) (hNoX g) [.ref a0, .ref a1, .ref a2, .int a3] r w K Y))
    · exact h.elim
def hfv_LLLIrV (g : hG) (mc ms : Nat) (cs : List Nat) (P : hG → Nat → Nat → Nat → Int32 → hH → Nat → Prop) (F : hG → Nat → Nat → Nat → Int32 → hH → Nat → hH) : se_Op hW := fun st w K Y => match st with
  | .int a3 :: .ref a2 :: .ref a1 :: .ref a0 :: r => hRcv cs w.1 [.ref a0] ∧ se_c8 8 r ∧ P g a0 a1 a2 a3 w.1 w.2.1 ∧ w.2.2.1 ≤ mc ∧ w.2.2.2 ≤ ms ∧ K (r) (F g a0 a1 a2 a3 w.1 w.2.1, w.2)
  | _ => False
theorem hfv_LLLIrV_r {g : hG} {mc ms : Nat} {cs : List Nat} {P : hG → Nat → Nat → Nat → Int32 → hH → Nat → Prop} {F : hG → Nat → Nat → Nat → Int32 → hH → Nat → hH} {a0 : Nat} {a1 : Nat} {a2 : Nat} {a3 : Int32} {r : List Value} {w : hW} {K : List Value → hW → Prop} {Y : Nat → hW → Prop} : hfv_LLLIrV g mc ms cs P F (.int a3 :: .ref a2 :: .ref a1 :: .ref a0 :: r) w K Y = (hRcv cs w.1 [.ref a0] ∧ se_c8 8 r ∧ P g a0 a1 a2 a3 w.1 w.2.1 ∧ w.2.2.1 ≤ mc ∧ w.2.2.2 ≤ ms ∧ K (r) (F g a0 a1 a2 a3 w.1 w.2.1, w.2)) := rfl
theorem hfv_LLLIrV_ok {g : hG} {mc ms : Nat} {cs : List Nat} {P : hG → Nat → Nat → Nat → Int32 → hH → Nat → Prop} {F : hG → Nat → Nat → Nat → Int32 → hH → Nat → hH} {p : Program} {l : Launch} {e : Env} {R : Room} {s : State} {m : MethodId} {args : Array Value} {below : List Frame} {meth : Method} {c : Code} {nL : Nat} {cc : ByteArray} {Q0 : State → Prop} {H0 : Heap} {ins : Instr} {len : Nat} (hS : se_Snd p l e R s m args below meth c Q0 nL (fun a => a) (hRM g H0) cc ins len (hov_LLLIrV g mc ms 0 0 cs P (fun g a0 a1 a2 a3 m n m' n' => m' = F g a0 a1 a2 a3 m n ∧ n' = n))) : se_Snd p l e R s m args below meth c Q0 nL (fun a => a) (hRM g H0) cc ins len (hfv_LLLIrV g mc ms cs P F) :=
  hS.mono fun st w K Y h => by
    unfold hfv_LLLIrV at h
    split at h
    · rename_i a3 a2 a1 a0 r
      obtain ⟨hc, h8, hP, r1, r2, hq⟩ := h
      exact ⟨hc, h8, hP, r1, r2, fun m' n' e _ _ => by
              obtain ⟨rfl, rfl⟩ := e
              exact hq⟩
    · exact h.elim
def ht_LLLIrV (mc ms : Nat) (Q : hG → Nat → Nat → Nat → Int32 → hH → Nat → hH → Nat → Prop) (g : hG) (a0 : Nat) (a1 : Nat) (a2 : Nat) (a3 : Int32) (m : hH) (n : Nat) : Option Value → hW → Prop := hRt none mc ms ((fun (g : hG) (av : List Value) (m : hH) (n : Nat) (v : Option Value) (m' : hH) (n' : Nat) => ∀ (a0 : Nat) (a1 : Nat) (a2 : Nat) (a3 : Int32), av = [.ref a0, .ref a1, .ref a2, .int a3] → v = none ∧ Q g a0 a1 a2 a3 m n m' n') g [.ref a0, .ref a1, .ref a2, .int a3] m n)
theorem ht_LLLIrV_e {mc ms : Nat} {Q : hG → Nat → Nat → Nat → Int32 → hH → Nat → hH → Nat → Prop} {g : hG} {a0 : Nat} {a1 : Nat} {a2 : Nat} {a3 : Int32} {m : hH} {n : Nat} {w : hW} : ht_LLLIrV mc ms Q g a0 a1 a2 a3 m n none w = (w.2.2.1 ≤ mc ∧ w.2.2.2 ≤ ms ∧ Q g a0 a1 a2 a3 m n w.1 w.2.1) := by
  apply propext
  exact ⟨fun h => ⟨h.2.1, h.2.2.1, (h.2.2.2 _ _ _ _ rfl).2⟩, fun h => ⟨rfl, h.1, h.2.1, fun _ _ _ _ e => by
    cases e
    exact ⟨rfl, h.2.2⟩⟩⟩
theorem hm_LLLIrV_of {l : Launch} {y : MethodName} {own : String} {cc : ByteArray} {maxL fr lo mc ms : Nat} {P : hG → Nat → Nat → Nat → Int32 → hH → Nat → Prop} {Q : hG → Nat → Nat → Nat → Int32 → hH → Nat → hH → Nat → Prop} {T : hG → Nat → Nat → se_Op hW} (hy : plainName y.cls = true) (hyc : y.cls = own) (hT : hTS l own y.name cc maxL none fr lo mc ms T) (hL : 4 ≤ maxL)
    (body : ∀ (g : hG) (a0 : Nat) (a1 : Nat) (a2 : Nat) (a3 : Int32) (m : hH) (n : Nat), hDom g m n → hVg g → P g a0 a1 a2 a3 m n → ∀ G : Nat → se_L → List Value → hW → Prop, (∀ (stops : List Nat) (f pc : Nat) (L : se_L) (st : List Value) (w : hW), wpN True (T g) cc stops G (hXt mc ms (hNoX g [.ref a0, .ref a1, .ref a2, .int a3] m n)) (ht_LLLIrV mc ms Q g a0 a1 a2 a3 m n) f pc L st w → G pc L st w) → G 0 (se_ent [.ref a0, .ref a1, .ref a2, .int a3] maxL) [] (m, n, 0, 0)) : hm_LLLIrV l y (ws_ y cc maxL none) fr lo mc ms P Q :=
  hOf hy hyc hT (fun g av m n h => by
    obtain ⟨a0, a1, a2, a3, rfl, _⟩ := h
    exact hL) (fun g av m n h1 h2 hp G hG => by
    obtain ⟨a0, a1, a2, a3, rfl, hp⟩ := hp
    exact body g a0 a1 a2 a3 m n h1 h2 hp G hG)
abbrev hm_LLrZ (l : Launch) (y : MethodName) (ws : List Cond) (fr lo mc ms : Nat) (P : hG → Nat → Nat → hH → Nat → Prop) (Q : hG → Nat → Nat → hH → Nat → Bool → hH → Nat → Prop) : Prop := hCon l y ws fr lo mc ms (fun (g : hG) (av : List Value) (m : hH) (n : Nat) => ∃ (a0 : Nat) (a1 : Nat), av = [.ref a0, .ref a1] ∧ P g a0 a1 m n) (fun (g : hG) (av : List Value) (m : hH) (n : Nat) (v : Option Value) (m' : hH) (n' : Nat) => ∀ (a0 : Nat) (a1 : Nat), av = [.ref a0, .ref a1] → ∃ x, v = some (.int (bI x)) ∧ Q g a0 a1 m n x m' n') hNoX
def hov_LLrZ (g : hG) (mc ms mc' ms' : Nat) (cs : List Nat) (P : hG → Nat → Nat → hH → Nat → Prop) (Q : hG → Nat → Nat → hH → Nat → Bool → hH → Nat → Prop) : se_Op hW := fun st w K Y => match st with
  | .ref a1 :: .ref a0 :: r => hRcv cs w.1 [.ref a0] ∧ se_c8 8 r ∧ P g a0 a1 w.1 w.2.1 ∧ w.2.2.1 + mc' ≤ mc ∧ w.2.2.2 + ms' ≤ ms ∧ ∀ x m' n', Q g a0 a1 w.1 w.2.1 x m' n' → hDom g m' n' → w.2.1 ≤ n' → K (.int (bI x) :: r) (m', n', w.2.2.1 + mc', w.2.2.2 + ms')
  | _ => False
theorem hov_LLrZ_r {g : hG} {mc ms mc' ms' : Nat} {cs : List Nat} {P : hG → Nat → Nat → hH → Nat → Prop} {Q : hG → Nat → Nat → hH → Nat → Bool → hH → Nat → Prop} {a0 : Nat} {a1 : Nat} {r : List Value} {w : hW} {K : List Value → hW → Prop} {Y : Nat → hW → Prop} : hov_LLrZ g mc ms mc' ms' cs P Q (.ref a1 :: .ref a0 :: r) w K Y = (hRcv cs w.1 [.ref a0] ∧ se_c8 8 r ∧ P g a0 a1 w.1 w.2.1 ∧ w.2.2.1 + mc' ≤ mc ∧ w.2.2.2 + ms' ≤ ms ∧ ∀ x m' n', Q g a0 a1 w.1 w.2.1 x m' n' → hDom g m' n' → w.2.1 ≤ n' → K (.int (bI x) :: r) (m', n', w.2.2.1 + mc', w.2.2.2 + ms')) := rfl
theorem hov_LLrZ_ok {g : hG} {mc ms mc' ms' : Nat} {cs : List Nat} {P : hG → Nat → Nat → hH → Nat → Prop} {Q : hG → Nat → Nat → hH → Nat → Bool → hH → Nat → Prop} {p : Program} {l : Launch} {e : Env} {R : Room} {s : State} {m : MethodId} {args : Array Value} {below : List Frame} {meth : Method} {c : Code} {nL : Nat} {cc : ByteArray} {Q0 : State → Prop} {H0 : Heap} {ins : Instr} {len : Nat} (hS : se_Snd p l e R s m args below meth c Q0 nL (fun a => a) (hRM g H0) cc ins len (hCV g 1 mc ms mc' ms' cs (fun (g : hG) (av : List Value) (m : hH) (n : Nat) => ∃ (a0 : Nat) (a1 : Nat), av = [.ref a0, .ref a1] ∧ P g a0 a1 m n) (fun (g : hG) (av : List Value) (m : hH) (n : Nat) (v : Option Value) (m' : hH) (n' : Nat) => ∀ (a0 : Nat) (a1 : Nat), av = [.ref a0, .ref a1] → ∃ x, v = some (.int (bI x)) ∧ Q g a0 a1 m n x m' n') hNoX)) : se_Snd p l e R s m args below meth c Q0 nL (fun a => a) (hRM g H0) cc ins len (hov_LLrZ g mc ms mc' ms' cs P Q) :=
  hS.mono fun st w K Y h => by
    unfold hov_LLrZ at h
    split at h
    · rename_i a1 a0 r
      obtain ⟨hc, h8, hP, r1, r2, hq⟩ := h
      exact (⟨hc, h8, ⟨a0, a1, rfl, hP⟩, r1, r2, fun v m' n' hp hi hn => by
              obtain ⟨x, rfl, hx⟩ := hp a0 a1 rfl
              exact hq x m' n' hx hi hn, fun b m' n' hp => hp.elim⟩ : (hRcv cs w.1 [.ref a0, .ref a1] ∧ hGo g mc ms mc' ms' ((fun (g : hG) (av : List Value) (m : hH) (n : Nat) => ∃ (a0 : Nat) (a1 : Nat), av = [.ref a0, .ref a1] ∧ P g a0 a1 m n) g) ((fun (g : hG) (av : List Value) (m : hH) (n : Nat) (v : Option Value) (m' : hH) (n' : Nat) => ∀ (a0 : Nat) (a1 : Nat), av = [.ref a0, .ref a1] → ∃ x, v = some (.int (bI x)) ∧ Q g a0 a1 m n x m' n') g) (hNoX g) [.ref a0, .ref a1] r w K Y))
    · exact h.elim
def hpv_LLrZ (g : hG) (mc ms : Nat) (cs : List Nat) (P : hG → Nat → Nat → hH → Nat → Prop) (R0 : hG → Nat → Nat → hH → Nat → Bool) : se_Op hW := fun st w K Y => match st with
  | .ref a1 :: .ref a0 :: r => hRcv cs w.1 [.ref a0] ∧ se_c8 8 r ∧ P g a0 a1 w.1 w.2.1 ∧ w.2.2.1 ≤ mc ∧ w.2.2.2 ≤ ms ∧ K (.int (bI (R0 g a0 a1 w.1 w.2.1)) :: r) w
  | _ => False
theorem hpv_LLrZ_r {g : hG} {mc ms : Nat} {cs : List Nat} {P : hG → Nat → Nat → hH → Nat → Prop} {R0 : hG → Nat → Nat → hH → Nat → Bool} {a0 : Nat} {a1 : Nat} {r : List Value} {w : hW} {K : List Value → hW → Prop} {Y : Nat → hW → Prop} : hpv_LLrZ g mc ms cs P R0 (.ref a1 :: .ref a0 :: r) w K Y = (hRcv cs w.1 [.ref a0] ∧ se_c8 8 r ∧ P g a0 a1 w.1 w.2.1 ∧ w.2.2.1 ≤ mc ∧ w.2.2.2 ≤ ms ∧ K (.int (bI (R0 g a0 a1 w.1 w.2.1)) :: r) w) := rfl
theorem hpv_LLrZ_ok {g : hG} {mc ms : Nat} {cs : List Nat} {P : hG → Nat → Nat → hH → Nat → Prop} {R0 : hG → Nat → Nat → hH → Nat → Bool} {p : Program} {l : Launch} {e : Env} {R : Room} {s : State} {m : MethodId} {args : Array Value} {below : List Frame} {meth : Method} {c : Code} {nL : Nat} {cc : ByteArray} {Q0 : State → Prop} {H0 : Heap} {ins : Instr} {len : Nat} (hS : se_Snd p l e R s m args below meth c Q0 nL (fun a => a) (hRM g H0) cc ins len (hov_LLrZ g mc ms 0 0 cs P (fun g a0 a1 m n x m' n' => x = R0 g a0 a1 m n ∧ m' = m ∧ n' = n))) : se_Snd p l e R s m args below meth c Q0 nL (fun a => a) (hRM g H0) cc ins len (hpv_LLrZ g mc ms cs P R0) :=
  hS.mono fun st w K Y h => by
    unfold hpv_LLrZ at h
    split at h
    · rename_i a1 a0 r
      obtain ⟨hc, h8, hP, r1, r2, hq⟩ := h
      exact ⟨hc, h8, hP, r1, r2, fun x m' n' e _ _ => by
              obtain ⟨rfl, rfl, rfl⟩ := e
              exact hq⟩
    · exact h.elim
def hfv_LLrZ (g : hG) (mc ms : Nat) (cs : List Nat) (P : hG → Nat → Nat → hH → Nat → Prop) (R0 : hG → Nat → Nat → hH → Nat → Bool) (F : hG → Nat → Nat → hH → Nat → hH) : se_Op hW := fun st w K Y => match st with
  | .ref a1 :: .ref a0 :: r => hRcv cs w.1 [.ref a0] ∧ se_c8 8 r ∧ P g a0 a1 w.1 w.2.1 ∧ w.2.2.1 ≤ mc ∧ w.2.2.2 ≤ ms ∧ K (.int (bI (R0 g a0 a1 w.1 w.2.1)) :: r) (F g a0 a1 w.1 w.2.1, w.2)
  | _ => False
theorem hfv_LLrZ_r {g : hG} {mc ms : Nat} {cs : List Nat} {P : hG → Nat → Nat → hH → Nat → Prop} {R0 : hG → Nat → Nat → hH → Nat → Bool} {F : hG → Nat → Nat → hH → Nat → hH} {a0 : Nat} {a1 : Nat} {r : List Value} {w : hW} {K : List Value → hW → Prop} {Y : Nat → hW → Prop} : hfv_LLrZ g mc ms cs P R0 F (.ref a1 :: .ref a0 :: r) w K Y = (hRcv cs w.1 [.ref a0] ∧ se_c8 8 r ∧ P g a0 a1 w.1 w.2.1 ∧ w.2.2.1 ≤ mc ∧ w.2.2.2 ≤ ms ∧ K (.int (bI (R0 g a0 a1 w.1 w.2.1)) :: r) (F g a0 a1 w.1 w.2.1, w.2)) := rfl
theorem hfv_LLrZ_ok {g : hG} {mc ms : Nat} {cs : List Nat} {P : hG → Nat → Nat → hH → Nat → Prop} {R0 : hG → Nat → Nat → hH → Nat → Bool} {F : hG → Nat → Nat → hH → Nat → hH} {p : Program} {l : Launch} {e : Env} {R : Room} {s : State} {m : MethodId} {args : Array Value} {below : List Frame} {meth : Method} {c : Code} {nL : Nat} {cc : ByteArray} {Q0 : State → Prop} {H0 : Heap} {ins : Instr} {len : Nat} (hS : se_Snd p l e R s m args below meth c Q0 nL (fun a => a) (hRM g H0) cc ins len (hov_LLrZ g mc ms 0 0 cs P (fun g a0 a1 m n x m' n' => x = R0 g a0 a1 m n ∧ m' = F g a0 a1 m n ∧ n' = n))) : se_Snd p l e R s m args below meth c Q0 nL (fun a => a) (hRM g H0) cc ins len (hfv_LLrZ g mc ms cs P R0 F) :=
  hS.mono fun st w K Y h => by
    unfold hfv_LLrZ at h
    split at h
    · rename_i a1 a0 r
      obtain ⟨hc, h8, hP, r1, r2, hq⟩ := h
      exact ⟨hc, h8, hP, r1, r2, fun x m' n' e _ _ => by
              obtain ⟨rfl, rfl, rfl⟩ := e
              exact hq⟩
    · exact h.elim
def ht_LLrZ (mc ms : Nat) (Q : hG → Nat → Nat → hH → Nat → Bool → hH → Nat → Prop) (g : hG) (a0 : Nat) (a1 : Nat) (m : hH) (n : Nat) : Option Value → hW → Prop := hRt (some .boolean) mc ms ((fun (g : hG) (av : List Value) (m : hH) (n : Nat) (v : Option Value) (m' : hH) (n' : Nat) => ∀ (a0 : Nat) (a1 : Nat), av = [.ref a0, .ref a1] → ∃ x, v = some (.int (bI x)) ∧ Q g a0 a1 m n x m' n') g [.ref a0, .ref a1] m n)
theorem ht_LLrZ_e {mc ms : Nat} {Q : hG → Nat → Nat → hH → Nat → Bool → hH → Nat → Prop} {g : hG} {a0 : Nat} {a1 : Nat} {m : hH} {n : Nat} {w : hW} {z : Int32} : ht_LLrZ mc ms Q g a0 a1 m n (some (.int z)) w = (w.2.2.1 ≤ mc ∧ w.2.2.2 ≤ ms ∧ rz z fun x => Q g a0 a1 m n x w.1 w.2.1) := by
  apply propext
  constructor
  · intro h
    obtain ⟨x, e, hq⟩ := h.2.2.2 _ _ rfl
    cases e
    exact ⟨h.2.1, h.2.2.1, ⟨x, rfl, hq⟩⟩
  · intro h
    obtain ⟨h1, h2, h3⟩ := h
    obtain ⟨x, rfl, h3⟩ := h3
    exact ⟨⟨_, rfl, bI_nar x⟩, h1, h2, fun _ _ e => by
      cases e
      exact ⟨x, rfl, h3⟩⟩
theorem hm_LLrZ_of {l : Launch} {y : MethodName} {own : String} {cc : ByteArray} {maxL fr lo mc ms : Nat} {P : hG → Nat → Nat → hH → Nat → Prop} {Q : hG → Nat → Nat → hH → Nat → Bool → hH → Nat → Prop} {T : hG → Nat → Nat → se_Op hW} (hy : plainName y.cls = true) (hyc : y.cls = own) (hT : hTS l own y.name cc maxL (some .boolean) fr lo mc ms T) (hL : 2 ≤ maxL)
    (body : ∀ (g : hG) (a0 : Nat) (a1 : Nat) (m : hH) (n : Nat), hDom g m n → hVg g → P g a0 a1 m n → ∀ G : Nat → se_L → List Value → hW → Prop, (∀ (stops : List Nat) (f pc : Nat) (L : se_L) (st : List Value) (w : hW), wpN True (T g) cc stops G (hXt mc ms (hNoX g [.ref a0, .ref a1] m n)) (ht_LLrZ mc ms Q g a0 a1 m n) f pc L st w → G pc L st w) → G 0 (se_ent [.ref a0, .ref a1] maxL) [] (m, n, 0, 0)) : hm_LLrZ l y (ws_ y cc maxL (some .boolean)) fr lo mc ms P Q :=
  hOf hy hyc hT (fun g av m n h => by
    obtain ⟨a0, a1, rfl, _⟩ := h
    exact hL) (fun g av m n h1 h2 hp G hG => by
    obtain ⟨a0, a1, rfl, hp⟩ := hp
    exact body g a0 a1 m n h1 h2 hp G hG)
abbrev hm_LrB (l : Launch) (y : MethodName) (ws : List Cond) (fr lo mc ms : Nat) (P : hG → Nat → hH → Nat → Prop) (Q : hG → Nat → hH → Nat → Int32 → hH → Nat → Prop) : Prop := hCon l y ws fr lo mc ms (fun (g : hG) (av : List Value) (m : hH) (n : Nat) => ∃ (a0 : Nat), av = [.ref a0] ∧ P g a0 m n) (fun (g : hG) (av : List Value) (m : hH) (n : Nat) (v : Option Value) (m' : hH) (n' : Nat) => ∀ (a0 : Nat), av = [.ref a0] → ∃ x, v = some (.int x) ∧ Q g a0 m n x m' n') hNoX
def ho_LrB (g : hG) (mc ms mc' ms' : Nat) (P : hG → Nat → hH → Nat → Prop) (Q : hG → Nat → hH → Nat → Int32 → hH → Nat → Prop) : se_Op hW := fun st w K Y => match st with
  | .ref a0 :: r => se_c8 8 r ∧ P g a0 w.1 w.2.1 ∧ w.2.2.1 + mc' ≤ mc ∧ w.2.2.2 + ms' ≤ ms ∧ ∀ x m' n', Q g a0 w.1 w.2.1 x m' n' → hDom g m' n' → w.2.1 ≤ n' → K (.int x :: r) (m', n', w.2.2.1 + mc', w.2.2.2 + ms')
  | _ => False
theorem ho_LrB_r {g : hG} {mc ms mc' ms' : Nat} {P : hG → Nat → hH → Nat → Prop} {Q : hG → Nat → hH → Nat → Int32 → hH → Nat → Prop} {a0 : Nat} {r : List Value} {w : hW} {K : List Value → hW → Prop} {Y : Nat → hW → Prop} : ho_LrB g mc ms mc' ms' P Q (.ref a0 :: r) w K Y = (se_c8 8 r ∧ P g a0 w.1 w.2.1 ∧ w.2.2.1 + mc' ≤ mc ∧ w.2.2.2 + ms' ≤ ms ∧ ∀ x m' n', Q g a0 w.1 w.2.1 x m' n' → hDom g m' n' → w.2.1 ≤ n' → K (.int x :: r) (m', n', w.2.2.1 + mc', w.2.2.2 + ms')) := rfl
theorem ho_LrB_ok {g : hG} {mc ms mc' ms' : Nat} {P : hG → Nat → hH → Nat → Prop} {Q : hG → Nat → hH → Nat → Int32 → hH → Nat → Prop} {p : Program} {l : Launch} {e : Env} {R : Room} {s : State} {m : MethodId} {args : Array Value} {below : List Frame} {meth : Method} {c : Code} {nL : Nat} {cc : ByteArray} {Q0 : State → Prop} {H0 : Heap} {ins : Instr} {len : Nat} (hS : se_Snd p l e R s m args below meth c Q0 nL (fun a => a) (hRM g H0) cc ins len (hCS g 1 mc ms mc' ms' (fun (g : hG) (av : List Value) (m : hH) (n : Nat) => ∃ (a0 : Nat), av = [.ref a0] ∧ P g a0 m n) (fun (g : hG) (av : List Value) (m : hH) (n : Nat) (v : Option Value) (m' : hH) (n' : Nat) => ∀ (a0 : Nat), av = [.ref a0] → ∃ x, v = some (.int x) ∧ Q g a0 m n x m' n') hNoX)) : se_Snd p l e R s m args below meth c Q0 nL (fun a => a) (hRM g H0) cc ins len (ho_LrB g mc ms mc' ms' P Q) :=
  hS.mono fun st w K Y h => by
    unfold ho_LrB at h
    split at h
    · rename_i a0 r
      obtain ⟨h8, hP, r1, r2, hq⟩ := h
      exact (⟨h8, ⟨a0, rfl, hP⟩, r1, r2, fun v m' n' hp hi hn => by
              obtain ⟨x, rfl, hx⟩ := hp a0 rfl
              exact hq x m' n' hx hi hn, fun b m' n' hp => hp.elim⟩ : hGo g mc ms mc' ms' ((fun (g : hG) (av : List Value) (m : hH) (n : Nat) => ∃ (a0 : Nat), av = [.ref a0] ∧ P g a0 m n) g) ((fun (g : hG) (av : List Value) (m : hH) (n : Nat) (v : Option Value) (m' : hH) (n' : Nat) => ∀ (a0 : Nat), av = [.ref a0] → ∃ x, v = some (.int x) ∧ Q g a0 m n x m' n') g) (hNoX g) [.ref a0] r w K Y)
    · exact h.elim
def hov_LrB (g : hG) (mc ms mc' ms' : Nat) (cs : List Nat) (P : hG → Nat → hH → Nat → Prop) (Q : hG → Nat → hH → Nat → Int32 → hH → Nat → Prop) : se_Op hW := fun st w K Y => match st with
  | .ref a0 :: r => hRcv cs w.1 [.ref a0] ∧ se_c8 8 r ∧ P g a0 w.1 w.2.1 ∧ w.2.2.1 + mc' ≤ mc ∧ w.2.2.2 + ms' ≤ ms ∧ ∀ x m' n', Q g a0 w.1 w.2.1 x m' n' → hDom g m' n' → w.2.1 ≤ n' → K (.int x :: r) (m', n', w.2.2.1 + mc', w.2.2.2 + ms')
  | _ => False
theorem hov_LrB_r {g : hG} {mc ms mc' ms' : Nat} {cs : List Nat} {P : hG → Nat → hH → Nat → Prop} {Q : hG → Nat → hH → Nat → Int32 → hH → Nat → Prop} {a0 : Nat} {r : List Value} {w : hW} {K : List Value → hW → Prop} {Y : Nat → hW → Prop} : hov_LrB g mc ms mc' ms' cs P Q (.ref a0 :: r) w K Y = (hRcv cs w.1 [.ref a0] ∧ se_c8 8 r ∧ P g a0 w.1 w.2.1 ∧ w.2.2.1 + mc' ≤ mc ∧ w.2.2.2 + ms' ≤ ms ∧ ∀ x m' n', Q g a0 w.1 w.2.1 x m' n' → hDom g m' n' → w.2.1 ≤ n' → K (.int x :: r) (m', n', w.2.2.1 + mc', w.2.2.2 + ms')) := rfl
theorem hov_LrB_ok {g : hG} {mc ms mc' ms' : Nat} {cs : List Nat} {P : hG → Nat → hH → Nat → Prop} {Q : hG → Nat → hH → Nat → Int32 → hH → Nat → Prop} {p : Program} {l : Launch} {e : Env} {R : Room} {s : State} {m : MethodId} {args : Array Value} {below : List Frame} {meth : Method} {c : Code} {nL : Nat} {cc : ByteArray} {Q0 : State → Prop} {H0 : Heap} {ins : Instr} {len : Nat} (hS : se_Snd p l e R s m args below meth c Q0 nL (fun a => a) (hRM g H0) cc ins len (hCV g 0 mc ms mc' ms' cs (fun (g : hG) (av : List Value) (m : hH) (n : Nat) => ∃ (a0 : Nat), av = [.ref a0] ∧ P g a0 m n) (fun (g : hG) (av : List Value) (m : hH) (n : Nat) (v : Option Value) (m' : hH) (n' : Nat) => ∀ (a0 : Nat), av = [.ref a0] → ∃ x, v = some (.int x) ∧ Q g a0 m n x m' n') hNoX)) : se_Snd p l e R s m args below meth c Q0 nL (fun a => a) (hRM g H0) cc ins len (hov_LrB g mc ms mc' ms' cs P Q) :=
  hS.mono fun st w K Y h => by
    unfold hov_LrB at h
    split at h
    · rename_i a0 r
      obtain ⟨hc, h8, hP, r1, r2, hq⟩ := h
      exact (⟨hc, h8, ⟨a0, rfl, hP⟩, r1, r2, fun v m' n' hp hi hn => by
              obtain ⟨x, rfl, hx⟩ := hp a0 rfl
              exact hq x m' n' hx hi hn, fun b m' n' hp => hp.elim⟩ : (hRcv cs w.1 [.ref a0] ∧ hGo g mc ms mc' ms' ((fun (g : hG) (av : List Value) (m : hH) (n : Nat) => ∃ (a0 : Nat), av = [.ref a0] ∧ P g a0 m n) g) ((fun (g : hG) (av : List Value) (m : hH) (n : Nat) (v : Option Value) (m' : hH) (n' : Nat) => ∀ (a0 : Nat), av = [.ref a0] → ∃ x, v = some (.int x) ∧ Q g a0 m n x m' n') g) (hNoX g) [.ref a0] r w K Y))
    · exact h.elim
def hp_LrB (g : hG) (mc ms : Nat) (P : hG → Nat → hH → Nat → Prop) (R0 : hG → Nat → hH → Nat → Int32) : se_Op hW := fun st w K Y => match st with
  | .ref a0 :: r => se_c8 8 r ∧ P g a0 w.1 w.2.1 ∧ w.2.2.1 ≤ mc ∧ w.2.2.2 ≤ ms ∧ K (.int (R0 g a0 w.1 w.2.1) :: r) w
  | _ => False
theorem hp_LrB_r {g : hG} {mc ms : Nat} {P : hG → Nat → hH → Nat → Prop} {R0 : hG → Nat → hH → Nat → Int32} {a0 : Nat} {r : List Value} {w : hW} {K : List Value → hW → Prop} {Y : Nat → hW → Prop} : hp_LrB g mc ms P R0 (.ref a0 :: r) w K Y = (se_c8 8 r ∧ P g a0 w.1 w.2.1 ∧ w.2.2.1 ≤ mc ∧ w.2.2.2 ≤ ms ∧ K (.int (R0 g a0 w.1 w.2.1) :: r) w) := rfl
theorem hp_LrB_ok {g : hG} {mc ms : Nat} {P : hG → Nat → hH → Nat → Prop} {R0 : hG → Nat → hH → Nat → Int32} {p : Program} {l : Launch} {e : Env} {R : Room} {s : State} {m : MethodId} {args : Array Value} {below : List Frame} {meth : Method} {c : Code} {nL : Nat} {cc : ByteArray} {Q0 : State → Prop} {H0 : Heap} {ins : Instr} {len : Nat} (hS : se_Snd p l e R s m args below meth c Q0 nL (fun a => a) (hRM g H0) cc ins len (ho_LrB g mc ms 0 0 P (fun g a0 m n x m' n' => x = R0 g a0 m n ∧ m' = m ∧ n' = n))) : se_Snd p l e R s m args below meth c Q0 nL (fun a => a) (hRM g H0) cc ins len (hp_LrB g mc ms P R0) :=
  hS.mono fun st w K Y h => by
    unfold hp_LrB at h
    split at h
    · rename_i a0 r
      obtain ⟨h8, hP, r1, r2, hq⟩ := h
      exact ⟨h8, hP, r1, r2, fun x m' n' e _ _ => by
              obtain ⟨rfl, rfl, rfl⟩ := e
              exact hq⟩
    · exact h.elim
def hpv_LrB (g : hG) (mc ms : Nat) (cs : List Nat) (P : hG → Nat → hH → Nat → Prop) (R0 : hG → Nat → hH → Nat → Int32) : se_Op hW := fun st w K Y => match st with
  | .ref a0 :: r => hRcv cs w.1 [.ref a0] ∧ se_c8 8 r ∧ P g a0 w.1 w.2.1 ∧ w.2.2.1 ≤ mc ∧ w.2.2.2 ≤ ms ∧ K (.int (R0 g a0 w.1 w.2.1) :: r) w
  | _ => False
theorem hpv_LrB_r {g : hG} {mc ms : Nat} {cs : List Nat} {P : hG → Nat → hH → Nat → Prop} {R0 : hG → Nat → hH → Nat → Int32} {a0 : Nat} {r : List Value} {w : hW} {K : List Value → hW → Prop} {Y : Nat → hW → Prop} : hpv_LrB g mc ms cs P R0 (.ref a0 :: r) w K Y = (hRcv cs w.1 [.ref a0] ∧ se_c8 8 r ∧ P g a0 w.1 w.2.1 ∧ w.2.2.1 ≤ mc ∧ w.2.2.2 ≤ ms ∧ K (.int (R0 g a0 w.1 w.2.1) :: r) w) := rfl
theorem hpv_LrB_ok {g : hG} {mc ms : Nat} {cs : List Nat} {P : hG → Nat → hH → Nat → Prop} {R0 : hG → Nat → hH → Nat → Int32} {p : Program} {l : Launch} {e : Env} {R : Room} {s : State} {m : MethodId} {args : Array Value} {below : List Frame} {meth : Method} {c : Code} {nL : Nat} {cc : ByteArray} {Q0 : State → Prop} {H0 : Heap} {ins : Instr} {len : Nat} (hS : se_Snd p l e R s m args below meth c Q0 nL (fun a => a) (hRM g H0) cc ins len (hov_LrB g mc ms 0 0 cs P (fun g a0 m n x m' n' => x = R0 g a0 m n ∧ m' = m ∧ n' = n))) : se_Snd p l e R s m args below meth c Q0 nL (fun a => a) (hRM g H0) cc ins len (hpv_LrB g mc ms cs P R0) :=
  hS.mono fun st w K Y h => by
    unfold hpv_LrB at h
    split at h
    · rename_i a0 r
      obtain ⟨hc, h8, hP, r1, r2, hq⟩ := h
      exact ⟨hc, h8, hP, r1, r2, fun x m' n' e _ _ => by
              obtain ⟨rfl, rfl, rfl⟩ := e
              exact hq⟩
    · exact h.elim
def hf_LrB (g : hG) (mc ms : Nat) (P : hG → Nat → hH → Nat → Prop) (R0 : hG → Nat → hH → Nat → Int32) (F : hG → Nat → hH → Nat → hH) : se_Op hW := fun st w K Y => match st with
  | .ref a0 :: r => se_c8 8 r ∧ P g a0 w.1 w.2.1 ∧ w.2.2.1 ≤ mc ∧ w.2.2.2 ≤ ms ∧ K (.int (R0 g a0 w.1 w.2.1) :: r) (F g a0 w.1 w.2.1, w.2)
  | _ => False
theorem hf_LrB_r {g : hG} {mc ms : Nat} {P : hG → Nat → hH → Nat → Prop} {R0 : hG → Nat → hH → Nat → Int32} {F : hG → Nat → hH → Nat → hH} {a0 : Nat} {r : List Value} {w : hW} {K : List Value → hW → Prop} {Y : Nat → hW → Prop} : hf_LrB g mc ms P R0 F (.ref a0 :: r) w K Y = (se_c8 8 r ∧ P g a0 w.1 w.2.1 ∧ w.2.2.1 ≤ mc ∧ w.2.2.2 ≤ ms ∧ K (.int (R0 g a0 w.1 w.2.1) :: r) (F g a0 w.1 w.2.1, w.2)) := rfl
theorem hf_LrB_ok {g : hG} {mc ms : Nat} {P : hG → Nat → hH → Nat → Prop} {R0 : hG → Nat → hH → Nat → Int32} {F : hG → Nat → hH → Nat → hH} {p : Program} {l : Launch} {e : Env} {R : Room} {s : State} {m : MethodId} {args : Array Value} {below : List Frame} {meth : Method} {c : Code} {nL : Nat} {cc : ByteArray} {Q0 : State → Prop} {H0 : Heap} {ins : Instr} {len : Nat} (hS : se_Snd p l e R s m args below meth c Q0 nL (fun a => a) (hRM g H0) cc ins len (ho_LrB g mc ms 0 0 P (fun g a0 m n x m' n' => x = R0 g a0 m n ∧ m' = F g a0 m n ∧ n' = n))) : se_Snd p l e R s m args below meth c Q0 nL (fun a => a) (hRM g H0) cc ins len (hf_LrB g mc ms P R0 F) :=
  hS.mono fun st w K Y h => by
    unfold hf_LrB at h
    split at h
    · rename_i a0 r
      obtain ⟨h8, hP, r1, r2, hq⟩ := h
      exact ⟨h8, hP, r1, r2, fun x m' n' e _ _ => by
              obtain ⟨rfl, rfl, rfl⟩ := e
              exact hq⟩
    · exact h.elim
def hfv_LrB (g : hG) (mc ms : Nat) (cs : List Nat) (P : hG → Nat → hH → Nat → Prop) (R0 : hG → Nat → hH → Nat → Int32) (F : hG → Nat → hH → Nat → hH) : se_Op hW := fun st w K Y => match st with
  | .ref a0 :: r => hRcv cs w.1 [.ref a0] ∧ se_c8 8 r ∧ P g a0 w.1 w.2.1 ∧ w.2.2.1 ≤ mc ∧ w.2.2.2 ≤ ms ∧ K (.int (R0 g a0 w.1 w.2.1) :: r) (F g a0 w.1 w.2.1, w.2)
  | _ => False
theorem hfv_LrB_r {g : hG} {mc ms : Nat} {cs : List Nat} {P : hG → Nat → hH → Nat → Prop} {R0 : hG → Nat → hH → Nat → Int32} {F : hG → Nat → hH → Nat → hH} {a0 : Nat} {r : List Value} {w : hW} {K : List Value → hW → Prop} {Y : Nat → hW → Prop} : hfv_LrB g mc ms cs P R0 F (.ref a0 :: r) w K Y = (hRcv cs w.1 [.ref a0] ∧ se_c8 8 r ∧ P g a0 w.1 w.2.1 ∧ w.2.2.1 ≤ mc ∧ w.2.2.2 ≤ ms ∧ K (.int (R0 g a0 w.1 w.2.1) :: r) (F g a0 w.1 w.2.1, w.2)) := rfl
theorem hfv_LrB_ok {g : hG} {mc ms : Nat} {cs : List Nat} {P : hG → Nat → hH → Nat → Prop} {R0 : hG → Nat → hH → Nat → Int32} {F : hG → Nat → hH → Nat → hH} {p : Program} {l : Launch} {e : Env} {R : Room} {s : State} {m : MethodId} {args : Array Value} {below : List Frame} {meth : Method} {c : Code} {nL : Nat} {cc : ByteArray} {Q0 : State → Prop} {H0 : Heap} {ins : Instr} {len : Nat} (hS : se_Snd p l e R s m args below meth c Q0 nL (fun a => a) (hRM g H0) cc ins len (hov_LrB g mc ms 0 0 cs P (fun g a0 m n x m' n' => x = R0 g a0 m n ∧ m' = F g a0 m n ∧ n' = n))) : se_Snd p l e R s m args below meth c Q0 nL (fun a => a) (hRM g H0) cc ins len (hfv_LrB g mc ms cs P R0 F) :=
  hS.mono fun st w K Y h => by
    unfold hfv_LrB at h
    split at h
    · rename_i a0 r
      obtain ⟨hc, h8, hP, r1, r2, hq⟩ := h
      exact ⟨hc, h8, hP, r1, r2, fun x m' n' e _ _ => by
              obtain ⟨rfl, rfl, rfl⟩ := e
              exact hq⟩
    · exact h.elim
def ht_LrB (mc ms : Nat) (Q : hG → Nat → hH → Nat → Int32 → hH → Nat → Prop) (g : hG) (a0 : Nat) (m : hH) (n : Nat) : Option Value → hW → Prop := hRt (some .byte) mc ms ((fun (g : hG) (av : List Value) (m : hH) (n : Nat) (v : Option Value) (m' : hH) (n' : Nat) => ∀ (a0 : Nat), av = [.ref a0] → ∃ x, v = some (.int x) ∧ Q g a0 m n x m' n') g [.ref a0] m n)
theorem ht_LrB_e {mc ms : Nat} {Q : hG → Nat → hH → Nat → Int32 → hH → Nat → Prop} {g : hG} {a0 : Nat} {m : hH} {n : Nat} {w : hW} {z : Int32} (hz : narrow .byte (.int z) = .int z) : ht_LrB mc ms Q g a0 m n (some (.int z)) w = (w.2.2.1 ≤ mc ∧ w.2.2.2 ≤ ms ∧ Q g a0 m n z w.1 w.2.1) := by
  apply propext
  constructor
  · intro h
    obtain ⟨x, e, hq⟩ := h.2.2.2 _ rfl
    cases e
    exact ⟨h.2.1, h.2.2.1, hq⟩
  · intro h
    obtain ⟨h1, h2, h3⟩ := h
    exact ⟨⟨_, rfl, hz⟩, h1, h2, fun _ e => by
      cases e
      exact ⟨z, rfl, h3⟩⟩
theorem hm_LrB_of {l : Launch} {y : MethodName} {own : String} {cc : ByteArray} {maxL fr lo mc ms : Nat} {P : hG → Nat → hH → Nat → Prop} {Q : hG → Nat → hH → Nat → Int32 → hH → Nat → Prop} {T : hG → Nat → Nat → se_Op hW} (hy : plainName y.cls = true) (hyc : y.cls = own) (hT : hTS l own y.name cc maxL (some .byte) fr lo mc ms T) (hL : 1 ≤ maxL)
    (body : ∀ (g : hG) (a0 : Nat) (m : hH) (n : Nat), hDom g m n → hVg g → P g a0 m n → ∀ G : Nat → se_L → List Value → hW → Prop, (∀ (stops : List Nat) (f pc : Nat) (L : se_L) (st : List Value) (w : hW), wpN True (T g) cc stops G (hXt mc ms (hNoX g [.ref a0] m n)) (ht_LrB mc ms Q g a0 m n) f pc L st w → G pc L st w) → G 0 (se_ent [.ref a0] maxL) [] (m, n, 0, 0)) : hm_LrB l y (ws_ y cc maxL (some .byte)) fr lo mc ms P Q :=
  hOf hy hyc hT (fun g av m n h => by
    obtain ⟨a0, rfl, _⟩ := h
    exact hL) (fun g av m n h1 h2 hp G hG => by
    obtain ⟨a0, rfl, hp⟩ := hp
    exact body g a0 m n h1 h2 hp G hG)
abbrev hm_LrI (l : Launch) (y : MethodName) (ws : List Cond) (fr lo mc ms : Nat) (P : hG → Nat → hH → Nat → Prop) (Q : hG → Nat → hH → Nat → Int32 → hH → Nat → Prop) : Prop := hCon l y ws fr lo mc ms (fun (g : hG) (av : List Value) (m : hH) (n : Nat) => ∃ (a0 : Nat), av = [.ref a0] ∧ P g a0 m n) (fun (g : hG) (av : List Value) (m : hH) (n : Nat) (v : Option Value) (m' : hH) (n' : Nat) => ∀ (a0 : Nat), av = [.ref a0] → ∃ x, v = some (.int x) ∧ Q g a0 m n x m' n') hNoX
def ho_LrI (g : hG) (mc ms mc' ms' : Nat) (P : hG → Nat → hH → Nat → Prop) (Q : hG → Nat → hH → Nat → Int32 → hH → Nat → Prop) : se_Op hW := fun st w K Y => match st with
  | .ref a0 :: r => se_c8 8 r ∧ P g a0 w.1 w.2.1 ∧ w.2.2.1 + mc' ≤ mc ∧ w.2.2.2 + ms' ≤ ms ∧ ∀ x m' n', Q g a0 w.1 w.2.1 x m' n' → hDom g m' n' → w.2.1 ≤ n' → K (.int x :: r) (m', n', w.2.2.1 + mc', w.2.2.2 + ms')
  | _ => False
theorem ho_LrI_r {g : hG} {mc ms mc' ms' : Nat} {P : hG → Nat → hH → Nat → Prop} {Q : hG → Nat → hH → Nat → Int32 → hH → Nat → Prop} {a0 : Nat} {r : List Value} {w : hW} {K : List Value → hW → Prop} {Y : Nat → hW → Prop} : ho_LrI g mc ms mc' ms' P Q (.ref a0 :: r) w K Y = (se_c8 8 r ∧ P g a0 w.1 w.2.1 ∧ w.2.2.1 + mc' ≤ mc ∧ w.2.2.2 + ms' ≤ ms ∧ ∀ x m' n', Q g a0 w.1 w.2.1 x m' n' → hDom g m' n' → w.2.1 ≤ n' → K (.int x :: r) (m', n', w.2.2.1 + mc', w.2.2.2 + ms')) := rfl
theorem ho_LrI_ok {g : hG} {mc ms mc' ms' : Nat} {P : hG → Nat → hH → Nat → Prop} {Q : hG → Nat → hH → Nat → Int32 → hH → Nat → Prop} {p : Program} {l : Launch} {e : Env} {R : Room} {s : State} {m : MethodId} {args : Array Value} {below : List Frame} {meth : Method} {c : Code} {nL : Nat} {cc : ByteArray} {Q0 : State → Prop} {H0 : Heap} {ins : Instr} {len : Nat} (hS : se_Snd p l e R s m args below meth c Q0 nL (fun a => a) (hRM g H0) cc ins len (hCS g 1 mc ms mc' ms' (fun (g : hG) (av : List Value) (m : hH) (n : Nat) => ∃ (a0 : Nat), av = [.ref a0] ∧ P g a0 m n) (fun (g : hG) (av : List Value) (m : hH) (n : Nat) (v : Option Value) (m' : hH) (n' : Nat) => ∀ (a0 : Nat), av = [.ref a0] → ∃ x, v = some (.int x) ∧ Q g a0 m n x m' n') hNoX)) : se_Snd p l e R s m args below meth c Q0 nL (fun a => a) (hRM g H0) cc ins len (ho_LrI g mc ms mc' ms' P Q) :=
  hS.mono fun st w K Y h => by
    unfold ho_LrI at h
    split at h
    · rename_i a0 r
      obtain ⟨h8, hP, r1, r2, hq⟩ := h
      exact (⟨h8, ⟨a0, rfl, hP⟩, r1, r2, fun v m' n' hp hi hn => by
              obtain ⟨x, rfl, hx⟩ := hp a0 rfl
              exact hq x m' n' hx hi hn, fun b m' n' hp => hp.elim⟩ : hGo g mc ms mc' ms' ((fun (g : hG) (av : List Value) (m : hH) (n : Nat) => ∃ (a0 : Nat), av = [.ref a0] ∧ P g a0 m n) g) ((fun (g : hG) (av : List Value) (m : hH) (n : Nat) (v : Option Value) (m' : hH) (n' : Nat) => ∀ (a0 : Nat), av = [.ref a0] → ∃ x, v = some (.int x) ∧ Q g a0 m n x m' n') g) (hNoX g) [.ref a0] r w K Y)
    · exact h.elim
def hov_LrI (g : hG) (mc ms mc' ms' : Nat) (cs : List Nat) (P : hG → Nat → hH → Nat → Prop) (Q : hG → Nat → hH → Nat → Int32 → hH → Nat → Prop) : se_Op hW := fun st w K Y => match st with
  | .ref a0 :: r => hRcv cs w.1 [.ref a0] ∧ se_c8 8 r ∧ P g a0 w.1 w.2.1 ∧ w.2.2.1 + mc' ≤ mc ∧ w.2.2.2 + ms' ≤ ms ∧ ∀ x m' n', Q g a0 w.1 w.2.1 x m' n' → hDom g m' n' → w.2.1 ≤ n' → K (.int x :: r) (m', n', w.2.2.1 + mc', w.2.2.2 + ms')
  | _ => False
theorem hov_LrI_r {g : hG} {mc ms mc' ms' : Nat} {cs : List Nat} {P : hG → Nat → hH → Nat → Prop} {Q : hG → Nat → hH → Nat → Int32 → hH → Nat → Prop} {a0 : Nat} {r : List Value} {w : hW} {K : List Value → hW → Prop} {Y : Nat → hW → Prop} : hov_LrI g mc ms mc' ms' cs P Q (.ref a0 :: r) w K Y = (hRcv cs w.1 [.ref a0] ∧ se_c8 8 r ∧ P g a0 w.1 w.2.1 ∧ w.2.2.1 + mc' ≤ mc ∧ w.2.2.2 + ms' ≤ ms ∧ ∀ x m' n', Q g a0 w.1 w.2.1 x m' n' → hDom g m' n' → w.2.1 ≤ n' → K (.int x :: r) (m', n', w.2.2.1 + mc', w.2.2.2 + ms')) := rfl
theorem hov_LrI_ok {g : hG} {mc ms mc' ms' : Nat} {cs : List Nat} {P : hG → Nat → hH → Nat → Prop} {Q : hG → Nat → hH → Nat → Int32 → hH → Nat → Prop} {p : Program} {l : Launch} {e : Env} {R : Room} {s : State} {m : MethodId} {args : Array Value} {below : List Frame} {meth : Method} {c : Code} {nL : Nat} {cc : ByteArray} {Q0 : State → Prop} {H0 : Heap} {ins : Instr} {len : Nat} (hS : se_Snd p l e R s m args below meth c Q0 nL (fun a => a) (hRM g H0) cc ins len (hCV g 0 mc ms mc' ms' cs (fun (g : hG) (av : List Value) (m : hH) (n : Nat) => ∃ (a0 : Nat), av = [.ref a0] ∧ P g a0 m n) (fun (g : hG) (av : List Value) (m : hH) (n : Nat) (v : Option Value) (m' : hH) (n' : Nat) => ∀ (a0 : Nat), av = [.ref a0] → ∃ x, v = some (.int x) ∧ Q g a0 m n x m' n') hNoX)) : se_Snd p l e R s m args below meth c Q0 nL (fun a => a) (hRM g H0) cc ins len (hov_LrI g mc ms mc' ms' cs P Q) :=
  hS.mono fun st w K Y h => by
    unfold hov_LrI at h
    split at h
    · rename_i a0 r
      obtain ⟨hc, h8, hP, r1, r2, hq⟩ := h
      exact (⟨hc, h8, ⟨a0, rfl, hP⟩, r1, r2, fun v m' n' hp hi hn => by
              obtain ⟨x, rfl, hx⟩ := hp a0 rfl
              exact hq x m' n' hx hi hn, fun b m' n' hp => hp.elim⟩ : (hRcv cs w.1 [.ref a0] ∧ hGo g mc ms mc' ms' ((fun (g : hG) (av : List Value) (m : hH) (n : Nat) => ∃ (a0 : Nat), av = [.ref a0] ∧ P g a0 m n) g) ((fun (g : hG) (av : List Value) (m : hH) (n : Nat) (v : Option Value) (m' : hH) (n' : Nat) => ∀ (a0 : Nat), av = [.ref a0] → ∃ x, v = some (.int x) ∧ Q g a0 m n x m' n') g) (hNoX g) [.ref a0] r w K Y))
    · exact h.elim
def hp_LrI (g : hG) (mc ms : Nat) (P : hG → Nat → hH → Nat → Prop) (R0 : hG → Nat → hH → Nat → Int32) : se_Op hW := fun st w K Y => match st with
  | .ref a0 :: r => se_c8 8 r ∧ P g a0 w.1 w.2.1 ∧ w.2.2.1 ≤ mc ∧ w.2.2.2 ≤ ms ∧ K (.int (R0 g a0 w.1 w.2.1) :: r) w
  | _ => False
theorem hp_LrI_r {g : hG} {mc ms : Nat} {P : hG → Nat → hH → Nat → Prop} {R0 : hG → Nat → hH → Nat → Int32} {a0 : Nat} {r : List Value} {w : hW} {K : List Value → hW → Prop} {Y : Nat → hW → Prop} : hp_LrI g mc ms P R0 (.ref a0 :: r) w K Y = (se_c8 8 r ∧ P g a0 w.1 w.2.1 ∧ w.2.2.1 ≤ mc ∧ w.2.2.2 ≤ ms ∧ K (.int (R0 g a0 w.1 w.2.1) :: r) w) := rfl
theorem hp_LrI_ok {g : hG} {mc ms : Nat} {P : hG → Nat → hH → Nat → Prop} {R0 : hG → Nat → hH → Nat → Int32} {p : Program} {l : Launch} {e : Env} {R : Room} {s : State} {m : MethodId} {args : Array Value} {below : List Frame} {meth : Method} {c : Code} {nL : Nat} {cc : ByteArray} {Q0 : State → Prop} {H0 : Heap} {ins : Instr} {len : Nat} (hS : se_Snd p l e R s m args below meth c Q0 nL (fun a => a) (hRM g H0) cc ins len (ho_LrI g mc ms 0 0 P (fun g a0 m n x m' n' => x = R0 g a0 m n ∧ m' = m ∧ n' = n))) : se_Snd p l e R s m args below meth c Q0 nL (fun a => a) (hRM g H0) cc ins len (hp_LrI g mc ms P R0) :=
  hS.mono fun st w K Y h => by
    unfold hp_LrI at h
    split at h
    · rename_i a0 r
      obtain ⟨h8, hP, r1, r2, hq⟩ := h
      exact ⟨h8, hP, r1, r2, fun x m' n' e _ _ => by
              obtain ⟨rfl, rfl, rfl⟩ := e
              exact hq⟩
    · exact h.elim
def hpv_LrI (g : hG) (mc ms : Nat) (cs : List Nat) (P : hG → Nat → hH → Nat → Prop) (R0 : hG → Nat → hH → Nat → Int32) : se_Op hW := fun st w K Y => match st with
  | .ref a0 :: r => hRcv cs w.1 [.ref a0] ∧ se_c8 8 r ∧ P g a0 w.1 w.2.1 ∧ w.2.2.1 ≤ mc ∧ w.2.2.2 ≤ ms ∧ K (.int (R0 g a0 w.1 w.2.1) :: r) w
  | _ => False
theorem hpv_LrI_r {g : hG} {mc ms : Nat} {cs : List Nat} {P : hG → Nat → hH → Nat → Prop} {R0 : hG → Nat → hH → Nat → Int32} {a0 : Nat} {r : List Value} {w : hW} {K : List Value → hW → Prop} {Y : Nat → hW → Prop} : hpv_LrI g mc ms cs P R0 (.ref a0 :: r) w K Y = (hRcv cs w.1 [.ref a0] ∧ se_c8 8 r ∧ P g a0 w.1 w.2.1 ∧ w.2.2.1 ≤ mc ∧ w.2.2.2 ≤ ms ∧ K (.int (R0 g a0 w.1 w.2.1) :: r) w) := rfl
theorem hpv_LrI_ok {g : hG} {mc ms : Nat} {cs : List Nat} {P : hG → Nat → hH → Nat → Prop} {R0 : hG → Nat → hH → Nat → Int32} {p : Program} {l : Launch} {e : Env} {R : Room} {s : State} {m : MethodId} {args : Array Value} {below : List Frame} {meth : Method} {c : Code} {nL : Nat} {cc : ByteArray} {Q0 : State → Prop} {H0 : Heap} {ins : Instr} {len : Nat} (hS : se_Snd p l e R s m args below meth c Q0 nL (fun a => a) (hRM g H0) cc ins len (hov_LrI g mc ms 0 0 cs P (fun g a0 m n x m' n' => x = R0 g a0 m n ∧ m' = m ∧ n' = n))) : se_Snd p l e R s m args below meth c Q0 nL (fun a => a) (hRM g H0) cc ins len (hpv_LrI g mc ms cs P R0) :=
  hS.mono fun st w K Y h => by
    unfold hpv_LrI at h
    split at h
    · rename_i a0 r
      obtain ⟨hc, h8, hP, r1, r2, hq⟩ := h
      exact ⟨hc, h8, hP, r1, r2, fun x m' n' e _ _ => by
              obtain ⟨rfl, rfl, rfl⟩ := e
              exact hq⟩
    · exact h.elim
def hf_LrI (g : hG) (mc ms : Nat) (P : hG → Nat → hH → Nat → Prop) (R0 : hG → Nat → hH → Nat → Int32) (F : hG → Nat → hH → Nat → hH) : se_Op hW := fun st w K Y => match st with
  | .ref a0 :: r => se_c8 8 r ∧ P g a0 w.1 w.2.1 ∧ w.2.2.1 ≤ mc ∧ w.2.2.2 ≤ ms ∧ K (.int (R0 g a0 w.1 w.2.1) :: r) (F g a0 w.1 w.2.1, w.2)
  | _ => False
theorem hf_LrI_r {g : hG} {mc ms : Nat} {P : hG → Nat → hH → Nat → Prop} {R0 : hG → Nat → hH → Nat → Int32} {F : hG → Nat → hH → Nat → hH} {a0 : Nat} {r : List Value} {w : hW} {K : List Value → hW → Prop} {Y : Nat → hW → Prop} : hf_LrI g mc ms P R0 F (.ref a0 :: r) w K Y = (se_c8 8 r ∧ P g a0 w.1 w.2.1 ∧ w.2.2.1 ≤ mc ∧ w.2.2.2 ≤ ms ∧ K (.int (R0 g a0 w.1 w.2.1) :: r) (F g a0 w.1 w.2.1, w.2)) := rfl
theorem hf_LrI_ok {g : hG} {mc ms : Nat} {P : hG → Nat → hH → Nat → Prop} {R0 : hG → Nat → hH → Nat → Int32} {F : hG → Nat → hH → Nat → hH} {p : Program} {l : Launch} {e : Env} {R : Room} {s : State} {m : MethodId} {args : Array Value} {below : List Frame} {meth : Method} {c : Code} {nL : Nat} {cc : ByteArray} {Q0 : State → Prop} {H0 : Heap} {ins : Instr} {len : Nat} (hS : se_Snd p l e R s m args below meth c Q0 nL (fun a => a) (hRM g H0) cc ins len (ho_LrI g mc ms 0 0 P (fun g a0 m n x m' n' => x = R0 g a0 m n ∧ m' = F g a0 m n ∧ n' = n))) : se_Snd p l e R s m args below meth c Q0 nL (fun a => a) (hRM g H0) cc ins len (hf_LrI g mc ms P R0 F) :=
  hS.mono fun st w K Y h => by
    unfold hf_LrI at h
    split at h
    · rename_i a0 r
      obtain ⟨h8, hP, r1, r2, hq⟩ := h
      exact ⟨h8, hP, r1, r2, fun x m' n' e _ _ => by
              obtain ⟨rfl, rfl, rfl⟩ := e
              exact hq⟩
    · exact h.elim
def hfv_LrI (g : hG) (mc ms : Nat) (cs : List Nat) (P : hG → Nat → hH → Nat → Prop) (R0 : hG → Nat → hH → Nat → Int32) (F : hG → Nat → hH → Nat → hH) : se_Op hW := fun st w K Y => match st with
  | .ref a0 :: r => hRcv cs w.1 [.ref a0] ∧ se_c8 8 r ∧ P g a0 w.1 w.2.1 ∧ w.2.2.1 ≤ mc ∧ w.2.2.2 ≤ ms ∧ K (.int (R0 g a0 w.1 w.2.1) :: r) (F g a0 w.1 w.2.1, w.2)
  | _ => False
theorem hfv_LrI_r {g : hG} {mc ms : Nat} {cs : List Nat} {P : hG → Nat → hH → Nat → Prop} {R0 : hG → Nat → hH → Nat → Int32} {F : hG → Nat → hH → Nat → hH} {a0 : Nat} {r : List Value} {w : hW} {K : List Value → hW → Prop} {Y : Nat → hW → Prop} : hfv_LrI g mc ms cs P R0 F (.ref a0 :: r) w K Y = (hRcv cs w.1 [.ref a0] ∧ se_c8 8 r ∧ P g a0 w.1 w.2.1 ∧ w.2.2.1 ≤ mc ∧ w.2.2.2 ≤ ms ∧ K (.int (R0 g a0 w.1 w.2.1) :: r) (F g a0 w.1 w.2.1, w.2)) := rfl
theorem hfv_LrI_ok {g : hG} {mc ms : Nat} {cs : List Nat} {P : hG → Nat → hH → Nat → Prop} {R0 : hG → Nat → hH → Nat → Int32} {F : hG → Nat → hH → Nat → hH} {p : Program} {l : Launch} {e : Env} {R : Room} {s : State} {m : MethodId} {args : Array Value} {below : List Frame} {meth : Method} {c : Code} {nL : Nat} {cc : ByteArray} {Q0 : State → Prop} {H0 : Heap} {ins : Instr} {len : Nat} (hS : se_Snd p l e R s m args below meth c Q0 nL (fun a => a) (hRM g H0) cc ins len (hov_LrI g mc ms 0 0 cs P (fun g a0 m n x m' n' => x = R0 g a0 m n ∧ m' = F g a0 m n ∧ n' = n))) : se_Snd p l e R s m args below meth c Q0 nL (fun a => a) (hRM g H0) cc ins len (hfv_LrI g mc ms cs P R0 F) :=
  hS.mono fun st w K Y h => by
    unfold hfv_LrI at h
    split at h
    · rename_i a0 r
      obtain ⟨hc, h8, hP, r1, r2, hq⟩ := h
      exact ⟨hc, h8, hP, r1, r2, fun x m' n' e _ _ => by
              obtain ⟨rfl, rfl, rfl⟩ := e
              exact hq⟩
    · exact h.elim
def ht_LrI (mc ms : Nat) (Q : hG → Nat → hH → Nat → Int32 → hH → Nat → Prop) (g : hG) (a0 : Nat) (m : hH) (n : Nat) : Option Value → hW → Prop := hRt (some .int) mc ms ((fun (g : hG) (av : List Value) (m : hH) (n : Nat) (v : Option Value) (m' : hH) (n' : Nat) => ∀ (a0 : Nat), av = [.ref a0] → ∃ x, v = some (.int x) ∧ Q g a0 m n x m' n') g [.ref a0] m n)
theorem ht_LrI_e {mc ms : Nat} {Q : hG → Nat → hH → Nat → Int32 → hH → Nat → Prop} {g : hG} {a0 : Nat} {m : hH} {n : Nat} {w : hW} {z : Int32} : ht_LrI mc ms Q g a0 m n (some (.int z)) w = (w.2.2.1 ≤ mc ∧ w.2.2.2 ≤ ms ∧ Q g a0 m n z w.1 w.2.1) := by
  apply propext
  constructor
  · intro h
    obtain ⟨x, e, hq⟩ := h.2.2.2 _ rfl
    cases e
    exact ⟨h.2.1, h.2.2.1, hq⟩
  · intro h
    obtain ⟨h1, h2, h3⟩ := h
    exact ⟨⟨_, rfl, rfl⟩, h1, h2, fun _ e => by
      cases e
      exact ⟨z, rfl, h3⟩⟩
theorem hm_LrI_of {l : Launch} {y : MethodName} {own : String} {cc : ByteArray} {maxL fr lo mc ms : Nat} {P : hG → Nat → hH → Nat → Prop} {Q : hG → Nat → hH → Nat → Int32 → hH → Nat → Prop} {T : hG → Nat → Nat → se_Op hW} (hy : plainName y.cls = true) (hyc : y.cls = own) (hT : hTS l own y.name cc maxL (some .int) fr lo mc ms T) (hL : 1 ≤ maxL)
    (body : ∀ (g : hG) (a0 : Nat) (m : hH) (n : Nat), hDom g m n → hVg g → P g a0 m n → ∀ G : Nat → se_L → List Value → hW → Prop, (∀ (stops : List Nat) (f pc : Nat) (L : se_L) (st : List Value) (w : hW), wpN True (T g) cc stops G (hXt mc ms (hNoX g [.ref a0] m n)) (ht_LrI mc ms Q g a0 m n) f pc L st w → G pc L st w) → G 0 (se_ent [.ref a0] maxL) [] (m, n, 0, 0)) : hm_LrI l y (ws_ y cc maxL (some .int)) fr lo mc ms P Q :=
  hOf hy hyc hT (fun g av m n h => by
    obtain ⟨a0, rfl, _⟩ := h
    exact hL) (fun g av m n h1 h2 hp G hG => by
    obtain ⟨a0, rfl, hp⟩ := hp
    exact body g a0 m n h1 h2 hp G hG)
abbrev hm_LrL (l : Launch) (y : MethodName) (ws : List Cond) (fr lo mc ms : Nat) (P : hG → Nat → hH → Nat → Prop) (Q : hG → Nat → hH → Nat → Option Nat → hH → Nat → Prop) : Prop := hCon l y ws fr lo mc ms (fun (g : hG) (av : List Value) (m : hH) (n : Nat) => ∃ (a0 : Nat), av = [.ref a0] ∧ P g a0 m n) (fun (g : hG) (av : List Value) (m : hH) (n : Nat) (v : Option Value) (m' : hH) (n' : Nat) => ∀ (a0 : Nat), av = [.ref a0] → ∃ x, v = some (va_rf x) ∧ Q g a0 m n x m' n') hNoX
def hov_LrL (g : hG) (mc ms mc' ms' : Nat) (cs : List Nat) (P : hG → Nat → hH → Nat → Prop) (Q : hG → Nat → hH → Nat → Option Nat → hH → Nat → Prop) : se_Op hW := fun st w K Y => match st with
  | .ref a0 :: r => hRcv cs w.1 [.ref a0] ∧ se_c8 8 r ∧ P g a0 w.1 w.2.1 ∧ w.2.2.1 + mc' ≤ mc ∧ w.2.2.2 + ms' ≤ ms ∧ ∀ x m' n', Q g a0 w.1 w.2.1 x m' n' → hDom g m' n' → w.2.1 ≤ n' → K (va_rf x :: r) (m', n', w.2.2.1 + mc', w.2.2.2 + ms')
  | _ => False
theorem hov_LrL_r {g : hG} {mc ms mc' ms' : Nat} {cs : List Nat} {P : hG → Nat → hH → Nat → Prop} {Q : hG → Nat → hH → Nat → Option Nat → hH → Nat → Prop} {a0 : Nat} {r : List Value} {w : hW} {K : List Value → hW → Prop} {Y : Nat → hW → Prop} : hov_LrL g mc ms mc' ms' cs P Q (.ref a0 :: r) w K Y = (hRcv cs w.1 [.ref a0] ∧ se_c8 8 r ∧ P g a0 w.1 w.2.1 ∧ w.2.2.1 + mc' ≤ mc ∧ w.2.2.2 + ms' ≤ ms ∧ ∀ x m' n', Q g a0 w.1 w.2.1 x m' n' → hDom g m' n' → w.2.1 ≤ n' → K (va_rf x :: r) (m', n', w.2.2.1 + mc', w.2.2.2 + ms')) := rfl
theorem hov_LrL_ok {g : hG} {mc ms mc' ms' : Nat} {cs : List Nat} {P : hG → Nat → hH → Nat → Prop} {Q : hG → Nat → hH → Nat → Option Nat → hH → Nat → Prop} {p : Program} {l : Launch} {e : Env} {R : Room} {s : State} {m : MethodId} {args : Array Value} {below : List Frame} {meth : Method} {c : Code} {nL : Nat} {cc : ByteArray} {Q0 : State → Prop} {H0 : Heap} {ins : Instr} {len : Nat} (hS : se_Snd p l e R s m args below meth c Q0 nL (fun a => a) (hRM g H0) cc ins len (hCV g 0 mc ms mc' ms' cs (fun (g : hG) (av : List Value) (m : hH) (n : Nat) => ∃ (a0 : Nat), av = [.ref a0] ∧ P g a0 m n) (fun (g : hG) (av : List Value) (m : hH) (n : Nat) (v : Option Value) (m' : hH) (n' : Nat) => ∀ (a0 : Nat), av = [.ref a0] → ∃ x, v = some (va_rf x) ∧ Q g a0 m n x m' n') hNoX)) : se_Snd p l e R s m args below meth c Q0 nL (fun a => a) (hRM g H0) cc ins len (hov_LrL g mc ms mc' ms' cs P Q) :=
  hS.mono fun st w K Y h => by
    unfold hov_LrL at h
    split at h
    · rename_i a0 r
      obtain ⟨hc, h8, hP, r1, r2, hq⟩ := h
      exact (⟨hc, h8, ⟨a0, rfl, hP⟩, r1, r2, fun v m' n' hp hi hn => by
              obtain ⟨x, rfl, hx⟩ := hp a0 rfl
              exact hq x m' n' hx hi hn, fun b m' n' hp => hp.elim⟩ : (hRcv cs w.1 [.ref a0] ∧ hGo g mc ms mc' ms' ((fun (g : hG) (av : List Value) (m : hH) (n : Nat) => ∃ (a0 : Nat), av = [.ref a0] ∧ P g a0 m n) g) ((fun (g : hG) (av : List Value) (m : hH) (n : Nat) (v : Option Value) (m' : hH) (n' : Nat) => ∀ (a0 : Nat), av = [.ref a0] → ∃ x, v = some (va_rf x) ∧ Q g a0 m n x m' n') g) (hNoX g) [.ref a0] r w K Y))
    · exact h.elim
def hpv_LrL (g : hG) (mc ms : Nat) (cs : List Nat) (P : hG → Nat → hH → Nat → Prop) (R0 : hG → Nat → hH → Nat → Option Nat) : se_Op hW := fun st w K Y => match st with
  | .ref a0 :: r => hRcv cs w.1 [.ref a0] ∧ se_c8 8 r ∧ P g a0 w.1 w.2.1 ∧ w.2.2.1 ≤ mc ∧ w.2.2.2 ≤ ms ∧ K (va_rf (R0 g a0 w.1 w.2.1) :: r) w
  | _ => False
theorem hpv_LrL_r {g : hG} {mc ms : Nat} {cs : List Nat} {P : hG → Nat → hH → Nat → Prop} {R0 : hG → Nat → hH → Nat → Option Nat} {a0 : Nat} {r : List Value} {w : hW} {K : List Value → hW → Prop} {Y : Nat → hW → Prop} : hpv_LrL g mc ms cs P R0 (.ref a0 :: r) w K Y = (hRcv cs w.1 [.ref a0] ∧ se_c8 8 r ∧ P g a0 w.1 w.2.1 ∧ w.2.2.1 ≤ mc ∧ w.2.2.2 ≤ ms ∧ K (va_rf (R0 g a0 w.1 w.2.1) :: r) w) := rfl
theorem hpv_LrL_ok {g : hG} {mc ms : Nat} {cs : List Nat} {P : hG → Nat → hH → Nat → Prop} {R0 : hG → Nat → hH → Nat → Option Nat} {p : Program} {l : Launch} {e : Env} {R : Room} {s : State} {m : MethodId} {args : Array Value} {below : List Frame} {meth : Method} {c : Code} {nL : Nat} {cc : ByteArray} {Q0 : State → Prop} {H0 : Heap} {ins : Instr} {len : Nat} (hS : se_Snd p l e R s m args below meth c Q0 nL (fun a => a) (hRM g H0) cc ins len (hov_LrL g mc ms 0 0 cs P (fun g a0 m n x m' n' => x = R0 g a0 m n ∧ m' = m ∧ n' = n))) : se_Snd p l e R s m args below meth c Q0 nL (fun a => a) (hRM g H0) cc ins len (hpv_LrL g mc ms cs P R0) :=
  hS.mono fun st w K Y h => by
    unfold hpv_LrL at h
    split at h
    · rename_i a0 r
      obtain ⟨hc, h8, hP, r1, r2, hq⟩ := h
      exact ⟨hc, h8, hP, r1, r2, fun x m' n' e _ _ => by
              obtain ⟨rfl, rfl, rfl⟩ := e
              exact hq⟩
    · exact h.elim
def hfv_LrL (g : hG) (mc ms : Nat) (cs : List Nat) (P : hG → Nat → hH → Nat → Prop) (R0 : hG → Nat → hH → Nat → Option Nat) (F : hG → Nat → hH → Nat → hH) : se_Op hW := fun st w K Y => match st with
  | .ref a0 :: r => hRcv cs w.1 [.ref a0] ∧ se_c8 8 r ∧ P g a0 w.1 w.2.1 ∧ w.2.2.1 ≤ mc ∧ w.2.2.2 ≤ ms ∧ K (va_rf (R0 g a0 w.1 w.2.1) :: r) (F g a0 w.1 w.2.1, w.2)
  | _ => False
theorem hfv_LrL_r {g : hG} {mc ms : Nat} {cs : List Nat} {P : hG → Nat → hH → Nat → Prop} {R0 : hG → Nat → hH → Nat → Option Nat} {F : hG → Nat → hH → Nat → hH} {a0 : Nat} {r : List Value} {w : hW} {K : List Value → hW → Prop} {Y : Nat → hW → Prop} : hfv_LrL g mc ms cs P R0 F (.ref a0 :: r) w K Y = (hRcv cs w.1 [.ref a0] ∧ se_c8 8 r ∧ P g a0 w.1 w.2.1 ∧ w.2.2.1 ≤ mc ∧ w.2.2.2 ≤ ms ∧ K (va_rf (R0 g a0 w.1 w.2.1) :: r) (F g a0 w.1 w.2.1, w.2)) := rfl
theorem hfv_LrL_ok {g : hG} {mc ms : Nat} {cs : List Nat} {P : hG → Nat → hH → Nat → Prop} {R0 : hG → Nat → hH → Nat → Option Nat} {F : hG → Nat → hH → Nat → hH} {p : Program} {l : Launch} {e : Env} {R : Room} {s : State} {m : MethodId} {args : Array Value} {below : List Frame} {meth : Method} {c : Code} {nL : Nat} {cc : ByteArray} {Q0 : State → Prop} {H0 : Heap} {ins : Instr} {len : Nat} (hS : se_Snd p l e R s m args below meth c Q0 nL (fun a => a) (hRM g H0) cc ins len (hov_LrL g mc ms 0 0 cs P (fun g a0 m n x m' n' => x = R0 g a0 m n ∧ m' = F g a0 m n ∧ n' = n))) : se_Snd p l e R s m args below meth c Q0 nL (fun a => a) (hRM g H0) cc ins len (hfv_LrL g mc ms cs P R0 F) :=
  hS.mono fun st w K Y h => by
    unfold hfv_LrL at h
    split at h
    · rename_i a0 r
      obtain ⟨hc, h8, hP, r1, r2, hq⟩ := h
      exact ⟨hc, h8, hP, r1, r2, fun x m' n' e _ _ => by
              obtain ⟨rfl, rfl, rfl⟩ := e
              exact hq⟩
    · exact h.elim
def ht_LrL (rty : FieldType) (mc ms : Nat) (Q : hG → Nat → hH → Nat → Option Nat → hH → Nat → Prop) (g : hG) (a0 : Nat) (m : hH) (n : Nat) : Option Value → hW → Prop := hRt (some rty) mc ms ((fun (g : hG) (av : List Value) (m : hH) (n : Nat) (v : Option Value) (m' : hH) (n' : Nat) => ∀ (a0 : Nat), av = [.ref a0] → ∃ x, v = some (va_rf x) ∧ Q g a0 m n x m' n') g [.ref a0] m n)
theorem ht_LrL_e {rty : FieldType} {mc ms : Nat} {Q : hG → Nat → hH → Nat → Option Nat → hH → Nat → Prop} {g : hG} {a0 : Nat} {m : hH} {n : Nat} {w : hW} {z : Nat} (hr : (∃ n, rty = .object n) ∨ ∃ t, rty = .array t) : ht_LrL rty mc ms Q g a0 m n (some (.ref z)) w = (w.2.2.1 ≤ mc ∧ w.2.2.2 ≤ ms ∧ Q g a0 m n (some z) w.1 w.2.1) := by
  apply propext
  constructor
  · intro h
    obtain ⟨x, e, hq⟩ := h.2.2.2 _ rfl
    cases x with
    | none => cases e
    | some x => cases e; exact ⟨h.2.1, h.2.2.1, hq⟩
  · intro h
    obtain ⟨h1, h2, h3⟩ := h
    exact ⟨⟨_, rfl, hr⟩, h1, h2, fun _ e => by
      cases e
      exact ⟨some z, rfl, h3⟩⟩
theorem ht_LrL_n {rty : FieldType} {mc ms : Nat} {Q : hG → Nat → hH → Nat → Option Nat → hH → Nat → Prop} {g : hG} {a0 : Nat} {m : hH} {n : Nat} {w : hW} (hr : (∃ n, rty = .object n) ∨ ∃ t, rty = .array t) : ht_LrL rty mc ms Q g a0 m n (some .null) w = (w.2.2.1 ≤ mc ∧ w.2.2.2 ≤ ms ∧ Q g a0 m n none w.1 w.2.1) := by
  apply propext
  constructor
  · intro h
    obtain ⟨x, e, hq⟩ := h.2.2.2 _ rfl
    cases x with
    | none => exact ⟨h.2.1, h.2.2.1, hq⟩
    | some x => cases e
  · intro h
    obtain ⟨h1, h2, h3⟩ := h
    exact ⟨⟨_, rfl, hr⟩, h1, h2, fun _ e => by
      cases e
      exact ⟨none, rfl, h3⟩⟩
theorem hm_LrL_of {l : Launch} {y : MethodName} {own : String} {cc : ByteArray} {maxL fr lo mc ms : Nat} {rty : FieldType} {P : hG → Nat → hH → Nat → Prop} {Q : hG → Nat → hH → Nat → Option Nat → hH → Nat → Prop} {T : hG → Nat → Nat → se_Op hW} (hy : plainName y.cls = true) (hyc : y.cls = own) (hT : hTS l own y.name cc maxL (some rty) fr lo mc ms T) (hL : 1 ≤ maxL)
    (body : ∀ (g : hG) (a0 : Nat) (m : hH) (n : Nat), hDom g m n → hVg g → P g a0 m n → ∀ G : Nat → se_L → List Value → hW → Prop, (∀ (stops : List Nat) (f pc : Nat) (L : se_L) (st : List Value) (w : hW), wpN True (T g) cc stops G (hXt mc ms (hNoX g [.ref a0] m n)) (ht_LrL rty mc ms Q g a0 m n) f pc L st w → G pc L st w) → G 0 (se_ent [.ref a0] maxL) [] (m, n, 0, 0)) : hm_LrL l y (ws_ y cc maxL (some rty)) fr lo mc ms P Q :=
  hOf hy hyc hT (fun g av m n h => by
    obtain ⟨a0, rfl, _⟩ := h
    exact hL) (fun g av m n h1 h2 hp G hG => by
    obtain ⟨a0, rfl, hp⟩ := hp
    exact body g a0 m n h1 h2 hp G hG)
abbrev hm_LrV (l : Launch) (y : MethodName) (ws : List Cond) (fr lo mc ms : Nat) (P : hG → Nat → hH → Nat → Prop) (Q : hG → Nat → hH → Nat → hH → Nat → Prop) : Prop := hCon l y ws fr lo mc ms (fun (g : hG) (av : List Value) (m : hH) (n : Nat) => ∃ (a0 : Nat), av = [.ref a0] ∧ P g a0 m n) (fun (g : hG) (av : List Value) (m : hH) (n : Nat) (v : Option Value) (m' : hH) (n' : Nat) => ∀ (a0 : Nat), av = [.ref a0] → v = none ∧ Q g a0 m n m' n') hNoX
def ho_LrV (g : hG) (mc ms mc' ms' : Nat) (P : hG → Nat → hH → Nat → Prop) (Q : hG → Nat → hH → Nat → hH → Nat → Prop) : se_Op hW := fun st w K Y => match st with
  | .ref a0 :: r => se_c8 8 r ∧ P g a0 w.1 w.2.1 ∧ w.2.2.1 + mc' ≤ mc ∧ w.2.2.2 + ms' ≤ ms ∧ ∀ m' n', Q g a0 w.1 w.2.1 m' n' → hDom g m' n' → w.2.1 ≤ n' → K r (m', n', w.2.2.1 + mc', w.2.2.2 + ms')
  | _ => False
theorem ho_LrV_r {g : hG} {mc ms mc' ms' : Nat} {P : hG → Nat → hH → Nat → Prop} {Q : hG → Nat → hH → Nat → hH → Nat → Prop} {a0 : Nat} {r : List Value} {w : hW} {K : List Value → hW → Prop} {Y : Nat → hW → Prop} : ho_LrV g mc ms mc' ms' P Q (.ref a0 :: r) w K Y = (se_c8 8 r ∧ P g a0 w.1 w.2.1 ∧ w.2.2.1 + mc' ≤ mc ∧ w.2.2.2 + ms' ≤ ms ∧ ∀ m' n', Q g a0 w.1 w.2.1 m' n' → hDom g m' n' → w.2.1 ≤ n' → K r (m', n', w.2.2.1 + mc', w.2.2.2 + ms')) := rfl
theorem ho_LrV_ok {g : hG} {mc ms mc' ms' : Nat} {P : hG → Nat → hH → Nat → Prop} {Q : hG → Nat → hH → Nat → hH → Nat → Prop} {p : Program} {l : Launch} {e : Env} {R : Room} {s : State} {m : MethodId} {args : Array Value} {below : List Frame} {meth : Method} {c : Code} {nL : Nat} {cc : ByteArray} {Q0 : State → Prop} {H0 : Heap} {ins : Instr} {len : Nat} (hS : se_Snd p l e R s m args below meth c Q0 nL (fun a => a) (hRM g H0) cc ins len (hCS g 1 mc ms mc' ms' (fun (g : hG) (av : List Value) (m : hH) (n : Nat) => ∃ (a0 : Nat), av = [.ref a0] ∧ P g a0 m n) (fun (g : hG) (av : List Value) (m : hH) (n : Nat) (v : Option Value) (m' : hH) (n' : Nat) => ∀ (a0 : Nat), av = [.ref a0] → v = none ∧ Q g a0 m n m' n') hNoX)) : se_Snd p l e R s m args below meth c Q0 nL (fun a => a) (hRM g H0) cc ins len (ho_LrV g mc ms mc' ms' P Q) :=
  hS.mono fun st w K Y h => by
    unfold ho_LrV at h
    split at h
    · rename_i a0 r
      obtain ⟨h8, hP, r1, r2, hq⟩ := h
      exact (⟨h8, ⟨a0, rfl, hP⟩, r1, r2, fun v m' n' hp hi hn => by
              obtain ⟨rfl, hx⟩ := hp a0 rfl
              exact hq m' n' hx hi hn, fun b m' n' hp => hp.elim⟩ : hGo g mc ms mc' ms' ((fun (g : hG) (av : List Value) (m : hH) (n : Nat) => ∃ (a0 : Nat), av = [.ref a0] ∧ P g a0 m n) g) ((fun (g : hG) (av : List Value) (m : hH) (n : Nat) (v : Option Value) (m' : hH) (n' : Nat) => ∀ (a0 : Nat), av = [.ref a0] → v = none ∧ Q g a0 m n m' n') g) (hNoX g) [.ref a0] r w K Y)
    · exact h.elim
def hf_LrV (g : hG) (mc ms : Nat) (P : hG → Nat → hH → Nat → Prop) (F : hG → Nat → hH → Nat → hH) : se_Op hW := fun st w K Y => match st with
  | .ref a0 :: r => se_c8 8 r ∧ P g a0 w.1 w.2.1 ∧ w.2.2.1 ≤ mc ∧ w.2.2.2 ≤ ms ∧ K (r) (F g a0 w.1 w.2.1, w.2)
  | _ => False
theorem hf_LrV_r {g : hG} {mc ms : Nat} {P : hG → Nat → hH → Nat → Prop} {F : hG → Nat → hH → Nat → hH} {a0 : Nat} {r : List Value} {w : hW} {K : List Value → hW → Prop} {Y : Nat → hW → Prop} : hf_LrV g mc ms P F (.ref a0 :: r) w K Y = (se_c8 8 r ∧ P g a0 w.1 w.2.1 ∧ w.2.2.1 ≤ mc ∧ w.2.2.2 ≤ ms ∧ K (r) (F g a0 w.1 w.2.1, w.2)) := rfl
theorem hf_LrV_ok {g : hG} {mc ms : Nat} {P : hG → Nat → hH → Nat → Prop} {F : hG → Nat → hH → Nat → hH} {p : Program} {l : Launch} {e : Env} {R : Room} {s : State} {m : MethodId} {args : Array Value} {below : List Frame} {meth : Method} {c : Code} {nL : Nat} {cc : ByteArray} {Q0 : State → Prop} {H0 : Heap} {ins : Instr} {len : Nat} (hS : se_Snd p l e R s m args below meth c Q0 nL (fun a => a) (hRM g H0) cc ins len (ho_LrV g mc ms 0 0 P (fun g a0 m n m' n' => m' = F g a0 m n ∧ n' = n))) : se_Snd p l e R s m args below meth c Q0 nL (fun a => a) (hRM g H0) cc ins len (hf_LrV g mc ms P F) :=
  hS.mono fun st w K Y h => by
    unfold hf_LrV at h
    split at h
    · rename_i a0 r
      obtain ⟨h8, hP, r1, r2, hq⟩ := h
      exact ⟨h8, hP, r1, r2, fun m' n' e _ _ => by
              obtain ⟨rfl, rfl⟩ := e
              exact hq⟩
    · exact h.elim
def ht_LrV (mc ms : Nat) (Q : hG → Nat → hH → Nat → hH → Nat → Prop) (g : hG) (a0 : Nat) (m : hH) (n : Nat) : Option Value → hW → Prop := hRt none mc ms ((fun (g : hG) (av : List Value) (m : hH) (n : Nat) (v : Option Value) (m' : hH) (n' : Nat) => ∀ (a0 : Nat), av = [.ref a0] → v = none ∧ Q g a0 m n m' n') g [.ref a0] m n)
theorem ht_LrV_e {mc ms : Nat} {Q : hG → Nat → hH → Nat → hH → Nat → Prop} {g : hG} {a0 : Nat} {m : hH} {n : Nat} {w : hW} : ht_LrV mc ms Q g a0 m n none w = (w.2.2.1 ≤ mc ∧ w.2.2.2 ≤ ms ∧ Q g a0 m n w.1 w.2.1) := by
  apply propext
  exact ⟨fun h => ⟨h.2.1, h.2.2.1, (h.2.2.2 _ rfl).2⟩, fun h => ⟨rfl, h.1, h.2.1, fun _ e => by
    cases e
    exact ⟨rfl, h.2.2⟩⟩⟩
theorem hm_LrV_of {l : Launch} {y : MethodName} {own : String} {cc : ByteArray} {maxL fr lo mc ms : Nat} {P : hG → Nat → hH → Nat → Prop} {Q : hG → Nat → hH → Nat → hH → Nat → Prop} {T : hG → Nat → Nat → se_Op hW} (hy : plainName y.cls = true) (hyc : y.cls = own) (hT : hTS l own y.name cc maxL none fr lo mc ms T) (hL : 1 ≤ maxL)
    (body : ∀ (g : hG) (a0 : Nat) (m : hH) (n : Nat), hDom g m n → hVg g → P g a0 m n → ∀ G : Nat → se_L → List Value → hW → Prop, (∀ (stops : List Nat) (f pc : Nat) (L : se_L) (st : List Value) (w : hW), wpN True (T g) cc stops G (hXt mc ms (hNoX g [.ref a0] m n)) (ht_LrV mc ms Q g a0 m n) f pc L st w → G pc L st w) → G 0 (se_ent [.ref a0] maxL) [] (m, n, 0, 0)) : hm_LrV l y (ws_ y cc maxL none) fr lo mc ms P Q :=
  hOf hy hyc hT (fun g av m n h => by
    obtain ⟨a0, rfl, _⟩ := h
    exact hL) (fun g av m n h1 h2 hp G hG => by
    obtain ⟨a0, rfl, hp⟩ := hp
    exact body g a0 m n h1 h2 hp G hG)
abbrev hm_LrZ (l : Launch) (y : MethodName) (ws : List Cond) (fr lo mc ms : Nat) (P : hG → Nat → hH → Nat → Prop) (Q : hG → Nat → hH → Nat → Bool → hH → Nat → Prop) : Prop := hCon l y ws fr lo mc ms (fun (g : hG) (av : List Value) (m : hH) (n : Nat) => ∃ (a0 : Nat), av = [.ref a0] ∧ P g a0 m n) (fun (g : hG) (av : List Value) (m : hH) (n : Nat) (v : Option Value) (m' : hH) (n' : Nat) => ∀ (a0 : Nat), av = [.ref a0] → ∃ x, v = some (.int (bI x)) ∧ Q g a0 m n x m' n') hNoX
def ho_LrZ (g : hG) (mc ms mc' ms' : Nat) (P : hG → Nat → hH → Nat → Prop) (Q : hG → Nat → hH → Nat → Bool → hH → Nat → Prop) : se_Op hW := fun st w K Y => match st with
  | .ref a0 :: r => se_c8 8 r ∧ P g a0 w.1 w.2.1 ∧ w.2.2.1 + mc' ≤ mc ∧ w.2.2.2 + ms' ≤ ms ∧ ∀ x m' n', Q g a0 w.1 w.2.1 x m' n' → hDom g m' n' → w.2.1 ≤ n' → K (.int (bI x) :: r) (m', n', w.2.2.1 + mc', w.2.2.2 + ms')
  | _ => False
theorem ho_LrZ_r {g : hG} {mc ms mc' ms' : Nat} {P : hG → Nat → hH → Nat → Prop} {Q : hG → Nat → hH → Nat → Bool → hH → Nat → Prop} {a0 : Nat} {r : List Value} {w : hW} {K : List Value → hW → Prop} {Y : Nat → hW → Prop} : ho_LrZ g mc ms mc' ms' P Q (.ref a0 :: r) w K Y = (se_c8 8 r ∧ P g a0 w.1 w.2.1 ∧ w.2.2.1 + mc' ≤ mc ∧ w.2.2.2 + ms' ≤ ms ∧ ∀ x m' n', Q g a0 w.1 w.2.1 x m' n' → hDom g m' n' → w.2.1 ≤ n' → K (.int (bI x) :: r) (m', n', w.2.2.1 + mc', w.2.2.2 + ms')) := rfl
theorem ho_LrZ_ok {g : hG} {mc ms mc' ms' : Nat} {P : hG → Nat → hH → Nat → Prop} {Q : hG → Nat → hH → Nat → Bool → hH → Nat → Prop} {p : Program} {l : Launch} {e : Env} {R : Room} {s : State} {m : MethodId} {args : Array Value} {below : List Frame} {meth : Method} {c : Code} {nL : Nat} {cc : ByteArray} {Q0 : State → Prop} {H0 : Heap} {ins : Instr} {len : Nat} (hS : se_Snd p l e R s m args below meth c Q0 nL (fun a => a) (hRM g H0) cc ins len (hCS g 1 mc ms mc' ms' (fun (g : hG) (av : List Value) (m : hH) (n : Nat) => ∃ (a0 : Nat), av = [.ref a0] ∧ P g a0 m n) (fun (g : hG) (av : List Value) (m : hH) (n : Nat) (v : Option Value) (m' : hH) (n' : Nat) => ∀ (a0 : Nat), av = [.ref a0] → ∃ x, v = some (.int (bI x)) ∧ Q g a0 m n x m' n') hNoX)) : se_Snd p l e R s m args below meth c Q0 nL (fun a => a) (hRM g H0) cc ins len (ho_LrZ g mc ms mc' ms' P Q) :=
  hS.mono fun st w K Y h => by
    unfold ho_LrZ at h
    split at h
    · rename_i a0 r
      obtain ⟨h8, hP, r1, r2, hq⟩ := h
      exact (⟨h8, ⟨a0, rfl, hP⟩, r1, r2, fun v m' n' hp hi hn => by
              obtain ⟨x, rfl, hx⟩ := hp a0 rfl
              exact hq x m' n' hx hi hn, fun b m' n' hp => hp.elim⟩ : hGo g mc ms mc' ms' ((fun (g : hG) (av : List Value) (m : hH) (n : Nat) => ∃ (a0 : Nat), av = [.ref a0] ∧ P g a0 m n) g) ((fun (g : hG) (av : List Value) (m : hH) (n : Nat) (v : Option Value) (m' : hH) (n' : Nat) => ∀ (a0 : Nat), av = [.ref a0] → ∃ x, v = some (.int (bI x)) ∧ Q g a0 m n x m' n') g) (hNoX g) [.ref a0] r w K Y)
    · exact h.elim
def hov_LrZ (g : hG) (mc ms mc' ms' : Nat) (cs : List Nat) (P : hG → Nat → hH → Nat → Prop) (Q : hG → Nat → hH → Nat → Bool → hH → Nat → Prop) : se_Op hW := fun st w K Y => match st with
  | .ref a0 :: r => hRcv cs w.1 [.ref a0] ∧ se_c8 8 r ∧ P g a0 w.1 w.2.1 ∧ w.2.2.1 + mc' ≤ mc ∧ w.2.2.2 + ms' ≤ ms ∧ ∀ x m' n', Q g a0 w.1 w.2.1 x m' n' → hDom g m' n' → w.2.1 ≤ n' → K (.int (bI x) :: r) (m', n', w.2.2.1 + mc', w.2.2.2 + ms')
  | _ => False
theorem hov_LrZ_r {g : hG} {mc ms mc' ms' : Nat} {cs : List Nat} {P : hG → Nat → hH → Nat → Prop} {Q : hG → Nat → hH → Nat → Bool → hH → Nat → Prop} {a0 : Nat} {r : List Value} {w : hW} {K : List Value → hW → Prop} {Y : Nat → hW → Prop} : hov_LrZ g mc ms mc' ms' cs P Q (.ref a0 :: r) w K Y = (hRcv cs w.1 [.ref a0] ∧ se_c8 8 r ∧ P g a0 w.1 w.2.1 ∧ w.2.2.1 + mc' ≤ mc ∧ w.2.2.2 + ms' ≤ ms ∧ ∀ x m' n', Q g a0 w.1 w.2.1 x m' n' → hDom g m' n' → w.2.1 ≤ n' → K (.int (bI x) :: r) (m', n', w.2.2.1 + mc', w.2.2.2 + ms')) := rfl
theorem hov_LrZ_ok {g : hG} {mc ms mc' ms' : Nat} {cs : List Nat} {P : hG → Nat → hH → Nat → Prop} {Q : hG → Nat → hH → Nat → Bool → hH → Nat → Prop} {p : Program} {l : Launch} {e : Env} {R : Room} {s : State} {m : MethodId} {args : Array Value} {below : List Frame} {meth : Method} {c : Code} {nL : Nat} {cc : ByteArray} {Q0 : State → Prop} {H0 : Heap} {ins : Instr} {len : Nat} (hS : se_Snd p l e R s m args below meth c Q0 nL (fun a => a) (hRM g H0) cc ins len (hCV g 0 mc ms mc' ms' cs (fun (g : hG) (av : List Value) (m : hH) (n : Nat) => ∃ (a0 : Nat), av = [.ref a0] ∧ P g a0 m n) (fun (g : hG) (av : List Value) (m : hH) (n : Nat) (v : Option Value) (m' : hH) (n' : Nat) => ∀ (a0 : Nat), av = [.ref a0] → ∃ x, v = some (.int (bI x)) ∧ Q g a0 m n x m' n') hNoX)) : se_Snd p l e R s m args below meth c Q0 nL (fun a => a) (hRM g H0) cc ins len (hov_LrZ g mc ms mc' ms' cs P Q) :=
  hS.mono fun st w K Y h => by
    unfold hov_LrZ at h
    split at h
    · rename_i a0 r
      obtain ⟨hc, h8, hP, r1, r2, hq⟩ := h
      exact (⟨hc, h8, ⟨a0, rfl, hP⟩, r1, r2, fun v m' n' hp hi hn => by
              obtain ⟨x, rfl, hx⟩ := hp a0 rfl
              exact hq x m' n' hx hi hn, fun b m' n' hp => hp.elim⟩ : (hRcv cs w.1 [.ref a0] ∧ hGo g mc ms mc' ms' ((fun (g : hG) (av : List Value) (m : hH) (n : Nat) => ∃ (a0 : Nat), av = [.ref a0] ∧ P g a0 m n) g) ((fun (g : hG) (av : List Value) (m : hH) (n : Nat) (v : Option Value) (m' : hH) (n' : Nat) => ∀ (a0 : Nat), av = [.ref a0] → ∃ x, v = some (.int (bI x)) ∧ Q g a0 m n x m' n') g) (hNoX g) [.ref a0] r w K Y))
    · exact h.elim
def hp_LrZ (g : hG) (mc ms : Nat) (P : hG → Nat → hH → Nat → Prop) (R0 : hG → Nat → hH → Nat → Bool) : se_Op hW := fun st w K Y => match st with
  | .ref a0 :: r => se_c8 8 r ∧ P g a0 w.1 w.2.1 ∧ w.2.2.1 ≤ mc ∧ w.2.2.2 ≤ ms ∧ K (.int (bI (R0 g a0 w.1 w.2.1)) :: r) w
  | _ => False
theorem hp_LrZ_r {g : hG} {mc ms : Nat} {P : hG → Nat → hH → Nat → Prop} {R0 : hG → Nat → hH → Nat → Bool} {a0 : Nat} {r : List Value} {w : hW} {K : List Value → hW → Prop} {Y : Nat → hW → Prop} : hp_LrZ g mc ms P R0 (.ref a0 :: r) w K Y = (se_c8 8 r ∧ P g a0 w.1 w.2.1 ∧ w.2.2.1 ≤ mc ∧ w.2.2.2 ≤ ms ∧ K (.int (bI (R0 g a0 w.1 w.2.1)) :: r) w) := rfl
theorem hp_LrZ_ok {g : hG} {mc ms : Nat} {P : hG → Nat → hH → Nat → Prop} {R0 : hG → Nat → hH → Nat → Bool} {p : Program} {l : Launch} {e : Env} {R : Room} {s : State} {m : MethodId} {args : Array Value} {below : List Frame} {meth : Method} {c : Code} {nL : Nat} {cc : ByteArray} {Q0 : State → Prop} {H0 : Heap} {ins : Instr} {len : Nat} (hS : se_Snd p l e R s m args below meth c Q0 nL (fun a => a) (hRM g H0) cc ins len (ho_LrZ g mc ms 0 0 P (fun g a0 m n x m' n' => x = R0 g a0 m n ∧ m' = m ∧ n' = n))) : se_Snd p l e R s m args below meth c Q0 nL (fun a => a) (hRM g H0) cc ins len (hp_LrZ g mc ms P R0) :=
  hS.mono fun st w K Y h => by
    unfold hp_LrZ at h
    split at h
    · rename_i a0 r
      obtain ⟨h8, hP, r1, r2, hq⟩ := h
      exact ⟨h8, hP, r1, r2, fun x m' n' e _ _ => by
              obtain ⟨rfl, rfl, rfl⟩ := e
              exact hq⟩
    · exact h.elim
def hpv_LrZ (g : hG) (mc ms : Nat) (cs : List Nat) (P : hG → Nat → hH → Nat → Prop) (R0 : hG → Nat → hH → Nat → Bool) : se_Op hW := fun st w K Y => match st with
  | .ref a0 :: r => hRcv cs w.1 [.ref a0] ∧ se_c8 8 r ∧ P g a0 w.1 w.2.1 ∧ w.2.2.1 ≤ mc ∧ w.2.2.2 ≤ ms ∧ K (.int (bI (R0 g a0 w.1 w.2.1)) :: r) w
  | _ => False
theorem hpv_LrZ_r {g : hG} {mc ms : Nat} {cs : List Nat} {P : hG → Nat → hH → Nat → Prop} {R0 : hG → Nat → hH → Nat → Bool} {a0 : Nat} {r : List Value} {w : hW} {K : List Value → hW → Prop} {Y : Nat → hW → Prop} : hpv_LrZ g mc ms cs P R0 (.ref a0 :: r) w K Y = (hRcv cs w.1 [.ref a0] ∧ se_c8 8 r ∧ P g a0 w.1 w.2.1 ∧ w.2.2.1 ≤ mc ∧ w.2.2.2 ≤ ms ∧ K (.int (bI (R0 g a0 w.1 w.2.1)) :: r) w) := rfl
theorem hpv_LrZ_ok {g : hG} {mc ms : Nat} {cs : List Nat} {P : hG → Nat → hH → Nat → Prop} {R0 : hG → Nat → hH → Nat → Bool} {p : Program} {l : Launch} {e : Env} {R : Room} {s : State} {m : MethodId} {args : Array Value} {below : List Frame} {meth : Method} {c : Code} {nL : Nat} {cc : ByteArray} {Q0 : State → Prop} {H0 : Heap} {ins : Instr} {len : Nat} (hS : se_Snd p l e R s m args below meth c Q0 nL (fun a => a) (hRM g H0) cc ins len (hov_LrZ g mc ms 0 0 cs P (fun g a0 m n x m' n' => x = R0 g a0 m n ∧ m' = m ∧ n' = n))) : se_Snd p l e R s m args below meth c Q0 nL (fun a => a) (hRM g H0) cc ins len (hpv_LrZ g mc ms cs P R0) :=
  hS.mono fun st w K Y h => by
    unfold hpv_LrZ at h
    split at h
    · rename_i a0 r
      obtain ⟨hc, h8, hP, r1, r2, hq⟩ := h
      exact ⟨hc, h8, hP, r1, r2, fun x m' n' e _ _ => by
              obtain ⟨rfl, rfl, rfl⟩ := e
              exact hq⟩
    · exact h.elim
def hf_LrZ (g : hG) (mc ms : Nat) (P : hG → Nat → hH → Nat → Prop) (R0 : hG → Nat → hH → Nat → Bool) (F : hG → Nat → hH → Nat → hH) : se_Op hW := fun st w K Y => match st with
  | .ref a0 :: r => se_c8 8 r ∧ P g a0 w.1 w.2.1 ∧ w.2.2.1 ≤ mc ∧ w.2.2.2 ≤ ms ∧ K (.int (bI (R0 g a0 w.1 w.2.1)) :: r) (F g a0 w.1 w.2.1, w.2)
  | _ => False
theorem hf_LrZ_r {g : hG} {mc ms : Nat} {P : hG → Nat → hH → Nat → Prop} {R0 : hG → Nat → hH → Nat → Bool} {F : hG → Nat → hH → Nat → hH} {a0 : Nat} {r : List Value} {w : hW} {K : List Value → hW → Prop} {Y : Nat → hW → Prop} : hf_LrZ g mc ms P R0 F (.ref a0 :: r) w K Y = (se_c8 8 r ∧ P g a0 w.1 w.2.1 ∧ w.2.2.1 ≤ mc ∧ w.2.2.2 ≤ ms ∧ K (.int (bI (R0 g a0 w.1 w.2.1)) :: r) (F g a0 w.1 w.2.1, w.2)) := rfl
theorem hf_LrZ_ok {g : hG} {mc ms : Nat} {P : hG → Nat → hH → Nat → Prop} {R0 : hG → Nat → hH → Nat → Bool} {F : hG → Nat → hH → Nat → hH} {p : Program} {l : Launch} {e : Env} {R : Room} {s : State} {m : MethodId} {args : Array Value} {below : List Frame} {meth : Method} {c : Code} {nL : Nat} {cc : ByteArray} {Q0 : State → Prop} {H0 : Heap} {ins : Instr} {len : Nat} (hS : se_Snd p l e R s m args below meth c Q0 nL (fun a => a) (hRM g H0) cc ins len (ho_LrZ g mc ms 0 0 P (fun g a0 m n x m' n' => x = R0 g a0 m n ∧ m' = F g a0 m n ∧ n' = n))) : se_Snd p l e R s m args below meth c Q0 nL (fun a => a) (hRM g H0) cc ins len (hf_LrZ g mc ms P R0 F) :=
  hS.mono fun st w K Y h => by
    unfold hf_LrZ at h
    split at h
    · rename_i a0 r
      obtain ⟨h8, hP, r1, r2, hq⟩ := h
      exact ⟨h8, hP, r1, r2, fun x m' n' e _ _ => by
              obtain ⟨rfl, rfl, rfl⟩ := e
              exact hq⟩
    · exact h.elim
def hfv_LrZ (g : hG) (mc ms : Nat) (cs : List Nat) (P : hG → Nat → hH → Nat → Prop) (R0 : hG → Nat → hH → Nat → Bool) (F : hG → Nat → hH → Nat → hH) : se_Op hW := fun st w K Y => match st with
  | .ref a0 :: r => hRcv cs w.1 [.ref a0] ∧ se_c8 8 r ∧ P g a0 w.1 w.2.1 ∧ w.2.2.1 ≤ mc ∧ w.2.2.2 ≤ ms ∧ K (.int (bI (R0 g a0 w.1 w.2.1)) :: r) (F g a0 w.1 w.2.1, w.2)
  | _ => False
theorem hfv_LrZ_r {g : hG} {mc ms : Nat} {cs : List Nat} {P : hG → Nat → hH → Nat → Prop} {R0 : hG → Nat → hH → Nat → Bool} {F : hG → Nat → hH → Nat → hH} {a0 : Nat} {r : List Value} {w : hW} {K : List Value → hW → Prop} {Y : Nat → hW → Prop} : hfv_LrZ g mc ms cs P R0 F (.ref a0 :: r) w K Y = (hRcv cs w.1 [.ref a0] ∧ se_c8 8 r ∧ P g a0 w.1 w.2.1 ∧ w.2.2.1 ≤ mc ∧ w.2.2.2 ≤ ms ∧ K (.int (bI (R0 g a0 w.1 w.2.1)) :: r) (F g a0 w.1 w.2.1, w.2)) := rfl
theorem hfv_LrZ_ok {g : hG} {mc ms : Nat} {cs : List Nat} {P : hG → Nat → hH → Nat → Prop} {R0 : hG → Nat → hH → Nat → Bool} {F : hG → Nat → hH → Nat → hH} {p : Program} {l : Launch} {e : Env} {R : Room} {s : State} {m : MethodId} {args : Array Value} {below : List Frame} {meth : Method} {c : Code} {nL : Nat} {cc : ByteArray} {Q0 : State → Prop} {H0 : Heap} {ins : Instr} {len : Nat} (hS : se_Snd p l e R s m args below meth c Q0 nL (fun a => a) (hRM g H0) cc ins len (hov_LrZ g mc ms 0 0 cs P (fun g a0 m n x m' n' => x = R0 g a0 m n ∧ m' = F g a0 m n ∧ n' = n))) : se_Snd p l e R s m args below meth c Q0 nL (fun a => a) (hRM g H0) cc ins len (hfv_LrZ g mc ms cs P R0 F) :=
  hS.mono fun st w K Y h => by
    unfold hfv_LrZ at h
    split at h
    · rename_i a0 r
      obtain ⟨hc, h8, hP, r1, r2, hq⟩ := h
      exact ⟨hc, h8, hP, r1, r2, fun x m' n' e _ _ => by
              obtain ⟨rfl, rfl, rfl⟩ := e
              exact hq⟩
    · exact h.elim
def ht_LrZ (mc ms : Nat) (Q : hG → Nat → hH → Nat → Bool → hH → Nat → Prop) (g : hG) (a0 : Nat) (m : hH) (n : Nat) : Option Value → hW → Prop := hRt (some .boolean) mc ms ((fun (g : hG) (av : List Value) (m : hH) (n : Nat) (v : Option Value) (m' : hH) (n' : Nat) => ∀ (a0 : Nat), av = [.ref a0] → ∃ x, v = some (.int (bI x)) ∧ Q g a0 m n x m' n') g [.ref a0] m n)
theorem ht_LrZ_e {mc ms : Nat} {Q : hG → Nat → hH → Nat → Bool → hH → Nat → Prop} {g : hG} {a0 : Nat} {m : hH} {n : Nat} {w : hW} {z : Int32} : ht_LrZ mc ms Q g a0 m n (some (.int z)) w = (w.2.2.1 ≤ mc ∧ w.2.2.2 ≤ ms ∧ rz z fun x => Q g a0 m n x w.1 w.2.1) := by
  apply propext
  constructor
  · intro h
    obtain ⟨x, e, hq⟩ := h.2.2.2 _ rfl
    cases e
    exact ⟨h.2.1, h.2.2.1, ⟨x, rfl, hq⟩⟩
  · intro h
    obtain ⟨h1, h2, h3⟩ := h
    obtain ⟨x, rfl, h3⟩ := h3
    exact ⟨⟨_, rfl, bI_nar x⟩, h1, h2, fun _ e => by
      cases e
      exact ⟨x, rfl, h3⟩⟩
theorem hm_LrZ_of {l : Launch} {y : MethodName} {own : String} {cc : ByteArray} {maxL fr lo mc ms : Nat} {P : hG → Nat → hH → Nat → Prop} {Q : hG → Nat → hH → Nat → Bool → hH → Nat → Prop} {T : hG → Nat → Nat → se_Op hW} (hy : plainName y.cls = true) (hyc : y.cls = own) (hT : hTS l own y.name cc maxL (some .boolean) fr lo mc ms T) (hL : 1 ≤ maxL)
    (body : ∀ (g : hG) (a0 : Nat) (m : hH) (n : Nat), hDom g m n → hVg g → P g a0 m n → ∀ G : Nat → se_L → List Value → hW → Prop, (∀ (stops : List Nat) (f pc : Nat) (L : se_L) (st : List Value) (w : hW), wpN True (T g) cc stops G (hXt mc ms (hNoX g [.ref a0] m n)) (ht_LrZ mc ms Q g a0 m n) f pc L st w → G pc L st w) → G 0 (se_ent [.ref a0] maxL) [] (m, n, 0, 0)) : hm_LrZ l y (ws_ y cc maxL (some .boolean)) fr lo mc ms P Q :=
  hOf hy hyc hT (fun g av m n h => by
    obtain ⟨a0, rfl, _⟩ := h
    exact hL) (fun g av m n h1 h2 hp G hG => by
    obtain ⟨a0, rfl, hp⟩ := hp
    exact body g a0 m n h1 h2 hp G hG)
