/-! CORE 4: contracts of the reference's methods -/
def mRoom (fr lo : Nat) : Room := { frames := fr, cells := 0, slots := 0, locals := lo }
def mCon (l : Launch) (y : MethodName) (cc : ByteArray) (maxL : Nat) (ret : Option FieldType) (fr lo : Nat) (pre : List Value → mM → Prop) (post : List Value → mM → Option Value → mM → Prop) : Prop :=
  ∀ (g : mG) (av : List Value) (M0 : mM), mInj g → pre av M0 → vx_Met l y (ws_ y cc maxL ret) (mRoom fr lo) (va_Pc (av.map (se_cv g.1)) (fun U => mGl g U ∧ mP g M0 U.heap))
    (fun _ st o t => ∃ (v : Option Value) (M' : mM), o = .returned (v.map (se_cv g.1)) ∧ post av M0 v M' ∧ mP g M' t.heap ∧ t.heap.size = st.heap.size ∧ ∀ a : Nat, ¬ mReg g a → t.heap[a]? = st.heap[a]?) (fun _ _ _ _ => False) 0 0 (mReg g)
def se_el : List Value → se_L
  | [] => []
  | v :: r => some v :: (if v.category = 2 then none :: se_el r else se_el r)
def se_ent (av : List Value) (n : Nat) : se_L := se_el av ++ List.replicate (n - (se_el av).length) none
theorem se_prs_none (f : Nat → Nat) : ∀ (j k : Nat), se_prs k (se_cl f (List.replicate j none)) = [] := by
  intro j
  induction j with
  | zero => intro k; rfl
  | succ j ih => intro k; exact ih (k + 1)
theorem se_prs_el (f : Nat → Nat) (j : Nat) : ∀ (av : List Value) (k : Nat), se_prs k (se_cl f (se_el av ++ List.replicate j none)) = lv_args k (av.map (se_cv f)) := by
  intro av
  induction av with
  | nil => intro k; exact se_prs_none f j k
  | cons v r ih =>
    intro k
    by_cases hc : v.category = 2
    · have e1 : se_el (v :: r) = some v :: none :: se_el r := by rw [se_el, if_pos hc]
      rw [e1]
      show (k, se_cv f v) :: se_prs (k + 1 + 1) (se_cl f (se_el r ++ List.replicate j none)) = (k, se_cv f v) :: lv_args (if (se_cv f v).category = 2 then k + 2 else k + 1) (r.map (se_cv f))
      rw [se_cv_cat, if_pos hc, ih]
    · have e1 : se_el (v :: r) = some v :: se_el r := by rw [se_el, if_neg hc]
      rw [e1]
      show (k, se_cv f v) :: se_prs (k + 1) (se_cl f (se_el r ++ List.replicate j none)) = (k, se_cv f v) :: lv_args (if (se_cv f v).category = 2 then k + 2 else k + 1) (r.map (se_cv f))
      rw [se_cv_cat, if_neg hc, ih]
theorem se_el_len (f : Nat → Nat) : ∀ (av : List Value), (lg_sl (av.map (se_cv f))).length = (se_el av).length := by
  intro av
  induction av with
  | nil => rfl
  | cons v r ih =>
    unfold lg_sl at ih ⊢
    rw [List.map_cons, List.flatMap_cons, List.length_append, ih, se_cv_cat, se_el]
    by_cases hc : v.category = 2
    · rw [if_pos hc, if_pos hc]; simp; omega
    · rw [if_neg hc, if_neg hc]; simp; omega
theorem se_lok_ent (f : Nat → Nat) {av : List Value} {n : Nat} (h : (se_el av).length ≤ n) : se_lok f ((lg_sl (av.map (se_cv f)) ++ List.replicate (n - (lg_sl (av.map (se_cv f))).length) Slot.unset).toArray) n (se_ent av n) := by
  have hl := lv_entry (av.map (se_cv f)) (n := n) (by rw [se_el_len]; exact h)
  refine ⟨?_, ?_⟩
  · unfold se_ent
    rw [se_prs_el]
    exact hl
  · unfold se_ent
    rw [List.length_append, List.length_replicate]
    omega
/-- the tables of a method of the reference -/
def mTS (l : Launch) (cc : ByteArray) (nL : Nat) (ret : Option FieldType) (fr lo : Nat) (T : Nat → Nat → se_Op mM) : Prop :=
  ∀ (g : mG) (p : Program) (e : Env) (s : State) (m : MethodId) (args : Array Value) (below : List Frame) (meth : Method) (c : Code) (Q : State → Prop) (H0 : Heap), se_Cx p s m args meth c cc nL RX2 ret → mGl g s → mInj g →
    ∀ k i, se_Snd p l e (mRoom fr lo) s m args below meth c Q nL g.1 (mRM g H0) cc (se_ins k i).1 (se_ins k i).2 (T k i)
/-- a method's body, walked, is its contract -/
theorem mOf {l : Launch} {y : MethodName} {cc : ByteArray} {maxL : Nat} {ret : Option FieldType} {fr lo : Nat} {pre : List Value → mM → Prop} {post : List Value → mM → Option Value → mM → Prop} {T : Nat → Nat → se_Op mM} (hy : plainName y.cls = true) (hyc : y.cls = RX2)
    (hT : mTS l cc maxL ret fr lo T) (hlen : ∀ av M, pre av M → (se_el av).length ≤ maxL)
    (body : ∀ (av : List Value) (M0 : mM), pre av M0 → ∀ G : Nat → se_L → List Value → mM → Prop, (∀ (stops : List Nat) (n pc : Nat) (L : se_L) (st : List Value) (M : mM), wpN False T cc stops G (fun _ _ _ _ => False) (fun v M' => se_nr ret v ∧ post av M0 v M') n pc L st M → G pc L st M) → G 0 (se_ent av maxL) [] M0) :
    mCon l y cc maxL ret fr lo pre post := by
  intro g av M0 hI hpre
  refine vx_ofW (cc := cc) (maxL := maxL) (ret := ret) hy rfl ?_
  intro p e s m args below meth c s₁ B hml htab hv
  obtain ⟨rfl, hG, hP⟩ := hv
  have hts0 := atoms_spec (ws := ws_ y cc maxL ret) B.pre
  have hts : ∀ w ∈ lw_all, w.before _ s = true := fun w h => hts0 w (List.mem_cons_of_mem _ h)
  have hown : s.vm.findClass RX2 = some m.cls := hyc ▸ findClass_of_methodNamed B.named
  have C : se_Cx p s m (av.map (se_cv g.1)).toArray meth c cc maxL RX2 ret := ⟨⟨B.exec, B.bytes, hml, hown, hts⟩, B.notSynchronized, B.returns⟩
  rw [lg_entry_eq]
  refine body av M0 hpre _ (fun stops n pc L st M h => wpN_ok C (fun h => h.elim) (hT g p e s m _ below meth c _ s.heap C hG hI) (fun _ _ _ _ h => h.elim) ?_ stops n pc L st M h) s.heap [] 0 0 _ ⟨rfl, rfl, rfl, fun _ _ => rfl, fun _ h => (by cases h), hP⟩ (se_lok_ent g.1 (hlen av M0 hpre))
  intro v M' hr
  refine ⟨hr.1, fun H locs k q hM => ⟨fun t ht hW => ⟨v, M', rfl, hr.2, by rw [ht]; exact hM.2.2.2.2.2, by rw [ht]; exact hM.2.2.1, fun a ha => by rw [ht]; exact hM.2.2.2.1 a ha⟩, hM.2.2.2.2.1, by rw [hM.1]; exact Nat.le_refl _, by rw [hM.2.1]; exact Nat.le_refl _⟩⟩
theorem se_c8_le (f : Nat → Nat) : ∀ (n : Nat) (r : List Value), se_c8 n r → ((r.map (se_cv f)).map fun v => v.category).sum ≤ n := by
  intro n r
  induction r generalizing n with
  | nil => intro _; exact Nat.zero_le _
  | cons v r ih =>
    intro h
    rw [List.map_cons, List.map_cons, List.sum_cons, se_cv_cat]
    cases v with
    | int x =>
      cases n with
      | zero => exact h.elim
      | succ n => have := ih n h; rw [show ∀ z : Nat, (Value.int x).category + z = 1 + z from fun _ => rfl]; omega
    | ref x =>
      cases n with
      | zero => exact h.elim
      | succ n => have := ih n h; rw [show ∀ z : Nat, (Value.ref x).category + z = 1 + z from fun _ => rfl]; omega
    | null =>
      cases n with
      | zero => exact h.elim
      | succ n => have := ih n h; rw [show ∀ z : Nat, Value.null.category + z = 1 + z from fun _ => rfl]; omega
    | long x =>
      match n, h with
      | 0, h => exact h.elim
      | 1, h => exact h.elim
      | n + 2, h => have := ih n h; rw [show ∀ z : Nat, (Value.long x).category + z = 2 + z from fun _ => rfl]; omega
    | _ => exact absurd h (by simp [se_c8])
/-- a call through the object -/
def oC (na : Nat) (pre : List Value → mM → Prop) (post : List Value → mM → Option Value → mM → Prop) : se_Op mM := fun st M K _ => ∃ (As r : List Value), st = As.reverse ++ .ref 0 :: r ∧ As.length = na ∧ se_c8 8 r ∧ pre (.ref 0 :: As) M ∧ ∀ v M', post (.ref 0 :: As) M v M' → K (v.toList ++ r) M'
/-- a static call -/
def oS (na : Nat) (pre : List Value → mM → Prop) (post : List Value → mM → Option Value → mM → Prop) : se_Op mM := fun st M K _ => ∃ (As r : List Value), st = As.reverse ++ r ∧ As.length = na ∧ se_c8 8 r ∧ pre As M ∧ ∀ v M', post As M v M' → K (v.toList ++ r) M'
theorem se_map_ret (f : Nat → Nat) (v : Option Value) (r : List Value) : (v.toList ++ r).map (se_cv f) = (v.map (se_cv f)).toList ++ r.map (se_cv f) := by cases v <;> rfl
section
variable {p : Program} {l : Launch} {e : Env} {s : State} {m : MethodId} {args : Array Value} {below : List Frame} {meth : Method} {c : Code} {nL : Nat} {cc : ByteArray} {ret : Option FieldType} {Q : State → Prop} {g : mG} {H0 : Heap} {idx na fr lo : Nat}
theorem mBlind (g : mG) (av : List Value) (M : mM) : FrameBlind (va_Pc av (fun U => mGl g U ∧ mP g M U.heap)) := fun a U g' mk q => by
  obtain ⟨q0, q1, q2⟩ := q
  exact ⟨q0, mGl.moved (u := U) (U := U.calling g' mk a) (Vm.Alike.refl U.vm) q1, q2⟩
/-- what came back is put beside the rest -/
theorem mBack {H H1 : Heap} {M M' : mM} {locs L : List Loc} {k q : Nat} (hM : mRM g H0 M H locs k q) (hP : mP g M' H1) (hz : H1.size = H.size) (ho : ∀ a : Nat, ¬ mReg g a → H1[a]? = H[a]?) (hL : ∀ z ∈ L, mReg g z.base) : mRM g H0 M' H1 (locs ++ L) k q := by
  obtain ⟨e1, e2, e3, e4, e5, -⟩ := hM
  refine ⟨e1, e2, hz.trans e3, fun a ha => (ho a ha).trans (e4 a ha), fun z h => ?_, hP⟩
  rcases List.mem_append.mp h with h | h
  · exact e5 z h
  · exact hL z h
theorem oC_ok {y : MethodName} {cc' : ByteArray} {maxL' : Nat} {ret' : Option FieldType} {fr' lo' : Nat} {pre : List Value → mM → Prop} {post : List Value → mM → Option Value → mM → Prop} (hM : mCon l y cc' maxL' ret' fr' lo' pre post)
    (h1 : Cond.methodLink RX2 idx y ∈ lw_all) (h2 : Cond.instanceMethod y ∈ lw_all) (h3 : Cond.selects RX2 y y ∈ lw_all) (h4 : Cond.initialized RX2 ∈ lw_all) (h5 : Cond.code y cc' maxL' ret' ∈ lw_all)
    (hd0 : y.cls = RX2 ∧ y.cls ≠ "java/lang/invoke/MethodHandle" ∧ y.cls ≠ "java/lang/invoke/VarHandle" ∧ (parseMethodDescriptor y.desc).map (fun d => d.parameters.length) = some na) (hR : fr' + 1 ≤ fr ∧ 8 + (maxL' + 11) + lo' ≤ lo)
    (C : se_Cx p s m args meth c cc nL RX2 ret) (hG : mGl g s) (hI : mInj g) : se_Snd p l e (mRoom fr lo) s m args below meth c Q nL g.1 (mRM g H0) cc (.invokevirtual idx) 3 (oC na pre post) := by
  intro pc L st M K X hd hK hX h
  obtain ⟨As, r, rfl, hna, h8, hpre, h⟩ := h
  intro H locs k q ls hMM hl
  obtain ⟨⟨hx, hb, hml, hown, hts⟩, hlk, hrt⟩ := C
  have hP := hMM.2.2.2.2.2
  have hrun := vx_runV (l := l) (e := e) (below := below) (meth := meth) (locs := locs) (cells := k) (slots := q) (H := H) (As := As.map (se_cv g.1)) (rest := r.map (se_cv g.1)) (b := g.1 0) (g := F0 m pc ls ((As.reverse ++ .ref 0 :: r).map (se_cv g.1))) ⟨hx, hb, hml, hown, hts⟩ (hM g (.ref 0 :: As) M hI hpre)
    (cwV (R := mRoom fr lo) (rm := mRoom fr' lo') na hts (lw_V h1 h2 h3 h4 h5) rfl rfl rfl hd0 hR)
    ⟨mBlind g _ M, by
      obtain ⟨⟨cell, q1, q2, q3, -⟩, -⟩ := hP
      exact ⟨cell, q1, by rw [q3]; rfl, by rw [q2]; exact hG.1.2.1⟩, fun U hU hW => ⟨rfl, hG.moved hW.alike, by rw [hU]; exact hP⟩⟩
    rfl (by rw [List.length_map]; exact hna) hl.1.1 (by simp [List.map_append, List.map_reverse, se_cv]) (lv_room (se_c8_le g.1 8 r h8)) hd
    ⟨by rw [hMM.1]; exact Nat.le_refl _, by rw [hMM.2.1]; exact Nat.le_refl _⟩
  intro T hT X0
  rcases hrun T hT X0 with ⟨v, st₀, t, T', L', h0, X', hL', e1, e2, ⟨v', M', ho, hpost, hP', hz, hoth⟩, go⟩ | ⟨q9, st₀, t, T', L', E, ce, h0, X', hL', e1, e2, hf, -⟩
  · cases ho
    have hRM : mRM g H0 M' T'.heap (locs ++ L') k q := mBack hMM (by rw [e1]; exact hP') (by rw [e1, hz, h0]) (fun a ha => by rw [e1, hoth a ha, h0]) hL'
    obtain ⟨t2, a1, b1⟩ := hK _ _ (h v' M' hpost) T'.heap (locs ++ L') k q ls hRM hl T' rfl X'
    rw [se_map_ret] at a1
    exact ⟨t2, go t2 a1, b1⟩
  · exact hf.elim
theorem oS_ok {y : MethodName} {cc' : ByteArray} {maxL' : Nat} {ret' : Option FieldType} {fr' lo' : Nat} {pre : List Value → mM → Prop} {post : List Value → mM → Option Value → mM → Prop} (hM : mCon l y cc' maxL' ret' fr' lo' pre post)
    (h1 : Cond.methodLink RX2 idx y ∈ lw_all) (h2 : Cond.static y ∈ lw_all) (h3 : Cond.initialized y.cls ∈ lw_all) (h5 : Cond.code y cc' maxL' ret' ∈ lw_all)
    (hd0 : y.cls ≠ "java/lang/invoke/MethodHandle" ∧ y.cls ≠ "java/lang/invoke/VarHandle" ∧ (parseMethodDescriptor y.desc).map (fun d => d.parameters.length) = some na) (hR : fr' + 1 ≤ fr ∧ 8 + (maxL' + 11) + lo' ≤ lo)
    (C : se_Cx p s m args meth c cc nL RX2 ret) (hG : mGl g s) (hI : mInj g) : se_Snd p l e (mRoom fr lo) s m args below meth c Q nL g.1 (mRM g H0) cc (.invokestatic idx) 3 (oS na pre post) := by
  intro pc L st M K X hd hK hX h
  obtain ⟨As, r, rfl, hna, h8, hpre, h⟩ := h
  intro H locs k q ls hMM hl
  obtain ⟨⟨hx, hb, hml, hown, hts⟩, hlk, hrt⟩ := C
  have hP := hMM.2.2.2.2.2
  have hrun := vx_runS (l := l) (e := e) (below := below) (meth := meth) (locs := locs) (cells := k) (slots := q) (H := H) (As := As.map (se_cv g.1)) (rest := r.map (se_cv g.1)) (g := F0 m pc ls ((As.reverse ++ r).map (se_cv g.1))) ⟨hx, hb, hml, hown, hts⟩ (hM g As M hI hpre)
    (va_cwS (R := mRoom fr lo) (rm := mRoom fr' lo') na hts (lw_S h1 h2 h3 h5) rfl rfl rfl hd0 hR)
    ⟨mBlind g _ M, fun U hU hW => ⟨rfl, hG.moved hW.alike, by rw [hU]; exact hP⟩⟩
    rfl (by rw [List.length_map]; exact hna) hl.1.1 (by simp [List.map_append, List.map_reverse]) (lv_room (se_c8_le g.1 8 r h8)) hd
    ⟨by rw [hMM.1]; exact Nat.le_refl _, by rw [hMM.2.1]; exact Nat.le_refl _⟩
  intro T hT X0
  rcases hrun T hT X0 with ⟨v, st₀, t, T', L', h0, X', hL', e1, e2, ⟨v', M', ho, hpost, hP', hz, hoth⟩, go⟩ | ⟨q9, st₀, t, T', L', E, ce, h0, X', hL', e1, e2, hf, -⟩
  · cases ho
    have hRM : mRM g H0 M' T'.heap (locs ++ L') k q := mBack hMM (by rw [e1]; exact hP') (by rw [e1, hz, h0]) (fun a ha => by rw [e1, hoth a ha, h0]) hL'
    obtain ⟨t2, a1, b1⟩ := hK _ _ (h v' M' hpost) T'.heap (locs ++ L') k q ls hRM hl T' rfl X'
    rw [se_map_ret] at a1
    exact ⟨t2, go t2 a1, b1⟩
  · exact hf.elim
theorem se_Snd.mono {μ : Type} {R : Room} {f : Nat → Nat} {RM : μ → Heap → List Loc → Nat → Nat → Prop} {ins : Instr} {len : Nat} {op op' : se_Op μ} (h : se_Snd p l e R s m args below meth c Q nL f RM cc ins len op') (hm : ∀ st w K X, op st w K X → op' st w K X) : se_Snd p l e R s m args below meth c Q nL f RM cc ins len op :=
  fun pc L st w K X hd hK hX h' => h pc L st w K X hd hK hX (hm _ _ _ _ h')
end
