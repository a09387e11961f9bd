/-! THE CONSTRUCTOR OF EXCEPTIONS, for a class of one's own with fields: Exception's own constructor on a new Wrong -/
theorem vx_back9L {p : Program} {l : Launch} {e : Env} {R : Room} {s : State} {m : MethodId} {args : Array Value} {below : List Frame} {meth : Method} {c : Code} {locs L : List Loc} {cells slots : Nat} {T S : State} {R' : Room} {k n : Nat} (X : Stand p l e R s m args below meth c T locs cells slots) (Y : Stand p l e R' ((T.setVm s.vm).setFrames (.invoking m args :: below)) m args below meth c T [] 0 0) (Z : Stand p l e R' ((T.setVm s.vm).setFrames (.invoking m args :: below)) m args below meth c S L k n) :
    Stand p l e R s m args below meth c S (locs ++ L) (cells + k) (slots + n) := by
  have hW0 : s.WarmedH ((T.setVm s.vm).setFrames (.invoking m args :: below)).vm := State.WarmedH.refl s
  refine { admits := X.admits, cas := X.cas, clock := X.clock, frames := X.frames, room := X.room, hears := X.hears, method := X.method, code := X.code, here := Z.here, tail := Z.tail, warmed := State.WarmedH.trans hW0 Z.warmed, limits := Z.limits.trans (Y.limits.symm.trans X.limits), bytes := Z.bytes.trans (Y.bytes.symm.trans X.bytes), same := ?_ }
  obtain ⟨e1, e2⟩ := Z.same
  rw [State.setFrames_setFrames] at e1
  have h2 : (T.setVm s.vm).sameButNew (S.setVm s.vm) L k n := ⟨e1, e2⟩
  exact X.same.trans h2
def hExc (mc ms : Nat) : se_Op hW := fun st w K _ => match st with
  | .ref a :: r => (match w.1 a with
    | some (.inl (22, o)) => se_c8 8 r ∧ w.2.2.1 ≤ mc ∧ w.2.2.2 ≤ ms ∧ o 4 = .null ∧ ∀ u v : Option Nat, K r (hU w.1 a (.inl (22, updV (updV (updV o 0 (.ref a)) 1 (va_rf u)) 2 (va_rf v))), w.2)
    | _ => False)
  | _ => False
theorem refV_rf (u : RefV) : ∃ x : Option Nat, u.v = va_rf x := by
  obtain ⟨v, h⟩ := u
  cases v with
  | ref a => exact ⟨some a, rfl⟩
  | null => exact ⟨none, rfl⟩
  | _ => cases h
set_option maxHeartbeats 4000000 in
theorem hExc_ok {p : Program} {l : Launch} {e : Env} {s : State} {m : MethodId} {args : Array Value} {below : List Frame} {meth : Method} {c : Code} {nL : Nat} {cc : ByteArray} {ret : Option FieldType} {Q : State → Prop} {g : hG} {H0 : Heap} {idx mc ms fr lo : Nat} {own : String} (hlt : l.stackTraces = false)
    (h1 : Cond.methodLink own idx ⟨"java/lang/Exception", "<init>", "()V"⟩ ∈ lw_all) (hf : 8 ≤ fr) (hlo : 300 ≤ lo) (C : se_Cx p s m args meth c cc nL own ret) (hG : hGl g s) : se_Snd p l e (hRoom fr lo mc ms) s m args below meth c Q nL (fun a => a) (hRM g H0) cc (.invokespecial idx) 3 (hExc mc ms) := by
  intro pc L st w K X hd hK hX h
  unfold hExc at h
  split at h
  · rename_i a r
    split at h
    · rename_i o ho
      obtain ⟨h8, k1, k2, ho4, h⟩ := h
      intro H locs k q ls hM hl
      obtain ⟨⟨hx, hb, hml, hown, hts⟩, hlk, hrt⟩ := C
      have h8' := se_c8_le (fun a => a) 8 r h8
      rw [se_map_id] at h8' ⊢
      intro T hT X0
      subst hT
      obtain ⟨-, r', hr', ⟨cell, hc1, hmon⟩, cell0, q1, q2, q3, q4⟩ := hM.2.2.1.2.1 a _ ho
      cases hc1.symm.trans q1
      have er : r' = (RX6, TX6, 8) := (Option.some.inj hr').symm
      subst er
      have htr : e.platform.stackTraces = false := (show e.platform.stackTraces = l.stackTraces by rw [X0.admits.platform]).trans hlt
      have Y := vx_rebase X0 (R' := { frames := fr, locals := lo, cells := 0, slots := 0 }) (Nat.le_refl _) (Nat.le_refl _) (show k + 0 ≤ mc by rw [hM.1]; exact k1) (show q + 0 ≤ ms by rw [hM.2.1]; exact k2)
      have Y0 := Y
      obtain ⟨s', hA'⟩ : ∃ z, z = (T.setVm s.vm).setFrames (.invoking m args :: below) := ⟨_, rfl⟩
      rw [← hA'] at Y
      have hvm : s'.vm = s.vm := by rw [hA']; rfl
      have hhp : s'.heap = T.heap := by rw [hA']; rfl
      have hW0 : s.WarmedH s'.vm := by rw [hvm]; exact State.WarmedH.refl s
      have ok : ∀ w ∈ lw_all, w.before args s' = true := fun w hw => vx_ot_at hW0 hvm.symm (by simp only [vx_ot, (List.mem_filter.mp hw).2, Bool.or_true]) (hts w hw)
      have hG' : hGl g s' := hGl.same hvm.symm hG
      have hZU : vx_Zq Bundle.tN "UNASSIGNED_STACK" Bundle.steD (gW g) s' s'.heap := by rw [hhp]; exact vx_Zq.kept hG'.2.2.2.2.2.2.1 (hLow hM)
      have hZN : vx_Zq Bundle.tN "SUPPRESSED_SENTINEL" Bundle.listD (gW g) s' s'.heap := by rw [hhp]; exact vx_Zq.kept hG'.2.2.2.2.2.2.2 (hLow hM)
      have hdec : (Cond.declares ⟨"java/lang/Throwable", "<init>", "()V"⟩).before args s' = true := va_Nw.use rfl (hG'.2.2.1 _ q436 rfl)
      have howns : e.platform.frameOwnsMonitors = true := by rw [Y.admits.platform]
      have hfin : e.platform.finalization = false := by rw [Y.admits.platform]
      have hpl : e.platform.magicAccessors = ({} : Platform).magicAccessors := by rw [Y.admits.platform]
      have hown' : s'.vm.findClass own = some m.cls := by rw [hvm]; exact hown
      have hat : ∀ c ∈ Bundle.throwableAtoms, c.before args s' = true := by
        intro c hc
        simp only [Bundle.throwableAtoms, List.mem_cons, List.not_mem_nil, or_false] at hc
        rcases hc with rfl | rfl | rfl | rfl | rfl | rfl | rfl | rfl | rfl | rfl | rfl | rfl | rfl | rfl | rfl | rfl | rfl | rfl | rfl | rfl | rfl | rfl | rfl | rfl
        · exact ok _ q106
        · exact ok _ q451
        · exact ok _ q460
        · exact ok _ q462
        · exact ok _ q465
        · exact ok _ q467
        · exact ok _ q452
        · exact ok _ q453
        · exact ok _ q149
        · exact ok _ q150
        · exact ok _ q454
        · exact ok _ q459
        · exact ok _ q463
        · exact ok _ q480
        · exact ok _ q441
        · exact ok _ q481
        · exact ok _ q443
        · exact ok _ q482
        · exact ok _ q445
        · exact ok _ q455
        · exact hZU.2.word
        · exact ok _ q457
        · exact hZN.2.word
        · exact ok _ q447
      obtain ⟨T9, Z9, L9, LZ9, Y9⟩ := ThrowableC.of_atoms (args := args) howns hfin hpl hat
      obtain ⟨P1, Ps, hlen, L1, hL1, hP1m, hlink1, hlink⟩ := Bundle.chain0 (args := args) hpl Y9.init0 [] "java/lang/Exception" (by decide) (fun n hn => nomatch hn) (fun c hc => by
        simp only [Bundle.chain0Atoms, Bundle.passAtoms, List.mem_cons, List.not_mem_nil, or_false] at hc
        rcases hc with rfl | rfl | rfl | rfl | rfl
        · exact ok _ q472
        · exact ok _ q473
        · exact ok _ q474
        · exact ok _ q452
        · exact hdec)
      obtain rfl : Ps = [] := List.length_eq_zero_iff.mp hlen
      obtain ⟨hSl, hfc, kC, hkC, hkind⟩ := hG'.1 22 _ rfl
      have hap := hApart ok hG' (ci := 22) rfl rfl
      have hsel0 : selectMethod e.platform s'.vm cell.cls T9.fill0 = .method T9.fill0 := by
        obtain ⟨c2, r2, m2, z1, z2, z3, z4, -⟩ := Cond.selects_spec (ok _ q438)
        rw [q2]
        cases z1.symm.trans hfc
        cases Option.some.inj (z2.symm.trans (State.methodFound?_of_named Y9.fill0 (by decide)))
        cases Option.some.inj (z3.symm.trans Y9.fill0)
        rw [Launch.admits_selectMethod Y.admits]
        exact z4
      have hselF : selectMethod e.platform s'.vm cell.cls T9.fill = .method T9.fill := by
        obtain ⟨c2, r2, m2, z1, z2, z3, z4, -⟩ := Cond.selects_spec (ok _ q439)
        rw [q2]
        cases z1.symm.trans hfc
        cases Option.some.inj (z2.symm.trans (State.methodFound?_of_named Y9.fill (by decide)))
        cases Option.some.inj (z3.symm.trans Y9.fill)
        rw [Launch.admits_selectMethod Y.admits]
        exact z4
      have eC : T9.fCause.slot = gI_ g 22 0 := by
        obtain ⟨cf, kf, fi, fd, e1, e2⟩ := hSl 0 (by decide)
        cases e1.symm.trans Y9.cause
        exact e2
      have eS : T9.fStack.slot = gI_ g 22 1 := by
        obtain ⟨cf, kf, fi, fd, e1, e2⟩ := hSl 1 (by decide)
        cases e1.symm.trans Y9.stack
        exact e2
      have eP : T9.fSupp.slot = gI_ g 22 2 := by
        obtain ⟨cf, kf, fi, fd, e1, e2⟩ := hSl 2 (by decide)
        cases e1.symm.trans Y9.supp
        exact e2
      obtain ⟨ci198, i198, fB, hk198, hg198, ha198, hsB, -, hnB, htB, hffB⟩ := Cond.ownField (t := .object "java/lang/Object") Y9.found L9.cls (by decide +kernel) (ok _ q450) (ok _ q449) e.platform hpl
      have eB : fB.slot = gI_ g 22 4 := by
        obtain ⟨cf, kf, fi, fd, e1, e2⟩ := hSl 4 (by decide)
        cases e1.symm.trans hffB
        exact e2
      obtain ⟨cellS, hcS, hiss⟩ := Y9.statics
      obtain ⟨u0, hu0⟩ := Cond.staticRefV Y9.unassigned L9.unassignedStatic L9.statics hcS hiss (vx_isRefq (args := args) hZU.1)
      obtain ⟨sen, hsen⟩ := Cond.staticRefV Y9.sentinel L9.sentinelStatic L9.statics hcS hiss (vx_isRefq (args := args) hZN.1)
      have hcS' : T.heap[T9.aS]? = some cellS := by rw [← hhp]; exact hcS
      have hneS : T9.aS ≠ a := fun z => by
        rw [z] at hcS'
        cases hcS'.symm.trans q1
        rw [q3] at hiss
        cases hiss
      have hlt8 : ∀ j, j < 8 → gI_ g 22 j < cell.slots.size := fun j hj => (Array.getElem?_eq_some_iff.mp (q4 j hj)).1
      have htC : Takes s' cell T9.fCause (.ref a) := ⟨by rw [eC]; exact hlt8 0 (by decide), by
        rw [q2, q3]
        exact (u_store hfc hkC hkind (ok _ q440) Y9.cause (ty := .object "java/lang/Throwable") (by decide +kernel) rfl rfl).2.2⟩
      have htS : Takes s' cell T9.fStack u0.v := ⟨by rw [eS]; exact hlt8 1 (by decide), by
        rw [q2, q3]
        exact (u_store hfc hkC hkind (ok _ q442) Y9.stack (ty := .array (.object "java/lang/StackTraceElement")) (by decide +kernel) (narrow_refV _ u0) (fits_refV_array _ u0)).2.2⟩
      have htP : Takes s' cell T9.fSupp sen.v := ⟨by rw [eP]; exact hlt8 2 (by decide), by
        rw [q2, q3]
        exact (u_store hfc hkC hkind (ok _ q444) Y9.supp (ty := .object "java/util/List") (by decide +kernel) (narrow_refV _ sen) (fits_refV_object _ sen)).2.2⟩
      have z1 := t_set q4 hap (k := 0) (by decide) (.ref a)
      have z2 := t_set z1 hap (k := 1) (by decide) u0.v
      have z3 := t_set z2 hap (k := 2) (by decide) sen.v
      have z4 := t_set z3 hap (k := 1) (by decide) u0.v
      have hskip : SkipFacts T9 e.platform s' (fun u => u) u0 ((preparedCellV T9.toThrowableT cell a u0 sen).withEntry T.cur) := by
        refine ⟨{ ci198 := ci198, i198 := i198, fBack := fB }, ⟨hk198, hg198, ha198, hsB⟩, ?_, fun _ _ => rfl⟩
        show (((cell.setSlot T9.fCause.slot (.ref a)).setSlot T9.fStack.slot u0.v).setSlot T9.fSupp.slot sen.v).slots[fB.slot]? = some .null
        rw [eB, eC, eS, eP]
        have := z3 4 (by decide)
        rw [this]
        simp only [updV]
        exact congrArg some ho4
      obtain ⟨tm, methC, cdC, kC9, vm₁, hnC, -, -, -, -, -, -, -, hW₁, st1⟩ := Steps.initCold (tb := p.tables) (e := e) (below := below) (s := s') (U := T) Y.here hx Y.warmed hpl hown' (t := Bundle.init0 "java/lang/Exception") rfl rfl (by decide)
        (ok _ h1) (ok _ q472) (bytes := Bundle.five) (maxL := 1) (ok _ q473) (f := F0 m pc ls (.ref a :: r)) rfl (a := a) (rest := r) rfl (by rw [hb]; exact hd)
      cases Option.some.inj (hnC.symm.trans hP1m)
      have X₁ := Y.noted hW₁
      obtain ⟨vm₂, X₂, st2⟩ := X₁.ctorPlainOffV hx (g := F0 m pc ls r) rfl (by rw [hml]; exact hl.1.1) T9 L9 Z9 LZ9 [P1] (fun P hP => by rcases List.mem_singleton.mp hP with rfl; exact L1) ⟨hlink1, hlink⟩ (u0 := u0) (sen := sen) (self := a) (cell := cell) (cellS := cellS)
        q1 (fun k => by rw [q3]; exact fun z => by cases z) (by rw [q3]; exact fun z => by cases z) (by rw [hmon]) (by rw [hmon]) hsel0 hselF hcS' hneS (fun z => by rw [z] at hiss; cases hiss) hu0 hsen htC htS htP Y9.objLocals hskip htr [] (by rw [hb]; exact hd)
        (by show 1 + 2 < fr; omega) (by show 2 * 0 + (r.map fun v => v.category).sum + (13 * 1 + 41) ≤ lo; have : (r.map fun v => v.category).sum ≤ 8 := h8'; omega)
      subst hA'
      have X6 := vx_back9L X0 Y0 X₂
      obtain ⟨ux, hux⟩ := refV_rf u0
      obtain ⟨sx, hsx⟩ := refV_rf sen
      have hlt9 : a < T.heap.size := (Array.getElem?_eq_some_iff.mp q1).1
      have hfun : ∀ j, j < 8 → updV (updV (updV (updV o 0 (.ref a)) 1 u0.v) 2 sen.v) 1 u0.v j = updV (updV (updV o 0 (.ref a)) 1 (va_rf ux)) 2 (va_rf sx) j := by
        intro j hj
        rw [← hux, ← hsx]
        simp only [updV]
        by_cases j1 : j = 1
        · subst j1
          rfl
        · rw [if_neg j1]
      have hheap : (((T.setVm vm₁).setVm vm₂).setCell a ((preparedCellV T9.toThrowableT cell a u0 sen).setSlot T9.fStack.slot u0.v)).heap = T.heap.setIfInBounds a ((preparedCellV T9.toThrowableT cell a u0 sen).setSlot T9.fStack.slot u0.v) := rfl
      have hce : (T.heap.setIfInBounds a ((preparedCellV T9.toThrowableT cell a u0 sen).setSlot T9.fStack.slot u0.v))[a]? = some ((preparedCellV T9.toThrowableT cell a u0 sen).setSlot T9.fStack.slot u0.v) := by simp [Array.getElem?_setIfInBounds, hlt9]
      have kk := hK _ _ (h ux sx) (T.heap.setIfInBounds a ((preparedCellV T9.toThrowableT cell a u0 sen).setSlot T9.fStack.slot u0.v)) (locs ++ [⟨a, T9.fCause.slot⟩, ⟨a, T9.fStack.slot⟩, ⟨a, T9.fSupp.slot⟩, ⟨a, T9.fStack.slot⟩]) k q ls
        (hRM_setL hM ho (by simp) (fun b hb => by simp [Array.getElem?_setIfInBounds, Ne.symm hb]) ⟨(RX6, TX6, 8), rfl, ⟨_, hce, by exact hmon⟩, _, hce, by exact q2, by exact q3, fun j hj => by
          show _ = some (updV (updV (updV o 0 (.ref a)) 1 (va_rf ux)) 2 (va_rf sx) j)
          rw [← hfun j hj]
          have := z4 j hj
          rw [← eC, ← eS, ← eP] at this
          exact this⟩ (fun z hz => by
          simp only [List.mem_cons, List.not_mem_nil, or_false] at hz
          rcases hz with rfl | rfl | rfl | rfl <;> rfl)) hl
      rw [se_map_id] at kk
      obtain ⟨t, a1, b1⟩ := kk _ hheap X6
      exact ⟨t, st1 _ (fun acts => by rw [doInvoke_state]; exact st2 _ a1), b1⟩
    · exact h.elim
  · exact h.elim
/-- over the typed memory -/
def yExc (mc ms : Nat) : se_Op yW := fun st w K _ => match st with
  | .ref a :: r => yc w.1 a = 22 ∧ se_c8 8 r ∧ w.2.2.1 ≤ mc ∧ w.2.2.2 ≤ ms ∧ yr w.1 a 4 = none ∧ ∀ u v : Option Nat, K r (ywR (ywR (ywR w.1 a 0 (some a)) a 1 u) a 2 v, w.2)
  | _ => False
theorem yExc_r {w : yW} {K : List Value → yW → Prop} {Y : Nat → yW → Prop} {r : List Value} {a mc ms : Nat} : yExc mc ms (.ref a :: r) w K Y = (yc w.1 a = 22 ∧ se_c8 8 r ∧ w.2.2.1 ≤ mc ∧ w.2.2.2 ≤ ms ∧ yr w.1 a 4 = none ∧ ∀ u v : Option Nat, K r (ywR (ywR (ywR w.1 a 0 (some a)) a 1 u) a 2 v, w.2)) := rfl
theorem yExc_ok {p : Program} {l : Launch} {e : Env} {s : State} {m : MethodId} {args : Array Value} {below : List Frame} {meth : Method} {c : Code} {nL : Nat} {cc : ByteArray} {ret : Option FieldType} {Q : State → Prop} {g : hG} {H0 : Heap} {idx mc ms fr lo : Nat} {own : String} (hl : l.stackTraces = false)
    (h1 : Cond.methodLink own idx ⟨"java/lang/Exception", "<init>", "()V"⟩ ∈ lw_all) (hf : 8 ≤ fr) (hlo : 300 ≤ lo) (C : se_Cx p s m args meth c cc nL own ret) (hG : hGl g s) (hS : hSt g s) : se_Snd p l e (hRoom fr lo mc ms) s m args below meth c Q nL (fun a => a) (yRM g H0) cc (.invokespecial idx) 3 (yExc mc ms) :=
  yLift (hExc_ok (mc := mc) (ms := ms) hl h1 hf hlo C hG) fun st w K X hh hr hD h => by
    unfold yExc at h
    split at h
    · rename_i a r
      obtain ⟨hc, h8, k1, k2, h4, h⟩ := h
      have ha := (hr.1 a).1 (by omega)
      rw [hc] at ha
      simp only [hExc, ha]
      refine ⟨h8, k1, k2, ?_, fun u v => ⟨_, ?_, h u v⟩⟩
      · have e := yV_r (m := w.1) (a := a) (c := 22) (k := 4) (by decide)
        rw [e]
        show va_rf (yr w.1 a 4) = .null
        rw [h4]
        rfl
      · have hv : updV (updV (updV (yV w.1 a 22) 0 (.ref a)) 1 (va_rf u)) 2 (va_rf v) = yV (ywR (ywR (ywR w.1 a 0 (some a)) a 1 u) a 2 v) a 22 := by
          have e0 := yV_wR (m := w.1) (a := a) (c := 22) (k := 0) (x := some a) (by decide)
          have e1 := yV_wR (m := ywR w.1 a 0 (some a)) (a := a) (c := 22) (k := 1) (x := u) (by decide)
          have e2 := yV_wR (m := ywR (ywR w.1 a 0 (some a)) a 1 u) (a := a) (c := 22) (k := 2) (x := v) (by decide)
          have k0 : yKy 22 0 = 0 := rfl
          have k1' : yKy 22 1 = 1 := rfl
          have k2' : yKy 22 2 = 2 := rfl
          rw [k0] at e0
          rw [k1'] at e1
          rw [k2'] at e2
          rw [e2, e1, e0]
          rfl
        have := yRl_fld (a := a) (v := updV (updV (updV (yV w.1 a 22) 0 (.ref a)) 1 (va_rf u)) 2 (va_rf v)) hr (by omega) (m' := ywR (ywR (ywR w.1 a 0 (some a)) a 1 u) a 2 v) (fun b hb => ((ySm_wR hb).tr (ySm_wR hb)).tr (ySm_wR hb)) rfl (by rw [hc]; exact hv)
        rw [hc] at this
        exact this
    · exact h.elim
