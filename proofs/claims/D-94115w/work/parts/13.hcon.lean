/-! what never changes: texts, static fields, boxes -/
def hLen : List Nat := [2, 2, 5, 4, 4, 3, 5, 4, 4, 3, 5, 3, 3, 4, 4, 4, 4, 5, 7, 6, 6, 4, 7, 5, 4, 3, 2, 3, 8]
def hByt : List (List Int32) := [[59, 45], [97, 116], [108, 105, 103, 104, 116], [119, 105, 100, 101], [117, 110, 105, 116], [102, 97, 114], [110, 101, 101, 100, 115], [115, 116, 97, 114], [112, 97, 105, 114], [101, 121, 101], [110, 111, 105, 115, 101], [111, 102, 102], [98, 97, 114], [115, 116, 101, 112], [108, 101, 97, 110], [114, 111, 111, 109], [100, 111, 116, 115], [110, 97, 109, 101, 100], [110, 97, 109, 105, 110, 103, 115], [115, 112, 101, 99, 107, 115], [115, 109, 101, 97, 114, 115], [116, 111, 108, 100], [115, 116, 114, 101, 116, 99, 104], [116, 114, 117, 115, 116], [119, 104, 101, 110], [97, 110, 100], [111, 114], [110, 111, 116], [59, 45, 40, 41, 60, 62, 61, 43]]
def hStrs : List (String × Nat × String × Nat) := [("StarEye$BookReader", 3, ";-", 0), ("StarEye$BookReader", 74, "at", 1), ("StarEye$BookReader", 100, "light", 2), ("StarEye$BookReader", 121, "wide", 3), ("StarEye$BookReader", 125, "unit", 4), ("StarEye$BookReader", 129, "far", 5), ("StarEye$BookReader", 145, "needs", 6), ("StarEye$BookReader", 159, "star", 7), ("StarEye$BookReader", 164, "pair", 8), ("StarEye$BookReader", 177, "eye", 9), ("StarEye$BookReader", 179, "noise", 10), ("StarEye$BookReader", 180, "off", 11), ("StarEye$BookReader", 181, "bar", 12), ("StarEye$BookReader", 182, "step", 13), ("StarEye$BookReader", 183, "lean", 14), ("StarEye$BookReader", 185, "room", 15), ("StarEye$Count", 62, "dots", 16), ("StarEye$Count", 63, "named", 17), ("StarEye$Count", 64, "namings", 18), ("StarEye$Count", 65, "specks", 19), ("StarEye$Count", 66, "smears", 20), ("StarEye$Count", 67, "told", 21), ("StarEye$Count", 69, "stretch", 22), ("StarEye$Count", 70, "light", 2), ("StarEye$Reader", 101, "star", 7), ("StarEye$Reader", 103, "at", 1), ("StarEye$Reader", 104, "light", 2), ("StarEye$Reader", 106, "eye", 9), ("StarEye$Reader", 108, "wide", 3), ("StarEye$Reader", 110, "unit", 4), ("StarEye$Reader", 112, "far", 5), ("StarEye$Reader", 114, "noise", 10), ("StarEye$Reader", 116, "off", 11), ("StarEye$Reader", 118, "bar", 12), ("StarEye$Reader", 120, "step", 13), ("StarEye$Reader", 122, "needs", 6), ("StarEye$Reader", 124, "lean", 14), ("StarEye$Reader", 126, "room", 15), ("StarEye$Reader", 128, "pair", 8), ("StarEye$Reader", 130, "trust", 23), ("StarEye$Reader", 132, "when", 24), ("StarEye$Reader", 134, "dots", 16), ("StarEye$Reader", 136, "named", 17), ("StarEye$Reader", 138, "namings", 18), ("StarEye$Reader", 140, "specks", 19), ("StarEye$Reader", 142, "smears", 20), ("StarEye$Reader", 144, "told", 21), ("StarEye$Reader", 146, "stretch", 22), ("StarEye$Reader", 148, "and", 25), ("StarEye$Reader", 150, "or", 26), ("StarEye$Reader", 152, "not", 27), ("StarEye$RuleReader", 3, ";-()<>=+", 28), ("StarEye$RuleReader", 89, "not", 27), ("StarEye$RuleReader", 105, "and", 25), ("StarEye$RuleReader", 113, "or", 26), ("StarEye$RuleReader", 115, "trust", 23), ("StarEye$RuleReader", 125, "when", 24)]
def hKept : List Nat := [7, 1, 2, 9, 3, 4, 5, 10, 11, 12, 13, 6, 14, 15, 8, 23, 24, 16, 17, 18, 19, 20, 21, 22, 25, 26, 27]
def hOnce : List Nat := [9, 10, 11, 12, 13, 14, 15]
def hWds : List Nat := [16, 17, 18, 19, 20, 21, 22, 2]
def hStat : List (String × String × String) := [("java/util/ArrayList", "DEFAULTCAPACITY_EMPTY_ELEMENTDATA", "[Ljava/lang/Object;"), ("java/lang/Integer$IntegerCache", "high", "I"), ("java/lang/Integer$IntegerCache", "cache", "[Ljava/lang/Integer;"), ("java/lang/String", "COMPACT_STRINGS", "Z"), ("java/lang/Throwable", "UNASSIGNED_STACK", "[Ljava/lang/StackTraceElement;"), ("java/lang/Throwable", "SUPPRESSED_SENTINEL", "Ljava/util/List;"), ("StarEye$Reader", "KEPT", "[Ljava/lang/String;"), ("StarEye$BookReader", "ONCE", "[Ljava/lang/String;"), ("StarEye$Count", "WORDS", "[Ljava/lang/String;"), ("jdk/internal/util/Preconditions", "SIOOBE_FORMATTER", "Ljava/util/function/BiFunction;")]
/-- the static fields' values -/
def hVg (g : hG) : Prop := gV g 0 = .ref (gSa g 0) ∧ gV g 1 = .int 127 ∧ gV g 2 = .ref (gSa g 1) ∧ gV g 3 = .int 1 ∧ hVk 3 (gV g 4) ∧ hVk 3 (gV g 5) ∧ gV g 6 = .ref (gSa g 2) ∧ gV g 7 = .ref (gSa g 3) ∧ gV g 8 = .ref (gSa g 4) ∧ hVk 3 (gV g 9)
def hSt (g : hG) (U : State) : Prop := (∀ (i : Nat) (x : String × String × String), hStat[i]? = some x → va_Z x.1 x.2.1 x.2.2 (gV g i) (gW g) U (gH g)) ∧ hVg g ∧
  va_T (.object "java/lang/Object") (gSa g 0) 0 (fun _ => .null) (gW g) U (gH g) ∧ va_T (.object "java/lang/Integer") (gSa g 1) 256 (fun j => .ref (gBx g j)) (gW g) U (gH g) ∧
  va_T (.object "java/lang/String") (gSa g 2) 27 (fun j => .ref (gTx g (hKept.getD j 0))) (gW g) U (gH g) ∧ va_T (.object "java/lang/String") (gSa g 3) 7 (fun j => .ref (gTx g (hOnce.getD j 0))) (gW g) U (gH g) ∧ va_T (.object "java/lang/String") (gSa g 4) 8 (fun j => .ref (gTx g (hWds.getD j 0))) (gW g) U (gH g) ∧
  vb_C (gBx g) (gW g) U (gH g) ∧ vk_S 29 hLen hByt (gTx g) (gTb g) (gW g) U (gH g) ∧ ∀ x ∈ hStrs, vk_R x.1 x.2.1 x.2.2.1 (gTx g x.2.2.2) U
theorem hSt.moved {g : hG} {s U : State} (hW : s.WarmedH U.vm) (h : hSt g s) : hSt g U := by
  obtain ⟨h1, h2, h3, h4, h5, h6, h7, h8, h9, h10⟩ := h
  exact ⟨fun i x hx => va_Z.moved hW.alike (h1 i x hx), h2, va_T.moved hW.alike h3, va_T.moved hW.alike h4, va_T.moved hW.alike h5, va_T.moved hW.alike h6, va_T.moved hW.alike h7, vb_C.moved hW.alike h8, vk_S.moved hW.alike h9, fun x hx => vk_R.warm hW (h10 x hx)⟩
theorem hSt.same {g : hG} {s U : State} (hv : s.vm = U.vm) (h : hSt g s) : hSt g U := by
  have hal : s.vm.Alike U.vm := by rw [hv]; exact Vm.Alike.refl _
  obtain ⟨h1, h2, h3, h4, h5, h6, h7, h8, h9, h10⟩ := h
  exact ⟨fun i x hx => va_Z.moved hal (h1 i x hx), h2, va_T.moved hal h3, va_T.moved hal h4, va_T.moved hal h5, va_T.moved hal h6, va_T.moved hal h7, vb_C.moved hal h8, vk_S.moved hal h9, fun x hx => vk_R.same hv.symm (h10 x hx)⟩
/-! contracts over the heap -/
/-- the abstract heap's addresses lie below n, and may be written -/
def hDom (g : hG) (h : hH) (n : Nat) : Prop := ∀ (a : Nat) (ob : hO), h a = some ob → a < n ∧ gW g a
theorem hRep.dom {g : hG} {h : hH} {n : Nat} {H : Heap} (r : hRep g h n H) : hDom g h n := fun a ob ha => ⟨by rw [r.1]; exact (r.2.1 a ob ha).2.lt, (r.2.1 a ob ha).1⟩
abbrev hPre : Type := hG → List Value → hH → Nat → Prop
abbrev hPost : Type := hG → List Value → hH → Nat → Option Value → hH → Nat → Prop
abbrev hPx : Type := hG → List Value → hH → Nat → Nat → hH → Nat → Prop
def hNoX : hPx := fun _ _ _ _ _ _ _ => False
def hQc (g : hG) (post : Option Value → hH → Nat → Prop) : Array Value → State → Outcome → State → Prop := fun _ st o t => ∃ (v : Option Value) (h' : hH) (n' : Nat), o = .returned v ∧ post v h' n' ∧ hRep g h' n' t.heap ∧ va_F (gW g) st t
def hXc (g : hG) (px : Nat → hH → Nat → Prop) : String → Nat → State → State → Prop := fun E a st t => E = se_EX ∧ ∃ (h' : hH) (n' : Nat), px a h' n' ∧ hRep g h' n' t.heap ∧ va_F (gW g) st t
def hPcc (g : hG) (av : List Value) (h : hH) (n : Nat) : Array Value → State → Prop := va_Pc av (fun U => hGl g U ∧ hSt g U ∧ hRep g h n U.heap)
def hCon (l : Launch) (y : MethodName) (ws : List Cond) (fr lo mc ms : Nat) (pre : hPre) (post : hPost) (px : hPx) : Prop :=
  ∀ (g : hG) (av : List Value) (h : hH) (n : Nat), hDom g h n → pre g av h n → vx_Met l y ws (hRoom fr lo mc ms) (hPcc g av h n) (hQc g (post g av h n)) (hXc g (px g av h n)) mc ms (gW g)
/-- the tables of a method over the heap -/
def hTS (l : Launch) (own nm : String) (cc : ByteArray) (nL : Nat) (ret : Option FieldType) (fr lo mc ms : Nat) (T : hG → Nat → Nat → se_Op hW) : Prop :=
  ∀ (g : hG) (p : Program) (e : Env) (s : State) (m : MethodId) (args : Array Value) (below : List Frame) (meth : Method) (c : Code) (Q : State → Prop) (H0 : Heap), se_Cx p s m args meth c cc nL own ret → meth.name = nm → hGl g s → hSt g s →
    ∀ k i, se_Snd p l e (hRoom fr lo mc ms) s m args below meth c Q nL (fun a => a) (hRM g H0) cc (se_ins k i).1 (se_ins k i).2 (T g k i)
/-- the end of a body -/
def hRt (ret : Option FieldType) (mc ms : Nat) (post : Option Value → hH → Nat → Prop) : Option Value → hW → Prop := fun v w => se_nr ret v ∧ w.2.2.1 ≤ mc ∧ w.2.2.2 ≤ ms ∧ post v w.1 w.2.1
def hXt (mc ms : Nat) (px : Nat → hH → Nat → Prop) : Nat → se_L → Nat → hW → Prop := fun _ _ a w => w.2.2.1 ≤ mc ∧ w.2.2.2 ≤ ms ∧ px a w.1 w.2.1
theorem va_F_of {g : hG} {H0 H : Heap} {w : hW} {locs : List Loc} {k q : Nat} {s t : State} (hM : hRM g s.heap w H locs k q) (ht : t.heap = H) : va_F (gW g) s t := ⟨by rw [ht]; exact hM.2.2.2.1, fun a h1 h2 => by rw [ht]; exact hM.2.2.2.2.1 a h1 h2⟩
theorem hOf {l : Launch} {y : MethodName} {own : String} {cc : ByteArray} {maxL : Nat} {ret : Option FieldType} {fr lo mc ms : Nat} {pre : hPre} {post : hPost} {px : hPx} {T : hG → Nat → Nat → se_Op hW} (hy : plainName y.cls = true) (hyc : y.cls = own)
    (hT : hTS l own y.name cc maxL ret fr lo mc ms T) (hlen : ∀ g av h n, pre g av h n → (se_el av).length ≤ maxL)
    (body : ∀ (g : hG) (av : List Value) (h : hH) (n : Nat), hDom g h n → hVg g → pre g av h n → ∀ G : Nat → se_L → List Value → hW → Prop, (∀ (stops : List Nat) (f pc : Nat) (L : se_L) (st : List Value) (w : hW), wpN True (T g) cc stops G (hXt mc ms (px g av h n)) (hRt ret mc ms (post g av h n)) f pc L st w → G pc L st w) → G 0 (se_ent av maxL) [] (h, n, 0, 0)) :
    hCon l y (ws_ y cc maxL ret) fr lo mc ms pre post px := by
  intro g av h n hdom hpre
  refine vx_ofW (cc := cc) (maxL := maxL) (ret := ret) hy rfl ?_
  intro p e s m args below meth c s₁ B hml htab hv
  obtain ⟨rfl, hG, hS, hP⟩ := hv
  have hts0 := atoms_spec (ws := ws_ y cc maxL ret) B.pre
  have hts : ∀ w ∈ lw_all, w.before _ s = true := fun w h => hts0 w (List.mem_cons_of_mem _ h)
  have hown : s.vm.findClass own = some m.cls := hyc ▸ findClass_of_methodNamed B.named
  have hname : meth.name = y.name := (name_of_methodNamed B.named B.method).1
  have C : se_Cx p s m av.toArray meth c cc maxL own ret := ⟨⟨B.exec, B.bytes, hml, hown, hts⟩, B.notSynchronized, B.returns⟩
  have hl0 := se_lok_ent (fun a => a) (hlen g av h n hpre)
  rw [lg_entry_eq]
  rw [se_map_id] at hl0
  refine body g av h n hdom hS.2.1 hpre _ (fun stops f pc L st w hw => wpN_ok C (fun _ a b e => e) (hT g p e s m _ below meth c _ s.heap C hname hG hS) (fun pc' L' a w' hx => ?_) ?_ stops f pc L st w hw) s.heap [] 0 0 _ ⟨rfl, rfl, hP, Nat.le_refl _, fun _ _ _ => rfl, fun _ h => (by cases h)⟩ hl0
  · intro H locs k q ls rest ce hM hl hcell hvm hcl
    obtain ⟨hx1, hx2, hx3⟩ := hx
    exact vx_out (fun x hx => (htab x hx).elim) B.notSynchronized hcell hvm hcl (fun t ht _ => ⟨rfl, w'.1, w'.2.1, hx3, by rw [ht]; exact hM.2.2.1, va_F_of (H0 := s.heap) hM ht⟩) hM.2.2.2.2.2 (by rw [hM.1]; exact hx1) (by rw [hM.2.1]; exact hx2)
  · intro v w' hr
    refine ⟨hr.1, fun H locs k q hM => ⟨fun t ht hW => ⟨v, w'.1, w'.2.1, ?_, hr.2.2.2, by rw [ht]; exact hM.2.2.1, va_F_of (H0 := s.heap) hM ht⟩, hM.2.2.2.2.2, by rw [hM.1]; exact hr.2.1, by rw [hM.2.1]; exact hr.2.2.1⟩⟩
    cases v with
    | none => rfl
    | some z => rw [Option.map_some, se_cv_id]
/-- the arguments off the stack -/
def hPop : Nat → List Value → List Value → (List Value → List Value → Prop) → Prop
  | 0, acc, st, K => K acc st
  | n + 1, acc, v :: st, K => hPop n (v :: acc) st K
  | _ + 1, _, [], _ => False
theorem hPop_e {K : List Value → List Value → Prop} : ∀ {n : Nat} {acc st : List Value}, hPop n acc st K → ∃ As r, st = As.reverse ++ r ∧ As.length = n ∧ K (As ++ acc) r := by
  intro n
  induction n with
  | zero => intro acc st h; exact ⟨[], st, rfl, rfl, h⟩
  | succ n ih =>
    intro acc st h
    cases st with
    | nil => exact h.elim
    | cons v st =>
      obtain ⟨As, r, e, hn, hk⟩ := ih (acc := v :: acc) (st := st) h
      exact ⟨As ++ [v], r, by rw [e]; simp, by simp [hn], by simpa using hk⟩
/-- the receiver is an object of one of the classes -/
def hRcv (cs : List Nat) (h : hH) (As : List Value) : Prop := match As with
  | .ref b :: _ => (match h b with
    | some (.inl o) => o.1 ∈ cs
    | _ => False)
  | _ => False
theorem hRcv_e {cs : List Nat} {h : hH} {As : List Value} (hr : hRcv cs h As) : ∃ b o As', As = .ref b :: As' ∧ h b = some (.inl o) ∧ o.1 ∈ cs := by
  unfold hRcv at hr
  split at hr
  · rename_i b As'
    split at hr
    · rename_i o ho
      exact ⟨b, o, As', rfl, ho, hr⟩
    · exact hr.elim
  · exact hr.elim
/-- what goes on behind a call -/
def hGo (g : hG) (mc ms mc' ms' : Nat) (pre : List Value → hH → Nat → Prop) (post : List Value → hH → Nat → Option Value → hH → Nat → Prop) (px : List Value → hH → Nat → Nat → hH → Nat → Prop) (As r : List Value) (w : hW) (K : List Value → hW → Prop) (X : Nat → hW → Prop) : Prop :=
  se_c8 8 r ∧ pre As w.1 w.2.1 ∧ w.2.2.1 + mc' ≤ mc ∧ w.2.2.2 + ms' ≤ ms ∧ (∀ v h' n', post As w.1 w.2.1 v h' n' → hDom g h' n' → w.2.1 ≤ n' → K (v.toList ++ r) (h', n', w.2.2.1 + mc', w.2.2.2 + ms')) ∧ (∀ a h' n', px As w.1 w.2.1 a h' n' → hDom g h' n' → w.2.1 ≤ n' → X a (h', n', w.2.2.1 + mc', w.2.2.2 + ms'))
/-- a call through an object of one of the classes -/
def hCV (g : hG) (na mc ms mc' ms' : Nat) (cs : List Nat) (pre : hPre) (post : hPost) (px : hPx) : se_Op hW := fun st w K X => hPop (na + 1) [] st fun As r => hRcv cs w.1 As ∧ hGo g mc ms mc' ms' (pre g) (post g) (px g) As r w K X
/-- a call without a receiver's class: static, or a constructor -/
def hCS (g : hG) (na mc ms mc' ms' : Nat) (pre : hPre) (post : hPost) (px : hPx) : se_Op hW := fun st w K X => hPop na [] st fun As r => hGo g mc ms mc' ms' (pre g) (post g) (px g) As r w K X
section
variable {p : Program} {l : Launch} {e : Env} {R : Room} {s : State} {m : MethodId} {args : Array Value} {below : List Frame} {meth : Method} {c : Code} {nL : Nat} {cc : ByteArray} {ret : Option FieldType} {Q : State → Prop} {g : hG} {H0 : Heap} {idx na fr lo mc ms fr' lo' mc' ms' maxL' : Nat} {own : String}
variable {y : MethodName} {cc' : ByteArray} {ret' : Option FieldType} {pre : hPre} {post : hPost} {px : hPx}
theorem hBlind (g : hG) (av : List Value) (h : hH) (n : Nat) : FrameBlind (hPcc g av h n) := fun a U g' mk q => by
  obtain ⟨q0, q1, q2, q3⟩ := q
  exact ⟨q0, hGl.same (s := U) (U := U.calling g' mk a) rfl q1, hSt.same (s := U) (U := U.calling g' mk a) rfl q2, q3⟩
theorem hFin {w : hW} {H : Heap} {locs : List Loc} {k q pc : Nat} {L : se_L} {ls : Array Slot} {st0 r : List Value} {post : Option Value → hH → Nat → Prop} {px : Nat → hH → Nat → Prop} {K : List Value → hW → Prop} {X : Nat → hW → Prop}
    (hr : vx_Run p l e R s m args below meth c H locs k q mc' ms' (F0 m pc ls st0) r (fun st o t => hQc g post #[] st o t) (hXc g px) (gW g)) (hM : hRM g H0 w H locs k q) (hl : se_lok (fun a => a) ls nL L)
    (hK : ∀ st' w', K st' w' → se_G p l e R s m args below meth c Q nL (fun a => a) (hRM g H0) (pc + 3) L st' w') (hX : ∀ a w', X a w' → se_X p l e R s m args below meth c Q nL (fun a => a) (hRM g H0) pc L a w')
    (h1 : ∀ v h' n', post v h' n' → hDom g h' n' → w.2.1 ≤ n' → K (v.toList ++ r) (h', n', w.2.2.1 + mc', w.2.2.2 + ms')) (h2 : ∀ a h' n', px a h' n' → hDom g h' n' → w.2.1 ≤ n' → X a (h', n', w.2.2.1 + mc', w.2.2.2 + ms')) :
    W p l e R s m args below meth c H locs k q Q (F0 m pc ls st0) := by
  intro T hT X0
  have mk : ∀ {st₀ t T' : State} {L' : List Loc} {h' : hH} {n' : Nat}, st₀.heap = H → T'.heap = t.heap → (∀ z ∈ L', gW g z.base) → hRep g h' n' t.heap → va_F (gW g) st₀ t → hRM g H0 (h', n', w.2.2.1 + mc', w.2.2.2 + ms') T'.heap (locs ++ L') (k + mc') (q + ms') ∧ w.2.1 ≤ n' := by
    intro st₀ t T' L' h' n' h0 e1 hL hrep hF
    obtain ⟨f1, f2⟩ := hF
    rw [h0] at f1 f2
    obtain ⟨m1, m2, m3, m4, m5, m6⟩ := hM
    refine ⟨⟨by rw [m1], by rw [m2], by rw [e1]; exact hrep, by rw [e1]; omega, fun a ha hn => ?_, fun z hz => ?_⟩, by rw [m3.1, hrep.1]; exact f1⟩
    · rw [e1, f2 a (by omega) hn]
      exact m5 a ha hn
    · rcases List.mem_append.mp hz with h | h
      · exact m6 z h
      · exact hL z h
  rcases hr T hT X0 with ⟨v, st₀, t, T', L', h0, X', hL', e1, e2, ⟨v', h', n', ho, hpost, hrep, hF⟩, go⟩ | ⟨q9, st₀, t, T', L', E, ce, h0, X', hL', e1, e2, ⟨hE, h', n', hpx, hrep, hF⟩, hce, hcv, hcl, go⟩
  · cases ho
    obtain ⟨hRM', hn⟩ := mk h0 e1 hL' hrep hF
    obtain ⟨t2, a1, b1⟩ := hK _ _ (h1 v h' n' hpost hrep.dom hn) T'.heap (locs ++ L') (k + mc') (q + ms') ls hRM' hl T' rfl X'
    rw [se_map_id] at a1
    exact ⟨t2, go t2 a1, b1⟩
  · obtain ⟨hRM', hn⟩ := mk h0 e1 hL' hrep hF
    subst hE
    obtain ⟨t2, a1, b1⟩ := hX _ _ (h2 q9 h' n' hpx hrep.dom hn) T'.heap (locs ++ L') (k + mc') (q + ms') ls r ce hRM' hl (by rw [e1]; exact hce) hcv hcl T' rfl X'
    exact ⟨t2, go.trans a1, b1⟩
/-- a virtual call, the receiver's class declares it -/
theorem hCV_ok {ci : Nat} {r0 : vw_C} (hM : hCon l y (ws_ y cc' maxL' ret') fr' lo' mc' ms' pre post px) (hci : hCl[ci]? = some r0)
    (h1 : Cond.methodLink own idx y ∈ lw_all) (h2 : Cond.instanceMethod y ∈ lw_all) (h3 : Cond.selects r0.1 y y ∈ lw_all) (h4 : Cond.initialized r0.1 ∈ lw_all) (h5 : Cond.code y cc' maxL' ret' ∈ lw_all)
    (hd0 : y.cls = r0.1 ∧ y.cls ≠ "java/lang/invoke/MethodHandle" ∧ y.cls ≠ "java/lang/invoke/VarHandle" ∧ (parseMethodDescriptor y.desc).map (fun d => d.parameters.length) = some na) (hR : fr' + 1 ≤ fr ∧ 8 + (maxL' + 11) + lo' ≤ lo)
    (C : se_Cx p s m args meth c cc nL own ret) (hG : hGl g s) (hS : hSt g s) : se_Snd p l e (hRoom fr lo mc ms) s m args below meth c Q nL (fun a => a) (hRM g H0) cc (.invokevirtual idx) 3 (hCV g na mc ms mc' ms' [ci] pre post px) := by
  intro pc L st w K X hd hK hX h
  obtain ⟨As0, r, rfl, hn0, hrcv, h8, hpre, hk1, hk2, g1, g2⟩ := hPop_e h
  rw [List.append_nil] at hrcv hpre g1 g2
  obtain ⟨b, o, As, rfl, hb0, hoc⟩ := hRcv_e hrcv
  have hoc : o.1 = ci := by simpa using hoc
  intro H locs k q ls hMM hl
  obtain ⟨⟨hx, hb, hml, hown, hts⟩, hlk, hrt⟩ := C
  obtain ⟨cell, q1, q2, q3⟩ := hRecv hG hMM hb0 (by rw [hoc]; exact hci)
  have hna : As.length = na := by simpa using hn0
  rw [se_map_id]
  refine hFin (K := K) (X := X) (post := post g (.ref b :: As) w.1 w.2.1) (px := px g (.ref b :: As) w.1 w.2.1) ?_ hMM hl hK hX g1 g2
  exact vx_runV (As := As) (rest := r) (b := b) ⟨hx, hb, hml, hown, hts⟩ (hM g (.ref b :: As) w.1 w.2.1 hMM.2.2.1.dom hpre)
    (cwV (R := hRoom fr lo mc ms) (rm := hRoom fr' lo' mc' ms') na hts (lw_V h1 h2 h3 h4 h5) rfl rfl rfl hd0 hR)
    ⟨hBlind g _ _ _, ⟨cell, q1, by rw [q2]; rfl, q3⟩, fun U hU hW => ⟨rfl, hG.moved hW, hS.moved hW, by rw [hU]; exact hMM.2.2.1⟩⟩
    rfl hna hl.1.1 (by simp) (lv_room (by have := se_c8_le (fun a => a) 8 r h8; rwa [se_map_id] at this)) hd ⟨by rw [hMM.1]; exact hk1, by rw [hMM.2.1]; exact hk2⟩
theorem hCS_ok (hM : hCon l y (ws_ y cc' maxL' ret') fr' lo' mc' ms' pre post px) 
    (h1 : Cond.methodLink own idx y ∈ lw_all) (h2 : Cond.static y ∈ lw_all) (h3 : Cond.initialized y.cls ∈ lw_all) (h5 : Cond.code y cc' maxL' ret' ∈ lw_all)
    (hd0 : y.cls ≠ "java/lang/invoke/MethodHandle" ∧ y.cls ≠ "java/lang/invoke/VarHandle" ∧ (parseMethodDescriptor y.desc).map (fun d => d.parameters.length) = some na) (hR : fr' + 1 ≤ fr ∧ 8 + (maxL' + 11) + lo' ≤ lo)
    (C : se_Cx p s m args meth c cc nL own ret) (hG : hGl g s) (hS : hSt g s) : se_Snd p l e (hRoom fr lo mc ms) s m args below meth c Q nL (fun a => a) (hRM g H0) cc (.invokestatic idx) 3 (hCS g na mc ms mc' ms' pre post px) := by
  intro pc L st w K X hd hK hX h
  obtain ⟨As, r, rfl, hna, h8, hpre, hk1, hk2, g1, g2⟩ := hPop_e h
  rw [List.append_nil] at hpre g1 g2
  intro H locs k q ls hMM hl
  obtain ⟨⟨hx, hb, hml, hown, hts⟩, hlk, hrt⟩ := C
  rw [se_map_id]
  refine hFin (K := K) (X := X) (post := post g As w.1 w.2.1) (px := px g As w.1 w.2.1) ?_ hMM hl hK hX g1 g2
  exact vx_runS (As := As) (rest := r) ⟨hx, hb, hml, hown, hts⟩ (hM g As w.1 w.2.1 hMM.2.2.1.dom hpre)
    (va_cwS (R := hRoom fr lo mc ms) (rm := hRoom fr' lo' mc' ms') na hts (lw_S h1 h2 h3 h5) rfl rfl rfl hd0 hR)
    ⟨hBlind g _ _ _, fun U hU hW => ⟨rfl, hG.moved hW, hS.moved hW, by rw [hU]; exact hMM.2.2.1⟩⟩
    rfl hna hl.1.1 rfl (lv_room (by have := se_c8_le (fun a => a) 8 r h8; rwa [se_map_id] at this)) hd ⟨by rw [hMM.1]; exact hk1, by rw [hMM.2.1]; exact hk2⟩
/-- a constructor -/
theorem hCI_ok (hM : hCon l y (ws_ y cc' maxL' none) fr' lo' mc' ms' pre post px) (hp0 : ∀ g As h n, pre g As h n → ∃ b As', As = .ref b :: As')
    (h1 : Cond.methodLink own idx y ∈ lw_all) (h2 : Cond.instanceMethod y ∈ lw_all) (h3 : Cond.initialized y.cls ∈ lw_all) (h5 : Cond.code y cc' maxL' none ∈ lw_all) (hnm : y.name = "<init>")
    (hd0 : y.cls ≠ "java/lang/invoke/MethodHandle" ∧ y.cls ≠ "java/lang/invoke/VarHandle" ∧ (parseMethodDescriptor y.desc).map (fun d => d.parameters.length) = some na) (hR : fr' + 1 ≤ fr ∧ 8 + (maxL' + 11) + lo' ≤ lo)
    (C : se_Cx p s m args meth c cc nL own ret) (hG : hGl g s) (hS : hSt g s) : se_Snd p l e (hRoom fr lo mc ms) s m args below meth c Q nL (fun a => a) (hRM g H0) cc (.invokespecial idx) 3 (hCS g (na + 1) mc ms mc' ms' pre post px) := by
  intro pc L st w K X hd hK hX h
  obtain ⟨As0, r, rfl, hn0, h8, hpre, hk1, hk2, g1, g2⟩ := hPop_e h
  rw [List.append_nil] at hpre g1 g2
  obtain ⟨b, As, rfl⟩ := hp0 _ _ _ _ hpre
  intro H locs k q ls hMM hl
  obtain ⟨⟨hx, hb, hml, hown, hts⟩, hlk, hrt⟩ := C
  have hna : As.length = na := by simpa using hn0
  rw [se_map_id]
  refine hFin (K := K) (X := X) (post := post g (.ref b :: As) w.1 w.2.1) (px := px g (.ref b :: As) w.1 w.2.1) ?_ hMM hl hK hX g1 g2
  exact vx_runI (As := As) (rest := r) (b := b) ⟨hx, hb, hml, hown, hts⟩ (hM g (.ref b :: As) w.1 w.2.1 hMM.2.2.1.dom hpre)
    (cwI (R := hRoom fr lo mc ms) (rm := hRoom fr' lo' mc' ms') na hts (lw_meth h5) rfl rfl rfl (hts _ h3) (hts _ h1) (hts _ h2) hnm hd0 hR)
    ⟨hBlind g _ _ _, fun U hU hW => ⟨rfl, hG.moved hW, hS.moved hW, by rw [hU]; exact hMM.2.2.1⟩⟩
    rfl hna hl.1.1 (by simp) (lv_room (by have := se_c8_le (fun a => a) 8 r h8; rwa [se_map_id] at this)) hd ⟨by rw [hMM.1]; exact hk1, by rw [hMM.2.1]; exact hk2⟩
/-- Object's constructor does nothing -/
def hObj : se_Op hW := fun st w K _ => match st with
  | .ref _ :: r => se_c8 8 r ∧ K r w
  | _ => False
theorem hObj_ok (h1 : Cond.methodLink own idx objectInit ∈ lw_all) (h2 : Cond.instanceMethod objectInit ∈ lw_all) (h3 : Cond.code objectInit ⟨#[0xb1]⟩ 1 none ∈ lw_all) (hf : 1 ≤ fr) (hlo : 20 ≤ lo) (C : se_Cx p s m args meth c cc nL own ret) : se_Snd p l e (hRoom fr lo mc ms) s m args below meth c Q nL (fun a => a) (hRM g H0) cc (.invokespecial idx) 3 hObj := by
  intro pc L st w K X hd hK hX h
  unfold hObj at h
  split at h
  · rename_i a r
    obtain ⟨h8, h⟩ := h
    intro H locs k q ls hM hl
    obtain ⟨⟨hx, hb, hml, hown, hts⟩, hlk, hrt⟩ := C
    have kk := hK _ _ h H locs k q ls hM hl
    have h8' := se_c8_le (fun a => a) 8 r h8
    rw [se_map_id] at kk h8' ⊢
    have h9 := lv_room (m := m) (pc := pc) (ls := ls) (rest := .ref a :: r) h8'
    exact W.objInit hx hb hown (hts _ h1) (hts _ h2) (hts _ h3) rfl (by rw [hml]; exact hl.1.1) rfl hd hf (by show _ ≤ lo; omega) kk
  · exact h.elim
end
