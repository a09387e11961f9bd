/-! signatures over the typed memory -/
/-- a reference or null off the stack -/
def va_un : Value → Option (Option Nat)
  | .ref a => some (some a)
  | .null => some none
  | _ => none
theorem va_un_e {v : Value} {a : Option Nat} (h : va_un v = some a) : v = va_rf a := by
  unfold va_un at h
  split at h <;> cases h <;> rfl
theorem va_un_rf {a : Option Nat} : va_un (va_rf a) = some a := by cases a <;> rfl
theorem va_rf_inj {a b : Option Nat} : (va_rf a = va_rf b) = (a = b) := by cases a <;> cases b <;> simp [va_rf]
abbrev ym_IIIrZ (l : Launch) (y : MethodName) (ws : List Cond) (fr lo mc ms : Nat) (P : hG → Int32 → Int32 → Int32 → yM → Nat → Prop) (Q : hG → Int32 → Int32 → Int32 → yM → Nat → Bool → yM → Nat → Prop) : Prop := yCon l y ws fr lo mc ms (fun (g : hG) (av : List Value) (m : yM) (n : Nat) => ∃ (a0 : Int32) (a1 : Int32) (a2 : Int32), av = [.int a0, .int a1, .int a2] ∧ P g a0 a1 a2 m n) (fun (g : hG) (av : List Value) (m : yM) (n : Nat) (v : Option Value) (m' : yM) (n' : Nat) => ∀ (a0 : Int32) (a1 : Int32) (a2 : Int32), av = [.int a0, .int a1, .int a2] → ∃ x, v = some (.int (bI x)) ∧ Q g a0 a1 a2 m n x m' n') yNoX
def yo_IIIrZ (g : hG) (mc ms mc' ms' : Nat) (P : hG → Int32 → Int32 → Int32 → yM → Nat → Prop) (Q : hG → Int32 → Int32 → Int32 → yM → Nat → Bool → yM → Nat → Prop) : se_Op yW := fun st w K Y => match st with
  | .int a2 :: .int a1 :: .int a0 :: r => se_c8 8 r ∧ P g a0 a1 a2 w.1 w.2.1 ∧ w.2.2.1 + mc' ≤ mc ∧ w.2.2.2 + ms' ≤ ms ∧ ∀ x m' n', Q g a0 a1 a2 w.1 w.2.1 x m' n' → yIn g m' n' → w.2.1 ≤ n' → K (.int (bI x) :: r) (m', n', w.2.2.1 + mc', w.2.2.2 + ms')
  | _ => False
theorem yo_IIIrZ_r {g : hG} {mc ms mc' ms' : Nat} {P : hG → Int32 → Int32 → Int32 → yM → Nat → Prop} {Q : hG → Int32 → Int32 → Int32 → yM → Nat → Bool → yM → Nat → Prop} {a0 : Int32} {a1 : Int32} {a2 : Int32} {r : List Value} {w : yW} {K : List Value → yW → Prop} {Y : Nat → yW → Prop} : yo_IIIrZ g mc ms mc' ms' P Q (.int a2 :: .int a1 :: .int a0 :: r) w K Y = (se_c8 8 r ∧ P g a0 a1 a2 w.1 w.2.1 ∧ w.2.2.1 + mc' ≤ mc ∧ w.2.2.2 + ms' ≤ ms ∧ ∀ x m' n', Q g a0 a1 a2 w.1 w.2.1 x m' n' → yIn g m' n' → w.2.1 ≤ n' → K (.int (bI x) :: r) (m', n', w.2.2.1 + mc', w.2.2.2 + ms')) := rfl
theorem yo_IIIrZ_ok {g : hG} {mc ms mc' ms' : Nat} {P : hG → Int32 → Int32 → Int32 → yM → Nat → Prop} {Q : hG → Int32 → Int32 → Int32 → yM → Nat → Bool → yM → Nat → Prop} {p : Program} {l : Launch} {e : Env} {R : Room} {s : State} {m : MethodId} {args : Array Value} {below : List Frame} {meth : Method} {c : Code} {nL : Nat} {cc : ByteArray} {Q0 : State → Prop} {H0 : Heap} {ins : Instr} {len : Nat} (hS : se_Snd p l e R s m args below meth c Q0 nL (fun a => a) (yRM g H0) cc ins len (yCS g 3 mc ms mc' ms' (fun (g : hG) (av : List Value) (m : yM) (n : Nat) => ∃ (a0 : Int32) (a1 : Int32) (a2 : Int32), av = [.int a0, .int a1, .int a2] ∧ P g a0 a1 a2 m n) (fun (g : hG) (av : List Value) (m : yM) (n : Nat) (v : Option Value) (m' : yM) (n' : Nat) => ∀ (a0 : Int32) (a1 : Int32) (a2 : Int32), av = [.int a0, .int a1, .int a2] → ∃ x, v = some (.int (bI x)) ∧ Q g a0 a1 a2 m n x m' n') yNoX)) : se_Snd p l e R s m args below meth c Q0 nL (fun a => a) (yRM g H0) cc ins len (yo_IIIrZ g mc ms mc' ms' P Q) :=
  hS.mono fun st w K Y h => by
    unfold yo_IIIrZ at h
    split at h
    · rename_i a2 a1 a0 r
      obtain ⟨h8, hP, r1, r2, hq⟩ := h
      exact (⟨h8, ⟨a0, a1, a2, rfl, hP⟩, r1, r2, fun v m' n' hp hi hn => by
              obtain ⟨x, rfl, hx⟩ := hp a0 a1 a2 rfl
              exact hq x m' n' hx hi hn, fun b m' n' hp => hp.elim⟩ : yGo g mc ms mc' ms' ((fun (g : hG) (av : List Value) (m : yM) (n : Nat) => ∃ (a0 : Int32) (a1 : Int32) (a2 : Int32), av = [.int a0, .int a1, .int a2] ∧ P g a0 a1 a2 m n) g) ((fun (g : hG) (av : List Value) (m : yM) (n : Nat) (v : Option Value) (m' : yM) (n' : Nat) => ∀ (a0 : Int32) (a1 : Int32) (a2 : Int32), av = [.int a0, .int a1, .int a2] → ∃ x, v = some (.int (bI x)) ∧ Q g a0 a1 a2 m n x m' n') g) (yNoX g) [.int a0, .int a1, .int a2] r w K Y)
    · exact h.elim
def yp_IIIrZ (g : hG) (mc ms : Nat) (P : hG → Int32 → Int32 → Int32 → yM → Nat → Prop) (R0 : hG → Int32 → Int32 → Int32 → yM → Nat → Bool) : se_Op yW := fun st w K Y => match st with
  | .int a2 :: .int a1 :: .int a0 :: r => se_c8 8 r ∧ P g a0 a1 a2 w.1 w.2.1 ∧ w.2.2.1 ≤ mc ∧ w.2.2.2 ≤ ms ∧ K (.int (bI (R0 g a0 a1 a2 w.1 w.2.1)) :: r) w
  | _ => False
theorem yp_IIIrZ_r {g : hG} {mc ms : Nat} {P : hG → Int32 → Int32 → Int32 → yM → Nat → Prop} {R0 : hG → Int32 → Int32 → Int32 → yM → Nat → Bool} {a0 : Int32} {a1 : Int32} {a2 : Int32} {r : List Value} {w : yW} {K : List Value → yW → Prop} {Y : Nat → yW → Prop} : yp_IIIrZ g mc ms P R0 (.int a2 :: .int a1 :: .int a0 :: r) w K Y = (se_c8 8 r ∧ P g a0 a1 a2 w.1 w.2.1 ∧ w.2.2.1 ≤ mc ∧ w.2.2.2 ≤ ms ∧ K (.int (bI (R0 g a0 a1 a2 w.1 w.2.1)) :: r) w) := rfl
theorem yp_IIIrZ_ok {g : hG} {mc ms : Nat} {P : hG → Int32 → Int32 → Int32 → yM → Nat → Prop} {R0 : hG → Int32 → Int32 → Int32 → yM → Nat → Bool} {p : Program} {l : Launch} {e : Env} {R : Room} {s : State} {m : MethodId} {args : Array Value} {below : List Frame} {meth : Method} {c : Code} {nL : Nat} {cc : ByteArray} {Q0 : State → Prop} {H0 : Heap} {ins : Instr} {len : Nat} (hS : se_Snd p l e R s m args below meth c Q0 nL (fun a => a) (yRM g H0) cc ins len (yo_IIIrZ g mc ms 0 0 P (fun g a0 a1 a2 m n x m' n' => x = R0 g a0 a1 a2 m n ∧ m' = m ∧ n' = n))) : se_Snd p l e R s m args below meth c Q0 nL (fun a => a) (yRM g H0) cc ins len (yp_IIIrZ g mc ms P R0) :=
  hS.mono fun st w K Y h => by
    unfold yp_IIIrZ at h
    split at h
    · rename_i a2 a1 a0 r
      obtain ⟨h8, hP, r1, r2, hq⟩ := h
      exact ⟨h8, hP, r1, r2, fun x m' n' e _ _ => by
              obtain ⟨rfl, rfl, rfl⟩ := e
              exact hq⟩
    · exact h.elim
def yf_IIIrZ (g : hG) (mc ms : Nat) (P : hG → Int32 → Int32 → Int32 → yM → Nat → Prop) (R0 : hG → Int32 → Int32 → Int32 → yM → Nat → Bool) (F : hG → Int32 → Int32 → Int32 → yM → Nat → yM) : se_Op yW := fun st w K Y => match st with
  | .int a2 :: .int a1 :: .int a0 :: r => se_c8 8 r ∧ P g a0 a1 a2 w.1 w.2.1 ∧ w.2.2.1 ≤ mc ∧ w.2.2.2 ≤ ms ∧ K (.int (bI (R0 g a0 a1 a2 w.1 w.2.1)) :: r) (F g a0 a1 a2 w.1 w.2.1, w.2)
  | _ => False
theorem yf_IIIrZ_r {g : hG} {mc ms : Nat} {P : hG → Int32 → Int32 → Int32 → yM → Nat → Prop} {R0 : hG → Int32 → Int32 → Int32 → yM → Nat → Bool} {F : hG → Int32 → Int32 → Int32 → yM → Nat → yM} {a0 : Int32} {a1 : Int32} {a2 : Int32} {r : List Value} {w : yW} {K : List Value → yW → Prop} {Y : Nat → yW → Prop} : yf_IIIrZ g mc ms P R0 F (.int a2 :: .int a1 :: .int a0 :: r) w K Y = (se_c8 8 r ∧ P g a0 a1 a2 w.1 w.2.1 ∧ w.2.2.1 ≤ mc ∧ w.2.2.2 ≤ ms ∧ K (.int (bI (R0 g a0 a1 a2 w.1 w.2.1)) :: r) (F g a0 a1 a2 w.1 w.2.1, w.2)) := rfl
theorem yf_IIIrZ_ok {g : hG} {mc ms : Nat} {P : hG → Int32 → Int32 → Int32 → yM → Nat → Prop} {R0 : hG → Int32 → Int32 → Int32 → yM → Nat → Bool} {F : hG → Int32 → Int32 → Int32 → yM → Nat → yM} {p : Program} {l : Launch} {e : Env} {R : Room} {s : State} {m : MethodId} {args : Array Value} {below : List Frame} {meth : Method} {c : Code} {nL : Nat} {cc : ByteArray} {Q0 : State → Prop} {H0 : Heap} {ins : Instr} {len : Nat} (hS : se_Snd p l e R s m args below meth c Q0 nL (fun a => a) (yRM g H0) cc ins len (yo_IIIrZ g mc ms 0 0 P (fun g a0 a1 a2 m n x m' n' => x = R0 g a0 a1 a2 m n ∧ m' = F g a0 a1 a2 m n ∧ n' = n))) : se_Snd p l e R s m args below meth c Q0 nL (fun a => a) (yRM g H0) cc ins len (yf_IIIrZ g mc ms P R0 F) :=
  hS.mono fun st w K Y h => by
    unfold yf_IIIrZ at h
    split at h
    · rename_i a2 a1 a0 r
      obtain ⟨h8, hP, r1, r2, hq⟩ := h
      exact ⟨h8, hP, r1, r2, fun x m' n' e _ _ => by
              obtain ⟨rfl, rfl, rfl⟩ := e
              exact hq⟩
    · exact h.elim
def yt_IIIrZ (mc ms : Nat) (Q : hG → Int32 → Int32 → Int32 → yM → Nat → Bool → yM → Nat → Prop) (g : hG) (a0 : Int32) (a1 : Int32) (a2 : Int32) (m : yM) (n : Nat) : Option Value → yW → Prop := yRt (some .boolean) mc ms ((fun (g : hG) (av : List Value) (m : yM) (n : Nat) (v : Option Value) (m' : yM) (n' : Nat) => ∀ (a0 : Int32) (a1 : Int32) (a2 : Int32), av = [.int a0, .int a1, .int a2] → ∃ x, v = some (.int (bI x)) ∧ Q g a0 a1 a2 m n x m' n') g [.int a0, .int a1, .int a2] m n)
theorem yt_IIIrZ_e {mc ms : Nat} {Q : hG → Int32 → Int32 → Int32 → yM → Nat → Bool → yM → Nat → Prop} {g : hG} {a0 : Int32} {a1 : Int32} {a2 : Int32} {m : yM} {n : Nat} {w : yW} {z : Int32} : yt_IIIrZ mc ms Q g a0 a1 a2 m n (some (.int z)) w = (w.2.2.1 ≤ mc ∧ w.2.2.2 ≤ ms ∧ rz z fun x => Q g a0 a1 a2 m n x w.1 w.2.1) := by
  apply propext
  constructor
  · intro h
    obtain ⟨x, e, hq⟩ := h.2.2.2 _ _ _ rfl
    cases e
    exact ⟨h.2.1, h.2.2.1, ⟨x, rfl, hq⟩⟩
  · intro h
    obtain ⟨h1, h2, h3⟩ := h
    obtain ⟨x, rfl, h3⟩ := h3
    exact ⟨⟨_, rfl, bI_nar x⟩, h1, h2, fun _ _ _ e => by
      cases e
      exact ⟨x, rfl, h3⟩⟩
theorem ym_IIIrZ_of {l : Launch} {y : MethodName} {own : String} {cc : ByteArray} {maxL fr lo mc ms : Nat} {P : hG → Int32 → Int32 → Int32 → yM → Nat → Prop} {Q : hG → Int32 → Int32 → Int32 → yM → Nat → Bool → yM → Nat → Prop} {T : hG → Nat → Nat → se_Op yW} (hy : plainName y.cls = true) (hyc : y.cls = own) (hT : yTS l own y.name cc maxL (some .boolean) fr lo mc ms T) (hL : 3 ≤ maxL)
    (body : ∀ (g : hG) (a0 : Int32) (a1 : Int32) (a2 : Int32) (m : yM) (n : Nat), hVg g → yIn g m n → P g a0 a1 a2 m n → ∀ G : Nat → se_L → List Value → yW → Prop, (∀ (stops : List Nat) (f pc : Nat) (L : se_L) (st : List Value) (w : yW), wpN True (T g) cc stops G (yXt mc ms (yNoX g [.int a0, .int a1, .int a2] m n)) (yt_IIIrZ mc ms Q g a0 a1 a2 m n) f pc L st w → G pc L st w) → G 0 (se_ent [.int a0, .int a1, .int a2] maxL) [] (m, n, 0, 0)) : ym_IIIrZ l y (ws_ y cc maxL (some .boolean)) fr lo mc ms P Q :=
  yOf hy hyc hT (fun g av m n h => by
    obtain ⟨a0, a1, a2, rfl, _⟩ := h
    exact hL) (fun g av m n h1 h2 hp G hG => by
    obtain ⟨a0, a1, a2, rfl, hp⟩ := hp
    exact body g a0 a1 a2 m n h1 h2 hp G hG)
abbrev ym_IIrI (l : Launch) (y : MethodName) (ws : List Cond) (fr lo mc ms : Nat) (P : hG → Int32 → Int32 → yM → Nat → Prop) (Q : hG → Int32 → Int32 → yM → Nat → Int32 → yM → Nat → Prop) : Prop := yCon l y ws fr lo mc ms (fun (g : hG) (av : List Value) (m : yM) (n : Nat) => ∃ (a0 : Int32) (a1 : Int32), av = [.int a0, .int a1] ∧ P g a0 a1 m n) (fun (g : hG) (av : List Value) (m : yM) (n : Nat) (v : Option Value) (m' : yM) (n' : Nat) => ∀ (a0 : Int32) (a1 : Int32), av = [.int a0, .int a1] → ∃ x, v = some (.int x) ∧ Q g a0 a1 m n x m' n') yNoX
def yo_IIrI (g : hG) (mc ms mc' ms' : Nat) (P : hG → Int32 → Int32 → yM → Nat → Prop) (Q : hG → Int32 → Int32 → yM → Nat → Int32 → yM → Nat → Prop) : se_Op yW := fun st w K Y => match st with
  | .int a1 :: .int a0 :: r => se_c8 8 r ∧ P g a0 a1 w.1 w.2.1 ∧ w.2.2.1 + mc' ≤ mc ∧ w.2.2.2 + ms' ≤ ms ∧ ∀ x m' n', Q g a0 a1 w.1 w.2.1 x m' n' → yIn g m' n' → w.2.1 ≤ n' → K (.int x :: r) (m', n', w.2.2.1 + mc', w.2.2.2 + ms')
  | _ => False
theorem yo_IIrI_r {g : hG} {mc ms mc' ms' : Nat} {P : hG → Int32 → Int32 → yM → Nat → Prop} {Q : hG → Int32 → Int32 → yM → Nat → Int32 → yM → Nat → Prop} {a0 : Int32} {a1 : Int32} {r : List Value} {w : yW} {K : List Value → yW → Prop} {Y : Nat → yW → Prop} : yo_IIrI g mc ms mc' ms' P Q (.int a1 :: .int a0 :: r) w K Y = (se_c8 8 r ∧ P g a0 a1 w.1 w.2.1 ∧ w.2.2.1 + mc' ≤ mc ∧ w.2.2.2 + ms' ≤ ms ∧ ∀ x m' n', Q g a0 a1 w.1 w.2.1 x m' n' → yIn g m' n' → w.2.1 ≤ n' → K (.int x :: r) (m', n', w.2.2.1 + mc', w.2.2.2 + ms')) := rfl
theorem yo_IIrI_ok {g : hG} {mc ms mc' ms' : Nat} {P : hG → Int32 → Int32 → yM → Nat → Prop} {Q : hG → Int32 → Int32 → yM → Nat → Int32 → yM → Nat → Prop} {p : Program} {l : Launch} {e : Env} {R : Room} {s : State} {m : MethodId} {args : Array Value} {below : List Frame} {meth : Method} {c : Code} {nL : Nat} {cc : ByteArray} {Q0 : State → Prop} {H0 : Heap} {ins : Instr} {len : Nat} (hS : se_Snd p l e R s m args below meth c Q0 nL (fun a => a) (yRM g H0) cc ins len (yCS g 2 mc ms mc' ms' (fun (g : hG) (av : List Value) (m : yM) (n : Nat) => ∃ (a0 : Int32) (a1 : Int32), av = [.int a0, .int a1] ∧ P g a0 a1 m n) (fun (g : hG) (av : List Value) (m : yM) (n : Nat) (v : Option Value) (m' : yM) (n' : Nat) => ∀ (a0 : Int32) (a1 : Int32), av = [.int a0, .int a1] → ∃ x, v = some (.int x) ∧ Q g a0 a1 m n x m' n') yNoX)) : se_Snd p l e R s m args below meth c Q0 nL (fun a => a) (yRM g H0) cc ins len (yo_IIrI g mc ms mc' ms' P Q) :=
  hS.mono fun st w K Y h => by
    unfold yo_IIrI at h
    split at h
    · rename_i a1 a0 r
      obtain ⟨h8, hP, r1, r2, hq⟩ := h
      exact (⟨h8, ⟨a0, a1, rfl, hP⟩, r1, r2, fun v m' n' hp hi hn => by
              obtain ⟨x, rfl, hx⟩ := hp a0 a1 rfl
              exact hq x m' n' hx hi hn, fun b m' n' hp => hp.elim⟩ : yGo g mc ms mc' ms' ((fun (g : hG) (av : List Value) (m : yM) (n : Nat) => ∃ (a0 : Int32) (a1 : Int32), av = [.int a0, .int a1] ∧ P g a0 a1 m n) g) ((fun (g : hG) (av : List Value) (m : yM) (n : Nat) (v : Option Value) (m' : yM) (n' : Nat) => ∀ (a0 : Int32) (a1 : Int32), av = [.int a0, .int a1] → ∃ x, v = some (.int x) ∧ Q g a0 a1 m n x m' n') g) (yNoX g) [.int a0, .int a1] r w K Y)
    · exact h.elim
def yp_IIrI (g : hG) (mc ms : Nat) (P : hG → Int32 → Int32 → yM → Nat → Prop) (R0 : hG → Int32 → Int32 → yM → Nat → Int32) : se_Op yW := fun st w K Y => match st with
  | .int a1 :: .int a0 :: r => se_c8 8 r ∧ P g a0 a1 w.1 w.2.1 ∧ w.2.2.1 ≤ mc ∧ w.2.2.2 ≤ ms ∧ K (.int (R0 g a0 a1 w.1 w.2.1) :: r) w
  | _ => False
theorem yp_IIrI_r {g : hG} {mc ms : Nat} {P : hG → Int32 → Int32 → yM → Nat → Prop} {R0 : hG → Int32 → Int32 → yM → Nat → Int32} {a0 : Int32} {a1 : Int32} {r : List Value} {w : yW} {K : List Value → yW → Prop} {Y : Nat → yW → Prop} : yp_IIrI g mc ms P R0 (.int a1 :: .int a0 :: r) w K Y = (se_c8 8 r ∧ P g a0 a1 w.1 w.2.1 ∧ w.2.2.1 ≤ mc ∧ w.2.2.2 ≤ ms ∧ K (.int (R0 g a0 a1 w.1 w.2.1) :: r) w) := rfl
theorem yp_IIrI_ok {g : hG} {mc ms : Nat} {P : hG → Int32 → Int32 → yM → Nat → Prop} {R0 : hG → Int32 → Int32 → yM → Nat → Int32} {p : Program} {l : Launch} {e : Env} {R : Room} {s : State} {m : MethodId} {args : Array Value} {below : List Frame} {meth : Method} {c : Code} {nL : Nat} {cc : ByteArray} {Q0 : State → Prop} {H0 : Heap} {ins : Instr} {len : Nat} (hS : se_Snd p l e R s m args below meth c Q0 nL (fun a => a) (yRM g H0) cc ins len (yo_IIrI g mc ms 0 0 P (fun g a0 a1 m n x m' n' => x = R0 g a0 a1 m n ∧ m' = m ∧ n' = n))) : se_Snd p l e R s m args below meth c Q0 nL (fun a => a) (yRM g H0) cc ins len (yp_IIrI g mc ms P R0) :=
  hS.mono fun st w K Y h => by
    unfold yp_IIrI at h
    split at h
    · rename_i a1 a0 r
      obtain ⟨h8, hP, r1, r2, hq⟩ := h
      exact ⟨h8, hP, r1, r2, fun x m' n' e _ _ => by
              obtain ⟨rfl, rfl, rfl⟩ := e
              exact hq⟩
    · exact h.elim
def yf_IIrI (g : hG) (mc ms : Nat) (P : hG → Int32 → Int32 → yM → Nat → Prop) (R0 : hG → Int32 → Int32 → yM → Nat → Int32) (F : hG → Int32 → Int32 → yM → Nat → yM) : se_Op yW := fun st w K Y => match st with
  | .int a1 :: .int a0 :: r => se_c8 8 r ∧ P g a0 a1 w.1 w.2.1 ∧ w.2.2.1 ≤ mc ∧ w.2.2.2 ≤ ms ∧ K (.int (R0 g a0 a1 w.1 w.2.1) :: r) (F g a0 a1 w.1 w.2.1, w.2)
  | _ => False
theorem yf_IIrI_r {g : hG} {mc ms : Nat} {P : hG → Int32 → Int32 → yM → Nat → Prop} {R0 : hG → Int32 → Int32 → yM → Nat → Int32} {F : hG → Int32 → Int32 → yM → Nat → yM} {a0 : Int32} {a1 : Int32} {r : List Value} {w : yW} {K : List Value → yW → Prop} {Y : Nat → yW → Prop} : yf_IIrI g mc ms P R0 F (.int a1 :: .int a0 :: r) w K Y = (se_c8 8 r ∧ P g a0 a1 w.1 w.2.1 ∧ w.2.2.1 ≤ mc ∧ w.2.2.2 ≤ ms ∧ K (.int (R0 g a0 a1 w.1 w.2.1) :: r) (F g a0 a1 w.1 w.2.1, w.2)) := rfl
theorem yf_IIrI_ok {g : hG} {mc ms : Nat} {P : hG → Int32 → Int32 → yM → Nat → Prop} {R0 : hG → Int32 → Int32 → yM → Nat → Int32} {F : hG → Int32 → Int32 → yM → Nat → yM} {p : Program} {l : Launch} {e : Env} {R : Room} {s : State} {m : MethodId} {args : Array Value} {below : List Frame} {meth : Method} {c : Code} {nL : Nat} {cc : ByteArray} {Q0 : State → Prop} {H0 : Heap} {ins : Instr} {len : Nat} (hS : se_Snd p l e R s m args below meth c Q0 nL (fun a => a) (yRM g H0) cc ins len (yo_IIrI g mc ms 0 0 P (fun g a0 a1 m n x m' n' => x = R0 g a0 a1 m n ∧ m' = F g a0 a1 m n ∧ n' = n))) : se_Snd p l e R s m args below meth c Q0 nL (fun a => a) (yRM g H0) cc ins len (yf_IIrI g mc ms P R0 F) :=
  hS.mono fun st w K Y h => by
    unfold yf_IIrI at h
    split at h
    · rename_i a1 a0 r
      obtain ⟨h8, hP, r1, r2, hq⟩ := h
      exact ⟨h8, hP, r1, r2, fun x m' n' e _ _ => by
              obtain ⟨rfl, rfl, rfl⟩ := e
              exact hq⟩
    · exact h.elim
def yt_IIrI (mc ms : Nat) (Q : hG → Int32 → Int32 → yM → Nat → Int32 → yM → Nat → Prop) (g : hG) (a0 : Int32) (a1 : Int32) (m : yM) (n : Nat) : Option Value → yW → Prop := yRt (some .int) mc ms ((fun (g : hG) (av : List Value) (m : yM) (n : Nat) (v : Option Value) (m' : yM) (n' : Nat) => ∀ (a0 : Int32) (a1 : Int32), av = [.int a0, .int a1] → ∃ x, v = some (.int x) ∧ Q g a0 a1 m n x m' n') g [.int a0, .int a1] m n)
theorem yt_IIrI_e {mc ms : Nat} {Q : hG → Int32 → Int32 → yM → Nat → Int32 → yM → Nat → Prop} {g : hG} {a0 : Int32} {a1 : Int32} {m : yM} {n : Nat} {w : yW} {z : Int32} : yt_IIrI mc ms Q g a0 a1 m n (some (.int z)) w = (w.2.2.1 ≤ mc ∧ w.2.2.2 ≤ ms ∧ Q g a0 a1 m n z w.1 w.2.1) := by
  apply propext
  constructor
  · intro h
    obtain ⟨x, e, hq⟩ := h.2.2.2 _ _ rfl
    cases e
    exact ⟨h.2.1, h.2.2.1, hq⟩
  · intro h
    obtain ⟨h1, h2, h3⟩ := h
    exact ⟨⟨_, rfl, rfl⟩, h1, h2, fun _ _ e => by
      cases e
      exact ⟨z, rfl, h3⟩⟩
theorem ym_IIrI_of {l : Launch} {y : MethodName} {own : String} {cc : ByteArray} {maxL fr lo mc ms : Nat} {P : hG → Int32 → Int32 → yM → Nat → Prop} {Q : hG → Int32 → Int32 → yM → Nat → Int32 → yM → Nat → Prop} {T : hG → Nat → Nat → se_Op yW} (hy : plainName y.cls = true) (hyc : y.cls = own) (hT : yTS l own y.name cc maxL (some .int) fr lo mc ms T) (hL : 2 ≤ maxL)
    (body : ∀ (g : hG) (a0 : Int32) (a1 : Int32) (m : yM) (n : Nat), hVg g → yIn g m n → P g a0 a1 m n → ∀ G : Nat → se_L → List Value → yW → Prop, (∀ (stops : List Nat) (f pc : Nat) (L : se_L) (st : List Value) (w : yW), wpN True (T g) cc stops G (yXt mc ms (yNoX g [.int a0, .int a1] m n)) (yt_IIrI mc ms Q g a0 a1 m n) f pc L st w → G pc L st w) → G 0 (se_ent [.int a0, .int a1] maxL) [] (m, n, 0, 0)) : ym_IIrI l y (ws_ y cc maxL (some .int)) fr lo mc ms P Q :=
  yOf hy hyc hT (fun g av m n h => by
    obtain ⟨a0, a1, rfl, _⟩ := h
    exact hL) (fun g av m n h1 h2 hp G hG => by
    obtain ⟨a0, a1, rfl, hp⟩ := hp
    exact body g a0 a1 m n h1 h2 hp G hG)
abbrev ym_IrI (l : Launch) (y : MethodName) (ws : List Cond) (fr lo mc ms : Nat) (P : hG → Int32 → yM → Nat → Prop) (Q : hG → Int32 → yM → Nat → Int32 → yM → Nat → Prop) : Prop := yCon l y ws fr lo mc ms (fun (g : hG) (av : List Value) (m : yM) (n : Nat) => ∃ (a0 : Int32), av = [.int a0] ∧ P g a0 m n) (fun (g : hG) (av : List Value) (m : yM) (n : Nat) (v : Option Value) (m' : yM) (n' : Nat) => ∀ (a0 : Int32), av = [.int a0] → ∃ x, v = some (.int x) ∧ Q g a0 m n x m' n') yNoX
def yo_IrI (g : hG) (mc ms mc' ms' : Nat) (P : hG → Int32 → yM → Nat → Prop) (Q : hG → Int32 → yM → Nat → Int32 → yM → Nat → Prop) : se_Op yW := fun st w K Y => match st with
  | .int a0 :: r => se_c8 8 r ∧ P g a0 w.1 w.2.1 ∧ w.2.2.1 + mc' ≤ mc ∧ w.2.2.2 + ms' ≤ ms ∧ ∀ x m' n', Q g a0 w.1 w.2.1 x m' n' → yIn g m' n' → w.2.1 ≤ n' → K (.int x :: r) (m', n', w.2.2.1 + mc', w.2.2.2 + ms')
  | _ => False
theorem yo_IrI_r {g : hG} {mc ms mc' ms' : Nat} {P : hG → Int32 → yM → Nat → Prop} {Q : hG → Int32 → yM → Nat → Int32 → yM → Nat → Prop} {a0 : Int32} {r : List Value} {w : yW} {K : List Value → yW → Prop} {Y : Nat → yW → Prop} : yo_IrI g mc ms mc' ms' P Q (.int a0 :: r) w K Y = (se_c8 8 r ∧ P g a0 w.1 w.2.1 ∧ w.2.2.1 + mc' ≤ mc ∧ w.2.2.2 + ms' ≤ ms ∧ ∀ x m' n', Q g a0 w.1 w.2.1 x m' n' → yIn g m' n' → w.2.1 ≤ n' → K (.int x :: r) (m', n', w.2.2.1 + mc', w.2.2.2 + ms')) := rfl
theorem yo_IrI_ok {g : hG} {mc ms mc' ms' : Nat} {P : hG → Int32 → yM → Nat → Prop} {Q : hG → Int32 → yM → Nat → Int32 → yM → Nat → Prop} {p : Program} {l : Launch} {e : Env} {R : Room} {s : State} {m : MethodId} {args : Array Value} {below : List Frame} {meth : Method} {c : Code} {nL : Nat} {cc : ByteArray} {Q0 : State → Prop} {H0 : Heap} {ins : Instr} {len : Nat} (hS : se_Snd p l e R s m args below meth c Q0 nL (fun a => a) (yRM g H0) cc ins len (yCS g 1 mc ms mc' ms' (fun (g : hG) (av : List Value) (m : yM) (n : Nat) => ∃ (a0 : Int32), av = [.int a0] ∧ P g a0 m n) (fun (g : hG) (av : List Value) (m : yM) (n : Nat) (v : Option Value) (m' : yM) (n' : Nat) => ∀ (a0 : Int32), av = [.int a0] → ∃ x, v = some (.int x) ∧ Q g a0 m n x m' n') yNoX)) : se_Snd p l e R s m args below meth c Q0 nL (fun a => a) (yRM g H0) cc ins len (yo_IrI g mc ms mc' ms' P Q) :=
  hS.mono fun st w K Y h => by
    unfold yo_IrI at h
    split at h
    · rename_i a0 r
      obtain ⟨h8, hP, r1, r2, hq⟩ := h
      exact (⟨h8, ⟨a0, rfl, hP⟩, r1, r2, fun v m' n' hp hi hn => by
              obtain ⟨x, rfl, hx⟩ := hp a0 rfl
              exact hq x m' n' hx hi hn, fun b m' n' hp => hp.elim⟩ : yGo g mc ms mc' ms' ((fun (g : hG) (av : List Value) (m : yM) (n : Nat) => ∃ (a0 : Int32), av = [.int a0] ∧ P g a0 m n) g) ((fun (g : hG) (av : List Value) (m : yM) (n : Nat) (v : Option Value) (m' : yM) (n' : Nat) => ∀ (a0 : Int32), av = [.int a0] → ∃ x, v = some (.int x) ∧ Q g a0 m n x m' n') g) (yNoX g) [.int a0] r w K Y)
    · exact h.elim
def yp_IrI (g : hG) (mc ms : Nat) (P : hG → Int32 → yM → Nat → Prop) (R0 : hG → Int32 → yM → Nat → Int32) : se_Op yW := fun st w K Y => match st with
  | .int a0 :: r => se_c8 8 r ∧ P g a0 w.1 w.2.1 ∧ w.2.2.1 ≤ mc ∧ w.2.2.2 ≤ ms ∧ K (.int (R0 g a0 w.1 w.2.1) :: r) w
  | _ => False
theorem yp_IrI_r {g : hG} {mc ms : Nat} {P : hG → Int32 → yM → Nat → Prop} {R0 : hG → Int32 → yM → Nat → Int32} {a0 : Int32} {r : List Value} {w : yW} {K : List Value → yW → Prop} {Y : Nat → yW → Prop} : yp_IrI g mc ms P R0 (.int a0 :: r) w K Y = (se_c8 8 r ∧ P g a0 w.1 w.2.1 ∧ w.2.2.1 ≤ mc ∧ w.2.2.2 ≤ ms ∧ K (.int (R0 g a0 w.1 w.2.1) :: r) w) := rfl
theorem yp_IrI_ok {g : hG} {mc ms : Nat} {P : hG → Int32 → yM → Nat → Prop} {R0 : hG → Int32 → yM → Nat → Int32} {p : Program} {l : Launch} {e : Env} {R : Room} {s : State} {m : MethodId} {args : Array Value} {below : List Frame} {meth : Method} {c : Code} {nL : Nat} {cc : ByteArray} {Q0 : State → Prop} {H0 : Heap} {ins : Instr} {len : Nat} (hS : se_Snd p l e R s m args below meth c Q0 nL (fun a => a) (yRM g H0) cc ins len (yo_IrI g mc ms 0 0 P (fun g a0 m n x m' n' => x = R0 g a0 m n ∧ m' = m ∧ n' = n))) : se_Snd p l e R s m args below meth c Q0 nL (fun a => a) (yRM g H0) cc ins len (yp_IrI g mc ms P R0) :=
  hS.mono fun st w K Y h => by
    unfold yp_IrI at h
    split at h
    · rename_i a0 r
      obtain ⟨h8, hP, r1, r2, hq⟩ := h
      exact ⟨h8, hP, r1, r2, fun x m' n' e _ _ => by
              obtain ⟨rfl, rfl, rfl⟩ := e
              exact hq⟩
    · exact h.elim
def yf_IrI (g : hG) (mc ms : Nat) (P : hG → Int32 → yM → Nat → Prop) (R0 : hG → Int32 → yM → Nat → Int32) (F : hG → Int32 → yM → Nat → yM) : se_Op yW := fun st w K Y => match st with
  | .int a0 :: r => se_c8 8 r ∧ P g a0 w.1 w.2.1 ∧ w.2.2.1 ≤ mc ∧ w.2.2.2 ≤ ms ∧ K (.int (R0 g a0 w.1 w.2.1) :: r) (F g a0 w.1 w.2.1, w.2)
  | _ => False
theorem yf_IrI_r {g : hG} {mc ms : Nat} {P : hG → Int32 → yM → Nat → Prop} {R0 : hG → Int32 → yM → Nat → Int32} {F : hG → Int32 → yM → Nat → yM} {a0 : Int32} {r : List Value} {w : yW} {K : List Value → yW → Prop} {Y : Nat → yW → Prop} : yf_IrI g mc ms P R0 F (.int a0 :: r) w K Y = (se_c8 8 r ∧ P g a0 w.1 w.2.1 ∧ w.2.2.1 ≤ mc ∧ w.2.2.2 ≤ ms ∧ K (.int (R0 g a0 w.1 w.2.1) :: r) (F g a0 w.1 w.2.1, w.2)) := rfl
theorem yf_IrI_ok {g : hG} {mc ms : Nat} {P : hG → Int32 → yM → Nat → Prop} {R0 : hG → Int32 → yM → Nat → Int32} {F : hG → Int32 → yM → Nat → yM} {p : Program} {l : Launch} {e : Env} {R : Room} {s : State} {m : MethodId} {args : Array Value} {below : List Frame} {meth : Method} {c : Code} {nL : Nat} {cc : ByteArray} {Q0 : State → Prop} {H0 : Heap} {ins : Instr} {len : Nat} (hS : se_Snd p l e R s m args below meth c Q0 nL (fun a => a) (yRM g H0) cc ins len (yo_IrI g mc ms 0 0 P (fun g a0 m n x m' n' => x = R0 g a0 m n ∧ m' = F g a0 m n ∧ n' = n))) : se_Snd p l e R s m args below meth c Q0 nL (fun a => a) (yRM g H0) cc ins len (yf_IrI g mc ms P R0 F) :=
  hS.mono fun st w K Y h => by
    unfold yf_IrI at h
    split at h
    · rename_i a0 r
      obtain ⟨h8, hP, r1, r2, hq⟩ := h
      exact ⟨h8, hP, r1, r2, fun x m' n' e _ _ => by
              obtain ⟨rfl, rfl, rfl⟩ := e
              exact hq⟩
    · exact h.elim
def yt_IrI (mc ms : Nat) (Q : hG → Int32 → yM → Nat → Int32 → yM → Nat → Prop) (g : hG) (a0 : Int32) (m : yM) (n : Nat) : Option Value → yW → Prop := yRt (some .int) mc ms ((fun (g : hG) (av : List Value) (m : yM) (n : Nat) (v : Option Value) (m' : yM) (n' : Nat) => ∀ (a0 : Int32), av = [.int a0] → ∃ x, v = some (.int x) ∧ Q g a0 m n x m' n') g [.int a0] m n)
theorem yt_IrI_e {mc ms : Nat} {Q : hG → Int32 → yM → Nat → Int32 → yM → Nat → Prop} {g : hG} {a0 : Int32} {m : yM} {n : Nat} {w : yW} {z : Int32} : yt_IrI mc ms Q g a0 m n (some (.int z)) w = (w.2.2.1 ≤ mc ∧ w.2.2.2 ≤ ms ∧ Q g a0 m n z w.1 w.2.1) := by
  apply propext
  constructor
  · intro h
    obtain ⟨x, e, hq⟩ := h.2.2.2 _ rfl
    cases e
    exact ⟨h.2.1, h.2.2.1, hq⟩
  · intro h
    obtain ⟨h1, h2, h3⟩ := h
    exact ⟨⟨_, rfl, rfl⟩, h1, h2, fun _ e => by
      cases e
      exact ⟨z, rfl, h3⟩⟩
theorem ym_IrI_of {l : Launch} {y : MethodName} {own : String} {cc : ByteArray} {maxL fr lo mc ms : Nat} {P : hG → Int32 → yM → Nat → Prop} {Q : hG → Int32 → yM → Nat → Int32 → yM → Nat → Prop} {T : hG → Nat → Nat → se_Op yW} (hy : plainName y.cls = true) (hyc : y.cls = own) (hT : yTS l own y.name cc maxL (some .int) fr lo mc ms T) (hL : 1 ≤ maxL)
    (body : ∀ (g : hG) (a0 : Int32) (m : yM) (n : Nat), hVg g → yIn g m n → P g a0 m n → ∀ G : Nat → se_L → List Value → yW → Prop, (∀ (stops : List Nat) (f pc : Nat) (L : se_L) (st : List Value) (w : yW), wpN True (T g) cc stops G (yXt mc ms (yNoX g [.int a0] m n)) (yt_IrI mc ms Q g a0 m n) f pc L st w → G pc L st w) → G 0 (se_ent [.int a0] maxL) [] (m, n, 0, 0)) : ym_IrI l y (ws_ y cc maxL (some .int)) fr lo mc ms P Q :=
  yOf hy hyc hT (fun g av m n h => by
    obtain ⟨a0, rfl, _⟩ := h
    exact hL) (fun g av m n h1 h2 hp G hG => by
    obtain ⟨a0, rfl, hp⟩ := hp
    exact body g a0 m n h1 h2 hp G hG)
abbrev ym_IrZ (l : Launch) (y : MethodName) (ws : List Cond) (fr lo mc ms : Nat) (P : hG → Int32 → yM → Nat → Prop) (Q : hG → Int32 → yM → Nat → Bool → yM → Nat → Prop) : Prop := yCon l y ws fr lo mc ms (fun (g : hG) (av : List Value) (m : yM) (n : Nat) => ∃ (a0 : Int32), av = [.int a0] ∧ P g a0 m n) (fun (g : hG) (av : List Value) (m : yM) (n : Nat) (v : Option Value) (m' : yM) (n' : Nat) => ∀ (a0 : Int32), av = [.int a0] → ∃ x, v = some (.int (bI x)) ∧ Q g a0 m n x m' n') yNoX
def yo_IrZ (g : hG) (mc ms mc' ms' : Nat) (P : hG → Int32 → yM → Nat → Prop) (Q : hG → Int32 → yM → Nat → Bool → yM → Nat → Prop) : se_Op yW := fun st w K Y => match st with
  | .int a0 :: r => se_c8 8 r ∧ P g a0 w.1 w.2.1 ∧ w.2.2.1 + mc' ≤ mc ∧ w.2.2.2 + ms' ≤ ms ∧ ∀ x m' n', Q g a0 w.1 w.2.1 x m' n' → yIn g m' n' → w.2.1 ≤ n' → K (.int (bI x) :: r) (m', n', w.2.2.1 + mc', w.2.2.2 + ms')
  | _ => False
theorem yo_IrZ_r {g : hG} {mc ms mc' ms' : Nat} {P : hG → Int32 → yM → Nat → Prop} {Q : hG → Int32 → yM → Nat → Bool → yM → Nat → Prop} {a0 : Int32} {r : List Value} {w : yW} {K : List Value → yW → Prop} {Y : Nat → yW → Prop} : yo_IrZ g mc ms mc' ms' P Q (.int a0 :: r) w K Y = (se_c8 8 r ∧ P g a0 w.1 w.2.1 ∧ w.2.2.1 + mc' ≤ mc ∧ w.2.2.2 + ms' ≤ ms ∧ ∀ x m' n', Q g a0 w.1 w.2.1 x m' n' → yIn g m' n' → w.2.1 ≤ n' → K (.int (bI x) :: r) (m', n', w.2.2.1 + mc', w.2.2.2 + ms')) := rfl
theorem yo_IrZ_ok {g : hG} {mc ms mc' ms' : Nat} {P : hG → Int32 → yM → Nat → Prop} {Q : hG → Int32 → yM → Nat → Bool → yM → Nat → Prop} {p : Program} {l : Launch} {e : Env} {R : Room} {s : State} {m : MethodId} {args : Array Value} {below : List Frame} {meth : Method} {c : Code} {nL : Nat} {cc : ByteArray} {Q0 : State → Prop} {H0 : Heap} {ins : Instr} {len : Nat} (hS : se_Snd p l e R s m args below meth c Q0 nL (fun a => a) (yRM g H0) cc ins len (yCS g 1 mc ms mc' ms' (fun (g : hG) (av : List Value) (m : yM) (n : Nat) => ∃ (a0 : Int32), av = [.int a0] ∧ P g a0 m n) (fun (g : hG) (av : List Value) (m : yM) (n : Nat) (v : Option Value) (m' : yM) (n' : Nat) => ∀ (a0 : Int32), av = [.int a0] → ∃ x, v = some (.int (bI x)) ∧ Q g a0 m n x m' n') yNoX)) : se_Snd p l e R s m args below meth c Q0 nL (fun a => a) (yRM g H0) cc ins len (yo_IrZ g mc ms mc' ms' P Q) :=
  hS.mono fun st w K Y h => by
    unfold yo_IrZ at h
    split at h
    · rename_i a0 r
      obtain ⟨h8, hP, r1, r2, hq⟩ := h
      exact (⟨h8, ⟨a0, rfl, hP⟩, r1, r2, fun v m' n' hp hi hn => by
              obtain ⟨x, rfl, hx⟩ := hp a0 rfl
              exact hq x m' n' hx hi hn, fun b m' n' hp => hp.elim⟩ : yGo g mc ms mc' ms' ((fun (g : hG) (av : List Value) (m : yM) (n : Nat) => ∃ (a0 : Int32), av = [.int a0] ∧ P g a0 m n) g) ((fun (g : hG) (av : List Value) (m : yM) (n : Nat) (v : Option Value) (m' : yM) (n' : Nat) => ∀ (a0 : Int32), av = [.int a0] → ∃ x, v = some (.int (bI x)) ∧ Q g a0 m n x m' n') g) (yNoX g) [.int a0] r w K Y)
    · exact h.elim
abbrev ymx_IrZ (l : Launch) (y : MethodName) (ws : List Cond) (fr lo mc ms : Nat) (P : hG → Int32 → yM → Nat → Prop) (Q : hG → Int32 → yM → Nat → Bool → yM → Nat → Prop) (X : hG → Int32 → yM → Nat → Nat → yM → Nat → Prop) : Prop := yCon l y ws fr lo mc ms (fun (g : hG) (av : List Value) (m : yM) (n : Nat) => ∃ (a0 : Int32), av = [.int a0] ∧ P g a0 m n) (fun (g : hG) (av : List Value) (m : yM) (n : Nat) (v : Option Value) (m' : yM) (n' : Nat) => ∀ (a0 : Int32), av = [.int a0] → ∃ x, v = some (.int (bI x)) ∧ Q g a0 m n x m' n') (fun (g : hG) (av : List Value) (m : yM) (n : Nat) (b : Nat) (m' : yM) (n' : Nat) => ∃ (a0 : Int32), av = [.int a0] ∧ X g a0 m n b m' n')
def yox_IrZ (g : hG) (mc ms mc' ms' : Nat) (P : hG → Int32 → yM → Nat → Prop) (Q : hG → Int32 → yM → Nat → Bool → yM → Nat → Prop) (X : hG → Int32 → yM → Nat → Nat → yM → Nat → Prop) : se_Op yW := fun st w K Y => match st with
  | .int a0 :: r => se_c8 8 r ∧ P g a0 w.1 w.2.1 ∧ w.2.2.1 + mc' ≤ mc ∧ w.2.2.2 + ms' ≤ ms ∧ (∀ x m' n', Q g a0 w.1 w.2.1 x m' n' → yIn g m' n' → w.2.1 ≤ n' → K (.int (bI x) :: r) (m', n', w.2.2.1 + mc', w.2.2.2 + ms')) ∧ ∀ b m' n', X g a0 w.1 w.2.1 b m' n' → yIn g m' n' → w.2.1 ≤ n' → Y b (m', n', w.2.2.1 + mc', w.2.2.2 + ms')
  | _ => False
theorem yox_IrZ_r {g : hG} {mc ms mc' ms' : Nat} {P : hG → Int32 → yM → Nat → Prop} {Q : hG → Int32 → yM → Nat → Bool → yM → Nat → Prop} {X : hG → Int32 → yM → Nat → Nat → yM → Nat → Prop} {a0 : Int32} {r : List Value} {w : yW} {K : List Value → yW → Prop} {Y : Nat → yW → Prop} : yox_IrZ g mc ms mc' ms' P Q X (.int a0 :: r) w K Y = (se_c8 8 r ∧ P g a0 w.1 w.2.1 ∧ w.2.2.1 + mc' ≤ mc ∧ w.2.2.2 + ms' ≤ ms ∧ (∀ x m' n', Q g a0 w.1 w.2.1 x m' n' → yIn g m' n' → w.2.1 ≤ n' → K (.int (bI x) :: r) (m', n', w.2.2.1 + mc', w.2.2.2 + ms')) ∧ ∀ b m' n', X g a0 w.1 w.2.1 b m' n' → yIn g m' n' → w.2.1 ≤ n' → Y b (m', n', w.2.2.1 + mc', w.2.2.2 + ms')) := rfl
theorem yox_IrZ_ok {g : hG} {mc ms mc' ms' : Nat} {P : hG → Int32 → yM → Nat → Prop} {Q : hG → Int32 → yM → Nat → Bool → yM → Nat → Prop} {X : hG → Int32 → yM → Nat → Nat → yM → Nat → Prop} {p : Program} {l : Launch} {e : Env} {R : Room} {s : State} {m : MethodId} {args : Array Value} {below : List Frame} {meth : Method} {c : Code} {nL : Nat} {cc : ByteArray} {Q0 : State → Prop} {H0 : Heap} {ins : Instr} {len : Nat} (hS : se_Snd p l e R s m args below meth c Q0 nL (fun a => a) (yRM g H0) cc ins len (yCS g 1 mc ms mc' ms' (fun (g : hG) (av : List Value) (m : yM) (n : Nat) => ∃ (a0 : Int32), av = [.int a0] ∧ P g a0 m n) (fun (g : hG) (av : List Value) (m : yM) (n : Nat) (v : Option Value) (m' : yM) (n' : Nat) => ∀ (a0 : Int32), av = [.int a0] → ∃ x, v = some (.int (bI x)) ∧ Q g a0 m n x m' n') (fun (g : hG) (av : List Value) (m : yM) (n : Nat) (b : Nat) (m' : yM) (n' : Nat) => ∃ (a0 : Int32), av = [.int a0] ∧ X g a0 m n b m' n'))) : se_Snd p l e R s m args below meth c Q0 nL (fun a => a) (yRM g H0) cc ins len (yox_IrZ g mc ms mc' ms' P Q X) :=
  hS.mono fun st w K Y h => by
    unfold yox_IrZ at h
    split at h
    · rename_i a0 r
      obtain ⟨h8, hP, r1, r2, hq⟩ := h
      exact (⟨h8, ⟨a0, rfl, hP⟩, r1, r2, fun v m' n' hp hi hn => by
              obtain ⟨x, rfl, hx⟩ := hp a0 rfl
              exact hq.1 x m' n' hx hi hn, fun b m' n' hp hi hn => by
              obtain ⟨z0, e, hx⟩ := hp
              cases e
              exact hq.2 b m' n' hx hi hn⟩ : yGo g mc ms mc' ms' ((fun (g : hG) (av : List Value) (m : yM) (n : Nat) => ∃ (a0 : Int32), av = [.int a0] ∧ P g a0 m n) g) ((fun (g : hG) (av : List Value) (m : yM) (n : Nat) (v : Option Value) (m' : yM) (n' : Nat) => ∀ (a0 : Int32), av = [.int a0] → ∃ x, v = some (.int (bI x)) ∧ Q g a0 m n x m' n') g) ((fun (g : hG) (av : List Value) (m : yM) (n : Nat) (b : Nat) (m' : yM) (n' : Nat) => ∃ (a0 : Int32), av = [.int a0] ∧ X g a0 m n b m' n') g) [.int a0] r w K Y)
    · exact h.elim
def yp_IrZ (g : hG) (mc ms : Nat) (P : hG → Int32 → yM → Nat → Prop) (R0 : hG → Int32 → yM → Nat → Bool) : se_Op yW := fun st w K Y => match st with
  | .int a0 :: r => se_c8 8 r ∧ P g a0 w.1 w.2.1 ∧ w.2.2.1 ≤ mc ∧ w.2.2.2 ≤ ms ∧ K (.int (bI (R0 g a0 w.1 w.2.1)) :: r) w
  | _ => False
theorem yp_IrZ_r {g : hG} {mc ms : Nat} {P : hG → Int32 → yM → Nat → Prop} {R0 : hG → Int32 → yM → Nat → Bool} {a0 : Int32} {r : List Value} {w : yW} {K : List Value → yW → Prop} {Y : Nat → yW → Prop} : yp_IrZ g mc ms P R0 (.int a0 :: r) w K Y = (se_c8 8 r ∧ P g a0 w.1 w.2.1 ∧ w.2.2.1 ≤ mc ∧ w.2.2.2 ≤ ms ∧ K (.int (bI (R0 g a0 w.1 w.2.1)) :: r) w) := rfl
theorem yp_IrZ_ok {g : hG} {mc ms : Nat} {P : hG → Int32 → yM → Nat → Prop} {R0 : hG → Int32 → yM → Nat → Bool} {p : Program} {l : Launch} {e : Env} {R : Room} {s : State} {m : MethodId} {args : Array Value} {below : List Frame} {meth : Method} {c : Code} {nL : Nat} {cc : ByteArray} {Q0 : State → Prop} {H0 : Heap} {ins : Instr} {len : Nat} (hS : se_Snd p l e R s m args below meth c Q0 nL (fun a => a) (yRM g H0) cc ins len (yo_IrZ g mc ms 0 0 P (fun g a0 m n x m' n' => x = R0 g a0 m n ∧ m' = m ∧ n' = n))) : se_Snd p l e R s m args below meth c Q0 nL (fun a => a) (yRM g H0) cc ins len (yp_IrZ g mc ms P R0) :=
  hS.mono fun st w K Y h => by
    unfold yp_IrZ at h
    split at h
    · rename_i a0 r
      obtain ⟨h8, hP, r1, r2, hq⟩ := h
      exact ⟨h8, hP, r1, r2, fun x m' n' e _ _ => by
              obtain ⟨rfl, rfl, rfl⟩ := e
              exact hq⟩
    · exact h.elim
def yf_IrZ (g : hG) (mc ms : Nat) (P : hG → Int32 → yM → Nat → Prop) (R0 : hG → Int32 → yM → Nat → Bool) (F : hG → Int32 → yM → Nat → yM) : se_Op yW := fun st w K Y => match st with
  | .int a0 :: r => se_c8 8 r ∧ P g a0 w.1 w.2.1 ∧ w.2.2.1 ≤ mc ∧ w.2.2.2 ≤ ms ∧ K (.int (bI (R0 g a0 w.1 w.2.1)) :: r) (F g a0 w.1 w.2.1, w.2)
  | _ => False
theorem yf_IrZ_r {g : hG} {mc ms : Nat} {P : hG → Int32 → yM → Nat → Prop} {R0 : hG → Int32 → yM → Nat → Bool} {F : hG → Int32 → yM → Nat → yM} {a0 : Int32} {r : List Value} {w : yW} {K : List Value → yW → Prop} {Y : Nat → yW → Prop} : yf_IrZ g mc ms P R0 F (.int a0 :: r) w K Y = (se_c8 8 r ∧ P g a0 w.1 w.2.1 ∧ w.2.2.1 ≤ mc ∧ w.2.2.2 ≤ ms ∧ K (.int (bI (R0 g a0 w.1 w.2.1)) :: r) (F g a0 w.1 w.2.1, w.2)) := rfl
theorem yf_IrZ_ok {g : hG} {mc ms : Nat} {P : hG → Int32 → yM → Nat → Prop} {R0 : hG → Int32 → yM → Nat → Bool} {F : hG → Int32 → yM → Nat → yM} {p : Program} {l : Launch} {e : Env} {R : Room} {s : State} {m : MethodId} {args : Array Value} {below : List Frame} {meth : Method} {c : Code} {nL : Nat} {cc : ByteArray} {Q0 : State → Prop} {H0 : Heap} {ins : Instr} {len : Nat} (hS : se_Snd p l e R s m args below meth c Q0 nL (fun a => a) (yRM g H0) cc ins len (yo_IrZ g mc ms 0 0 P (fun g a0 m n x m' n' => x = R0 g a0 m n ∧ m' = F g a0 m n ∧ n' = n))) : se_Snd p l e R s m args below meth c Q0 nL (fun a => a) (yRM g H0) cc ins len (yf_IrZ g mc ms P R0 F) :=
  hS.mono fun st w K Y h => by
    unfold yf_IrZ at h
    split at h
    · rename_i a0 r
      obtain ⟨h8, hP, r1, r2, hq⟩ := h
      exact ⟨h8, hP, r1, r2, fun x m' n' e _ _ => by
              obtain ⟨rfl, rfl, rfl⟩ := e
              exact hq⟩
    · exact h.elim
def yt_IrZ (mc ms : Nat) (Q : hG → Int32 → yM → Nat → Bool → yM → Nat → Prop) (g : hG) (a0 : Int32) (m : yM) (n : Nat) : Option Value → yW → Prop := yRt (some .boolean) mc ms ((fun (g : hG) (av : List Value) (m : yM) (n : Nat) (v : Option Value) (m' : yM) (n' : Nat) => ∀ (a0 : Int32), av = [.int a0] → ∃ x, v = some (.int (bI x)) ∧ Q g a0 m n x m' n') g [.int a0] m n)
theorem yt_IrZ_e {mc ms : Nat} {Q : hG → Int32 → yM → Nat → Bool → yM → Nat → Prop} {g : hG} {a0 : Int32} {m : yM} {n : Nat} {w : yW} {z : Int32} : yt_IrZ mc ms Q g a0 m n (some (.int z)) w = (w.2.2.1 ≤ mc ∧ w.2.2.2 ≤ ms ∧ rz z fun x => Q g a0 m n x w.1 w.2.1) := by
  apply propext
  constructor
  · intro h
    obtain ⟨x, e, hq⟩ := h.2.2.2 _ rfl
    cases e
    exact ⟨h.2.1, h.2.2.1, ⟨x, rfl, hq⟩⟩
  · intro h
    obtain ⟨h1, h2, h3⟩ := h
    obtain ⟨x, rfl, h3⟩ := h3
    exact ⟨⟨_, rfl, bI_nar x⟩, h1, h2, fun _ e => by
      cases e
      exact ⟨x, rfl, h3⟩⟩
theorem ym_IrZ_of {l : Launch} {y : MethodName} {own : String} {cc : ByteArray} {maxL fr lo mc ms : Nat} {P : hG → Int32 → yM → Nat → Prop} {Q : hG → Int32 → yM → Nat → Bool → yM → Nat → Prop} {T : hG → Nat → Nat → se_Op yW} (hy : plainName y.cls = true) (hyc : y.cls = own) (hT : yTS l own y.name cc maxL (some .boolean) fr lo mc ms T) (hL : 1 ≤ maxL)
    (body : ∀ (g : hG) (a0 : Int32) (m : yM) (n : Nat), hVg g → yIn g m n → P g a0 m n → ∀ G : Nat → se_L → List Value → yW → Prop, (∀ (stops : List Nat) (f pc : Nat) (L : se_L) (st : List Value) (w : yW), wpN True (T g) cc stops G (yXt mc ms (yNoX g [.int a0] m n)) (yt_IrZ mc ms Q g a0 m n) f pc L st w → G pc L st w) → G 0 (se_ent [.int a0] maxL) [] (m, n, 0, 0)) : ym_IrZ l y (ws_ y cc maxL (some .boolean)) fr lo mc ms P Q :=
  yOf hy hyc hT (fun g av m n h => by
    obtain ⟨a0, rfl, _⟩ := h
    exact hL) (fun g av m n h1 h2 hp G hG => by
    obtain ⟨a0, rfl, hp⟩ := hp
    exact body g a0 m n h1 h2 hp G hG)
theorem ymx_IrZ_of {l : Launch} {y : MethodName} {own : String} {cc : ByteArray} {maxL fr lo mc ms : Nat} {P : hG → Int32 → yM → Nat → Prop} {Q : hG → Int32 → yM → Nat → Bool → yM → Nat → Prop} {X : hG → Int32 → yM → Nat → Nat → yM → Nat → Prop} {T : hG → Nat → Nat → se_Op yW} (hy : plainName y.cls = true) (hyc : y.cls = own) (hT : yTS l own y.name cc maxL (some .boolean) fr lo mc ms T) (hL : 1 ≤ maxL)
    (body : ∀ (g : hG) (a0 : Int32) (m : yM) (n : Nat), hVg g → yIn g m n → P g a0 m n → ∀ G : Nat → se_L → List Value → yW → Prop, (∀ (stops : List Nat) (f pc : Nat) (L : se_L) (st : List Value) (w : yW), wpN True (T g) cc stops G (yXt mc ms ((fun (g : hG) (av : List Value) (m : yM) (n : Nat) (b : Nat) (m' : yM) (n' : Nat) => ∃ (a0 : Int32), av = [.int a0] ∧ X g a0 m n b m' n') g [.int a0] m n)) (yt_IrZ mc ms Q g a0 m n) f pc L st w → G pc L st w) → G 0 (se_ent [.int a0] maxL) [] (m, n, 0, 0)) : ymx_IrZ l y (ws_ y cc maxL (some .boolean)) fr lo mc ms P Q X :=
  yOf hy hyc hT (fun g av m n h => by
    obtain ⟨a0, rfl, _⟩ := h
    exact hL) (fun g av m n h1 h2 hp G hG => by
    obtain ⟨a0, rfl, hp⟩ := hp
    exact body g a0 m n h1 h2 hp G hG)
abbrev ym_JJrJ (l : Launch) (y : MethodName) (ws : List Cond) (fr lo mc ms : Nat) (P : hG → Int64 → Int64 → yM → Nat → Prop) (Q : hG → Int64 → Int64 → yM → Nat → Int64 → yM → Nat → Prop) : Prop := yCon l y ws fr lo mc ms (fun (g : hG) (av : List Value) (m : yM) (n : Nat) => ∃ (a0 : Int64) (a1 : Int64), av = [.long a0, .long a1] ∧ P g a0 a1 m n) (fun (g : hG) (av : List Value) (m : yM) (n : Nat) (v : Option Value) (m' : yM) (n' : Nat) => ∀ (a0 : Int64) (a1 : Int64), av = [.long a0, .long a1] → ∃ x, v = some (.long x) ∧ Q g a0 a1 m n x m' n') yNoX
def yo_JJrJ (g : hG) (mc ms mc' ms' : Nat) (P : hG → Int64 → Int64 → yM → Nat → Prop) (Q : hG → Int64 → Int64 → yM → Nat → Int64 → yM → Nat → Prop) : se_Op yW := fun st w K Y => match st with
  | .long a1 :: .long a0 :: r => se_c8 8 r ∧ P g a0 a1 w.1 w.2.1 ∧ w.2.2.1 + mc' ≤ mc ∧ w.2.2.2 + ms' ≤ ms ∧ ∀ x m' n', Q g a0 a1 w.1 w.2.1 x m' n' → yIn g m' n' → w.2.1 ≤ n' → K (.long x :: r) (m', n', w.2.2.1 + mc', w.2.2.2 + ms')
  | _ => False
theorem yo_JJrJ_r {g : hG} {mc ms mc' ms' : Nat} {P : hG → Int64 → Int64 → yM → Nat → Prop} {Q : hG → Int64 → Int64 → yM → Nat → Int64 → yM → Nat → Prop} {a0 : Int64} {a1 : Int64} {r : List Value} {w : yW} {K : List Value → yW → Prop} {Y : Nat → yW → Prop} : yo_JJrJ g mc ms mc' ms' P Q (.long a1 :: .long a0 :: r) w K Y = (se_c8 8 r ∧ P g a0 a1 w.1 w.2.1 ∧ w.2.2.1 + mc' ≤ mc ∧ w.2.2.2 + ms' ≤ ms ∧ ∀ x m' n', Q g a0 a1 w.1 w.2.1 x m' n' → yIn g m' n' → w.2.1 ≤ n' → K (.long x :: r) (m', n', w.2.2.1 + mc', w.2.2.2 + ms')) := rfl
theorem yo_JJrJ_ok {g : hG} {mc ms mc' ms' : Nat} {P : hG → Int64 → Int64 → yM → Nat → Prop} {Q : hG → Int64 → Int64 → yM → Nat → Int64 → yM → Nat → Prop} {p : Program} {l : Launch} {e : Env} {R : Room} {s : State} {m : MethodId} {args : Array Value} {below : List Frame} {meth : Method} {c : Code} {nL : Nat} {cc : ByteArray} {Q0 : State → Prop} {H0 : Heap} {ins : Instr} {len : Nat} (hS : se_Snd p l e R s m args below meth c Q0 nL (fun a => a) (yRM g H0) cc ins len (yCS g 2 mc ms mc' ms' (fun (g : hG) (av : List Value) (m : yM) (n : Nat) => ∃ (a0 : Int64) (a1 : Int64), av = [.long a0, .long a1] ∧ P g a0 a1 m n) (fun (g : hG) (av : List Value) (m : yM) (n : Nat) (v : Option Value) (m' : yM) (n' : Nat) => ∀ (a0 : Int64) (a1 : Int64), av = [.long a0, .long a1] → ∃ x, v = some (.long x) ∧ Q g a0 a1 m n x m' n') yNoX)) : se_Snd p l e R s m args below meth c Q0 nL (fun a => a) (yRM g H0) cc ins len (yo_JJrJ g mc ms mc' ms' P Q) :=
  hS.mono fun st w K Y h => by
    unfold yo_JJrJ at h
    split at h
    · rename_i a1 a0 r
      obtain ⟨h8, hP, r1, r2, hq⟩ := h
      exact (⟨h8, ⟨a0, a1, rfl, hP⟩, r1, r2, fun v m' n' hp hi hn => by
              obtain ⟨x, rfl, hx⟩ := hp a0 a1 rfl
              exact hq x m' n' hx hi hn, fun b m' n' hp => hp.elim⟩ : yGo g mc ms mc' ms' ((fun (g : hG) (av : List Value) (m : yM) (n : Nat) => ∃ (a0 : Int64) (a1 : Int64), av = [.long a0, .long a1] ∧ P g a0 a1 m n) g) ((fun (g : hG) (av : List Value) (m : yM) (n : Nat) (v : Option Value) (m' : yM) (n' : Nat) => ∀ (a0 : Int64) (a1 : Int64), av = [.long a0, .long a1] → ∃ x, v = some (.long x) ∧ Q g a0 a1 m n x m' n') g) (yNoX g) [.long a0, .long a1] r w K Y)
    · exact h.elim
def yp_JJrJ (g : hG) (mc ms : Nat) (P : hG → Int64 → Int64 → yM → Nat → Prop) (R0 : hG → Int64 → Int64 → yM → Nat → Int64) : se_Op yW := fun st w K Y => match st with
  | .long a1 :: .long a0 :: r => se_c8 8 r ∧ P g a0 a1 w.1 w.2.1 ∧ w.2.2.1 ≤ mc ∧ w.2.2.2 ≤ ms ∧ K (.long (R0 g a0 a1 w.1 w.2.1) :: r) w
  | _ => False
theorem yp_JJrJ_r {g : hG} {mc ms : Nat} {P : hG → Int64 → Int64 → yM → Nat → Prop} {R0 : hG → Int64 → Int64 → yM → Nat → Int64} {a0 : Int64} {a1 : Int64} {r : List Value} {w : yW} {K : List Value → yW → Prop} {Y : Nat → yW → Prop} : yp_JJrJ g mc ms P R0 (.long a1 :: .long a0 :: r) w K Y = (se_c8 8 r ∧ P g a0 a1 w.1 w.2.1 ∧ w.2.2.1 ≤ mc ∧ w.2.2.2 ≤ ms ∧ K (.long (R0 g a0 a1 w.1 w.2.1) :: r) w) := rfl
theorem yp_JJrJ_ok {g : hG} {mc ms : Nat} {P : hG → Int64 → Int64 → yM → Nat → Prop} {R0 : hG → Int64 → Int64 → yM → Nat → Int64} {p : Program} {l : Launch} {e : Env} {R : Room} {s : State} {m : MethodId} {args : Array Value} {below : List Frame} {meth : Method} {c : Code} {nL : Nat} {cc : ByteArray} {Q0 : State → Prop} {H0 : Heap} {ins : Instr} {len : Nat} (hS : se_Snd p l e R s m args below meth c Q0 nL (fun a => a) (yRM g H0) cc ins len (yo_JJrJ g mc ms 0 0 P (fun g a0 a1 m n x m' n' => x = R0 g a0 a1 m n ∧ m' = m ∧ n' = n))) : se_Snd p l e R s m args below meth c Q0 nL (fun a => a) (yRM g H0) cc ins len (yp_JJrJ g mc ms P R0) :=
  hS.mono fun st w K Y h => by
    unfold yp_JJrJ at h
    split at h
    · rename_i a1 a0 r
      obtain ⟨h8, hP, r1, r2, hq⟩ := h
      exact ⟨h8, hP, r1, r2, fun x m' n' e _ _ => by
              obtain ⟨rfl, rfl, rfl⟩ := e
              exact hq⟩
    · exact h.elim
def yf_JJrJ (g : hG) (mc ms : Nat) (P : hG → Int64 → Int64 → yM → Nat → Prop) (R0 : hG → Int64 → Int64 → yM → Nat → Int64) (F : hG → Int64 → Int64 → yM → Nat → yM) : se_Op yW := fun st w K Y => match st with
  | .long a1 :: .long a0 :: r => se_c8 8 r ∧ P g a0 a1 w.1 w.2.1 ∧ w.2.2.1 ≤ mc ∧ w.2.2.2 ≤ ms ∧ K (.long (R0 g a0 a1 w.1 w.2.1) :: r) (F g a0 a1 w.1 w.2.1, w.2)
  | _ => False
theorem yf_JJrJ_r {g : hG} {mc ms : Nat} {P : hG → Int64 → Int64 → yM → Nat → Prop} {R0 : hG → Int64 → Int64 → yM → Nat → Int64} {F : hG → Int64 → Int64 → yM → Nat → yM} {a0 : Int64} {a1 : Int64} {r : List Value} {w : yW} {K : List Value → yW → Prop} {Y : Nat → yW → Prop} : yf_JJrJ g mc ms P R0 F (.long a1 :: .long a0 :: r) w K Y = (se_c8 8 r ∧ P g a0 a1 w.1 w.2.1 ∧ w.2.2.1 ≤ mc ∧ w.2.2.2 ≤ ms ∧ K (.long (R0 g a0 a1 w.1 w.2.1) :: r) (F g a0 a1 w.1 w.2.1, w.2)) := rfl
theorem yf_JJrJ_ok {g : hG} {mc ms : Nat} {P : hG → Int64 → Int64 → yM → Nat → Prop} {R0 : hG → Int64 → Int64 → yM → Nat → Int64} {F : hG → Int64 → Int64 → yM → Nat → yM} {p : Program} {l : Launch} {e : Env} {R : Room} {s : State} {m : MethodId} {args : Array Value} {below : List Frame} {meth : Method} {c : Code} {nL : Nat} {cc : ByteArray} {Q0 : State → Prop} {H0 : Heap} {ins : Instr} {len : Nat} (hS : se_Snd p l e R s m args below meth c Q0 nL (fun a => a) (yRM g H0) cc ins len (yo_JJrJ g mc ms 0 0 P (fun g a0 a1 m n x m' n' => x = R0 g a0 a1 m n ∧ m' = F g a0 a1 m n ∧ n' = n))) : se_Snd p l e R s m args below meth c Q0 nL (fun a => a) (yRM g H0) cc ins len (yf_JJrJ g mc ms P R0 F) :=
  hS.mono fun st w K Y h => by
    unfold yf_JJrJ at h
    split at h
    · rename_i a1 a0 r
      obtain ⟨h8, hP, r1, r2, hq⟩ := h
      exact ⟨h8, hP, r1, r2, fun x m' n' e _ _ => by
              obtain ⟨rfl, rfl, rfl⟩ := e
              exact hq⟩
    · exact h.elim
def yt_JJrJ (mc ms : Nat) (Q : hG → Int64 → Int64 → yM → Nat → Int64 → yM → Nat → Prop) (g : hG) (a0 : Int64) (a1 : Int64) (m : yM) (n : Nat) : Option Value → yW → Prop := yRt (some .long) mc ms ((fun (g : hG) (av : List Value) (m : yM) (n : Nat) (v : Option Value) (m' : yM) (n' : Nat) => ∀ (a0 : Int64) (a1 : Int64), av = [.long a0, .long a1] → ∃ x, v = some (.long x) ∧ Q g a0 a1 m n x m' n') g [.long a0, .long a1] m n)
theorem yt_JJrJ_e {mc ms : Nat} {Q : hG → Int64 → Int64 → yM → Nat → Int64 → yM → Nat → Prop} {g : hG} {a0 : Int64} {a1 : Int64} {m : yM} {n : Nat} {w : yW} {z : Int64} : yt_JJrJ mc ms Q g a0 a1 m n (some (.long z)) w = (w.2.2.1 ≤ mc ∧ w.2.2.2 ≤ ms ∧ Q g a0 a1 m n z w.1 w.2.1) := by
  apply propext
  constructor
  · intro h
    obtain ⟨x, e, hq⟩ := h.2.2.2 _ _ rfl
    cases e
    exact ⟨h.2.1, h.2.2.1, hq⟩
  · intro h
    obtain ⟨h1, h2, h3⟩ := h
    exact ⟨rfl, h1, h2, fun _ _ e => by
      cases e
      exact ⟨z, rfl, h3⟩⟩
theorem ym_JJrJ_of {l : Launch} {y : MethodName} {own : String} {cc : ByteArray} {maxL fr lo mc ms : Nat} {P : hG → Int64 → Int64 → yM → Nat → Prop} {Q : hG → Int64 → Int64 → yM → Nat → Int64 → yM → Nat → Prop} {T : hG → Nat → Nat → se_Op yW} (hy : plainName y.cls = true) (hyc : y.cls = own) (hT : yTS l own y.name cc maxL (some .long) fr lo mc ms T) (hL : 4 ≤ maxL)
    (body : ∀ (g : hG) (a0 : Int64) (a1 : Int64) (m : yM) (n : Nat), hVg g → yIn g m n → P g a0 a1 m n → ∀ G : Nat → se_L → List Value → yW → Prop, (∀ (stops : List Nat) (f pc : Nat) (L : se_L) (st : List Value) (w : yW), wpN True (T g) cc stops G (yXt mc ms (yNoX g [.long a0, .long a1] m n)) (yt_JJrJ mc ms Q g a0 a1 m n) f pc L st w → G pc L st w) → G 0 (se_ent [.long a0, .long a1] maxL) [] (m, n, 0, 0)) : ym_JJrJ l y (ws_ y cc maxL (some .long)) fr lo mc ms P Q :=
  yOf hy hyc hT (fun g av m n h => by
    obtain ⟨a0, a1, rfl, _⟩ := h
    exact hL) (fun g av m n h1 h2 hp G hG => by
    obtain ⟨a0, a1, rfl, hp⟩ := hp
    exact body g a0 a1 m n h1 h2 hp G hG)
abbrev ym_JrI (l : Launch) (y : MethodName) (ws : List Cond) (fr lo mc ms : Nat) (P : hG → Int64 → yM → Nat → Prop) (Q : hG → Int64 → yM → Nat → Int32 → yM → Nat → Prop) : Prop := yCon l y ws fr lo mc ms (fun (g : hG) (av : List Value) (m : yM) (n : Nat) => ∃ (a0 : Int64), av = [.long a0] ∧ P g a0 m n) (fun (g : hG) (av : List Value) (m : yM) (n : Nat) (v : Option Value) (m' : yM) (n' : Nat) => ∀ (a0 : Int64), av = [.long a0] → ∃ x, v = some (.int x) ∧ Q g a0 m n x m' n') yNoX
def yo_JrI (g : hG) (mc ms mc' ms' : Nat) (P : hG → Int64 → yM → Nat → Prop) (Q : hG → Int64 → yM → Nat → Int32 → yM → Nat → Prop) : se_Op yW := fun st w K Y => match st with
  | .long a0 :: r => se_c8 8 r ∧ P g a0 w.1 w.2.1 ∧ w.2.2.1 + mc' ≤ mc ∧ w.2.2.2 + ms' ≤ ms ∧ ∀ x m' n', Q g a0 w.1 w.2.1 x m' n' → yIn g m' n' → w.2.1 ≤ n' → K (.int x :: r) (m', n', w.2.2.1 + mc', w.2.2.2 + ms')
  | _ => False
theorem yo_JrI_r {g : hG} {mc ms mc' ms' : Nat} {P : hG → Int64 → yM → Nat → Prop} {Q : hG → Int64 → yM → Nat → Int32 → yM → Nat → Prop} {a0 : Int64} {r : List Value} {w : yW} {K : List Value → yW → Prop} {Y : Nat → yW → Prop} : yo_JrI g mc ms mc' ms' P Q (.long a0 :: r) w K Y = (se_c8 8 r ∧ P g a0 w.1 w.2.1 ∧ w.2.2.1 + mc' ≤ mc ∧ w.2.2.2 + ms' ≤ ms ∧ ∀ x m' n', Q g a0 w.1 w.2.1 x m' n' → yIn g m' n' → w.2.1 ≤ n' → K (.int x :: r) (m', n', w.2.2.1 + mc', w.2.2.2 + ms')) := rfl
theorem yo_JrI_ok {g : hG} {mc ms mc' ms' : Nat} {P : hG → Int64 → yM → Nat → Prop} {Q : hG → Int64 → yM → Nat → Int32 → yM → Nat → Prop} {p : Program} {l : Launch} {e : Env} {R : Room} {s : State} {m : MethodId} {args : Array Value} {below : List Frame} {meth : Method} {c : Code} {nL : Nat} {cc : ByteArray} {Q0 : State → Prop} {H0 : Heap} {ins : Instr} {len : Nat} (hS : se_Snd p l e R s m args below meth c Q0 nL (fun a => a) (yRM g H0) cc ins len (yCS g 1 mc ms mc' ms' (fun (g : hG) (av : List Value) (m : yM) (n : Nat) => ∃ (a0 : Int64), av = [.long a0] ∧ P g a0 m n) (fun (g : hG) (av : List Value) (m : yM) (n : Nat) (v : Option Value) (m' : yM) (n' : Nat) => ∀ (a0 : Int64), av = [.long a0] → ∃ x, v = some (.int x) ∧ Q g a0 m n x m' n') yNoX)) : se_Snd p l e R s m args below meth c Q0 nL (fun a => a) (yRM g H0) cc ins len (yo_JrI g mc ms mc' ms' P Q) :=
  hS.mono fun st w K Y h => by
    unfold yo_JrI at h
    split at h
    · rename_i a0 r
      obtain ⟨h8, hP, r1, r2, hq⟩ := h
      exact (⟨h8, ⟨a0, rfl, hP⟩, r1, r2, fun v m' n' hp hi hn => by
              obtain ⟨x, rfl, hx⟩ := hp a0 rfl
              exact hq x m' n' hx hi hn, fun b m' n' hp => hp.elim⟩ : yGo g mc ms mc' ms' ((fun (g : hG) (av : List Value) (m : yM) (n : Nat) => ∃ (a0 : Int64), av = [.long a0] ∧ P g a0 m n) g) ((fun (g : hG) (av : List Value) (m : yM) (n : Nat) (v : Option Value) (m' : yM) (n' : Nat) => ∀ (a0 : Int64), av = [.long a0] → ∃ x, v = some (.int x) ∧ Q g a0 m n x m' n') g) (yNoX g) [.long a0] r w K Y)
    · exact h.elim
def yp_JrI (g : hG) (mc ms : Nat) (P : hG → Int64 → yM → Nat → Prop) (R0 : hG → Int64 → yM → Nat → Int32) : se_Op yW := fun st w K Y => match st with
  | .long a0 :: r => se_c8 8 r ∧ P g a0 w.1 w.2.1 ∧ w.2.2.1 ≤ mc ∧ w.2.2.2 ≤ ms ∧ K (.int (R0 g a0 w.1 w.2.1) :: r) w
  | _ => False
theorem yp_JrI_r {g : hG} {mc ms : Nat} {P : hG → Int64 → yM → Nat → Prop} {R0 : hG → Int64 → yM → Nat → Int32} {a0 : Int64} {r : List Value} {w : yW} {K : List Value → yW → Prop} {Y : Nat → yW → Prop} : yp_JrI g mc ms P R0 (.long a0 :: r) w K Y = (se_c8 8 r ∧ P g a0 w.1 w.2.1 ∧ w.2.2.1 ≤ mc ∧ w.2.2.2 ≤ ms ∧ K (.int (R0 g a0 w.1 w.2.1) :: r) w) := rfl
theorem yp_JrI_ok {g : hG} {mc ms : Nat} {P : hG → Int64 → yM → Nat → Prop} {R0 : hG → Int64 → yM → Nat → Int32} {p : Program} {l : Launch} {e : Env} {R : Room} {s : State} {m : MethodId} {args : Array Value} {below : List Frame} {meth : Method} {c : Code} {nL : Nat} {cc : ByteArray} {Q0 : State → Prop} {H0 : Heap} {ins : Instr} {len : Nat} (hS : se_Snd p l e R s m args below meth c Q0 nL (fun a => a) (yRM g H0) cc ins len (yo_JrI g mc ms 0 0 P (fun g a0 m n x m' n' => x = R0 g a0 m n ∧ m' = m ∧ n' = n))) : se_Snd p l e R s m args below meth c Q0 nL (fun a => a) (yRM g H0) cc ins len (yp_JrI g mc ms P R0) :=
  hS.mono fun st w K Y h => by
    unfold yp_JrI at h
    split at h
    · rename_i a0 r
      obtain ⟨h8, hP, r1, r2, hq⟩ := h
      exact ⟨h8, hP, r1, r2, fun x m' n' e _ _ => by
              obtain ⟨rfl, rfl, rfl⟩ := e
              exact hq⟩
    · exact h.elim
def yf_JrI (g : hG) (mc ms : Nat) (P : hG → Int64 → yM → Nat → Prop) (R0 : hG → Int64 → yM → Nat → Int32) (F : hG → Int64 → yM → Nat → yM) : se_Op yW := fun st w K Y => match st with
  | .long a0 :: r => se_c8 8 r ∧ P g a0 w.1 w.2.1 ∧ w.2.2.1 ≤ mc ∧ w.2.2.2 ≤ ms ∧ K (.int (R0 g a0 w.1 w.2.1) :: r) (F g a0 w.1 w.2.1, w.2)
  | _ => False
theorem yf_JrI_r {g : hG} {mc ms : Nat} {P : hG → Int64 → yM → Nat → Prop} {R0 : hG → Int64 → yM → Nat → Int32} {F : hG → Int64 → yM → Nat → yM} {a0 : Int64} {r : List Value} {w : yW} {K : List Value → yW → Prop} {Y : Nat → yW → Prop} : yf_JrI g mc ms P R0 F (.long a0 :: r) w K Y = (se_c8 8 r ∧ P g a0 w.1 w.2.1 ∧ w.2.2.1 ≤ mc ∧ w.2.2.2 ≤ ms ∧ K (.int (R0 g a0 w.1 w.2.1) :: r) (F g a0 w.1 w.2.1, w.2)) := rfl
theorem yf_JrI_ok {g : hG} {mc ms : Nat} {P : hG → Int64 → yM → Nat → Prop} {R0 : hG → Int64 → yM → Nat → Int32} {F : hG → Int64 → yM → Nat → yM} {p : Program} {l : Launch} {e : Env} {R : Room} {s : State} {m : MethodId} {args : Array Value} {below : List Frame} {meth : Method} {c : Code} {nL : Nat} {cc : ByteArray} {Q0 : State → Prop} {H0 : Heap} {ins : Instr} {len : Nat} (hS : se_Snd p l e R s m args below meth c Q0 nL (fun a => a) (yRM g H0) cc ins len (yo_JrI g mc ms 0 0 P (fun g a0 m n x m' n' => x = R0 g a0 m n ∧ m' = F g a0 m n ∧ n' = n))) : se_Snd p l e R s m args below meth c Q0 nL (fun a => a) (yRM g H0) cc ins len (yf_JrI g mc ms P R0 F) :=
  hS.mono fun st w K Y h => by
    unfold yf_JrI at h
    split at h
    · rename_i a0 r
      obtain ⟨h8, hP, r1, r2, hq⟩ := h
      exact ⟨h8, hP, r1, r2, fun x m' n' e _ _ => by
              obtain ⟨rfl, rfl, rfl⟩ := e
              exact hq⟩
    · exact h.elim
def yt_JrI (mc ms : Nat) (Q : hG → Int64 → yM → Nat → Int32 → yM → Nat → Prop) (g : hG) (a0 : Int64) (m : yM) (n : Nat) : Option Value → yW → Prop := yRt (some .int) mc ms ((fun (g : hG) (av : List Value) (m : yM) (n : Nat) (v : Option Value) (m' : yM) (n' : Nat) => ∀ (a0 : Int64), av = [.long a0] → ∃ x, v = some (.int x) ∧ Q g a0 m n x m' n') g [.long a0] m n)
theorem yt_JrI_e {mc ms : Nat} {Q : hG → Int64 → yM → Nat → Int32 → yM → Nat → Prop} {g : hG} {a0 : Int64} {m : yM} {n : Nat} {w : yW} {z : Int32} : yt_JrI mc ms Q g a0 m n (some (.int z)) w = (w.2.2.1 ≤ mc ∧ w.2.2.2 ≤ ms ∧ Q g a0 m n z w.1 w.2.1) := by
  apply propext
  constructor
  · intro h
    obtain ⟨x, e, hq⟩ := h.2.2.2 _ rfl
    cases e
    exact ⟨h.2.1, h.2.2.1, hq⟩
  · intro h
    obtain ⟨h1, h2, h3⟩ := h
    exact ⟨⟨_, rfl, rfl⟩, h1, h2, fun _ e => by
      cases e
      exact ⟨z, rfl, h3⟩⟩
theorem ym_JrI_of {l : Launch} {y : MethodName} {own : String} {cc : ByteArray} {maxL fr lo mc ms : Nat} {P : hG → Int64 → yM → Nat → Prop} {Q : hG → Int64 → yM → Nat → Int32 → yM → Nat → Prop} {T : hG → Nat → Nat → se_Op yW} (hy : plainName y.cls = true) (hyc : y.cls = own) (hT : yTS l own y.name cc maxL (some .int) fr lo mc ms T) (hL : 2 ≤ maxL)
    (body : ∀ (g : hG) (a0 : Int64) (m : yM) (n : Nat), hVg g → yIn g m n → P g a0 m n → ∀ G : Nat → se_L → List Value → yW → Prop, (∀ (stops : List Nat) (f pc : Nat) (L : se_L) (st : List Value) (w : yW), wpN True (T g) cc stops G (yXt mc ms (yNoX g [.long a0] m n)) (yt_JrI mc ms Q g a0 m n) f pc L st w → G pc L st w) → G 0 (se_ent [.long a0] maxL) [] (m, n, 0, 0)) : ym_JrI l y (ws_ y cc maxL (some .int)) fr lo mc ms P Q :=
  yOf hy hyc hT (fun g av m n h => by
    obtain ⟨a0, rfl, _⟩ := h
    exact hL) (fun g av m n h1 h2 hp G hG => by
    obtain ⟨a0, rfl, hp⟩ := hp
    exact body g a0 m n h1 h2 hp G hG)
abbrev ym_JrJ (l : Launch) (y : MethodName) (ws : List Cond) (fr lo mc ms : Nat) (P : hG → Int64 → yM → Nat → Prop) (Q : hG → Int64 → yM → Nat → Int64 → yM → Nat → Prop) : Prop := yCon l y ws fr lo mc ms (fun (g : hG) (av : List Value) (m : yM) (n : Nat) => ∃ (a0 : Int64), av = [.long a0] ∧ P g a0 m n) (fun (g : hG) (av : List Value) (m : yM) (n : Nat) (v : Option Value) (m' : yM) (n' : Nat) => ∀ (a0 : Int64), av = [.long a0] → ∃ x, v = some (.long x) ∧ Q g a0 m n x m' n') yNoX
def yo_JrJ (g : hG) (mc ms mc' ms' : Nat) (P : hG → Int64 → yM → Nat → Prop) (Q : hG → Int64 → yM → Nat → Int64 → yM → Nat → Prop) : se_Op yW := fun st w K Y => match st with
  | .long a0 :: r => se_c8 8 r ∧ P g a0 w.1 w.2.1 ∧ w.2.2.1 + mc' ≤ mc ∧ w.2.2.2 + ms' ≤ ms ∧ ∀ x m' n', Q g a0 w.1 w.2.1 x m' n' → yIn g m' n' → w.2.1 ≤ n' → K (.long x :: r) (m', n', w.2.2.1 + mc', w.2.2.2 + ms')
  | _ => False
theorem yo_JrJ_r {g : hG} {mc ms mc' ms' : Nat} {P : hG → Int64 → yM → Nat → Prop} {Q : hG → Int64 → yM → Nat → Int64 → yM → Nat → Prop} {a0 : Int64} {r : List Value} {w : yW} {K : List Value → yW → Prop} {Y : Nat → yW → Prop} : yo_JrJ g mc ms mc' ms' P Q (.long a0 :: r) w K Y = (se_c8 8 r ∧ P g a0 w.1 w.2.1 ∧ w.2.2.1 + mc' ≤ mc ∧ w.2.2.2 + ms' ≤ ms ∧ ∀ x m' n', Q g a0 w.1 w.2.1 x m' n' → yIn g m' n' → w.2.1 ≤ n' → K (.long x :: r) (m', n', w.2.2.1 + mc', w.2.2.2 + ms')) := rfl
theorem yo_JrJ_ok {g : hG} {mc ms mc' ms' : Nat} {P : hG → Int64 → yM → Nat → Prop} {Q : hG → Int64 → yM → Nat → Int64 → yM → Nat → Prop} {p : Program} {l : Launch} {e : Env} {R : Room} {s : State} {m : MethodId} {args : Array Value} {below : List Frame} {meth : Method} {c : Code} {nL : Nat} {cc : ByteArray} {Q0 : State → Prop} {H0 : Heap} {ins : Instr} {len : Nat} (hS : se_Snd p l e R s m args below meth c Q0 nL (fun a => a) (yRM g H0) cc ins len (yCS g 1 mc ms mc' ms' (fun (g : hG) (av : List Value) (m : yM) (n : Nat) => ∃ (a0 : Int64), av = [.long a0] ∧ P g a0 m n) (fun (g : hG) (av : List Value) (m : yM) (n : Nat) (v : Option Value) (m' : yM) (n' : Nat) => ∀ (a0 : Int64), av = [.long a0] → ∃ x, v = some (.long x) ∧ Q g a0 m n x m' n') yNoX)) : se_Snd p l e R s m args below meth c Q0 nL (fun a => a) (yRM g H0) cc ins len (yo_JrJ g mc ms mc' ms' P Q) :=
  hS.mono fun st w K Y h => by
    unfold yo_JrJ at h
    split at h
    · rename_i a0 r
      obtain ⟨h8, hP, r1, r2, hq⟩ := h
      exact (⟨h8, ⟨a0, rfl, hP⟩, r1, r2, fun v m' n' hp hi hn => by
              obtain ⟨x, rfl, hx⟩ := hp a0 rfl
              exact hq x m' n' hx hi hn, fun b m' n' hp => hp.elim⟩ : yGo g mc ms mc' ms' ((fun (g : hG) (av : List Value) (m : yM) (n : Nat) => ∃ (a0 : Int64), av = [.long a0] ∧ P g a0 m n) g) ((fun (g : hG) (av : List Value) (m : yM) (n : Nat) (v : Option Value) (m' : yM) (n' : Nat) => ∀ (a0 : Int64), av = [.long a0] → ∃ x, v = some (.long x) ∧ Q g a0 m n x m' n') g) (yNoX g) [.long a0] r w K Y)
    · exact h.elim
def yp_JrJ (g : hG) (mc ms : Nat) (P : hG → Int64 → yM → Nat → Prop) (R0 : hG → Int64 → yM → Nat → Int64) : se_Op yW := fun st w K Y => match st with
  | .long a0 :: r => se_c8 8 r ∧ P g a0 w.1 w.2.1 ∧ w.2.2.1 ≤ mc ∧ w.2.2.2 ≤ ms ∧ K (.long (R0 g a0 w.1 w.2.1) :: r) w
  | _ => False
theorem yp_JrJ_r {g : hG} {mc ms : Nat} {P : hG → Int64 → yM → Nat → Prop} {R0 : hG → Int64 → yM → Nat → Int64} {a0 : Int64} {r : List Value} {w : yW} {K : List Value → yW → Prop} {Y : Nat → yW → Prop} : yp_JrJ g mc ms P R0 (.long a0 :: r) w K Y = (se_c8 8 r ∧ P g a0 w.1 w.2.1 ∧ w.2.2.1 ≤ mc ∧ w.2.2.2 ≤ ms ∧ K (.long (R0 g a0 w.1 w.2.1) :: r) w) := rfl
theorem yp_JrJ_ok {g : hG} {mc ms : Nat} {P : hG → Int64 → yM → Nat → Prop} {R0 : hG → Int64 → yM → Nat → Int64} {p : Program} {l : Launch} {e : Env} {R : Room} {s : State} {m : MethodId} {args : Array Value} {below : List Frame} {meth : Method} {c : Code} {nL : Nat} {cc : ByteArray} {Q0 : State → Prop} {H0 : Heap} {ins : Instr} {len : Nat} (hS : se_Snd p l e R s m args below meth c Q0 nL (fun a => a) (yRM g H0) cc ins len (yo_JrJ g mc ms 0 0 P (fun g a0 m n x m' n' => x = R0 g a0 m n ∧ m' = m ∧ n' = n))) : se_Snd p l e R s m args below meth c Q0 nL (fun a => a) (yRM g H0) cc ins len (yp_JrJ g mc ms P R0) :=
  hS.mono fun st w K Y h => by
    unfold yp_JrJ at h
    split at h
    · rename_i a0 r
      obtain ⟨h8, hP, r1, r2, hq⟩ := h
      exact ⟨h8, hP, r1, r2, fun x m' n' e _ _ => by
              obtain ⟨rfl, rfl, rfl⟩ := e
              exact hq⟩
    · exact h.elim
def yf_JrJ (g : hG) (mc ms : Nat) (P : hG → Int64 → yM → Nat → Prop) (R0 : hG → Int64 → yM → Nat → Int64) (F : hG → Int64 → yM → Nat → yM) : se_Op yW := fun st w K Y => match st with
  | .long a0 :: r => se_c8 8 r ∧ P g a0 w.1 w.2.1 ∧ w.2.2.1 ≤ mc ∧ w.2.2.2 ≤ ms ∧ K (.long (R0 g a0 w.1 w.2.1) :: r) (F g a0 w.1 w.2.1, w.2)
  | _ => False
theorem yf_JrJ_r {g : hG} {mc ms : Nat} {P : hG → Int64 → yM → Nat → Prop} {R0 : hG → Int64 → yM → Nat → Int64} {F : hG → Int64 → yM → Nat → yM} {a0 : Int64} {r : List Value} {w : yW} {K : List Value → yW → Prop} {Y : Nat → yW → Prop} : yf_JrJ g mc ms P R0 F (.long a0 :: r) w K Y = (se_c8 8 r ∧ P g a0 w.1 w.2.1 ∧ w.2.2.1 ≤ mc ∧ w.2.2.2 ≤ ms ∧ K (.long (R0 g a0 w.1 w.2.1) :: r) (F g a0 w.1 w.2.1, w.2)) := rfl
theorem yf_JrJ_ok {g : hG} {mc ms : Nat} {P : hG → Int64 → yM → Nat → Prop} {R0 : hG → Int64 → yM → Nat → Int64} {F : hG → Int64 → yM → Nat → yM} {p : Program} {l : Launch} {e : Env} {R : Room} {s : State} {m : MethodId} {args : Array Value} {below : List Frame} {meth : Method} {c : Code} {nL : Nat} {cc : ByteArray} {Q0 : State → Prop} {H0 : Heap} {ins : Instr} {len : Nat} (hS : se_Snd p l e R s m args below meth c Q0 nL (fun a => a) (yRM g H0) cc ins len (yo_JrJ g mc ms 0 0 P (fun g a0 m n x m' n' => x = R0 g a0 m n ∧ m' = F g a0 m n ∧ n' = n))) : se_Snd p l e R s m args below meth c Q0 nL (fun a => a) (yRM g H0) cc ins len (yf_JrJ g mc ms P R0 F) :=
  hS.mono fun st w K Y h => by
    unfold yf_JrJ at h
    split at h
    · rename_i a0 r
      obtain ⟨h8, hP, r1, r2, hq⟩ := h
      exact ⟨h8, hP, r1, r2, fun x m' n' e _ _ => by
              obtain ⟨rfl, rfl, rfl⟩ := e
              exact hq⟩
    · exact h.elim
def yt_JrJ (mc ms : Nat) (Q : hG → Int64 → yM → Nat → Int64 → yM → Nat → Prop) (g : hG) (a0 : Int64) (m : yM) (n : Nat) : Option Value → yW → Prop := yRt (some .long) mc ms ((fun (g : hG) (av : List Value) (m : yM) (n : Nat) (v : Option Value) (m' : yM) (n' : Nat) => ∀ (a0 : Int64), av = [.long a0] → ∃ x, v = some (.long x) ∧ Q g a0 m n x m' n') g [.long a0] m n)
theorem yt_JrJ_e {mc ms : Nat} {Q : hG → Int64 → yM → Nat → Int64 → yM → Nat → Prop} {g : hG} {a0 : Int64} {m : yM} {n : Nat} {w : yW} {z : Int64} : yt_JrJ mc ms Q g a0 m n (some (.long z)) w = (w.2.2.1 ≤ mc ∧ w.2.2.2 ≤ ms ∧ Q g a0 m n z w.1 w.2.1) := by
  apply propext
  constructor
  · intro h
    obtain ⟨x, e, hq⟩ := h.2.2.2 _ rfl
    cases e
    exact ⟨h.2.1, h.2.2.1, hq⟩
  · intro h
    obtain ⟨h1, h2, h3⟩ := h
    exact ⟨rfl, h1, h2, fun _ e => by
      cases e
      exact ⟨z, rfl, h3⟩⟩
theorem ym_JrJ_of {l : Launch} {y : MethodName} {own : String} {cc : ByteArray} {maxL fr lo mc ms : Nat} {P : hG → Int64 → yM → Nat → Prop} {Q : hG → Int64 → yM → Nat → Int64 → yM → Nat → Prop} {T : hG → Nat → Nat → se_Op yW} (hy : plainName y.cls = true) (hyc : y.cls = own) (hT : yTS l own y.name cc maxL (some .long) fr lo mc ms T) (hL : 2 ≤ maxL)
    (body : ∀ (g : hG) (a0 : Int64) (m : yM) (n : Nat), hVg g → yIn g m n → P g a0 m n → ∀ G : Nat → se_L → List Value → yW → Prop, (∀ (stops : List Nat) (f pc : Nat) (L : se_L) (st : List Value) (w : yW), wpN True (T g) cc stops G (yXt mc ms (yNoX g [.long a0] m n)) (yt_JrJ mc ms Q g a0 m n) f pc L st w → G pc L st w) → G 0 (se_ent [.long a0] maxL) [] (m, n, 0, 0)) : ym_JrJ l y (ws_ y cc maxL (some .long)) fr lo mc ms P Q :=
  yOf hy hyc hT (fun g av m n h => by
    obtain ⟨a0, rfl, _⟩ := h
    exact hL) (fun g av m n h1 h2 hp G hG => by
    obtain ⟨a0, rfl, hp⟩ := hp
    exact body g a0 m n h1 h2 hp G hG)
abbrev ym_LIIIIIIrI (l : Launch) (y : MethodName) (ws : List Cond) (fr lo mc ms : Nat) (P : hG → Nat → Int32 → Int32 → Int32 → Int32 → Int32 → Int32 → yM → Nat → Prop) (Q : hG → Nat → Int32 → Int32 → Int32 → Int32 → Int32 → Int32 → yM → Nat → Int32 → yM → Nat → Prop) : Prop := yCon l y ws fr lo mc ms (fun (g : hG) (av : List Value) (m : yM) (n : Nat) => ∃ (a0 : Nat) (a1 : Int32) (a2 : Int32) (a3 : Int32) (a4 : Int32) (a5 : Int32) (a6 : Int32), av = [.ref a0, .int a1, .int a2, .int a3, .int a4, .int a5, .int a6] ∧ P g a0 a1 a2 a3 a4 a5 a6 m n) (fun (g : hG) (av : List Value) (m : yM) (n : Nat) (v : Option Value) (m' : yM) (n' : Nat) => ∀ (a0 : Nat) (a1 : Int32) (a2 : Int32) (a3 : Int32) (a4 : Int32) (a5 : Int32) (a6 : Int32), av = [.ref a0, .int a1, .int a2, .int a3, .int a4, .int a5, .int a6] → ∃ x, v = some (.int x) ∧ Q g a0 a1 a2 a3 a4 a5 a6 m n x m' n') yNoX
def yov_LIIIIIIrI (g : hG) (mc ms mc' ms' : Nat) (cs : List Nat) (P : hG → Nat → Int32 → Int32 → Int32 → Int32 → Int32 → Int32 → yM → Nat → Prop) (Q : hG → Nat → Int32 → Int32 → Int32 → Int32 → Int32 → Int32 → yM → Nat → Int32 → yM → Nat → Prop) : se_Op yW := fun st w K Y => match st with
  | .int a6 :: .int a5 :: .int a4 :: .int a3 :: .int a2 :: .int a1 :: .ref a0 :: r => yc w.1 a0 ∈ cs ∧ se_c8 8 r ∧ P g a0 a1 a2 a3 a4 a5 a6 w.1 w.2.1 ∧ w.2.2.1 + mc' ≤ mc ∧ w.2.2.2 + ms' ≤ ms ∧ ∀ x m' n', Q g a0 a1 a2 a3 a4 a5 a6 w.1 w.2.1 x m' n' → yIn g m' n' → w.2.1 ≤ n' → K (.int x :: r) (m', n', w.2.2.1 + mc', w.2.2.2 + ms')
  | _ => False
theorem yov_LIIIIIIrI_r {g : hG} {mc ms mc' ms' : Nat} {cs : List Nat} {P : hG → Nat → Int32 → Int32 → Int32 → Int32 → Int32 → Int32 → yM → Nat → Prop} {Q : hG → Nat → Int32 → Int32 → Int32 → Int32 → Int32 → Int32 → yM → Nat → Int32 → yM → Nat → Prop} {a0 : Nat} {a1 : Int32} {a2 : Int32} {a3 : Int32} {a4 : Int32} {a5 : Int32} {a6 : Int32} {r : List Value} {w : yW} {K : List Value → yW → Prop} {Y : Nat → yW → Prop} : yov_LIIIIIIrI g mc ms mc' ms' cs P Q (.int a6 :: .int a5 :: .int a4 :: .int a3 :: .int a2 :: .int a1 :: .ref a0 :: r) w K Y = (yc w.1 a0 ∈ cs ∧ se_c8 8 r ∧ P g a0 a1 a2 a3 a4 a5 a6 w.1 w.2.1 ∧ w.2.2.1 + mc' ≤ mc ∧ w.2.2.2 + ms' ≤ ms ∧ ∀ x m' n', Q g a0 a1 a2 a3 a4 a5 a6 w.1 w.2.1 x m' n' → yIn g m' n' → w.2.1 ≤ n' → K (.int x :: r) (m', n', w.2.2.1 + mc', w.2.2.2 + ms')) := rfl
theorem yov_LIIIIIIrI_ok {g : hG} {mc ms mc' ms' : Nat} {cs : List Nat} {P : hG → Nat → Int32 → Int32 → Int32 → Int32 → Int32 → Int32 → yM → Nat → Prop} {Q : hG → Nat → Int32 → Int32 → Int32 → Int32 → Int32 → Int32 → yM → Nat → Int32 → yM → Nat → Prop} {p : Program} {l : Launch} {e : Env} {R : Room} {s : State} {m : MethodId} {args : Array Value} {below : List Frame} {meth : Method} {c : Code} {nL : Nat} {cc : ByteArray} {Q0 : State → Prop} {H0 : Heap} {ins : Instr} {len : Nat} (hS : se_Snd p l e R s m args below meth c Q0 nL (fun a => a) (yRM g H0) cc ins len (yCV g 6 mc ms mc' ms' cs (fun (g : hG) (av : List Value) (m : yM) (n : Nat) => ∃ (a0 : Nat) (a1 : Int32) (a2 : Int32) (a3 : Int32) (a4 : Int32) (a5 : Int32) (a6 : Int32), av = [.ref a0, .int a1, .int a2, .int a3, .int a4, .int a5, .int a6] ∧ P g a0 a1 a2 a3 a4 a5 a6 m n) (fun (g : hG) (av : List Value) (m : yM) (n : Nat) (v : Option Value) (m' : yM) (n' : Nat) => ∀ (a0 : Nat) (a1 : Int32) (a2 : Int32) (a3 : Int32) (a4 : Int32) (a5 : Int32) (a6 : Int32), av = [.ref a0, .int a1, .int a2, .int a3, .int a4, .int a5, .int a6] → ∃ x, v = some (.int x) ∧ Q g a0 a1 a2 a3 a4 a5 a6 m n x m' n') yNoX)) : se_Snd p l e R s m args below meth c Q0 nL (fun a => a) (yRM g H0) cc ins len (yov_LIIIIIIrI g mc ms mc' ms' cs P Q) :=
  hS.mono fun st w K Y h => by
    unfold yov_LIIIIIIrI at h
    split at h
    · rename_i a6 a5 a4 a3 a2 a1 a0 r
      obtain ⟨hc, h8, hP, r1, r2, hq⟩ := h
      exact (⟨hc, h8, ⟨a0, a1, a2, a3, a4, a5, a6, rfl, hP⟩, r1, r2, fun v m' n' hp hi hn => by
              obtain ⟨x, rfl, hx⟩ := hp a0 a1 a2 a3 a4 a5 a6 rfl
              exact hq x m' n' hx hi hn, fun b m' n' hp => hp.elim⟩ : (yRcv cs w.1 [.ref a0, .int a1, .int a2, .int a3, .int a4, .int a5, .int a6] ∧ yGo g mc ms mc' ms' ((fun (g : hG) (av : List Value) (m : yM) (n : Nat) => ∃ (a0 : Nat) (a1 : Int32) (a2 : Int32) (a3 : Int32) (a4 : Int32) (a5 : Int32) (a6 : Int32), av = [.ref a0, .int a1, .int a2, .int a3, .int a4, .int a5, .int a6] ∧ P g a0 a1 a2 a3 a4 a5 a6 m n) g) ((fun (g : hG) (av : List Value) (m : yM) (n : Nat) (v : Option Value) (m' : yM) (n' : Nat) => ∀ (a0 : Nat) (a1 : Int32) (a2 : Int32) (a3 : Int32) (a4 : Int32) (a5 : Int32) (a6 : Int32), av = [.ref a0, .int a1, .int a2, .int a3, .int a4, .int a5, .int a6] → ∃ x, v = some (.int x) ∧ Q g a0 a1 a2 a3 a4 a5 a6 m n x m' n') g) (yNoX g) [.ref a0, .int a1, .int a2, .int a3, .int a4, .int a5, .int a6] r w K Y))
    · exact h.elim
def ypv_LIIIIIIrI (g : hG) (mc ms : Nat) (cs : List Nat) (P : hG → Nat → Int32 → Int32 → Int32 → Int32 → Int32 → Int32 → yM → Nat → Prop) (R0 : hG → Nat → Int32 → Int32 → Int32 → Int32 → Int32 → Int32 → yM → Nat → Int32) : se_Op yW := fun st w K Y => match st with
  | .int a6 :: .int a5 :: .int a4 :: .int a3 :: .int a2 :: .int a1 :: .ref a0 :: r => yc w.1 a0 ∈ cs ∧ se_c8 8 r ∧ P g a0 a1 a2 a3 a4 a5 a6 w.1 w.2.1 ∧ w.2.2.1 ≤ mc ∧ w.2.2.2 ≤ ms ∧ K (.int (R0 g a0 a1 a2 a3 a4 a5 a6 w.1 w.2.1) :: r) w
  | _ => False
theorem ypv_LIIIIIIrI_r {g : hG} {mc ms : Nat} {cs : List Nat} {P : hG → Nat → Int32 → Int32 → Int32 → Int32 → Int32 → Int32 → yM → Nat → Prop} {R0 : hG → Nat → Int32 → Int32 → Int32 → Int32 → Int32 → Int32 → yM → Nat → Int32} {a0 : Nat} {a1 : Int32} {a2 : Int32} {a3 : Int32} {a4 : Int32} {a5 : Int32} {a6 : Int32} {r : List Value} {w : yW} {K : List Value → yW → Prop} {Y : Nat → yW → Prop} : ypv_LIIIIIIrI g mc ms cs P R0 (.int a6 :: .int a5 :: .int a4 :: .int a3 :: .int a2 :: .int a1 :: .ref a0 :: r) w K Y = (yc w.1 a0 ∈ cs ∧ se_c8 8 r ∧ P g a0 a1 a2 a3 a4 a5 a6 w.1 w.2.1 ∧ w.2.2.1 ≤ mc ∧ w.2.2.2 ≤ ms ∧ K (.int (R0 g a0 a1 a2 a3 a4 a5 a6 w.1 w.2.1) :: r) w) := rfl
theorem ypv_LIIIIIIrI_ok {g : hG} {mc ms : Nat} {cs : List Nat} {P : hG → Nat → Int32 → Int32 → Int32 → Int32 → Int32 → Int32 → yM → Nat → Prop} {R0 : hG → Nat → Int32 → Int32 → Int32 → Int32 → Int32 → Int32 → yM → Nat → Int32} {p : Program} {l : Launch} {e : Env} {R : Room} {s : State} {m : MethodId} {args : Array Value} {below : List Frame} {meth : Method} {c : Code} {nL : Nat} {cc : ByteArray} {Q0 : State → Prop} {H0 : Heap} {ins : Instr} {len : Nat} (hS : se_Snd p l e R s m args below meth c Q0 nL (fun a => a) (yRM g H0) cc ins len (yov_LIIIIIIrI g mc ms 0 0 cs P (fun g a0 a1 a2 a3 a4 a5 a6 m n x m' n' => x = R0 g a0 a1 a2 a3 a4 a5 a6 m n ∧ m' = m ∧ n' = n))) : se_Snd p l e R s m args below meth c Q0 nL (fun a => a) (yRM g H0) cc ins len (ypv_LIIIIIIrI g mc ms cs P R0) :=
  hS.mono fun st w K Y h => by
    unfold ypv_LIIIIIIrI at h
    split at h
    · rename_i a6 a5 a4 a3 a2 a1 a0 r
      obtain ⟨hc, h8, hP, r1, r2, hq⟩ := h
      exact ⟨hc, h8, hP, r1, r2, fun x m' n' e _ _ => by
              obtain ⟨rfl, rfl, rfl⟩ := e
              exact hq⟩
    · exact h.elim
def yfv_LIIIIIIrI (g : hG) (mc ms : Nat) (cs : List Nat) (P : hG → Nat → Int32 → Int32 → Int32 → Int32 → Int32 → Int32 → yM → Nat → Prop) (R0 : hG → Nat → Int32 → Int32 → Int32 → Int32 → Int32 → Int32 → yM → Nat → Int32) (F : hG → Nat → Int32 → Int32 → Int32 → Int32 → Int32 → Int32 → yM → Nat → yM) : se_Op yW := fun st w K Y => match st with
  | .int a6 :: .int a5 :: .int a4 :: .int a3 :: .int a2 :: .int a1 :: .ref a0 :: r => yc w.1 a0 ∈ cs ∧ se_c8 8 r ∧ P g a0 a1 a2 a3 a4 a5 a6 w.1 w.2.1 ∧ w.2.2.1 ≤ mc ∧ w.2.2.2 ≤ ms ∧ K (.int (R0 g a0 a1 a2 a3 a4 a5 a6 w.1 w.2.1) :: r) (F g a0 a1 a2 a3 a4 a5 a6 w.1 w.2.1, w.2)
  | _ => False
theorem yfv_LIIIIIIrI_r {g : hG} {mc ms : Nat} {cs : List Nat} {P : hG → Nat → Int32 → Int32 → Int32 → Int32 → Int32 → Int32 → yM → Nat → Prop} {R0 : hG → Nat → Int32 → Int32 → Int32 → Int32 → Int32 → Int32 → yM → Nat → Int32} {F : hG → Nat → Int32 → Int32 → Int32 → Int32 → Int32 → Int32 → yM → Nat → yM} {a0 : Nat} {a1 : Int32} {a2 : Int32} {a3 : Int32} {a4 : Int32} {a5 : Int32} {a6 : Int32} {r : List Value} {w : yW} {K : List Value → yW → Prop} {Y : Nat → yW → Prop} : yfv_LIIIIIIrI g mc ms cs P R0 F (.int a6 :: .int a5 :: .int a4 :: .int a3 :: .int a2 :: .int a1 :: .ref a0 :: r) w K Y = (yc w.1 a0 ∈ cs ∧ se_c8 8 r ∧ P g a0 a1 a2 a3 a4 a5 a6 w.1 w.2.1 ∧ w.2.2.1 ≤ mc ∧ w.2.2.2 ≤ ms ∧ K (.int (R0 g a0 a1 a2 a3 a4 a5 a6 w.1 w.2.1) :: r) (F g a0 a1 a2 a3 a4 a5 a6 w.1 w.2.1, w.2)) := rfl
theorem yfv_LIIIIIIrI_ok {g : hG} {mc ms : Nat} {cs : List Nat} {P : hG → Nat → Int32 → Int32 → Int32 → Int32 → Int32 → Int32 → yM → Nat → Prop} {R0 : hG → Nat → Int32 → Int32 → Int32 → Int32 → Int32 → Int32 → yM → Nat → Int32} {F : hG → Nat → Int32 → Int32 → Int32 → Int32 → Int32 → Int32 → yM → Nat → yM} {p : Program} {l : Launch} {e : Env} {R : Room} {s : State} {m : MethodId} {args : Array Value} {below : List Frame} {meth : Method} {c : Code} {nL : Nat} {cc : ByteArray} {Q0 : State → Prop} {H0 : Heap} {ins : Instr} {len : Nat} (hS : se_Snd p l e R s m args below meth c Q0 nL (fun a => a) (yRM g H0) cc ins len (yov_LIIIIIIrI g mc ms 0 0 cs P (fun g a0 a1 a2 a3 a4 a5 a6 m n x m' n' => x = R0 g a0 a1 a2 a3 a4 a5 a6 m n ∧ m' = F g a0 a1 a2 a3 a4 a5 a6 m n ∧ n' = n))) : se_Snd p l e R s m args below meth c Q0 nL (fun a => a) (yRM g H0) cc ins len (yfv_LIIIIIIrI g mc ms cs P R0 F) :=
  hS.mono fun st w K Y h => by
    unfold yfv_LIIIIIIrI at h
    split at h
    · rename_i a6 a5 a4 a3 a2 a1 a0 r
      obtain ⟨hc, h8, hP, r1, r2, hq⟩ := h
      exact ⟨hc, h8, hP, r1, r2, fun x m' n' e _ _ => by
              obtain ⟨rfl, rfl, rfl⟩ := e
              exact hq⟩
    · exact h.elim
def yt_LIIIIIIrI (mc ms : Nat) (Q : hG → Nat → Int32 → Int32 → Int32 → Int32 → Int32 → Int32 → yM → Nat → Int32 → yM → Nat → Prop) (g : hG) (a0 : Nat) (a1 : Int32) (a2 : Int32) (a3 : Int32) (a4 : Int32) (a5 : Int32) (a6 : Int32) (m : yM) (n : Nat) : Option Value → yW → Prop := yRt (some .int) mc ms ((fun (g : hG) (av : List Value) (m : yM) (n : Nat) (v : Option Value) (m' : yM) (n' : Nat) => ∀ (a0 : Nat) (a1 : Int32) (a2 : Int32) (a3 : Int32) (a4 : Int32) (a5 : Int32) (a6 : Int32), av = [.ref a0, .int a1, .int a2, .int a3, .int a4, .int a5, .int a6] → ∃ x, v = some (.int x) ∧ Q g a0 a1 a2 a3 a4 a5 a6 m n x m' n') g [.ref a0, .int a1, .int a2, .int a3, .int a4, .int a5, .int a6] m n)
theorem yt_LIIIIIIrI_e {mc ms : Nat} {Q : hG → Nat → Int32 → Int32 → Int32 → Int32 → Int32 → Int32 → yM → Nat → Int32 → yM → Nat → Prop} {g : hG} {a0 : Nat} {a1 : Int32} {a2 : Int32} {a3 : Int32} {a4 : Int32} {a5 : Int32} {a6 : Int32} {m : yM} {n : Nat} {w : yW} {z : Int32} : yt_LIIIIIIrI mc ms Q g a0 a1 a2 a3 a4 a5 a6 m n (some (.int z)) w = (w.2.2.1 ≤ mc ∧ w.2.2.2 ≤ ms ∧ Q g a0 a1 a2 a3 a4 a5 a6 m n z w.1 w.2.1) := by
  apply propext
  constructor
  · intro h
    obtain ⟨x, e, hq⟩ := h.2.2.2 _ _ _ _ _ _ _ rfl
    cases e
    exact ⟨h.2.1, h.2.2.1, hq⟩
  · intro h
    obtain ⟨h1, h2, h3⟩ := h
    exact ⟨⟨_, rfl, rfl⟩, h1, h2, fun _ _ _ _ _ _ _ e => by
      cases e
      exact ⟨z, rfl, h3⟩⟩
theorem ym_LIIIIIIrI_of {l : Launch} {y : MethodName} {own : String} {cc : ByteArray} {maxL fr lo mc ms : Nat} {P : hG → Nat → Int32 → Int32 → Int32 → Int32 → Int32 → Int32 → yM → Nat → Prop} {Q : hG → Nat → Int32 → Int32 → Int32 → Int32 → Int32 → Int32 → yM → Nat → Int32 → yM → Nat → Prop} {T : hG → Nat → Nat → se_Op yW} (hy : plainName y.cls = true) (hyc : y.cls = own) (hT : yTS l own y.name cc maxL (some .int) fr lo mc ms T) (hL : 7 ≤ maxL)
    (body : ∀ (g : hG) (a0 : Nat) (a1 : Int32) (a2 : Int32) (a3 : Int32) (a4 : Int32) (a5 : Int32) (a6 : Int32) (m : yM) (n : Nat), hVg g → yIn g m n → P g a0 a1 a2 a3 a4 a5 a6 m n → ∀ G : Nat → se_L → List Value → yW → Prop, (∀ (stops : List Nat) (f pc : Nat) (L : se_L) (st : List Value) (w : yW), wpN True (T g) cc stops G (yXt mc ms (yNoX g [.ref a0, .int a1, .int a2, .int a3, .int a4, .int a5, .int a6] m n)) (yt_LIIIIIIrI mc ms Q g a0 a1 a2 a3 a4 a5 a6 m n) f pc L st w → G pc L st w) → G 0 (se_ent [.ref a0, .int a1, .int a2, .int a3, .int a4, .int a5, .int a6] maxL) [] (m, n, 0, 0)) : ym_LIIIIIIrI l y (ws_ y cc maxL (some .int)) fr lo mc ms P Q :=
  yOf hy hyc hT (fun g av m n h => by
    obtain ⟨a0, a1, a2, a3, a4, a5, a6, rfl, _⟩ := h
    exact hL) (fun g av m n h1 h2 hp G hG => by
    obtain ⟨a0, a1, a2, a3, a4, a5, a6, rfl, hp⟩ := hp
    exact body g a0 a1 a2 a3 a4 a5 a6 m n h1 h2 hp G hG)
abbrev ym_LIIIIIrI (l : Launch) (y : MethodName) (ws : List Cond) (fr lo mc ms : Nat) (P : hG → Nat → Int32 → Int32 → Int32 → Int32 → Int32 → yM → Nat → Prop) (Q : hG → Nat → Int32 → Int32 → Int32 → Int32 → Int32 → yM → Nat → Int32 → yM → Nat → Prop) : Prop := yCon l y ws fr lo mc ms (fun (g : hG) (av : List Value) (m : yM) (n : Nat) => ∃ (a0 : Nat) (a1 : Int32) (a2 : Int32) (a3 : Int32) (a4 : Int32) (a5 : Int32), av = [.ref a0, .int a1, .int a2, .int a3, .int a4, .int a5] ∧ P g a0 a1 a2 a3 a4 a5 m n) (fun (g : hG) (av : List Value) (m : yM) (n : Nat) (v : Option Value) (m' : yM) (n' : Nat) => ∀ (a0 : Nat) (a1 : Int32) (a2 : Int32) (a3 : Int32) (a4 : Int32) (a5 : Int32), av = [.ref a0, .int a1, .int a2, .int a3, .int a4, .int a5] → ∃ x, v = some (.int x) ∧ Q g a0 a1 a2 a3 a4 a5 m n x m' n') yNoX
def yov_LIIIIIrI (g : hG) (mc ms mc' ms' : Nat) (cs : List Nat) (P : hG → Nat → Int32 → Int32 → Int32 → Int32 → Int32 → yM → Nat → Prop) (Q : hG → Nat → Int32 → Int32 → Int32 → Int32 → Int32 → yM → Nat → Int32 → yM → Nat → Prop) : se_Op yW := fun st w K Y => match st with
  | .int a5 :: .int a4 :: .int a3 :: .int a2 :: .int a1 :: .ref a0 :: r => yc w.1 a0 ∈ cs ∧ se_c8 8 r ∧ P g a0 a1 a2 a3 a4 a5 w.1 w.2.1 ∧ w.2.2.1 + mc' ≤ mc ∧ w.2.2.2 + ms' ≤ ms ∧ ∀ x m' n', Q g a0 a1 a2 a3 a4 a5 w.1 w.2.1 x m' n' → yIn g m' n' → w.2.1 ≤ n' → K (.int x :: r) (m', n', w.2.2.1 + mc', w.2.2.2 + ms')
  | _ => False
theorem yov_LIIIIIrI_r {g : hG} {mc ms mc' ms' : Nat} {cs : List Nat} {P : hG → Nat → Int32 → Int32 → Int32 → Int32 → Int32 → yM → Nat → Prop} {Q : hG → Nat → Int32 → Int32 → Int32 → Int32 → Int32 → yM → Nat → Int32 → yM → Nat → Prop} {a0 : Nat} {a1 : Int32} {a2 : Int32} {a3 : Int32} {a4 : Int32} {a5 : Int32} {r : List Value} {w : yW} {K : List Value → yW → Prop} {Y : Nat → yW → Prop} : yov_LIIIIIrI g mc ms mc' ms' cs P Q (.int a5 :: .int a4 :: .int a3 :: .int a2 :: .int a1 :: .ref a0 :: r) w K Y = (yc w.1 a0 ∈ cs ∧ se_c8 8 r ∧ P g a0 a1 a2 a3 a4 a5 w.1 w.2.1 ∧ w.2.2.1 + mc' ≤ mc ∧ w.2.2.2 + ms' ≤ ms ∧ ∀ x m' n', Q g a0 a1 a2 a3 a4 a5 w.1 w.2.1 x m' n' → yIn g m' n' → w.2.1 ≤ n' → K (.int x :: r) (m', n', w.2.2.1 + mc', w.2.2.2 + ms')) := rfl
theorem yov_LIIIIIrI_ok {g : hG} {mc ms mc' ms' : Nat} {cs : List Nat} {P : hG → Nat → Int32 → Int32 → Int32 → Int32 → Int32 → yM → Nat → Prop} {Q : hG → Nat → Int32 → Int32 → Int32 → Int32 → Int32 → yM → Nat → Int32 → yM → Nat → Prop} {p : Program} {l : Launch} {e : Env} {R : Room} {s : State} {m : MethodId} {args : Array Value} {below : List Frame} {meth : Method} {c : Code} {nL : Nat} {cc : ByteArray} {Q0 : State → Prop} {H0 : Heap} {ins : Instr} {len : Nat} (hS : se_Snd p l e R s m args below meth c Q0 nL (fun a => a) (yRM g H0) cc ins len (yCV g 5 mc ms mc' ms' cs (fun (g : hG) (av : List Value) (m : yM) (n : Nat) => ∃ (a0 : Nat) (a1 : Int32) (a2 : Int32) (a3 : Int32) (a4 : Int32) (a5 : Int32), av = [.ref a0, .int a1, .int a2, .int a3, .int a4, .int a5] ∧ P g a0 a1 a2 a3 a4 a5 m n) (fun (g : hG) (av : List Value) (m : yM) (n : Nat) (v : Option Value) (m' : yM) (n' : Nat) => ∀ (a0 : Nat) (a1 : Int32) (a2 : Int32) (a3 : Int32) (a4 : Int32) (a5 : Int32), av = [.ref a0, .int a1, .int a2, .int a3, .int a4, .int a5] → ∃ x, v = some (.int x) ∧ Q g a0 a1 a2 a3 a4 a5 m n x m' n') yNoX)) : se_Snd p l e R s m args below meth c Q0 nL (fun a => a) (yRM g H0) cc ins len (yov_LIIIIIrI g mc ms mc' ms' cs P Q) :=
  hS.mono fun st w K Y h => by
    unfold yov_LIIIIIrI at h
    split at h
    · rename_i a5 a4 a3 a2 a1 a0 r
      obtain ⟨hc, h8, hP, r1, r2, hq⟩ := h
      exact (⟨hc, h8, ⟨a0, a1, a2, a3, a4, a5, rfl, hP⟩, r1, r2, fun v m' n' hp hi hn => by
              obtain ⟨x, rfl, hx⟩ := hp a0 a1 a2 a3 a4 a5 rfl
              exact hq x m' n' hx hi hn, fun b m' n' hp => hp.elim⟩ : (yRcv cs w.1 [.ref a0, .int a1, .int a2, .int a3, .int a4, .int a5] ∧ yGo g mc ms mc' ms' ((fun (g : hG) (av : List Value) (m : yM) (n : Nat) => ∃ (a0 : Nat) (a1 : Int32) (a2 : Int32) (a3 : Int32) (a4 : Int32) (a5 : Int32), av = [.ref a0, .int a1, .int a2, .int a3, .int a4, .int a5] ∧ P g a0 a1 a2 a3 a4 a5 m n) g) ((fun (g : hG) (av : List Value) (m : yM) (n : Nat) (v : Option Value) (m' : yM) (n' : Nat) => ∀ (a0 : Nat) (a1 : Int32) (a2 : Int32) (a3 : Int32) (a4 : Int32) (a5 : Int32), av = [.ref a0, .int a1, .int a2, .int a3, .int a4, .int a5] → ∃ x, v = some (.int x) ∧ Q g a0 a1 a2 a3 a4 a5 m n x m' n') g) (yNoX g) [.ref a0, .int a1, .int a2, .int a3, .int a4, .int a5] r w K Y))
    · exact h.elim
def ypv_LIIIIIrI (g : hG) (mc ms : Nat) (cs : List Nat) (P : hG → Nat → Int32 → Int32 → Int32 → Int32 → Int32 → yM → Nat → Prop) (R0 : hG → Nat → Int32 → Int32 → Int32 → Int32 → Int32 → yM → Nat → Int32) : se_Op yW := fun st w K Y => match st with
  | .int a5 :: .int a4 :: .int a3 :: .int a2 :: .int a1 :: .ref a0 :: r => yc w.1 a0 ∈ cs ∧ se_c8 8 r ∧ P g a0 a1 a2 a3 a4 a5 w.1 w.2.1 ∧ w.2.2.1 ≤ mc ∧ w.2.2.2 ≤ ms ∧ K (.int (R0 g a0 a1 a2 a3 a4 a5 w.1 w.2.1) :: r) w
  | _ => False
theorem ypv_LIIIIIrI_r {g : hG} {mc ms : Nat} {cs : List Nat} {P : hG → Nat → Int32 → Int32 → Int32 → Int32 → Int32 → yM → Nat → Prop} {R0 : hG → Nat → Int32 → Int32 → Int32 → Int32 → Int32 → yM → Nat → Int32} {a0 : Nat} {a1 : Int32} {a2 : Int32} {a3 : Int32} {a4 : Int32} {a5 : Int32} {r : List Value} {w : yW} {K : List Value → yW → Prop} {Y : Nat → yW → Prop} : ypv_LIIIIIrI g mc ms cs P R0 (.int a5 :: .int a4 :: .int a3 :: .int a2 :: .int a1 :: .ref a0 :: r) w K Y = (yc w.1 a0 ∈ cs ∧ se_c8 8 r ∧ P g a0 a1 a2 a3 a4 a5 w.1 w.2.1 ∧ w.2.2.1 ≤ mc ∧ w.2.2.2 ≤ ms ∧ K (.int (R0 g a0 a1 a2 a3 a4 a5 w.1 w.2.1) :: r) w) := rfl
theorem ypv_LIIIIIrI_ok {g : hG} {mc ms : Nat} {cs : List Nat} {P : hG → Nat → Int32 → Int32 → Int32 → Int32 → Int32 → yM → Nat → Prop} {R0 : hG → Nat → Int32 → Int32 → Int32 → Int32 → Int32 → yM → Nat → Int32} {p : Program} {l : Launch} {e : Env} {R : Room} {s : State} {m : MethodId} {args : Array Value} {below : List Frame} {meth : Method} {c : Code} {nL : Nat} {cc : ByteArray} {Q0 : State → Prop} {H0 : Heap} {ins : Instr} {len : Nat} (hS : se_Snd p l e R s m args below meth c Q0 nL (fun a => a) (yRM g H0) cc ins len (yov_LIIIIIrI g mc ms 0 0 cs P (fun g a0 a1 a2 a3 a4 a5 m n x m' n' => x = R0 g a0 a1 a2 a3 a4 a5 m n ∧ m' = m ∧ n' = n))) : se_Snd p l e R s m args below meth c Q0 nL (fun a => a) (yRM g H0) cc ins len (ypv_LIIIIIrI g mc ms cs P R0) :=
  hS.mono fun st w K Y h => by
    unfold ypv_LIIIIIrI at h
    split at h
    · rename_i a5 a4 a3 a2 a1 a0 r
      obtain ⟨hc, h8, hP, r1, r2, hq⟩ := h
      exact ⟨hc, h8, hP, r1, r2, fun x m' n' e _ _ => by
              obtain ⟨rfl, rfl, rfl⟩ := e
              exact hq⟩
    · exact h.elim
def yfv_LIIIIIrI (g : hG) (mc ms : Nat) (cs : List Nat) (P : hG → Nat → Int32 → Int32 → Int32 → Int32 → Int32 → yM → Nat → Prop) (R0 : hG → Nat → Int32 → Int32 → Int32 → Int32 → Int32 → yM → Nat → Int32) (F : hG → Nat → Int32 → Int32 → Int32 → Int32 → Int32 → yM → Nat → yM) : se_Op yW := fun st w K Y => match st with
  | .int a5 :: .int a4 :: .int a3 :: .int a2 :: .int a1 :: .ref a0 :: r => yc w.1 a0 ∈ cs ∧ se_c8 8 r ∧ P g a0 a1 a2 a3 a4 a5 w.1 w.2.1 ∧ w.2.2.1 ≤ mc ∧ w.2.2.2 ≤ ms ∧ K (.int (R0 g a0 a1 a2 a3 a4 a5 w.1 w.2.1) :: r) (F g a0 a1 a2 a3 a4 a5 w.1 w.2.1, w.2)
  | _ => False
theorem yfv_LIIIIIrI_r {g : hG} {mc ms : Nat} {cs : List Nat} {P : hG → Nat → Int32 → Int32 → Int32 → Int32 → Int32 → yM → Nat → Prop} {R0 : hG → Nat → Int32 → Int32 → Int32 → Int32 → Int32 → yM → Nat → Int32} {F : hG → Nat → Int32 → Int32 → Int32 → Int32 → Int32 → yM → Nat → yM} {a0 : Nat} {a1 : Int32} {a2 : Int32} {a3 : Int32} {a4 : Int32} {a5 : Int32} {r : List Value} {w : yW} {K : List Value → yW → Prop} {Y : Nat → yW → Prop} : yfv_LIIIIIrI g mc ms cs P R0 F (.int a5 :: .int a4 :: .int a3 :: .int a2 :: .int a1 :: .ref a0 :: r) w K Y = (yc w.1 a0 ∈ cs ∧ se_c8 8 r ∧ P g a0 a1 a2 a3 a4 a5 w.1 w.2.1 ∧ w.2.2.1 ≤ mc ∧ w.2.2.2 ≤ ms ∧ K (.int (R0 g a0 a1 a2 a3 a4 a5 w.1 w.2.1) :: r) (F g a0 a1 a2 a3 a4 a5 w.1 w.2.1, w.2)) := rfl
theorem yfv_LIIIIIrI_ok {g : hG} {mc ms : Nat} {cs : List Nat} {P : hG → Nat → Int32 → Int32 → Int32 → Int32 → Int32 → yM → Nat → Prop} {R0 : hG → Nat → Int32 → Int32 → Int32 → Int32 → Int32 → yM → Nat → Int32} {F : hG → Nat → Int32 → Int32 → Int32 → Int32 → Int32 → yM → Nat → yM} {p : Program} {l : Launch} {e : Env} {R : Room} {s : State} {m : MethodId} {args : Array Value} {below : List Frame} {meth : Method} {c : Code} {nL : Nat} {cc : ByteArray} {Q0 : State → Prop} {H0 : Heap} {ins : Instr} {len : Nat} (hS : se_Snd p l e R s m args below meth c Q0 nL (fun a => a) (yRM g H0) cc ins len (yov_LIIIIIrI g mc ms 0 0 cs P (fun g a0 a1 a2 a3 a4 a5 m n x m' n' => x = R0 g a0 a1 a2 a3 a4 a5 m n ∧ m' = F g a0 a1 a2 a3 a4 a5 m n ∧ n' = n))) : se_Snd p l e R s m args below meth c Q0 nL (fun a => a) (yRM g H0) cc ins len (yfv_LIIIIIrI g mc ms cs P R0 F) :=
  hS.mono fun st w K Y h => by
    unfold yfv_LIIIIIrI at h
    split at h
    · rename_i a5 a4 a3 a2 a1 a0 r
      obtain ⟨hc, h8, hP, r1, r2, hq⟩ := h
      exact ⟨hc, h8, hP, r1, r2, fun x m' n' e _ _ => by
              obtain ⟨rfl, rfl, rfl⟩ := e
              exact hq⟩
    · exact h.elim
def yt_LIIIIIrI (mc ms : Nat) (Q : hG → Nat → Int32 → Int32 → Int32 → Int32 → Int32 → yM → Nat → Int32 → yM → Nat → Prop) (g : hG) (a0 : Nat) (a1 : Int32) (a2 : Int32) (a3 : Int32) (a4 : Int32) (a5 : Int32) (m : yM) (n : Nat) : Option Value → yW → Prop := yRt (some .int) mc ms ((fun (g : hG) (av : List Value) (m : yM) (n : Nat) (v : Option Value) (m' : yM) (n' : Nat) => ∀ (a0 : Nat) (a1 : Int32) (a2 : Int32) (a3 : Int32) (a4 : Int32) (a5 : Int32), av = [.ref a0, .int a1, .int a2, .int a3, .int a4, .int a5] → ∃ x, v = some (.int x) ∧ Q g a0 a1 a2 a3 a4 a5 m n x m' n') g [.ref a0, .int a1, .int a2, .int a3, .int a4, .int a5] m n)
theorem yt_LIIIIIrI_e {mc ms : Nat} {Q : hG → Nat → Int32 → Int32 → Int32 → Int32 → Int32 → yM → Nat → Int32 → yM → Nat → Prop} {g : hG} {a0 : Nat} {a1 : Int32} {a2 : Int32} {a3 : Int32} {a4 : Int32} {a5 : Int32} {m : yM} {n : Nat} {w : yW} {z : Int32} : yt_LIIIIIrI mc ms Q g a0 a1 a2 a3 a4 a5 m n (some (.int z)) w = (w.2.2.1 ≤ mc ∧ w.2.2.2 ≤ ms ∧ Q g a0 a1 a2 a3 a4 a5 m n z w.1 w.2.1) := by
  apply propext
  constructor
  · intro h
    obtain ⟨x, e, hq⟩ := h.2.2.2 _ _ _ _ _ _ rfl
    cases e
    exact ⟨h.2.1, h.2.2.1, hq⟩
  · intro h
    obtain ⟨h1, h2, h3⟩ := h
    exact ⟨⟨_, rfl, rfl⟩, h1, h2, fun _ _ _ _ _ _ e => by
      cases e
      exact ⟨z, rfl, h3⟩⟩
theorem ym_LIIIIIrI_of {l : Launch} {y : MethodName} {own : String} {cc : ByteArray} {maxL fr lo mc ms : Nat} {P : hG → Nat → Int32 → Int32 → Int32 → Int32 → Int32 → yM → Nat → Prop} {Q : hG → Nat → Int32 → Int32 → Int32 → Int32 → Int32 → yM → Nat → Int32 → yM → Nat → Prop} {T : hG → Nat → Nat → se_Op yW} (hy : plainName y.cls = true) (hyc : y.cls = own) (hT : yTS l own y.name cc maxL (some .int) fr lo mc ms T) (hL : 6 ≤ maxL)
    (body : ∀ (g : hG) (a0 : Nat) (a1 : Int32) (a2 : Int32) (a3 : Int32) (a4 : Int32) (a5 : Int32) (m : yM) (n : Nat), hVg g → yIn g m n → P g a0 a1 a2 a3 a4 a5 m n → ∀ G : Nat → se_L → List Value → yW → Prop, (∀ (stops : List Nat) (f pc : Nat) (L : se_L) (st : List Value) (w : yW), wpN True (T g) cc stops G (yXt mc ms (yNoX g [.ref a0, .int a1, .int a2, .int a3, .int a4, .int a5] m n)) (yt_LIIIIIrI mc ms Q g a0 a1 a2 a3 a4 a5 m n) f pc L st w → G pc L st w) → G 0 (se_ent [.ref a0, .int a1, .int a2, .int a3, .int a4, .int a5] maxL) [] (m, n, 0, 0)) : ym_LIIIIIrI l y (ws_ y cc maxL (some .int)) fr lo mc ms P Q :=
  yOf hy hyc hT (fun g av m n h => by
    obtain ⟨a0, a1, a2, a3, a4, a5, rfl, _⟩ := h
    exact hL) (fun g av m n h1 h2 hp G hG => by
    obtain ⟨a0, a1, a2, a3, a4, a5, rfl, hp⟩ := hp
    exact body g a0 a1 a2 a3 a4 a5 m n h1 h2 hp G hG)
abbrev ym_LIIIIIrJ (l : Launch) (y : MethodName) (ws : List Cond) (fr lo mc ms : Nat) (P : hG → Nat → Int32 → Int32 → Int32 → Int32 → Int32 → yM → Nat → Prop) (Q : hG → Nat → Int32 → Int32 → Int32 → Int32 → Int32 → yM → Nat → Int64 → yM → Nat → Prop) : Prop := yCon l y ws fr lo mc ms (fun (g : hG) (av : List Value) (m : yM) (n : Nat) => ∃ (a0 : Nat) (a1 : Int32) (a2 : Int32) (a3 : Int32) (a4 : Int32) (a5 : Int32), av = [.ref a0, .int a1, .int a2, .int a3, .int a4, .int a5] ∧ P g a0 a1 a2 a3 a4 a5 m n) (fun (g : hG) (av : List Value) (m : yM) (n : Nat) (v : Option Value) (m' : yM) (n' : Nat) => ∀ (a0 : Nat) (a1 : Int32) (a2 : Int32) (a3 : Int32) (a4 : Int32) (a5 : Int32), av = [.ref a0, .int a1, .int a2, .int a3, .int a4, .int a5] → ∃ x, v = some (.long x) ∧ Q g a0 a1 a2 a3 a4 a5 m n x m' n') yNoX
def yov_LIIIIIrJ (g : hG) (mc ms mc' ms' : Nat) (cs : List Nat) (P : hG → Nat → Int32 → Int32 → Int32 → Int32 → Int32 → yM → Nat → Prop) (Q : hG → Nat → Int32 → Int32 → Int32 → Int32 → Int32 → yM → Nat → Int64 → yM → Nat → Prop) : se_Op yW := fun st w K Y => match st with
  | .int a5 :: .int a4 :: .int a3 :: .int a2 :: .int a1 :: .ref a0 :: r => yc w.1 a0 ∈ cs ∧ se_c8 8 r ∧ P g a0 a1 a2 a3 a4 a5 w.1 w.2.1 ∧ w.2.2.1 + mc' ≤ mc ∧ w.2.2.2 + ms' ≤ ms ∧ ∀ x m' n', Q g a0 a1 a2 a3 a4 a5 w.1 w.2.1 x m' n' → yIn g m' n' → w.2.1 ≤ n' → K (.long x :: r) (m', n', w.2.2.1 + mc', w.2.2.2 + ms')
  | _ => False
theorem yov_LIIIIIrJ_r {g : hG} {mc ms mc' ms' : Nat} {cs : List Nat} {P : hG → Nat → Int32 → Int32 → Int32 → Int32 → Int32 → yM → Nat → Prop} {Q : hG → Nat → Int32 → Int32 → Int32 → Int32 → Int32 → yM → Nat → Int64 → yM → Nat → Prop} {a0 : Nat} {a1 : Int32} {a2 : Int32} {a3 : Int32} {a4 : Int32} {a5 : Int32} {r : List Value} {w : yW} {K : List Value → yW → Prop} {Y : Nat → yW → Prop} : yov_LIIIIIrJ g mc ms mc' ms' cs P Q (.int a5 :: .int a4 :: .int a3 :: .int a2 :: .int a1 :: .ref a0 :: r) w K Y = (yc w.1 a0 ∈ cs ∧ se_c8 8 r ∧ P g a0 a1 a2 a3 a4 a5 w.1 w.2.1 ∧ w.2.2.1 + mc' ≤ mc ∧ w.2.2.2 + ms' ≤ ms ∧ ∀ x m' n', Q g a0 a1 a2 a3 a4 a5 w.1 w.2.1 x m' n' → yIn g m' n' → w.2.1 ≤ n' → K (.long x :: r) (m', n', w.2.2.1 + mc', w.2.2.2 + ms')) := rfl
theorem yov_LIIIIIrJ_ok {g : hG} {mc ms mc' ms' : Nat} {cs : List Nat} {P : hG → Nat → Int32 → Int32 → Int32 → Int32 → Int32 → yM → Nat → Prop} {Q : hG → Nat → Int32 → Int32 → Int32 → Int32 → Int32 → yM → Nat → Int64 → yM → Nat → Prop} {p : Program} {l : Launch} {e : Env} {R : Room} {s : State} {m : MethodId} {args : Array Value} {below : List Frame} {meth : Method} {c : Code} {nL : Nat} {cc : ByteArray} {Q0 : State → Prop} {H0 : Heap} {ins : Instr} {len : Nat} (hS : se_Snd p l e R s m args below meth c Q0 nL (fun a => a) (yRM g H0) cc ins len (yCV g 5 mc ms mc' ms' cs (fun (g : hG) (av : List Value) (m : yM) (n : Nat) => ∃ (a0 : Nat) (a1 : Int32) (a2 : Int32) (a3 : Int32) (a4 : Int32) (a5 : Int32), av = [.ref a0, .int a1, .int a2, .int a3, .int a4, .int a5] ∧ P g a0 a1 a2 a3 a4 a5 m n) (fun (g : hG) (av : List Value) (m : yM) (n : Nat) (v : Option Value) (m' : yM) (n' : Nat) => ∀ (a0 : Nat) (a1 : Int32) (a2 : Int32) (a3 : Int32) (a4 : Int32) (a5 : Int32), av = [.ref a0, .int a1, .int a2, .int a3, .int a4, .int a5] → ∃ x, v = some (.long x) ∧ Q g a0 a1 a2 a3 a4 a5 m n x m' n') yNoX)) : se_Snd p l e R s m args below meth c Q0 nL (fun a => a) (yRM g H0) cc ins len (yov_LIIIIIrJ g mc ms mc' ms' cs P Q) :=
  hS.mono fun st w K Y h => by
    unfold yov_LIIIIIrJ at h
    split at h
    · rename_i a5 a4 a3 a2 a1 a0 r
      obtain ⟨hc, h8, hP, r1, r2, hq⟩ := h
      exact (⟨hc, h8, ⟨a0, a1, a2, a3, a4, a5, rfl, hP⟩, r1, r2, fun v m' n' hp hi hn => by
              obtain ⟨x, rfl, hx⟩ := hp a0 a1 a2 a3 a4 a5 rfl
              exact hq x m' n' hx hi hn, fun b m' n' hp => hp.elim⟩ : (yRcv cs w.1 [.ref a0, .int a1, .int a2, .int a3, .int a4, .int a5] ∧ yGo g mc ms mc' ms' ((fun (g : hG) (av : List Value) (m : yM) (n : Nat) => ∃ (a0 : Nat) (a1 : Int32) (a2 : Int32) (a3 : Int32) (a4 : Int32) (a5 : Int32), av = [.ref a0, .int a1, .int a2, .int a3, .int a4, .int a5] ∧ P g a0 a1 a2 a3 a4 a5 m n) g) ((fun (g : hG) (av : List Value) (m : yM) (n : Nat) (v : Option Value) (m' : yM) (n' : Nat) => ∀ (a0 : Nat) (a1 : Int32) (a2 : Int32) (a3 : Int32) (a4 : Int32) (a5 : Int32), av = [.ref a0, .int a1, .int a2, .int a3, .int a4, .int a5] → ∃ x, v = some (.long x) ∧ Q g a0 a1 a2 a3 a4 a5 m n x m' n') g) (yNoX g) [.ref a0, .int a1, .int a2, .int a3, .int a4, .int a5] r w K Y))
    · exact h.elim
def ypv_LIIIIIrJ (g : hG) (mc ms : Nat) (cs : List Nat) (P : hG → Nat → Int32 → Int32 → Int32 → Int32 → Int32 → yM → Nat → Prop) (R0 : hG → Nat → Int32 → Int32 → Int32 → Int32 → Int32 → yM → Nat → Int64) : se_Op yW := fun st w K Y => match st with
  | .int a5 :: .int a4 :: .int a3 :: .int a2 :: .int a1 :: .ref a0 :: r => yc w.1 a0 ∈ cs ∧ se_c8 8 r ∧ P g a0 a1 a2 a3 a4 a5 w.1 w.2.1 ∧ w.2.2.1 ≤ mc ∧ w.2.2.2 ≤ ms ∧ K (.long (R0 g a0 a1 a2 a3 a4 a5 w.1 w.2.1) :: r) w
  | _ => False
theorem ypv_LIIIIIrJ_r {g : hG} {mc ms : Nat} {cs : List Nat} {P : hG → Nat → Int32 → Int32 → Int32 → Int32 → Int32 → yM → Nat → Prop} {R0 : hG → Nat → Int32 → Int32 → Int32 → Int32 → Int32 → yM → Nat → Int64} {a0 : Nat} {a1 : Int32} {a2 : Int32} {a3 : Int32} {a4 : Int32} {a5 : Int32} {r : List Value} {w : yW} {K : List Value → yW → Prop} {Y : Nat → yW → Prop} : ypv_LIIIIIrJ g mc ms cs P R0 (.int a5 :: .int a4 :: .int a3 :: .int a2 :: .int a1 :: .ref a0 :: r) w K Y = (yc w.1 a0 ∈ cs ∧ se_c8 8 r ∧ P g a0 a1 a2 a3 a4 a5 w.1 w.2.1 ∧ w.2.2.1 ≤ mc ∧ w.2.2.2 ≤ ms ∧ K (.long (R0 g a0 a1 a2 a3 a4 a5 w.1 w.2.1) :: r) w) := rfl
theorem ypv_LIIIIIrJ_ok {g : hG} {mc ms : Nat} {cs : List Nat} {P : hG → Nat → Int32 → Int32 → Int32 → Int32 → Int32 → yM → Nat → Prop} {R0 : hG → Nat → Int32 → Int32 → Int32 → Int32 → Int32 → yM → Nat → Int64} {p : Program} {l : Launch} {e : Env} {R : Room} {s : State} {m : MethodId} {args : Array Value} {below : List Frame} {meth : Method} {c : Code} {nL : Nat} {cc : ByteArray} {Q0 : State → Prop} {H0 : Heap} {ins : Instr} {len : Nat} (hS : se_Snd p l e R s m args below meth c Q0 nL (fun a => a) (yRM g H0) cc ins len (yov_LIIIIIrJ g mc ms 0 0 cs P (fun g a0 a1 a2 a3 a4 a5 m n x m' n' => x = R0 g a0 a1 a2 a3 a4 a5 m n ∧ m' = m ∧ n' = n))) : se_Snd p l e R s m args below meth c Q0 nL (fun a => a) (yRM g H0) cc ins len (ypv_LIIIIIrJ g mc ms cs P R0) :=
  hS.mono fun st w K Y h => by
    unfold ypv_LIIIIIrJ at h
    split at h
    · rename_i a5 a4 a3 a2 a1 a0 r
      obtain ⟨hc, h8, hP, r1, r2, hq⟩ := h
      exact ⟨hc, h8, hP, r1, r2, fun x m' n' e _ _ => by
              obtain ⟨rfl, rfl, rfl⟩ := e
              exact hq⟩
    · exact h.elim
def yfv_LIIIIIrJ (g : hG) (mc ms : Nat) (cs : List Nat) (P : hG → Nat → Int32 → Int32 → Int32 → Int32 → Int32 → yM → Nat → Prop) (R0 : hG → Nat → Int32 → Int32 → Int32 → Int32 → Int32 → yM → Nat → Int64) (F : hG → Nat → Int32 → Int32 → Int32 → Int32 → Int32 → yM → Nat → yM) : se_Op yW := fun st w K Y => match st with
  | .int a5 :: .int a4 :: .int a3 :: .int a2 :: .int a1 :: .ref a0 :: r => yc w.1 a0 ∈ cs ∧ se_c8 8 r ∧ P g a0 a1 a2 a3 a4 a5 w.1 w.2.1 ∧ w.2.2.1 ≤ mc ∧ w.2.2.2 ≤ ms ∧ K (.long (R0 g a0 a1 a2 a3 a4 a5 w.1 w.2.1) :: r) (F g a0 a1 a2 a3 a4 a5 w.1 w.2.1, w.2)
  | _ => False
theorem yfv_LIIIIIrJ_r {g : hG} {mc ms : Nat} {cs : List Nat} {P : hG → Nat → Int32 → Int32 → Int32 → Int32 → Int32 → yM → Nat → Prop} {R0 : hG → Nat → Int32 → Int32 → Int32 → Int32 → Int32 → yM → Nat → Int64} {F : hG → Nat → Int32 → Int32 → Int32 → Int32 → Int32 → yM → Nat → yM} {a0 : Nat} {a1 : Int32} {a2 : Int32} {a3 : Int32} {a4 : Int32} {a5 : Int32} {r : List Value} {w : yW} {K : List Value → yW → Prop} {Y : Nat → yW → Prop} : yfv_LIIIIIrJ g mc ms cs P R0 F (.int a5 :: .int a4 :: .int a3 :: .int a2 :: .int a1 :: .ref a0 :: r) w K Y = (yc w.1 a0 ∈ cs ∧ se_c8 8 r ∧ P g a0 a1 a2 a3 a4 a5 w.1 w.2.1 ∧ w.2.2.1 ≤ mc ∧ w.2.2.2 ≤ ms ∧ K (.long (R0 g a0 a1 a2 a3 a4 a5 w.1 w.2.1) :: r) (F g a0 a1 a2 a3 a4 a5 w.1 w.2.1, w.2)) := rfl
theorem yfv_LIIIIIrJ_ok {g : hG} {mc ms : Nat} {cs : List Nat} {P : hG → Nat → Int32 → Int32 → Int32 → Int32 → Int32 → yM → Nat → Prop} {R0 : hG → Nat → Int32 → Int32 → Int32 → Int32 → Int32 → yM → Nat → Int64} {F : hG → Nat → Int32 → Int32 → Int32 → Int32 → Int32 → yM → Nat → yM} {p : Program} {l : Launch} {e : Env} {R : Room} {s : State} {m : MethodId} {args : Array Value} {below : List Frame} {meth : Method} {c : Code} {nL : Nat} {cc : ByteArray} {Q0 : State → Prop} {H0 : Heap} {ins : Instr} {len : Nat} (hS : se_Snd p l e R s m args below meth c Q0 nL (fun a => a) (yRM g H0) cc ins len (yov_LIIIIIrJ g mc ms 0 0 cs P (fun g a0 a1 a2 a3 a4 a5 m n x m' n' => x = R0 g a0 a1 a2 a3 a4 a5 m n ∧ m' = F g a0 a1 a2 a3 a4 a5 m n ∧ n' = n))) : se_Snd p l e R s m args below meth c Q0 nL (fun a => a) (yRM g H0) cc ins len (yfv_LIIIIIrJ g mc ms cs P R0 F) :=
  hS.mono fun st w K Y h => by
    unfold yfv_LIIIIIrJ at h
    split at h
    · rename_i a5 a4 a3 a2 a1 a0 r
      obtain ⟨hc, h8, hP, r1, r2, hq⟩ := h
      exact ⟨hc, h8, hP, r1, r2, fun x m' n' e _ _ => by
              obtain ⟨rfl, rfl, rfl⟩ := e
              exact hq⟩
    · exact h.elim
def yt_LIIIIIrJ (mc ms : Nat) (Q : hG → Nat → Int32 → Int32 → Int32 → Int32 → Int32 → yM → Nat → Int64 → yM → Nat → Prop) (g : hG) (a0 : Nat) (a1 : Int32) (a2 : Int32) (a3 : Int32) (a4 : Int32) (a5 : Int32) (m : yM) (n : Nat) : Option Value → yW → Prop := yRt (some .long) mc ms ((fun (g : hG) (av : List Value) (m : yM) (n : Nat) (v : Option Value) (m' : yM) (n' : Nat) => ∀ (a0 : Nat) (a1 : Int32) (a2 : Int32) (a3 : Int32) (a4 : Int32) (a5 : Int32), av = [.ref a0, .int a1, .int a2, .int a3, .int a4, .int a5] → ∃ x, v = some (.long x) ∧ Q g a0 a1 a2 a3 a4 a5 m n x m' n') g [.ref a0, .int a1, .int a2, .int a3, .int a4, .int a5] m n)
theorem yt_LIIIIIrJ_e {mc ms : Nat} {Q : hG → Nat → Int32 → Int32 → Int32 → Int32 → Int32 → yM → Nat → Int64 → yM → Nat → Prop} {g : hG} {a0 : Nat} {a1 : Int32} {a2 : Int32} {a3 : Int32} {a4 : Int32} {a5 : Int32} {m : yM} {n : Nat} {w : yW} {z : Int64} : yt_LIIIIIrJ mc ms Q g a0 a1 a2 a3 a4 a5 m n (some (.long z)) w = (w.2.2.1 ≤ mc ∧ w.2.2.2 ≤ ms ∧ Q g a0 a1 a2 a3 a4 a5 m n z w.1 w.2.1) := by
  apply propext
  constructor
  · intro h
    obtain ⟨x, e, hq⟩ := h.2.2.2 _ _ _ _ _ _ rfl
    cases e
    exact ⟨h.2.1, h.2.2.1, hq⟩
  · intro h
    obtain ⟨h1, h2, h3⟩ := h
    exact ⟨rfl, h1, h2, fun _ _ _ _ _ _ e => by
      cases e
      exact ⟨z, rfl, h3⟩⟩
theorem ym_LIIIIIrJ_of {l : Launch} {y : MethodName} {own : String} {cc : ByteArray} {maxL fr lo mc ms : Nat} {P : hG → Nat → Int32 → Int32 → Int32 → Int32 → Int32 → yM → Nat → Prop} {Q : hG → Nat → Int32 → Int32 → Int32 → Int32 → Int32 → yM → Nat → Int64 → yM → Nat → Prop} {T : hG → Nat → Nat → se_Op yW} (hy : plainName y.cls = true) (hyc : y.cls = own) (hT : yTS l own y.name cc maxL (some .long) fr lo mc ms T) (hL : 6 ≤ maxL)
    (body : ∀ (g : hG) (a0 : Nat) (a1 : Int32) (a2 : Int32) (a3 : Int32) (a4 : Int32) (a5 : Int32) (m : yM) (n : Nat), hVg g → yIn g m n → P g a0 a1 a2 a3 a4 a5 m n → ∀ G : Nat → se_L → List Value → yW → Prop, (∀ (stops : List Nat) (f pc : Nat) (L : se_L) (st : List Value) (w : yW), wpN True (T g) cc stops G (yXt mc ms (yNoX g [.ref a0, .int a1, .int a2, .int a3, .int a4, .int a5] m n)) (yt_LIIIIIrJ mc ms Q g a0 a1 a2 a3 a4 a5 m n) f pc L st w → G pc L st w) → G 0 (se_ent [.ref a0, .int a1, .int a2, .int a3, .int a4, .int a5] maxL) [] (m, n, 0, 0)) : ym_LIIIIIrJ l y (ws_ y cc maxL (some .long)) fr lo mc ms P Q :=
  yOf hy hyc hT (fun g av m n h => by
    obtain ⟨a0, a1, a2, a3, a4, a5, rfl, _⟩ := h
    exact hL) (fun g av m n h1 h2 hp G hG => by
    obtain ⟨a0, a1, a2, a3, a4, a5, rfl, hp⟩ := hp
    exact body g a0 a1 a2 a3 a4 a5 m n h1 h2 hp G hG)
abbrev ym_LIIIIZrV (l : Launch) (y : MethodName) (ws : List Cond) (fr lo mc ms : Nat) (P : hG → Nat → Int32 → Int32 → Int32 → Int32 → Int32 → yM → Nat → Prop) (Q : hG → Nat → Int32 → Int32 → Int32 → Int32 → Int32 → yM → Nat → yM → Nat → Prop) : Prop := yCon l y ws fr lo mc ms (fun (g : hG) (av : List Value) (m : yM) (n : Nat) => ∃ (a0 : Nat) (a1 : Int32) (a2 : Int32) (a3 : Int32) (a4 : Int32) (a5 : Int32), av = [.ref a0, .int a1, .int a2, .int a3, .int a4, .int a5] ∧ P g a0 a1 a2 a3 a4 a5 m n) (fun (g : hG) (av : List Value) (m : yM) (n : Nat) (v : Option Value) (m' : yM) (n' : Nat) => ∀ (a0 : Nat) (a1 : Int32) (a2 : Int32) (a3 : Int32) (a4 : Int32) (a5 : Int32), av = [.ref a0, .int a1, .int a2, .int a3, .int a4, .int a5] → v = none ∧ Q g a0 a1 a2 a3 a4 a5 m n m' n') yNoX
def yo_LIIIIZrV (g : hG) (mc ms mc' ms' : Nat) (P : hG → Nat → Int32 → Int32 → Int32 → Int32 → Int32 → yM → Nat → Prop) (Q : hG → Nat → Int32 → Int32 → Int32 → Int32 → Int32 → yM → Nat → yM → Nat → Prop) : se_Op yW := fun st w K Y => match st with
  | .int a5 :: .int a4 :: .int a3 :: .int a2 :: .int a1 :: .ref a0 :: r => se_c8 8 r ∧ P g a0 a1 a2 a3 a4 a5 w.1 w.2.1 ∧ w.2.2.1 + mc' ≤ mc ∧ w.2.2.2 + ms' ≤ ms ∧ ∀ m' n', Q g a0 a1 a2 a3 a4 a5 w.1 w.2.1 m' n' → yIn g m' n' → w.2.1 ≤ n' → K r (m', n', w.2.2.1 + mc', w.2.2.2 + ms')
  | _ => False
theorem yo_LIIIIZrV_r {g : hG} {mc ms mc' ms' : Nat} {P : hG → Nat → Int32 → Int32 → Int32 → Int32 → Int32 → yM → Nat → Prop} {Q : hG → Nat → Int32 → Int32 → Int32 → Int32 → Int32 → yM → Nat → yM → Nat → Prop} {a0 : Nat} {a1 : Int32} {a2 : Int32} {a3 : Int32} {a4 : Int32} {a5 : Int32} {r : List Value} {w : yW} {K : List Value → yW → Prop} {Y : Nat → yW → Prop} : yo_LIIIIZrV g mc ms mc' ms' P Q (.int a5 :: .int a4 :: .int a3 :: .int a2 :: .int a1 :: .ref a0 :: r) w K Y = (se_c8 8 r ∧ P g a0 a1 a2 a3 a4 a5 w.1 w.2.1 ∧ w.2.2.1 + mc' ≤ mc ∧ w.2.2.2 + ms' ≤ ms ∧ ∀ m' n', Q g a0 a1 a2 a3 a4 a5 w.1 w.2.1 m' n' → yIn g m' n' → w.2.1 ≤ n' → K r (m', n', w.2.2.1 + mc', w.2.2.2 + ms')) := rfl
theorem yo_LIIIIZrV_ok {g : hG} {mc ms mc' ms' : Nat} {P : hG → Nat → Int32 → Int32 → Int32 → Int32 → Int32 → yM → Nat → Prop} {Q : hG → Nat → Int32 → Int32 → Int32 → Int32 → Int32 → yM → Nat → yM → Nat → Prop} {p : Program} {l : Launch} {e : Env} {R : Room} {s : State} {m : MethodId} {args : Array Value} {below : List Frame} {meth : Method} {c : Code} {nL : Nat} {cc : ByteArray} {Q0 : State → Prop} {H0 : Heap} {ins : Instr} {len : Nat} (hS : se_Snd p l e R s m args below meth c Q0 nL (fun a => a) (yRM g H0) cc ins len (yCS g 6 mc ms mc' ms' (fun (g : hG) (av : List Value) (m : yM) (n : Nat) => ∃ (a0 : Nat) (a1 : Int32) (a2 : Int32) (a3 : Int32) (a4 : Int32) (a5 : Int32), av = [.ref a0, .int a1, .int a2, .int a3, .int a4, .int a5] ∧ P g a0 a1 a2 a3 a4 a5 m n) (fun (g : hG) (av : List Value) (m : yM) (n : Nat) (v : Option Value) (m' : yM) (n' : Nat) => ∀ (a0 : Nat) (a1 : Int32) (a2 : Int32) (a3 : Int32) (a4 : Int32) (a5 : Int32), av = [.ref a0, .int a1, .int a2, .int a3, .int a4, .int a5] → v = none ∧ Q g a0 a1 a2 a3 a4 a5 m n m' n') yNoX)) : se_Snd p l e R s m args below meth c Q0 nL (fun a => a) (yRM g H0) cc ins len (yo_LIIIIZrV g mc ms mc' ms' P Q) :=
  hS.mono fun st w K Y h => by
    unfold yo_LIIIIZrV at h
    split at h
    · rename_i a5 a4 a3 a2 a1 a0 r
      obtain ⟨h8, hP, r1, r2, hq⟩ := h
      exact (⟨h8, ⟨a0, a1, a2, a3, a4, a5, rfl, hP⟩, r1, r2, fun v m' n' hp hi hn => by
              obtain ⟨rfl, hx⟩ := hp a0 a1 a2 a3 a4 a5 rfl
              exact hq m' n' hx hi hn, fun b m' n' hp => hp.elim⟩ : yGo g mc ms mc' ms' ((fun (g : hG) (av : List Value) (m : yM) (n : Nat) => ∃ (a0 : Nat) (a1 : Int32) (a2 : Int32) (a3 : Int32) (a4 : Int32) (a5 : Int32), av = [.ref a0, .int a1, .int a2, .int a3, .int a4, .int a5] ∧ P g a0 a1 a2 a3 a4 a5 m n) g) ((fun (g : hG) (av : List Value) (m : yM) (n : Nat) (v : Option Value) (m' : yM) (n' : Nat) => ∀ (a0 : Nat) (a1 : Int32) (a2 : Int32) (a3 : Int32) (a4 : Int32) (a5 : Int32), av = [.ref a0, .int a1, .int a2, .int a3, .int a4, .int a5] → v = none ∧ Q g a0 a1 a2 a3 a4 a5 m n m' n') g) (yNoX g) [.ref a0, .int a1, .int a2, .int a3, .int a4, .int a5] r w K Y)
    · exact h.elim
def yf_LIIIIZrV (g : hG) (mc ms : Nat) (P : hG → Nat → Int32 → Int32 → Int32 → Int32 → Int32 → yM → Nat → Prop) (F : hG → Nat → Int32 → Int32 → Int32 → Int32 → Int32 → yM → Nat → yM) : se_Op yW := fun st w K Y => match st with
  | .int a5 :: .int a4 :: .int a3 :: .int a2 :: .int a1 :: .ref a0 :: r => se_c8 8 r ∧ P g a0 a1 a2 a3 a4 a5 w.1 w.2.1 ∧ w.2.2.1 ≤ mc ∧ w.2.2.2 ≤ ms ∧ K (r) (F g a0 a1 a2 a3 a4 a5 w.1 w.2.1, w.2)
  | _ => False
theorem yf_LIIIIZrV_r {g : hG} {mc ms : Nat} {P : hG → Nat → Int32 → Int32 → Int32 → Int32 → Int32 → yM → Nat → Prop} {F : hG → Nat → Int32 → Int32 → Int32 → Int32 → Int32 → yM → Nat → yM} {a0 : Nat} {a1 : Int32} {a2 : Int32} {a3 : Int32} {a4 : Int32} {a5 : Int32} {r : List Value} {w : yW} {K : List Value → yW → Prop} {Y : Nat → yW → Prop} : yf_LIIIIZrV g mc ms P F (.int a5 :: .int a4 :: .int a3 :: .int a2 :: .int a1 :: .ref a0 :: r) w K Y = (se_c8 8 r ∧ P g a0 a1 a2 a3 a4 a5 w.1 w.2.1 ∧ w.2.2.1 ≤ mc ∧ w.2.2.2 ≤ ms ∧ K (r) (F g a0 a1 a2 a3 a4 a5 w.1 w.2.1, w.2)) := rfl
theorem yf_LIIIIZrV_ok {g : hG} {mc ms : Nat} {P : hG → Nat → Int32 → Int32 → Int32 → Int32 → Int32 → yM → Nat → Prop} {F : hG → Nat → Int32 → Int32 → Int32 → Int32 → Int32 → yM → Nat → yM} {p : Program} {l : Launch} {e : Env} {R : Room} {s : State} {m : MethodId} {args : Array Value} {below : List Frame} {meth : Method} {c : Code} {nL : Nat} {cc : ByteArray} {Q0 : State → Prop} {H0 : Heap} {ins : Instr} {len : Nat} (hS : se_Snd p l e R s m args below meth c Q0 nL (fun a => a) (yRM g H0) cc ins len (yo_LIIIIZrV g mc ms 0 0 P (fun g a0 a1 a2 a3 a4 a5 m n m' n' => m' = F g a0 a1 a2 a3 a4 a5 m n ∧ n' = n))) : se_Snd p l e R s m args below meth c Q0 nL (fun a => a) (yRM g H0) cc ins len (yf_LIIIIZrV g mc ms P F) :=
  hS.mono fun st w K Y h => by
    unfold yf_LIIIIZrV at h
    split at h
    · rename_i a5 a4 a3 a2 a1 a0 r
      obtain ⟨h8, hP, r1, r2, hq⟩ := h
      exact ⟨h8, hP, r1, r2, fun m' n' e _ _ => by
              obtain ⟨rfl, rfl⟩ := e
              exact hq⟩
    · exact h.elim
def yt_LIIIIZrV (mc ms : Nat) (Q : hG → Nat → Int32 → Int32 → Int32 → Int32 → Int32 → yM → Nat → yM → Nat → Prop) (g : hG) (a0 : Nat) (a1 : Int32) (a2 : Int32) (a3 : Int32) (a4 : Int32) (a5 : Int32) (m : yM) (n : Nat) : Option Value → yW → Prop := yRt none mc ms ((fun (g : hG) (av : List Value) (m : yM) (n : Nat) (v : Option Value) (m' : yM) (n' : Nat) => ∀ (a0 : Nat) (a1 : Int32) (a2 : Int32) (a3 : Int32) (a4 : Int32) (a5 : Int32), av = [.ref a0, .int a1, .int a2, .int a3, .int a4, .int a5] → v = none ∧ Q g a0 a1 a2 a3 a4 a5 m n m' n') g [.ref a0, .int a1, .int a2, .int a3, .int a4, .int a5] m n)
theorem yt_LIIIIZrV_e {mc ms : Nat} {Q : hG → Nat → Int32 → Int32 → Int32 → Int32 → Int32 → yM → Nat → yM → Nat → Prop} {g : hG} {a0 : Nat} {a1 : Int32} {a2 : Int32} {a3 : Int32} {a4 : Int32} {a5 : Int32} {m : yM} {n : Nat} {w : yW} : yt_LIIIIZrV mc ms Q g a0 a1 a2 a3 a4 a5 m n none w = (w.2.2.1 ≤ mc ∧ w.2.2.2 ≤ ms ∧ Q g a0 a1 a2 a3 a4 a5 m n w.1 w.2.1) := by
  apply propext
  exact ⟨fun h => ⟨h.2.1, h.2.2.1, (h.2.2.2 _ _ _ _ _ _ rfl).2⟩, fun h => ⟨rfl, h.1, h.2.1, fun _ _ _ _ _ _ e => by
    cases e
    exact ⟨rfl, h.2.2⟩⟩⟩
theorem ym_LIIIIZrV_of {l : Launch} {y : MethodName} {own : String} {cc : ByteArray} {maxL fr lo mc ms : Nat} {P : hG → Nat → Int32 → Int32 → Int32 → Int32 → Int32 → yM → Nat → Prop} {Q : hG → Nat → Int32 → Int32 → Int32 → Int32 → Int32 → yM → Nat → yM → Nat → Prop} {T : hG → Nat → Nat → se_Op yW} (hy : plainName y.cls = true) (hyc : y.cls = own) (hT : yTS l own y.name cc maxL none fr lo mc ms T) (hL : 6 ≤ maxL)
    (body : ∀ (g : hG) (a0 : Nat) (a1 : Int32) (a2 : Int32) (a3 : Int32) (a4 : Int32) (a5 : Int32) (m : yM) (n : Nat), hVg g → yIn g m n → P g a0 a1 a2 a3 a4 a5 m n → ∀ G : Nat → se_L → List Value → yW → Prop, (∀ (stops : List Nat) (f pc : Nat) (L : se_L) (st : List Value) (w : yW), wpN True (T g) cc stops G (yXt mc ms (yNoX g [.ref a0, .int a1, .int a2, .int a3, .int a4, .int a5] m n)) (yt_LIIIIZrV mc ms Q g a0 a1 a2 a3 a4 a5 m n) f pc L st w → G pc L st w) → G 0 (se_ent [.ref a0, .int a1, .int a2, .int a3, .int a4, .int a5] maxL) [] (m, n, 0, 0)) : ym_LIIIIZrV l y (ws_ y cc maxL none) fr lo mc ms P Q :=
  yOf hy hyc hT (fun g av m n h => by
    obtain ⟨a0, a1, a2, a3, a4, a5, rfl, _⟩ := h
    exact hL) (fun g av m n h1 h2 hp G hG => by
    obtain ⟨a0, a1, a2, a3, a4, a5, rfl, hp⟩ := hp
    exact body g a0 a1 a2 a3 a4 a5 m n h1 h2 hp G hG)
abbrev ym_LIIIIrI (l : Launch) (y : MethodName) (ws : List Cond) (fr lo mc ms : Nat) (P : hG → Nat → Int32 → Int32 → Int32 → Int32 → yM → Nat → Prop) (Q : hG → Nat → Int32 → Int32 → Int32 → Int32 → yM → Nat → Int32 → yM → Nat → Prop) : Prop := yCon l y ws fr lo mc ms (fun (g : hG) (av : List Value) (m : yM) (n : Nat) => ∃ (a0 : Nat) (a1 : Int32) (a2 : Int32) (a3 : Int32) (a4 : Int32), av = [.ref a0, .int a1, .int a2, .int a3, .int a4] ∧ P g a0 a1 a2 a3 a4 m n) (fun (g : hG) (av : List Value) (m : yM) (n : Nat) (v : Option Value) (m' : yM) (n' : Nat) => ∀ (a0 : Nat) (a1 : Int32) (a2 : Int32) (a3 : Int32) (a4 : Int32), av = [.ref a0, .int a1, .int a2, .int a3, .int a4] → ∃ x, v = some (.int x) ∧ Q g a0 a1 a2 a3 a4 m n x m' n') yNoX
def yov_LIIIIrI (g : hG) (mc ms mc' ms' : Nat) (cs : List Nat) (P : hG → Nat → Int32 → Int32 → Int32 → Int32 → yM → Nat → Prop) (Q : hG → Nat → Int32 → Int32 → Int32 → Int32 → yM → Nat → Int32 → yM → Nat → Prop) : se_Op yW := fun st w K Y => match st with
  | .int a4 :: .int a3 :: .int a2 :: .int a1 :: .ref a0 :: r => yc w.1 a0 ∈ cs ∧ se_c8 8 r ∧ P g a0 a1 a2 a3 a4 w.1 w.2.1 ∧ w.2.2.1 + mc' ≤ mc ∧ w.2.2.2 + ms' ≤ ms ∧ ∀ x m' n', Q g a0 a1 a2 a3 a4 w.1 w.2.1 x m' n' → yIn g m' n' → w.2.1 ≤ n' → K (.int x :: r) (m', n', w.2.2.1 + mc', w.2.2.2 + ms')
  | _ => False
theorem yov_LIIIIrI_r {g : hG} {mc ms mc' ms' : Nat} {cs : List Nat} {P : hG → Nat → Int32 → Int32 → Int32 → Int32 → yM → Nat → Prop} {Q : hG → Nat → Int32 → Int32 → Int32 → Int32 → yM → Nat → Int32 → yM → Nat → Prop} {a0 : Nat} {a1 : Int32} {a2 : Int32} {a3 : Int32} {a4 : Int32} {r : List Value} {w : yW} {K : List Value → yW → Prop} {Y : Nat → yW → Prop} : yov_LIIIIrI g mc ms mc' ms' cs P Q (.int a4 :: .int a3 :: .int a2 :: .int a1 :: .ref a0 :: r) w K Y = (yc w.1 a0 ∈ cs ∧ se_c8 8 r ∧ P g a0 a1 a2 a3 a4 w.1 w.2.1 ∧ w.2.2.1 + mc' ≤ mc ∧ w.2.2.2 + ms' ≤ ms ∧ ∀ x m' n', Q g a0 a1 a2 a3 a4 w.1 w.2.1 x m' n' → yIn g m' n' → w.2.1 ≤ n' → K (.int x :: r) (m', n', w.2.2.1 + mc', w.2.2.2 + ms')) := rfl
theorem yov_LIIIIrI_ok {g : hG} {mc ms mc' ms' : Nat} {cs : List Nat} {P : hG → Nat → Int32 → Int32 → Int32 → Int32 → yM → Nat → Prop} {Q : hG → Nat → Int32 → Int32 → Int32 → Int32 → yM → Nat → Int32 → yM → Nat → Prop} {p : Program} {l : Launch} {e : Env} {R : Room} {s : State} {m : MethodId} {args : Array Value} {below : List Frame} {meth : Method} {c : Code} {nL : Nat} {cc : ByteArray} {Q0 : State → Prop} {H0 : Heap} {ins : Instr} {len : Nat} (hS : se_Snd p l e R s m args below meth c Q0 nL (fun a => a) (yRM g H0) cc ins len (yCV g 4 mc ms mc' ms' cs (fun (g : hG) (av : List Value) (m : yM) (n : Nat) => ∃ (a0 : Nat) (a1 : Int32) (a2 : Int32) (a3 : Int32) (a4 : Int32), av = [.ref a0, .int a1, .int a2, .int a3, .int a4] ∧ P g a0 a1 a2 a3 a4 m n) (fun (g : hG) (av : List Value) (m : yM) (n : Nat) (v : Option Value) (m' : yM) (n' : Nat) => ∀ (a0 : Nat) (a1 : Int32) (a2 : Int32) (a3 : Int32) (a4 : Int32), av = [.ref a0, .int a1, .int a2, .int a3, .int a4] → ∃ x, v = some (.int x) ∧ Q g a0 a1 a2 a3 a4 m n x m' n') yNoX)) : se_Snd p l e R s m args below meth c Q0 nL (fun a => a) (yRM g H0) cc ins len (yov_LIIIIrI g mc ms mc' ms' cs P Q) :=
  hS.mono fun st w K Y h => by
    unfold yov_LIIIIrI at h
    split at h
    · rename_i a4 a3 a2 a1 a0 r
      obtain ⟨hc, h8, hP, r1, r2, hq⟩ := h
      exact (⟨hc, h8, ⟨a0, a1, a2, a3, a4, rfl, hP⟩, r1, r2, fun v m' n' hp hi hn => by
              obtain ⟨x, rfl, hx⟩ := hp a0 a1 a2 a3 a4 rfl
              exact hq x m' n' hx hi hn, fun b m' n' hp => hp.elim⟩ : (yRcv cs w.1 [.ref a0, .int a1, .int a2, .int a3, .int a4] ∧ yGo g mc ms mc' ms' ((fun (g : hG) (av : List Value) (m : yM) (n : Nat) => ∃ (a0 : Nat) (a1 : Int32) (a2 : Int32) (a3 : Int32) (a4 : Int32), av = [.ref a0, .int a1, .int a2, .int a3, .int a4] ∧ P g a0 a1 a2 a3 a4 m n) g) ((fun (g : hG) (av : List Value) (m : yM) (n : Nat) (v : Option Value) (m' : yM) (n' : Nat) => ∀ (a0 : Nat) (a1 : Int32) (a2 : Int32) (a3 : Int32) (a4 : Int32), av = [.ref a0, .int a1, .int a2, .int a3, .int a4] → ∃ x, v = some (.int x) ∧ Q g a0 a1 a2 a3 a4 m n x m' n') g) (yNoX g) [.ref a0, .int a1, .int a2, .int a3, .int a4] r w K Y))
    · exact h.elim
def ypv_LIIIIrI (g : hG) (mc ms : Nat) (cs : List Nat) (P : hG → Nat → Int32 → Int32 → Int32 → Int32 → yM → Nat → Prop) (R0 : hG → Nat → Int32 → Int32 → Int32 → Int32 → yM → Nat → Int32) : se_Op yW := fun st w K Y => match st with
  | .int a4 :: .int a3 :: .int a2 :: .int a1 :: .ref a0 :: r => yc w.1 a0 ∈ cs ∧ se_c8 8 r ∧ P g a0 a1 a2 a3 a4 w.1 w.2.1 ∧ w.2.2.1 ≤ mc ∧ w.2.2.2 ≤ ms ∧ K (.int (R0 g a0 a1 a2 a3 a4 w.1 w.2.1) :: r) w
  | _ => False
theorem ypv_LIIIIrI_r {g : hG} {mc ms : Nat} {cs : List Nat} {P : hG → Nat → Int32 → Int32 → Int32 → Int32 → yM → Nat → Prop} {R0 : hG → Nat → Int32 → Int32 → Int32 → Int32 → yM → Nat → Int32} {a0 : Nat} {a1 : Int32} {a2 : Int32} {a3 : Int32} {a4 : Int32} {r : List Value} {w : yW} {K : List Value → yW → Prop} {Y : Nat → yW → Prop} : ypv_LIIIIrI g mc ms cs P R0 (.int a4 :: .int a3 :: .int a2 :: .int a1 :: .ref a0 :: r) w K Y = (yc w.1 a0 ∈ cs ∧ se_c8 8 r ∧ P g a0 a1 a2 a3 a4 w.1 w.2.1 ∧ w.2.2.1 ≤ mc ∧ w.2.2.2 ≤ ms ∧ K (.int (R0 g a0 a1 a2 a3 a4 w.1 w.2.1) :: r) w) := rfl
theorem ypv_LIIIIrI_ok {g : hG} {mc ms : Nat} {cs : List Nat} {P : hG → Nat → Int32 → Int32 → Int32 → Int32 → yM → Nat → Prop} {R0 : hG → Nat → Int32 → Int32 → Int32 → Int32 → yM → Nat → Int32} {p : Program} {l : Launch} {e : Env} {R : Room} {s : State} {m : MethodId} {args : Array Value} {below : List Frame} {meth : Method} {c : Code} {nL : Nat} {cc : ByteArray} {Q0 : State → Prop} {H0 : Heap} {ins : Instr} {len : Nat} (hS : se_Snd p l e R s m args below meth c Q0 nL (fun a => a) (yRM g H0) cc ins len (yov_LIIIIrI g mc ms 0 0 cs P (fun g a0 a1 a2 a3 a4 m n x m' n' => x = R0 g a0 a1 a2 a3 a4 m n ∧ m' = m ∧ n' = n))) : se_Snd p l e R s m args below meth c Q0 nL (fun a => a) (yRM g H0) cc ins len (ypv_LIIIIrI g mc ms cs P R0) :=
  hS.mono fun st w K Y h => by
    unfold ypv_LIIIIrI at h
    split at h
    · rename_i a4 a3 a2 a1 a0 r
      obtain ⟨hc, h8, hP, r1, r2, hq⟩ := h
      exact ⟨hc, h8, hP, r1, r2, fun x m' n' e _ _ => by
              obtain ⟨rfl, rfl, rfl⟩ := e
              exact hq⟩
    · exact h.elim
def yfv_LIIIIrI (g : hG) (mc ms : Nat) (cs : List Nat) (P : hG → Nat → Int32 → Int32 → Int32 → Int32 → yM → Nat → Prop) (R0 : hG → Nat → Int32 → Int32 → Int32 → Int32 → yM → Nat → Int32) (F : hG → Nat → Int32 → Int32 → Int32 → Int32 → yM → Nat → yM) : se_Op yW := fun st w K Y => match st with
  | .int a4 :: .int a3 :: .int a2 :: .int a1 :: .ref a0 :: r => yc w.1 a0 ∈ cs ∧ se_c8 8 r ∧ P g a0 a1 a2 a3 a4 w.1 w.2.1 ∧ w.2.2.1 ≤ mc ∧ w.2.2.2 ≤ ms ∧ K (.int (R0 g a0 a1 a2 a3 a4 w.1 w.2.1) :: r) (F g a0 a1 a2 a3 a4 w.1 w.2.1, w.2)
  | _ => False
theorem yfv_LIIIIrI_r {g : hG} {mc ms : Nat} {cs : List Nat} {P : hG → Nat → Int32 → Int32 → Int32 → Int32 → yM → Nat → Prop} {R0 : hG → Nat → Int32 → Int32 → Int32 → Int32 → yM → Nat → Int32} {F : hG → Nat → Int32 → Int32 → Int32 → Int32 → yM → Nat → yM} {a0 : Nat} {a1 : Int32} {a2 : Int32} {a3 : Int32} {a4 : Int32} {r : List Value} {w : yW} {K : List Value → yW → Prop} {Y : Nat → yW → Prop} : yfv_LIIIIrI g mc ms cs P R0 F (.int a4 :: .int a3 :: .int a2 :: .int a1 :: .ref a0 :: r) w K Y = (yc w.1 a0 ∈ cs ∧ se_c8 8 r ∧ P g a0 a1 a2 a3 a4 w.1 w.2.1 ∧ w.2.2.1 ≤ mc ∧ w.2.2.2 ≤ ms ∧ K (.int (R0 g a0 a1 a2 a3 a4 w.1 w.2.1) :: r) (F g a0 a1 a2 a3 a4 w.1 w.2.1, w.2)) := rfl
theorem yfv_LIIIIrI_ok {g : hG} {mc ms : Nat} {cs : List Nat} {P : hG → Nat → Int32 → Int32 → Int32 → Int32 → yM → Nat → Prop} {R0 : hG → Nat → Int32 → Int32 → Int32 → Int32 → yM → Nat → Int32} {F : hG → Nat → Int32 → Int32 → Int32 → Int32 → yM → Nat → yM} {p : Program} {l : Launch} {e : Env} {R : Room} {s : State} {m : MethodId} {args : Array Value} {below : List Frame} {meth : Method} {c : Code} {nL : Nat} {cc : ByteArray} {Q0 : State → Prop} {H0 : Heap} {ins : Instr} {len : Nat} (hS : se_Snd p l e R s m args below meth c Q0 nL (fun a => a) (yRM g H0) cc ins len (yov_LIIIIrI g mc ms 0 0 cs P (fun g a0 a1 a2 a3 a4 m n x m' n' => x = R0 g a0 a1 a2 a3 a4 m n ∧ m' = F g a0 a1 a2 a3 a4 m n ∧ n' = n))) : se_Snd p l e R s m args below meth c Q0 nL (fun a => a) (yRM g H0) cc ins len (yfv_LIIIIrI g mc ms cs P R0 F) :=
  hS.mono fun st w K Y h => by
    unfold yfv_LIIIIrI at h
    split at h
    · rename_i a4 a3 a2 a1 a0 r
      obtain ⟨hc, h8, hP, r1, r2, hq⟩ := h
      exact ⟨hc, h8, hP, r1, r2, fun x m' n' e _ _ => by
              obtain ⟨rfl, rfl, rfl⟩ := e
              exact hq⟩
    · exact h.elim
def yt_LIIIIrI (mc ms : Nat) (Q : hG → Nat → Int32 → Int32 → Int32 → Int32 → yM → Nat → Int32 → yM → Nat → Prop) (g : hG) (a0 : Nat) (a1 : Int32) (a2 : Int32) (a3 : Int32) (a4 : Int32) (m : yM) (n : Nat) : Option Value → yW → Prop := yRt (some .int) mc ms ((fun (g : hG) (av : List Value) (m : yM) (n : Nat) (v : Option Value) (m' : yM) (n' : Nat) => ∀ (a0 : Nat) (a1 : Int32) (a2 : Int32) (a3 : Int32) (a4 : Int32), av = [.ref a0, .int a1, .int a2, .int a3, .int a4] → ∃ x, v = some (.int x) ∧ Q g a0 a1 a2 a3 a4 m n x m' n') g [.ref a0, .int a1, .int a2, .int a3, .int a4] m n)
theorem yt_LIIIIrI_e {mc ms : Nat} {Q : hG → Nat → Int32 → Int32 → Int32 → Int32 → yM → Nat → Int32 → yM → Nat → Prop} {g : hG} {a0 : Nat} {a1 : Int32} {a2 : Int32} {a3 : Int32} {a4 : Int32} {m : yM} {n : Nat} {w : yW} {z : Int32} : yt_LIIIIrI mc ms Q g a0 a1 a2 a3 a4 m n (some (.int z)) w = (w.2.2.1 ≤ mc ∧ w.2.2.2 ≤ ms ∧ Q g a0 a1 a2 a3 a4 m n z w.1 w.2.1) := by
  apply propext
  constructor
  · intro h
    obtain ⟨x, e, hq⟩ := h.2.2.2 _ _ _ _ _ rfl
    cases e
    exact ⟨h.2.1, h.2.2.1, hq⟩
  · intro h
    obtain ⟨h1, h2, h3⟩ := h
    exact ⟨⟨_, rfl, rfl⟩, h1, h2, fun _ _ _ _ _ e => by
      cases e
      exact ⟨z, rfl, h3⟩⟩
theorem ym_LIIIIrI_of {l : Launch} {y : MethodName} {own : String} {cc : ByteArray} {maxL fr lo mc ms : Nat} {P : hG → Nat → Int32 → Int32 → Int32 → Int32 → yM → Nat → Prop} {Q : hG → Nat → Int32 → Int32 → Int32 → Int32 → yM → Nat → Int32 → yM → Nat → Prop} {T : hG → Nat → Nat → se_Op yW} (hy : plainName y.cls = true) (hyc : y.cls = own) (hT : yTS l own y.name cc maxL (some .int) fr lo mc ms T) (hL : 5 ≤ maxL)
    (body : ∀ (g : hG) (a0 : Nat) (a1 : Int32) (a2 : Int32) (a3 : Int32) (a4 : Int32) (m : yM) (n : Nat), hVg g → yIn g m n → P g a0 a1 a2 a3 a4 m n → ∀ G : Nat → se_L → List Value → yW → Prop, (∀ (stops : List Nat) (f pc : Nat) (L : se_L) (st : List Value) (w : yW), wpN True (T g) cc stops G (yXt mc ms (yNoX g [.ref a0, .int a1, .int a2, .int a3, .int a4] m n)) (yt_LIIIIrI mc ms Q g a0 a1 a2 a3 a4 m n) f pc L st w → G pc L st w) → G 0 (se_ent [.ref a0, .int a1, .int a2, .int a3, .int a4] maxL) [] (m, n, 0, 0)) : ym_LIIIIrI l y (ws_ y cc maxL (some .int)) fr lo mc ms P Q :=
  yOf hy hyc hT (fun g av m n h => by
    obtain ⟨a0, a1, a2, a3, a4, rfl, _⟩ := h
    exact hL) (fun g av m n h1 h2 hp G hG => by
    obtain ⟨a0, a1, a2, a3, a4, rfl, hp⟩ := hp
    exact body g a0 a1 a2 a3 a4 m n h1 h2 hp G hG)
abbrev ym_LIIIIrJ (l : Launch) (y : MethodName) (ws : List Cond) (fr lo mc ms : Nat) (P : hG → Nat → Int32 → Int32 → Int32 → Int32 → yM → Nat → Prop) (Q : hG → Nat → Int32 → Int32 → Int32 → Int32 → yM → Nat → Int64 → yM → Nat → Prop) : Prop := yCon l y ws fr lo mc ms (fun (g : hG) (av : List Value) (m : yM) (n : Nat) => ∃ (a0 : Nat) (a1 : Int32) (a2 : Int32) (a3 : Int32) (a4 : Int32), av = [.ref a0, .int a1, .int a2, .int a3, .int a4] ∧ P g a0 a1 a2 a3 a4 m n) (fun (g : hG) (av : List Value) (m : yM) (n : Nat) (v : Option Value) (m' : yM) (n' : Nat) => ∀ (a0 : Nat) (a1 : Int32) (a2 : Int32) (a3 : Int32) (a4 : Int32), av = [.ref a0, .int a1, .int a2, .int a3, .int a4] → ∃ x, v = some (.long x) ∧ Q g a0 a1 a2 a3 a4 m n x m' n') yNoX
def yov_LIIIIrJ (g : hG) (mc ms mc' ms' : Nat) (cs : List Nat) (P : hG → Nat → Int32 → Int32 → Int32 → Int32 → yM → Nat → Prop) (Q : hG → Nat → Int32 → Int32 → Int32 → Int32 → yM → Nat → Int64 → yM → Nat → Prop) : se_Op yW := fun st w K Y => match st with
  | .int a4 :: .int a3 :: .int a2 :: .int a1 :: .ref a0 :: r => yc w.1 a0 ∈ cs ∧ se_c8 8 r ∧ P g a0 a1 a2 a3 a4 w.1 w.2.1 ∧ w.2.2.1 + mc' ≤ mc ∧ w.2.2.2 + ms' ≤ ms ∧ ∀ x m' n', Q g a0 a1 a2 a3 a4 w.1 w.2.1 x m' n' → yIn g m' n' → w.2.1 ≤ n' → K (.long x :: r) (m', n', w.2.2.1 + mc', w.2.2.2 + ms')
  | _ => False
theorem yov_LIIIIrJ_r {g : hG} {mc ms mc' ms' : Nat} {cs : List Nat} {P : hG → Nat → Int32 → Int32 → Int32 → Int32 → yM → Nat → Prop} {Q : hG → Nat → Int32 → Int32 → Int32 → Int32 → yM → Nat → Int64 → yM → Nat → Prop} {a0 : Nat} {a1 : Int32} {a2 : Int32} {a3 : Int32} {a4 : Int32} {r : List Value} {w : yW} {K : List Value → yW → Prop} {Y : Nat → yW → Prop} : yov_LIIIIrJ g mc ms mc' ms' cs P Q (.int a4 :: .int a3 :: .int a2 :: .int a1 :: .ref a0 :: r) w K Y = (yc w.1 a0 ∈ cs ∧ se_c8 8 r ∧ P g a0 a1 a2 a3 a4 w.1 w.2.1 ∧ w.2.2.1 + mc' ≤ mc ∧ w.2.2.2 + ms' ≤ ms ∧ ∀ x m' n', Q g a0 a1 a2 a3 a4 w.1 w.2.1 x m' n' → yIn g m' n' → w.2.1 ≤ n' → K (.long x :: r) (m', n', w.2.2.1 + mc', w.2.2.2 + ms')) := rfl
theorem yov_LIIIIrJ_ok {g : hG} {mc ms mc' ms' : Nat} {cs : List Nat} {P : hG → Nat → Int32 → Int32 → Int32 → Int32 → yM → Nat → Prop} {Q : hG → Nat → Int32 → Int32 → Int32 → Int32 → yM → Nat → Int64 → yM → Nat → Prop} {p : Program} {l : Launch} {e : Env} {R : Room} {s : State} {m : MethodId} {args : Array Value} {below : List Frame} {meth : Method} {c : Code} {nL : Nat} {cc : ByteArray} {Q0 : State → Prop} {H0 : Heap} {ins : Instr} {len : Nat} (hS : se_Snd p l e R s m args below meth c Q0 nL (fun a => a) (yRM g H0) cc ins len (yCV g 4 mc ms mc' ms' cs (fun (g : hG) (av : List Value) (m : yM) (n : Nat) => ∃ (a0 : Nat) (a1 : Int32) (a2 : Int32) (a3 : Int32) (a4 : Int32), av = [.ref a0, .int a1, .int a2, .int a3, .int a4] ∧ P g a0 a1 a2 a3 a4 m n) (fun (g : hG) (av : List Value) (m : yM) (n : Nat) (v : Option Value) (m' : yM) (n' : Nat) => ∀ (a0 : Nat) (a1 : Int32) (a2 : Int32) (a3 : Int32) (a4 : Int32), av = [.ref a0, .int a1, .int a2, .int a3, .int a4] → ∃ x, v = some (.long x) ∧ Q g a0 a1 a2 a3 a4 m n x m' n') yNoX)) : se_Snd p l e R s m args below meth c Q0 nL (fun a => a) (yRM g H0) cc ins len (yov_LIIIIrJ g mc ms mc' ms' cs P Q) :=
  hS.mono fun st w K Y h => by
    unfold yov_LIIIIrJ at h
    split at h
    · rename_i a4 a3 a2 a1 a0 r
      obtain ⟨hc, h8, hP, r1, r2, hq⟩ := h
      exact (⟨hc, h8, ⟨a0, a1, a2, a3, a4, rfl, hP⟩, r1, r2, fun v m' n' hp hi hn => by
              obtain ⟨x, rfl, hx⟩ := hp a0 a1 a2 a3 a4 rfl
              exact hq x m' n' hx hi hn, fun b m' n' hp => hp.elim⟩ : (yRcv cs w.1 [.ref a0, .int a1, .int a2, .int a3, .int a4] ∧ yGo g mc ms mc' ms' ((fun (g : hG) (av : List Value) (m : yM) (n : Nat) => ∃ (a0 : Nat) (a1 : Int32) (a2 : Int32) (a3 : Int32) (a4 : Int32), av = [.ref a0, .int a1, .int a2, .int a3, .int a4] ∧ P g a0 a1 a2 a3 a4 m n) g) ((fun (g : hG) (av : List Value) (m : yM) (n : Nat) (v : Option Value) (m' : yM) (n' : Nat) => ∀ (a0 : Nat) (a1 : Int32) (a2 : Int32) (a3 : Int32) (a4 : Int32), av = [.ref a0, .int a1, .int a2, .int a3, .int a4] → ∃ x, v = some (.long x) ∧ Q g a0 a1 a2 a3 a4 m n x m' n') g) (yNoX g) [.ref a0, .int a1, .int a2, .int a3, .int a4] r w K Y))
    · exact h.elim
def ypv_LIIIIrJ (g : hG) (mc ms : Nat) (cs : List Nat) (P : hG → Nat → Int32 → Int32 → Int32 → Int32 → yM → Nat → Prop) (R0 : hG → Nat → Int32 → Int32 → Int32 → Int32 → yM → Nat → Int64) : se_Op yW := fun st w K Y => match st with
  | .int a4 :: .int a3 :: .int a2 :: .int a1 :: .ref a0 :: r => yc w.1 a0 ∈ cs ∧ se_c8 8 r ∧ P g a0 a1 a2 a3 a4 w.1 w.2.1 ∧ w.2.2.1 ≤ mc ∧ w.2.2.2 ≤ ms ∧ K (.long (R0 g a0 a1 a2 a3 a4 w.1 w.2.1) :: r) w
  | _ => False
theorem ypv_LIIIIrJ_r {g : hG} {mc ms : Nat} {cs : List Nat} {P : hG → Nat → Int32 → Int32 → Int32 → Int32 → yM → Nat → Prop} {R0 : hG → Nat → Int32 → Int32 → Int32 → Int32 → yM → Nat → Int64} {a0 : Nat} {a1 : Int32} {a2 : Int32} {a3 : Int32} {a4 : Int32} {r : List Value} {w : yW} {K : List Value → yW → Prop} {Y : Nat → yW → Prop} : ypv_LIIIIrJ g mc ms cs P R0 (.int a4 :: .int a3 :: .int a2 :: .int a1 :: .ref a0 :: r) w K Y = (yc w.1 a0 ∈ cs ∧ se_c8 8 r ∧ P g a0 a1 a2 a3 a4 w.1 w.2.1 ∧ w.2.2.1 ≤ mc ∧ w.2.2.2 ≤ ms ∧ K (.long (R0 g a0 a1 a2 a3 a4 w.1 w.2.1) :: r) w) := rfl
theorem ypv_LIIIIrJ_ok {g : hG} {mc ms : Nat} {cs : List Nat} {P : hG → Nat → Int32 → Int32 → Int32 → Int32 → yM → Nat → Prop} {R0 : hG → Nat → Int32 → Int32 → Int32 → Int32 → yM → Nat → Int64} {p : Program} {l : Launch} {e : Env} {R : Room} {s : State} {m : MethodId} {args : Array Value} {below : List Frame} {meth : Method} {c : Code} {nL : Nat} {cc : ByteArray} {Q0 : State → Prop} {H0 : Heap} {ins : Instr} {len : Nat} (hS : se_Snd p l e R s m args below meth c Q0 nL (fun a => a) (yRM g H0) cc ins len (yov_LIIIIrJ g mc ms 0 0 cs P (fun g a0 a1 a2 a3 a4 m n x m' n' => x = R0 g a0 a1 a2 a3 a4 m n ∧ m' = m ∧ n' = n))) : se_Snd p l e R s m args below meth c Q0 nL (fun a => a) (yRM g H0) cc ins len (ypv_LIIIIrJ g mc ms cs P R0) :=
  hS.mono fun st w K Y h => by
    unfold ypv_LIIIIrJ at h
    split at h
    · rename_i a4 a3 a2 a1 a0 r
      obtain ⟨hc, h8, hP, r1, r2, hq⟩ := h
      exact ⟨hc, h8, hP, r1, r2, fun x m' n' e _ _ => by
              obtain ⟨rfl, rfl, rfl⟩ := e
              exact hq⟩
    · exact h.elim
def yfv_LIIIIrJ (g : hG) (mc ms : Nat) (cs : List Nat) (P : hG → Nat → Int32 → Int32 → Int32 → Int32 → yM → Nat → Prop) (R0 : hG → Nat → Int32 → Int32 → Int32 → Int32 → yM → Nat → Int64) (F : hG → Nat → Int32 → Int32 → Int32 → Int32 → yM → Nat → yM) : se_Op yW := fun st w K Y => match st with
  | .int a4 :: .int a3 :: .int a2 :: .int a1 :: .ref a0 :: r => yc w.1 a0 ∈ cs ∧ se_c8 8 r ∧ P g a0 a1 a2 a3 a4 w.1 w.2.1 ∧ w.2.2.1 ≤ mc ∧ w.2.2.2 ≤ ms ∧ K (.long (R0 g a0 a1 a2 a3 a4 w.1 w.2.1) :: r) (F g a0 a1 a2 a3 a4 w.1 w.2.1, w.2)
  | _ => False
theorem yfv_LIIIIrJ_r {g : hG} {mc ms : Nat} {cs : List Nat} {P : hG → Nat → Int32 → Int32 → Int32 → Int32 → yM → Nat → Prop} {R0 : hG → Nat → Int32 → Int32 → Int32 → Int32 → yM → Nat → Int64} {F : hG → Nat → Int32 → Int32 → Int32 → Int32 → yM → Nat → yM} {a0 : Nat} {a1 : Int32} {a2 : Int32} {a3 : Int32} {a4 : Int32} {r : List Value} {w : yW} {K : List Value → yW → Prop} {Y : Nat → yW → Prop} : yfv_LIIIIrJ g mc ms cs P R0 F (.int a4 :: .int a3 :: .int a2 :: .int a1 :: .ref a0 :: r) w K Y = (yc w.1 a0 ∈ cs ∧ se_c8 8 r ∧ P g a0 a1 a2 a3 a4 w.1 w.2.1 ∧ w.2.2.1 ≤ mc ∧ w.2.2.2 ≤ ms ∧ K (.long (R0 g a0 a1 a2 a3 a4 w.1 w.2.1) :: r) (F g a0 a1 a2 a3 a4 w.1 w.2.1, w.2)) := rfl
theorem yfv_LIIIIrJ_ok {g : hG} {mc ms : Nat} {cs : List Nat} {P : hG → Nat → Int32 → Int32 → Int32 → Int32 → yM → Nat → Prop} {R0 : hG → Nat → Int32 → Int32 → Int32 → Int32 → yM → Nat → Int64} {F : hG → Nat → Int32 → Int32 → Int32 → Int32 → yM → Nat → yM} {p : Program} {l : Launch} {e : Env} {R : Room} {s : State} {m : MethodId} {args : Array Value} {below : List Frame} {meth : Method} {c : Code} {nL : Nat} {cc : ByteArray} {Q0 : State → Prop} {H0 : Heap} {ins : Instr} {len : Nat} (hS : se_Snd p l e R s m args below meth c Q0 nL (fun a => a) (yRM g H0) cc ins len (yov_LIIIIrJ g mc ms 0 0 cs P (fun g a0 a1 a2 a3 a4 m n x m' n' => x = R0 g a0 a1 a2 a3 a4 m n ∧ m' = F g a0 a1 a2 a3 a4 m n ∧ n' = n))) : se_Snd p l e R s m args below meth c Q0 nL (fun a => a) (yRM g H0) cc ins len (yfv_LIIIIrJ g mc ms cs P R0 F) :=
  hS.mono fun st w K Y h => by
    unfold yfv_LIIIIrJ at h
    split at h
    · rename_i a4 a3 a2 a1 a0 r
      obtain ⟨hc, h8, hP, r1, r2, hq⟩ := h
      exact ⟨hc, h8, hP, r1, r2, fun x m' n' e _ _ => by
              obtain ⟨rfl, rfl, rfl⟩ := e
              exact hq⟩
    · exact h.elim
def yt_LIIIIrJ (mc ms : Nat) (Q : hG → Nat → Int32 → Int32 → Int32 → Int32 → yM → Nat → Int64 → yM → Nat → Prop) (g : hG) (a0 : Nat) (a1 : Int32) (a2 : Int32) (a3 : Int32) (a4 : Int32) (m : yM) (n : Nat) : Option Value → yW → Prop := yRt (some .long) mc ms ((fun (g : hG) (av : List Value) (m : yM) (n : Nat) (v : Option Value) (m' : yM) (n' : Nat) => ∀ (a0 : Nat) (a1 : Int32) (a2 : Int32) (a3 : Int32) (a4 : Int32), av = [.ref a0, .int a1, .int a2, .int a3, .int a4] → ∃ x, v = some (.long x) ∧ Q g a0 a1 a2 a3 a4 m n x m' n') g [.ref a0, .int a1, .int a2, .int a3, .int a4] m n)
theorem yt_LIIIIrJ_e {mc ms : Nat} {Q : hG → Nat → Int32 → Int32 → Int32 → Int32 → yM → Nat → Int64 → yM → Nat → Prop} {g : hG} {a0 : Nat} {a1 : Int32} {a2 : Int32} {a3 : Int32} {a4 : Int32} {m : yM} {n : Nat} {w : yW} {z : Int64} : yt_LIIIIrJ mc ms Q g a0 a1 a2 a3 a4 m n (some (.long z)) w = (w.2.2.1 ≤ mc ∧ w.2.2.2 ≤ ms ∧ Q g a0 a1 a2 a3 a4 m n z w.1 w.2.1) := by
  apply propext
  constructor
  · intro h
    obtain ⟨x, e, hq⟩ := h.2.2.2 _ _ _ _ _ rfl
    cases e
    exact ⟨h.2.1, h.2.2.1, hq⟩
  · intro h
    obtain ⟨h1, h2, h3⟩ := h
    exact ⟨rfl, h1, h2, fun _ _ _ _ _ e => by
      cases e
      exact ⟨z, rfl, h3⟩⟩
theorem ym_LIIIIrJ_of {l : Launch} {y : MethodName} {own : String} {cc : ByteArray} {maxL fr lo mc ms : Nat} {P : hG → Nat → Int32 → Int32 → Int32 → Int32 → yM → Nat → Prop} {Q : hG → Nat → Int32 → Int32 → Int32 → Int32 → yM → Nat → Int64 → yM → Nat → Prop} {T : hG → Nat → Nat → se_Op yW} (hy : plainName y.cls = true) (hyc : y.cls = own) (hT : yTS l own y.name cc maxL (some .long) fr lo mc ms T) (hL : 5 ≤ maxL)
    (body : ∀ (g : hG) (a0 : Nat) (a1 : Int32) (a2 : Int32) (a3 : Int32) (a4 : Int32) (m : yM) (n : Nat), hVg g → yIn g m n → P g a0 a1 a2 a3 a4 m n → ∀ G : Nat → se_L → List Value → yW → Prop, (∀ (stops : List Nat) (f pc : Nat) (L : se_L) (st : List Value) (w : yW), wpN True (T g) cc stops G (yXt mc ms (yNoX g [.ref a0, .int a1, .int a2, .int a3, .int a4] m n)) (yt_LIIIIrJ mc ms Q g a0 a1 a2 a3 a4 m n) f pc L st w → G pc L st w) → G 0 (se_ent [.ref a0, .int a1, .int a2, .int a3, .int a4] maxL) [] (m, n, 0, 0)) : ym_LIIIIrJ l y (ws_ y cc maxL (some .long)) fr lo mc ms P Q :=
  yOf hy hyc hT (fun g av m n h => by
    obtain ⟨a0, a1, a2, a3, a4, rfl, _⟩ := h
    exact hL) (fun g av m n h1 h2 hp G hG => by
    obtain ⟨a0, a1, a2, a3, a4, rfl, hp⟩ := hp
    exact body g a0 a1 a2 a3 a4 m n h1 h2 hp G hG)
abbrev ym_LIIIrI (l : Launch) (y : MethodName) (ws : List Cond) (fr lo mc ms : Nat) (P : hG → Nat → Int32 → Int32 → Int32 → yM → Nat → Prop) (Q : hG → Nat → Int32 → Int32 → Int32 → yM → Nat → Int32 → yM → Nat → Prop) : Prop := yCon l y ws fr lo mc ms (fun (g : hG) (av : List Value) (m : yM) (n : Nat) => ∃ (a0 : Nat) (a1 : Int32) (a2 : Int32) (a3 : Int32), av = [.ref a0, .int a1, .int a2, .int a3] ∧ P g a0 a1 a2 a3 m n) (fun (g : hG) (av : List Value) (m : yM) (n : Nat) (v : Option Value) (m' : yM) (n' : Nat) => ∀ (a0 : Nat) (a1 : Int32) (a2 : Int32) (a3 : Int32), av = [.ref a0, .int a1, .int a2, .int a3] → ∃ x, v = some (.int x) ∧ Q g a0 a1 a2 a3 m n x m' n') yNoX
def yov_LIIIrI (g : hG) (mc ms mc' ms' : Nat) (cs : List Nat) (P : hG → Nat → Int32 → Int32 → Int32 → yM → Nat → Prop) (Q : hG → Nat → Int32 → Int32 → Int32 → yM → Nat → Int32 → yM → Nat → Prop) : se_Op yW := fun st w K Y => match st with
  | .int a3 :: .int a2 :: .int a1 :: .ref a0 :: r => yc w.1 a0 ∈ cs ∧ se_c8 8 r ∧ P g a0 a1 a2 a3 w.1 w.2.1 ∧ w.2.2.1 + mc' ≤ mc ∧ w.2.2.2 + ms' ≤ ms ∧ ∀ x m' n', Q g a0 a1 a2 a3 w.1 w.2.1 x m' n' → yIn g m' n' → w.2.1 ≤ n' → K (.int x :: r) (m', n', w.2.2.1 + mc', w.2.2.2 + ms')
  | _ => False
theorem yov_LIIIrI_r {g : hG} {mc ms mc' ms' : Nat} {cs : List Nat} {P : hG → Nat → Int32 → Int32 → Int32 → yM → Nat → Prop} {Q : hG → Nat → Int32 → Int32 → Int32 → yM → Nat → Int32 → yM → Nat → Prop} {a0 : Nat} {a1 : Int32} {a2 : Int32} {a3 : Int32} {r : List Value} {w : yW} {K : List Value → yW → Prop} {Y : Nat → yW → Prop} : yov_LIIIrI g mc ms mc' ms' cs P Q (.int a3 :: .int a2 :: .int a1 :: .ref a0 :: r) w K Y = (yc w.1 a0 ∈ cs ∧ se_c8 8 r ∧ P g a0 a1 a2 a3 w.1 w.2.1 ∧ w.2.2.1 + mc' ≤ mc ∧ w.2.2.2 + ms' ≤ ms ∧ ∀ x m' n', Q g a0 a1 a2 a3 w.1 w.2.1 x m' n' → yIn g m' n' → w.2.1 ≤ n' → K (.int x :: r) (m', n', w.2.2.1 + mc', w.2.2.2 + ms')) := rfl
theorem yov_LIIIrI_ok {g : hG} {mc ms mc' ms' : Nat} {cs : List Nat} {P : hG → Nat → Int32 → Int32 → Int32 → yM → Nat → Prop} {Q : hG → Nat → Int32 → Int32 → Int32 → yM → Nat → Int32 → yM → Nat → Prop} {p : Program} {l : Launch} {e : Env} {R : Room} {s : State} {m : MethodId} {args : Array Value} {below : List Frame} {meth : Method} {c : Code} {nL : Nat} {cc : ByteArray} {Q0 : State → Prop} {H0 : Heap} {ins : Instr} {len : Nat} (hS : se_Snd p l e R s m args below meth c Q0 nL (fun a => a) (yRM g H0) cc ins len (yCV g 3 mc ms mc' ms' cs (fun (g : hG) (av : List Value) (m : yM) (n : Nat) => ∃ (a0 : Nat) (a1 : Int32) (a2 : Int32) (a3 : Int32), av = [.ref a0, .int a1, .int a2, .int a3] ∧ P g a0 a1 a2 a3 m n) (fun (g : hG) (av : List Value) (m : yM) (n : Nat) (v : Option Value) (m' : yM) (n' : Nat) => ∀ (a0 : Nat) (a1 : Int32) (a2 : Int32) (a3 : Int32), av = [.ref a0, .int a1, .int a2, .int a3] → ∃ x, v = some (.int x) ∧ Q g a0 a1 a2 a3 m n x m' n') yNoX)) : se_Snd p l e R s m args below meth c Q0 nL (fun a => a) (yRM g H0) cc ins len (yov_LIIIrI g mc ms mc' ms' cs P Q) :=
  hS.mono fun st w K Y h => by
    unfold yov_LIIIrI at h
    split at h
    · rename_i a3 a2 a1 a0 r
      obtain ⟨hc, h8, hP, r1, r2, hq⟩ := h
      exact (⟨hc, h8, ⟨a0, a1, a2, a3, rfl, hP⟩, r1, r2, fun v m' n' hp hi hn => by
              obtain ⟨x, rfl, hx⟩ := hp a0 a1 a2 a3 rfl
              exact hq x m' n' hx hi hn, fun b m' n' hp => hp.elim⟩ : (yRcv cs w.1 [.ref a0, .int a1, .int a2, .int a3] ∧ yGo g mc ms mc' ms' ((fun (g : hG) (av : List Value) (m : yM) (n : Nat) => ∃ (a0 : Nat) (a1 : Int32) (a2 : Int32) (a3 : Int32), av = [.ref a0, .int a1, .int a2, .int a3] ∧ P g a0 a1 a2 a3 m n) g) ((fun (g : hG) (av : List Value) (m : yM) (n : Nat) (v : Option Value) (m' : yM) (n' : Nat) => ∀ (a0 : Nat) (a1 : Int32) (a2 : Int32) (a3 : Int32), av = [.ref a0, .int a1, .int a2, .int a3] → ∃ x, v = some (.int x) ∧ Q g a0 a1 a2 a3 m n x m' n') g) (yNoX g) [.ref a0, .int a1, .int a2, .int a3] r w K Y))
    · exact h.elim
def ypv_LIIIrI (g : hG) (mc ms : Nat) (cs : List Nat) (P : hG → Nat → Int32 → Int32 → Int32 → yM → Nat → Prop) (R0 : hG → Nat → Int32 → Int32 → Int32 → yM → Nat → Int32) : se_Op yW := fun st w K Y => match st with
  | .int a3 :: .int a2 :: .int a1 :: .ref a0 :: r => yc w.1 a0 ∈ cs ∧ se_c8 8 r ∧ P g a0 a1 a2 a3 w.1 w.2.1 ∧ w.2.2.1 ≤ mc ∧ w.2.2.2 ≤ ms ∧ K (.int (R0 g a0 a1 a2 a3 w.1 w.2.1) :: r) w
  | _ => False
theorem ypv_LIIIrI_r {g : hG} {mc ms : Nat} {cs : List Nat} {P : hG → Nat → Int32 → Int32 → Int32 → yM → Nat → Prop} {R0 : hG → Nat → Int32 → Int32 → Int32 → yM → Nat → Int32} {a0 : Nat} {a1 : Int32} {a2 : Int32} {a3 : Int32} {r : List Value} {w : yW} {K : List Value → yW → Prop} {Y : Nat → yW → Prop} : ypv_LIIIrI g mc ms cs P R0 (.int a3 :: .int a2 :: .int a1 :: .ref a0 :: r) w K Y = (yc w.1 a0 ∈ cs ∧ se_c8 8 r ∧ P g a0 a1 a2 a3 w.1 w.2.1 ∧ w.2.2.1 ≤ mc ∧ w.2.2.2 ≤ ms ∧ K (.int (R0 g a0 a1 a2 a3 w.1 w.2.1) :: r) w) := rfl
theorem ypv_LIIIrI_ok {g : hG} {mc ms : Nat} {cs : List Nat} {P : hG → Nat → Int32 → Int32 → Int32 → yM → Nat → Prop} {R0 : hG → Nat → Int32 → Int32 → Int32 → yM → Nat → Int32} {p : Program} {l : Launch} {e : Env} {R : Room} {s : State} {m : MethodId} {args : Array Value} {below : List Frame} {meth : Method} {c : Code} {nL : Nat} {cc : ByteArray} {Q0 : State → Prop} {H0 : Heap} {ins : Instr} {len : Nat} (hS : se_Snd p l e R s m args below meth c Q0 nL (fun a => a) (yRM g H0) cc ins len (yov_LIIIrI g mc ms 0 0 cs P (fun g a0 a1 a2 a3 m n x m' n' => x = R0 g a0 a1 a2 a3 m n ∧ m' = m ∧ n' = n))) : se_Snd p l e R s m args below meth c Q0 nL (fun a => a) (yRM g H0) cc ins len (ypv_LIIIrI g mc ms cs P R0) :=
  hS.mono fun st w K Y h => by
    unfold ypv_LIIIrI at h
    split at h
    · rename_i a3 a2 a1 a0 r
      obtain ⟨hc, h8, hP, r1, r2, hq⟩ := h
      exact ⟨hc, h8, hP, r1, r2, fun x m' n' e _ _ => by
              obtain ⟨rfl, rfl, rfl⟩ := e
              exact hq⟩
    · exact h.elim
def yfv_LIIIrI (g : hG) (mc ms : Nat) (cs : List Nat) (P : hG → Nat → Int32 → Int32 → Int32 → yM → Nat → Prop) (R0 : hG → Nat → Int32 → Int32 → Int32 → yM → Nat → Int32) (F : hG → Nat → Int32 → Int32 → Int32 → yM → Nat → yM) : se_Op yW := fun st w K Y => match st with
  | .int a3 :: .int a2 :: .int a1 :: .ref a0 :: r => yc w.1 a0 ∈ cs ∧ se_c8 8 r ∧ P g a0 a1 a2 a3 w.1 w.2.1 ∧ w.2.2.1 ≤ mc ∧ w.2.2.2 ≤ ms ∧ K (.int (R0 g a0 a1 a2 a3 w.1 w.2.1) :: r) (F g a0 a1 a2 a3 w.1 w.2.1, w.2)
  | _ => False
theorem yfv_LIIIrI_r {g : hG} {mc ms : Nat} {cs : List Nat} {P : hG → Nat → Int32 → Int32 → Int32 → yM → Nat → Prop} {R0 : hG → Nat → Int32 → Int32 → Int32 → yM → Nat → Int32} {F : hG → Nat → Int32 → Int32 → Int32 → yM → Nat → yM} {a0 : Nat} {a1 : Int32} {a2 : Int32} {a3 : Int32} {r : List Value} {w : yW} {K : List Value → yW → Prop} {Y : Nat → yW → Prop} : yfv_LIIIrI g mc ms cs P R0 F (.int a3 :: .int a2 :: .int a1 :: .ref a0 :: r) w K Y = (yc w.1 a0 ∈ cs ∧ se_c8 8 r ∧ P g a0 a1 a2 a3 w.1 w.2.1 ∧ w.2.2.1 ≤ mc ∧ w.2.2.2 ≤ ms ∧ K (.int (R0 g a0 a1 a2 a3 w.1 w.2.1) :: r) (F g a0 a1 a2 a3 w.1 w.2.1, w.2)) := rfl
theorem yfv_LIIIrI_ok {g : hG} {mc ms : Nat} {cs : List Nat} {P : hG → Nat → Int32 → Int32 → Int32 → yM → Nat → Prop} {R0 : hG → Nat → Int32 → Int32 → Int32 → yM → Nat → Int32} {F : hG → Nat → Int32 → Int32 → Int32 → yM → Nat → yM} {p : Program} {l : Launch} {e : Env} {R : Room} {s : State} {m : MethodId} {args : Array Value} {below : List Frame} {meth : Method} {c : Code} {nL : Nat} {cc : ByteArray} {Q0 : State → Prop} {H0 : Heap} {ins : Instr} {len : Nat} (hS : se_Snd p l e R s m args below meth c Q0 nL (fun a => a) (yRM g H0) cc ins len (yov_LIIIrI g mc ms 0 0 cs P (fun g a0 a1 a2 a3 m n x m' n' => x = R0 g a0 a1 a2 a3 m n ∧ m' = F g a0 a1 a2 a3 m n ∧ n' = n))) : se_Snd p l e R s m args below meth c Q0 nL (fun a => a) (yRM g H0) cc ins len (yfv_LIIIrI g mc ms cs P R0 F) :=
  hS.mono fun st w K Y h => by
    unfold yfv_LIIIrI at h
    split at h
    · rename_i a3 a2 a1 a0 r
      obtain ⟨hc, h8, hP, r1, r2, hq⟩ := h
      exact ⟨hc, h8, hP, r1, r2, fun x m' n' e _ _ => by
              obtain ⟨rfl, rfl, rfl⟩ := e
              exact hq⟩
    · exact h.elim
def yt_LIIIrI (mc ms : Nat) (Q : hG → Nat → Int32 → Int32 → Int32 → yM → Nat → Int32 → yM → Nat → Prop) (g : hG) (a0 : Nat) (a1 : Int32) (a2 : Int32) (a3 : Int32) (m : yM) (n : Nat) : Option Value → yW → Prop := yRt (some .int) mc ms ((fun (g : hG) (av : List Value) (m : yM) (n : Nat) (v : Option Value) (m' : yM) (n' : Nat) => ∀ (a0 : Nat) (a1 : Int32) (a2 : Int32) (a3 : Int32), av = [.ref a0, .int a1, .int a2, .int a3] → ∃ x, v = some (.int x) ∧ Q g a0 a1 a2 a3 m n x m' n') g [.ref a0, .int a1, .int a2, .int a3] m n)
theorem yt_LIIIrI_e {mc ms : Nat} {Q : hG → Nat → Int32 → Int32 → Int32 → yM → Nat → Int32 → yM → Nat → Prop} {g : hG} {a0 : Nat} {a1 : Int32} {a2 : Int32} {a3 : Int32} {m : yM} {n : Nat} {w : yW} {z : Int32} : yt_LIIIrI mc ms Q g a0 a1 a2 a3 m n (some (.int z)) w = (w.2.2.1 ≤ mc ∧ w.2.2.2 ≤ ms ∧ Q g a0 a1 a2 a3 m n z w.1 w.2.1) := by
  apply propext
  constructor
  · intro h
    obtain ⟨x, e, hq⟩ := h.2.2.2 _ _ _ _ rfl
    cases e
    exact ⟨h.2.1, h.2.2.1, hq⟩
  · intro h
    obtain ⟨h1, h2, h3⟩ := h
    exact ⟨⟨_, rfl, rfl⟩, h1, h2, fun _ _ _ _ e => by
      cases e
      exact ⟨z, rfl, h3⟩⟩
theorem ym_LIIIrI_of {l : Launch} {y : MethodName} {own : String} {cc : ByteArray} {maxL fr lo mc ms : Nat} {P : hG → Nat → Int32 → Int32 → Int32 → yM → Nat → Prop} {Q : hG → Nat → Int32 → Int32 → Int32 → yM → Nat → Int32 → yM → Nat → Prop} {T : hG → Nat → Nat → se_Op yW} (hy : plainName y.cls = true) (hyc : y.cls = own) (hT : yTS l own y.name cc maxL (some .int) fr lo mc ms T) (hL : 4 ≤ maxL)
    (body : ∀ (g : hG) (a0 : Nat) (a1 : Int32) (a2 : Int32) (a3 : Int32) (m : yM) (n : Nat), hVg g → yIn g m n → P g a0 a1 a2 a3 m n → ∀ G : Nat → se_L → List Value → yW → Prop, (∀ (stops : List Nat) (f pc : Nat) (L : se_L) (st : List Value) (w : yW), wpN True (T g) cc stops G (yXt mc ms (yNoX g [.ref a0, .int a1, .int a2, .int a3] m n)) (yt_LIIIrI mc ms Q g a0 a1 a2 a3 m n) f pc L st w → G pc L st w) → G 0 (se_ent [.ref a0, .int a1, .int a2, .int a3] maxL) [] (m, n, 0, 0)) : ym_LIIIrI l y (ws_ y cc maxL (some .int)) fr lo mc ms P Q :=
  yOf hy hyc hT (fun g av m n h => by
    obtain ⟨a0, a1, a2, a3, rfl, _⟩ := h
    exact hL) (fun g av m n h1 h2 hp G hG => by
    obtain ⟨a0, a1, a2, a3, rfl, hp⟩ := hp
    exact body g a0 a1 a2 a3 m n h1 h2 hp G hG)
abbrev ym_LIIIrJ (l : Launch) (y : MethodName) (ws : List Cond) (fr lo mc ms : Nat) (P : hG → Nat → Int32 → Int32 → Int32 → yM → Nat → Prop) (Q : hG → Nat → Int32 → Int32 → Int32 → yM → Nat → Int64 → yM → Nat → Prop) : Prop := yCon l y ws fr lo mc ms (fun (g : hG) (av : List Value) (m : yM) (n : Nat) => ∃ (a0 : Nat) (a1 : Int32) (a2 : Int32) (a3 : Int32), av = [.ref a0, .int a1, .int a2, .int a3] ∧ P g a0 a1 a2 a3 m n) (fun (g : hG) (av : List Value) (m : yM) (n : Nat) (v : Option Value) (m' : yM) (n' : Nat) => ∀ (a0 : Nat) (a1 : Int32) (a2 : Int32) (a3 : Int32), av = [.ref a0, .int a1, .int a2, .int a3] → ∃ x, v = some (.long x) ∧ Q g a0 a1 a2 a3 m n x m' n') yNoX
def yov_LIIIrJ (g : hG) (mc ms mc' ms' : Nat) (cs : List Nat) (P : hG → Nat → Int32 → Int32 → Int32 → yM → Nat → Prop) (Q : hG → Nat → Int32 → Int32 → Int32 → yM → Nat → Int64 → yM → Nat → Prop) : se_Op yW := fun st w K Y => match st with
  | .int a3 :: .int a2 :: .int a1 :: .ref a0 :: r => yc w.1 a0 ∈ cs ∧ se_c8 8 r ∧ P g a0 a1 a2 a3 w.1 w.2.1 ∧ w.2.2.1 + mc' ≤ mc ∧ w.2.2.2 + ms' ≤ ms ∧ ∀ x m' n', Q g a0 a1 a2 a3 w.1 w.2.1 x m' n' → yIn g m' n' → w.2.1 ≤ n' → K (.long x :: r) (m', n', w.2.2.1 + mc', w.2.2.2 + ms')
  | _ => False
theorem yov_LIIIrJ_r {g : hG} {mc ms mc' ms' : Nat} {cs : List Nat} {P : hG → Nat → Int32 → Int32 → Int32 → yM → Nat → Prop} {Q : hG → Nat → Int32 → Int32 → Int32 → yM → Nat → Int64 → yM → Nat → Prop} {a0 : Nat} {a1 : Int32} {a2 : Int32} {a3 : Int32} {r : List Value} {w : yW} {K : List Value → yW → Prop} {Y : Nat → yW → Prop} : yov_LIIIrJ g mc ms mc' ms' cs P Q (.int a3 :: .int a2 :: .int a1 :: .ref a0 :: r) w K Y = (yc w.1 a0 ∈ cs ∧ se_c8 8 r ∧ P g a0 a1 a2 a3 w.1 w.2.1 ∧ w.2.2.1 + mc' ≤ mc ∧ w.2.2.2 + ms' ≤ ms ∧ ∀ x m' n', Q g a0 a1 a2 a3 w.1 w.2.1 x m' n' → yIn g m' n' → w.2.1 ≤ n' → K (.long x :: r) (m', n', w.2.2.1 + mc', w.2.2.2 + ms')) := rfl
theorem yov_LIIIrJ_ok {g : hG} {mc ms mc' ms' : Nat} {cs : List Nat} {P : hG → Nat → Int32 → Int32 → Int32 → yM → Nat → Prop} {Q : hG → Nat → Int32 → Int32 → Int32 → yM → Nat → Int64 → yM → Nat → Prop} {p : Program} {l : Launch} {e : Env} {R : Room} {s : State} {m : MethodId} {args : Array Value} {below : List Frame} {meth : Method} {c : Code} {nL : Nat} {cc : ByteArray} {Q0 : State → Prop} {H0 : Heap} {ins : Instr} {len : Nat} (hS : se_Snd p l e R s m args below meth c Q0 nL (fun a => a) (yRM g H0) cc ins len (yCV g 3 mc ms mc' ms' cs (fun (g : hG) (av : List Value) (m : yM) (n : Nat) => ∃ (a0 : Nat) (a1 : Int32) (a2 : Int32) (a3 : Int32), av = [.ref a0, .int a1, .int a2, .int a3] ∧ P g a0 a1 a2 a3 m n) (fun (g : hG) (av : List Value) (m : yM) (n : Nat) (v : Option Value) (m' : yM) (n' : Nat) => ∀ (a0 : Nat) (a1 : Int32) (a2 : Int32) (a3 : Int32), av = [.ref a0, .int a1, .int a2, .int a3] → ∃ x, v = some (.long x) ∧ Q g a0 a1 a2 a3 m n x m' n') yNoX)) : se_Snd p l e R s m args below meth c Q0 nL (fun a => a) (yRM g H0) cc ins len (yov_LIIIrJ g mc ms mc' ms' cs P Q) :=
  hS.mono fun st w K Y h => by
    unfold yov_LIIIrJ at h
    split at h
    · rename_i a3 a2 a1 a0 r
      obtain ⟨hc, h8, hP, r1, r2, hq⟩ := h
      exact (⟨hc, h8, ⟨a0, a1, a2, a3, rfl, hP⟩, r1, r2, fun v m' n' hp hi hn => by
              obtain ⟨x, rfl, hx⟩ := hp a0 a1 a2 a3 rfl
              exact hq x m' n' hx hi hn, fun b m' n' hp => hp.elim⟩ : (yRcv cs w.1 [.ref a0, .int a1, .int a2, .int a3] ∧ yGo g mc ms mc' ms' ((fun (g : hG) (av : List Value) (m : yM) (n : Nat) => ∃ (a0 : Nat) (a1 : Int32) (a2 : Int32) (a3 : Int32), av = [.ref a0, .int a1, .int a2, .int a3] ∧ P g a0 a1 a2 a3 m n) g) ((fun (g : hG) (av : List Value) (m : yM) (n : Nat) (v : Option Value) (m' : yM) (n' : Nat) => ∀ (a0 : Nat) (a1 : Int32) (a2 : Int32) (a3 : Int32), av = [.ref a0, .int a1, .int a2, .int a3] → ∃ x, v = some (.long x) ∧ Q g a0 a1 a2 a3 m n x m' n') g) (yNoX g) [.ref a0, .int a1, .int a2, .int a3] r w K Y))
    · exact h.elim
def ypv_LIIIrJ (g : hG) (mc ms : Nat) (cs : List Nat) (P : hG → Nat → Int32 → Int32 → Int32 → yM → Nat → Prop) (R0 : hG → Nat → Int32 → Int32 → Int32 → yM → Nat → Int64) : se_Op yW := fun st w K Y => match st with
  | .int a3 :: .int a2 :: .int a1 :: .ref a0 :: r => yc w.1 a0 ∈ cs ∧ se_c8 8 r ∧ P g a0 a1 a2 a3 w.1 w.2.1 ∧ w.2.2.1 ≤ mc ∧ w.2.2.2 ≤ ms ∧ K (.long (R0 g a0 a1 a2 a3 w.1 w.2.1) :: r) w
  | _ => False
theorem ypv_LIIIrJ_r {g : hG} {mc ms : Nat} {cs : List Nat} {P : hG → Nat → Int32 → Int32 → Int32 → yM → Nat → Prop} {R0 : hG → Nat → Int32 → Int32 → Int32 → yM → Nat → Int64} {a0 : Nat} {a1 : Int32} {a2 : Int32} {a3 : Int32} {r : List Value} {w : yW} {K : List Value → yW → Prop} {Y : Nat → yW → Prop} : ypv_LIIIrJ g mc ms cs P R0 (.int a3 :: .int a2 :: .int a1 :: .ref a0 :: r) w K Y = (yc w.1 a0 ∈ cs ∧ se_c8 8 r ∧ P g a0 a1 a2 a3 w.1 w.2.1 ∧ w.2.2.1 ≤ mc ∧ w.2.2.2 ≤ ms ∧ K (.long (R0 g a0 a1 a2 a3 w.1 w.2.1) :: r) w) := rfl
theorem ypv_LIIIrJ_ok {g : hG} {mc ms : Nat} {cs : List Nat} {P : hG → Nat → Int32 → Int32 → Int32 → yM → Nat → Prop} {R0 : hG → Nat → Int32 → Int32 → Int32 → yM → Nat → Int64} {p : Program} {l : Launch} {e : Env} {R : Room} {s : State} {m : MethodId} {args : Array Value} {below : List Frame} {meth : Method} {c : Code} {nL : Nat} {cc : ByteArray} {Q0 : State → Prop} {H0 : Heap} {ins : Instr} {len : Nat} (hS : se_Snd p l e R s m args below meth c Q0 nL (fun a => a) (yRM g H0) cc ins len (yov_LIIIrJ g mc ms 0 0 cs P (fun g a0 a1 a2 a3 m n x m' n' => x = R0 g a0 a1 a2 a3 m n ∧ m' = m ∧ n' = n))) : se_Snd p l e R s m args below meth c Q0 nL (fun a => a) (yRM g H0) cc ins len (ypv_LIIIrJ g mc ms cs P R0) :=
  hS.mono fun st w K Y h => by
    unfold ypv_LIIIrJ at h
    split at h
    · rename_i a3 a2 a1 a0 r
      obtain ⟨hc, h8, hP, r1, r2, hq⟩ := h
      exact ⟨hc, h8, hP, r1, r2, fun x m' n' e _ _ => by
              obtain ⟨rfl, rfl, rfl⟩ := e
              exact hq⟩
    · exact h.elim
def yfv_LIIIrJ (g : hG) (mc ms : Nat) (cs : List Nat) (P : hG → Nat → Int32 → Int32 → Int32 → yM → Nat → Prop) (R0 : hG → Nat → Int32 → Int32 → Int32 → yM → Nat → Int64) (F : hG → Nat → Int32 → Int32 → Int32 → yM → Nat → yM) : se_Op yW := fun st w K Y => match st with
  | .int a3 :: .int a2 :: .int a1 :: .ref a0 :: r => yc w.1 a0 ∈ cs ∧ se_c8 8 r ∧ P g a0 a1 a2 a3 w.1 w.2.1 ∧ w.2.2.1 ≤ mc ∧ w.2.2.2 ≤ ms ∧ K (.long (R0 g a0 a1 a2 a3 w.1 w.2.1) :: r) (F g a0 a1 a2 a3 w.1 w.2.1, w.2)
  | _ => False
theorem yfv_LIIIrJ_r {g : hG} {mc ms : Nat} {cs : List Nat} {P : hG → Nat → Int32 → Int32 → Int32 → yM → Nat → Prop} {R0 : hG → Nat → Int32 → Int32 → Int32 → yM → Nat → Int64} {F : hG → Nat → Int32 → Int32 → Int32 → yM → Nat → yM} {a0 : Nat} {a1 : Int32} {a2 : Int32} {a3 : Int32} {r : List Value} {w : yW} {K : List Value → yW → Prop} {Y : Nat → yW → Prop} : yfv_LIIIrJ g mc ms cs P R0 F (.int a3 :: .int a2 :: .int a1 :: .ref a0 :: r) w K Y = (yc w.1 a0 ∈ cs ∧ se_c8 8 r ∧ P g a0 a1 a2 a3 w.1 w.2.1 ∧ w.2.2.1 ≤ mc ∧ w.2.2.2 ≤ ms ∧ K (.long (R0 g a0 a1 a2 a3 w.1 w.2.1) :: r) (F g a0 a1 a2 a3 w.1 w.2.1, w.2)) := rfl
theorem yfv_LIIIrJ_ok {g : hG} {mc ms : Nat} {cs : List Nat} {P : hG → Nat → Int32 → Int32 → Int32 → yM → Nat → Prop} {R0 : hG → Nat → Int32 → Int32 → Int32 → yM → Nat → Int64} {F : hG → Nat → Int32 → Int32 → Int32 → yM → Nat → yM} {p : Program} {l : Launch} {e : Env} {R : Room} {s : State} {m : MethodId} {args : Array Value} {below : List Frame} {meth : Method} {c : Code} {nL : Nat} {cc : ByteArray} {Q0 : State → Prop} {H0 : Heap} {ins : Instr} {len : Nat} (hS : se_Snd p l e R s m args below meth c Q0 nL (fun a => a) (yRM g H0) cc ins len (yov_LIIIrJ g mc ms 0 0 cs P (fun g a0 a1 a2 a3 m n x m' n' => x = R0 g a0 a1 a2 a3 m n ∧ m' = F g a0 a1 a2 a3 m n ∧ n' = n))) : se_Snd p l e R s m args below meth c Q0 nL (fun a => a) (yRM g H0) cc ins len (yfv_LIIIrJ g mc ms cs P R0 F) :=
  hS.mono fun st w K Y h => by
    unfold yfv_LIIIrJ at h
    split at h
    · rename_i a3 a2 a1 a0 r
      obtain ⟨hc, h8, hP, r1, r2, hq⟩ := h
      exact ⟨hc, h8, hP, r1, r2, fun x m' n' e _ _ => by
              obtain ⟨rfl, rfl, rfl⟩ := e
              exact hq⟩
    · exact h.elim
def yt_LIIIrJ (mc ms : Nat) (Q : hG → Nat → Int32 → Int32 → Int32 → yM → Nat → Int64 → yM → Nat → Prop) (g : hG) (a0 : Nat) (a1 : Int32) (a2 : Int32) (a3 : Int32) (m : yM) (n : Nat) : Option Value → yW → Prop := yRt (some .long) mc ms ((fun (g : hG) (av : List Value) (m : yM) (n : Nat) (v : Option Value) (m' : yM) (n' : Nat) => ∀ (a0 : Nat) (a1 : Int32) (a2 : Int32) (a3 : Int32), av = [.ref a0, .int a1, .int a2, .int a3] → ∃ x, v = some (.long x) ∧ Q g a0 a1 a2 a3 m n x m' n') g [.ref a0, .int a1, .int a2, .int a3] m n)
theorem yt_LIIIrJ_e {mc ms : Nat} {Q : hG → Nat → Int32 → Int32 → Int32 → yM → Nat → Int64 → yM → Nat → Prop} {g : hG} {a0 : Nat} {a1 : Int32} {a2 : Int32} {a3 : Int32} {m : yM} {n : Nat} {w : yW} {z : Int64} : yt_LIIIrJ mc ms Q g a0 a1 a2 a3 m n (some (.long z)) w = (w.2.2.1 ≤ mc ∧ w.2.2.2 ≤ ms ∧ Q g a0 a1 a2 a3 m n z w.1 w.2.1) := by
  apply propext
  constructor
  · intro h
    obtain ⟨x, e, hq⟩ := h.2.2.2 _ _ _ _ rfl
    cases e
    exact ⟨h.2.1, h.2.2.1, hq⟩
  · intro h
    obtain ⟨h1, h2, h3⟩ := h
    exact ⟨rfl, h1, h2, fun _ _ _ _ e => by
      cases e
      exact ⟨z, rfl, h3⟩⟩
theorem ym_LIIIrJ_of {l : Launch} {y : MethodName} {own : String} {cc : ByteArray} {maxL fr lo mc ms : Nat} {P : hG → Nat → Int32 → Int32 → Int32 → yM → Nat → Prop} {Q : hG → Nat → Int32 → Int32 → Int32 → yM → Nat → Int64 → yM → Nat → Prop} {T : hG → Nat → Nat → se_Op yW} (hy : plainName y.cls = true) (hyc : y.cls = own) (hT : yTS l own y.name cc maxL (some .long) fr lo mc ms T) (hL : 4 ≤ maxL)
    (body : ∀ (g : hG) (a0 : Nat) (a1 : Int32) (a2 : Int32) (a3 : Int32) (m : yM) (n : Nat), hVg g → yIn g m n → P g a0 a1 a2 a3 m n → ∀ G : Nat → se_L → List Value → yW → Prop, (∀ (stops : List Nat) (f pc : Nat) (L : se_L) (st : List Value) (w : yW), wpN True (T g) cc stops G (yXt mc ms (yNoX g [.ref a0, .int a1, .int a2, .int a3] m n)) (yt_LIIIrJ mc ms Q g a0 a1 a2 a3 m n) f pc L st w → G pc L st w) → G 0 (se_ent [.ref a0, .int a1, .int a2, .int a3] maxL) [] (m, n, 0, 0)) : ym_LIIIrJ l y (ws_ y cc maxL (some .long)) fr lo mc ms P Q :=
  yOf hy hyc hT (fun g av m n h => by
    obtain ⟨a0, a1, a2, a3, rfl, _⟩ := h
    exact hL) (fun g av m n h1 h2 hp G hG => by
    obtain ⟨a0, a1, a2, a3, rfl, hp⟩ := hp
    exact body g a0 a1 a2 a3 m n h1 h2 hp G hG)
abbrev ym_LIIIrL (l : Launch) (y : MethodName) (ws : List Cond) (fr lo mc ms : Nat) (P : hG → Nat → Int32 → Int32 → Int32 → yM → Nat → Prop) (Q : hG → Nat → Int32 → Int32 → Int32 → yM → Nat → Option Nat → yM → Nat → Prop) : Prop := yCon l y ws fr lo mc ms (fun (g : hG) (av : List Value) (m : yM) (n : Nat) => ∃ (a0 : Nat) (a1 : Int32) (a2 : Int32) (a3 : Int32), av = [.ref a0, .int a1, .int a2, .int a3] ∧ P g a0 a1 a2 a3 m n) (fun (g : hG) (av : List Value) (m : yM) (n : Nat) (v : Option Value) (m' : yM) (n' : Nat) => ∀ (a0 : Nat) (a1 : Int32) (a2 : Int32) (a3 : Int32), av = [.ref a0, .int a1, .int a2, .int a3] → ∃ x, v = some (va_rf x) ∧ Q g a0 a1 a2 a3 m n x m' n') yNoX
def yov_LIIIrL (g : hG) (mc ms mc' ms' : Nat) (cs : List Nat) (P : hG → Nat → Int32 → Int32 → Int32 → yM → Nat → Prop) (Q : hG → Nat → Int32 → Int32 → Int32 → yM → Nat → Option Nat → yM → Nat → Prop) : se_Op yW := fun st w K Y => match st with
  | .int a3 :: .int a2 :: .int a1 :: .ref a0 :: r => yc w.1 a0 ∈ cs ∧ se_c8 8 r ∧ P g a0 a1 a2 a3 w.1 w.2.1 ∧ w.2.2.1 + mc' ≤ mc ∧ w.2.2.2 + ms' ≤ ms ∧ ∀ x m' n', Q g a0 a1 a2 a3 w.1 w.2.1 x m' n' → yIn g m' n' → w.2.1 ≤ n' → K (va_rf x :: r) (m', n', w.2.2.1 + mc', w.2.2.2 + ms')
  | _ => False
theorem yov_LIIIrL_r {g : hG} {mc ms mc' ms' : Nat} {cs : List Nat} {P : hG → Nat → Int32 → Int32 → Int32 → yM → Nat → Prop} {Q : hG → Nat → Int32 → Int32 → Int32 → yM → Nat → Option Nat → yM → Nat → Prop} {a0 : Nat} {a1 : Int32} {a2 : Int32} {a3 : Int32} {r : List Value} {w : yW} {K : List Value → yW → Prop} {Y : Nat → yW → Prop} : yov_LIIIrL g mc ms mc' ms' cs P Q (.int a3 :: .int a2 :: .int a1 :: .ref a0 :: r) w K Y = (yc w.1 a0 ∈ cs ∧ se_c8 8 r ∧ P g a0 a1 a2 a3 w.1 w.2.1 ∧ w.2.2.1 + mc' ≤ mc ∧ w.2.2.2 + ms' ≤ ms ∧ ∀ x m' n', Q g a0 a1 a2 a3 w.1 w.2.1 x m' n' → yIn g m' n' → w.2.1 ≤ n' → K (va_rf x :: r) (m', n', w.2.2.1 + mc', w.2.2.2 + ms')) := rfl
theorem yov_LIIIrL_ok {g : hG} {mc ms mc' ms' : Nat} {cs : List Nat} {P : hG → Nat → Int32 → Int32 → Int32 → yM → Nat → Prop} {Q : hG → Nat → Int32 → Int32 → Int32 → yM → Nat → Option Nat → yM → Nat → Prop} {p : Program} {l : Launch} {e : Env} {R : Room} {s : State} {m : MethodId} {args : Array Value} {below : List Frame} {meth : Method} {c : Code} {nL : Nat} {cc : ByteArray} {Q0 : State → Prop} {H0 : Heap} {ins : Instr} {len : Nat} (hS : se_Snd p l e R s m args below meth c Q0 nL (fun a => a) (yRM g H0) cc ins len (yCV g 3 mc ms mc' ms' cs (fun (g : hG) (av : List Value) (m : yM) (n : Nat) => ∃ (a0 : Nat) (a1 : Int32) (a2 : Int32) (a3 : Int32), av = [.ref a0, .int a1, .int a2, .int a3] ∧ P g a0 a1 a2 a3 m n) (fun (g : hG) (av : List Value) (m : yM) (n : Nat) (v : Option Value) (m' : yM) (n' : Nat) => ∀ (a0 : Nat) (a1 : Int32) (a2 : Int32) (a3 : Int32), av = [.ref a0, .int a1, .int a2, .int a3] → ∃ x, v = some (va_rf x) ∧ Q g a0 a1 a2 a3 m n x m' n') yNoX)) : se_Snd p l e R s m args below meth c Q0 nL (fun a => a) (yRM g H0) cc ins len (yov_LIIIrL g mc ms mc' ms' cs P Q) :=
  hS.mono fun st w K Y h => by
    unfold yov_LIIIrL at h
    split at h
    · rename_i a3 a2 a1 a0 r
      obtain ⟨hc, h8, hP, r1, r2, hq⟩ := h
      exact (⟨hc, h8, ⟨a0, a1, a2, a3, rfl, hP⟩, r1, r2, fun v m' n' hp hi hn => by
              obtain ⟨x, rfl, hx⟩ := hp a0 a1 a2 a3 rfl
              exact hq x m' n' hx hi hn, fun b m' n' hp => hp.elim⟩ : (yRcv cs w.1 [.ref a0, .int a1, .int a2, .int a3] ∧ yGo g mc ms mc' ms' ((fun (g : hG) (av : List Value) (m : yM) (n : Nat) => ∃ (a0 : Nat) (a1 : Int32) (a2 : Int32) (a3 : Int32), av = [.ref a0, .int a1, .int a2, .int a3] ∧ P g a0 a1 a2 a3 m n) g) ((fun (g : hG) (av : List Value) (m : yM) (n : Nat) (v : Option Value) (m' : yM) (n' : Nat) => ∀ (a0 : Nat) (a1 : Int32) (a2 : Int32) (a3 : Int32), av = [.ref a0, .int a1, .int a2, .int a3] → ∃ x, v = some (va_rf x) ∧ Q g a0 a1 a2 a3 m n x m' n') g) (yNoX g) [.ref a0, .int a1, .int a2, .int a3] r w K Y))
    · exact h.elim
def ypv_LIIIrL (g : hG) (mc ms : Nat) (cs : List Nat) (P : hG → Nat → Int32 → Int32 → Int32 → yM → Nat → Prop) (R0 : hG → Nat → Int32 → Int32 → Int32 → yM → Nat → Option Nat) : se_Op yW := fun st w K Y => match st with
  | .int a3 :: .int a2 :: .int a1 :: .ref a0 :: r => yc w.1 a0 ∈ cs ∧ se_c8 8 r ∧ P g a0 a1 a2 a3 w.1 w.2.1 ∧ w.2.2.1 ≤ mc ∧ w.2.2.2 ≤ ms ∧ K (va_rf (R0 g a0 a1 a2 a3 w.1 w.2.1) :: r) w
  | _ => False
theorem ypv_LIIIrL_r {g : hG} {mc ms : Nat} {cs : List Nat} {P : hG → Nat → Int32 → Int32 → Int32 → yM → Nat → Prop} {R0 : hG → Nat → Int32 → Int32 → Int32 → yM → Nat → Option Nat} {a0 : Nat} {a1 : Int32} {a2 : Int32} {a3 : Int32} {r : List Value} {w : yW} {K : List Value → yW → Prop} {Y : Nat → yW → Prop} : ypv_LIIIrL g mc ms cs P R0 (.int a3 :: .int a2 :: .int a1 :: .ref a0 :: r) w K Y = (yc w.1 a0 ∈ cs ∧ se_c8 8 r ∧ P g a0 a1 a2 a3 w.1 w.2.1 ∧ w.2.2.1 ≤ mc ∧ w.2.2.2 ≤ ms ∧ K (va_rf (R0 g a0 a1 a2 a3 w.1 w.2.1) :: r) w) := rfl
theorem ypv_LIIIrL_ok {g : hG} {mc ms : Nat} {cs : List Nat} {P : hG → Nat → Int32 → Int32 → Int32 → yM → Nat → Prop} {R0 : hG → Nat → Int32 → Int32 → Int32 → yM → Nat → Option Nat} {p : Program} {l : Launch} {e : Env} {R : Room} {s : State} {m : MethodId} {args : Array Value} {below : List Frame} {meth : Method} {c : Code} {nL : Nat} {cc : ByteArray} {Q0 : State → Prop} {H0 : Heap} {ins : Instr} {len : Nat} (hS : se_Snd p l e R s m args below meth c Q0 nL (fun a => a) (yRM g H0) cc ins len (yov_LIIIrL g mc ms 0 0 cs P (fun g a0 a1 a2 a3 m n x m' n' => x = R0 g a0 a1 a2 a3 m n ∧ m' = m ∧ n' = n))) : se_Snd p l e R s m args below meth c Q0 nL (fun a => a) (yRM g H0) cc ins len (ypv_LIIIrL g mc ms cs P R0) :=
  hS.mono fun st w K Y h => by
    unfold ypv_LIIIrL at h
    split at h
    · rename_i a3 a2 a1 a0 r
      obtain ⟨hc, h8, hP, r1, r2, hq⟩ := h
      exact ⟨hc, h8, hP, r1, r2, fun x m' n' e _ _ => by
              obtain ⟨rfl, rfl, rfl⟩ := e
              exact hq⟩
    · exact h.elim
def yfv_LIIIrL (g : hG) (mc ms : Nat) (cs : List Nat) (P : hG → Nat → Int32 → Int32 → Int32 → yM → Nat → Prop) (R0 : hG → Nat → Int32 → Int32 → Int32 → yM → Nat → Option Nat) (F : hG → Nat → Int32 → Int32 → Int32 → yM → Nat → yM) : se_Op yW := fun st w K Y => match st with
  | .int a3 :: .int a2 :: .int a1 :: .ref a0 :: r => yc w.1 a0 ∈ cs ∧ se_c8 8 r ∧ P g a0 a1 a2 a3 w.1 w.2.1 ∧ w.2.2.1 ≤ mc ∧ w.2.2.2 ≤ ms ∧ K (va_rf (R0 g a0 a1 a2 a3 w.1 w.2.1) :: r) (F g a0 a1 a2 a3 w.1 w.2.1, w.2)
  | _ => False
theorem yfv_LIIIrL_r {g : hG} {mc ms : Nat} {cs : List Nat} {P : hG → Nat → Int32 → Int32 → Int32 → yM → Nat → Prop} {R0 : hG → Nat → Int32 → Int32 → Int32 → yM → Nat → Option Nat} {F : hG → Nat → Int32 → Int32 → Int32 → yM → Nat → yM} {a0 : Nat} {a1 : Int32} {a2 : Int32} {a3 : Int32} {r : List Value} {w : yW} {K : List Value → yW → Prop} {Y : Nat → yW → Prop} : yfv_LIIIrL g mc ms cs P R0 F (.int a3 :: .int a2 :: .int a1 :: .ref a0 :: r) w K Y = (yc w.1 a0 ∈ cs ∧ se_c8 8 r ∧ P g a0 a1 a2 a3 w.1 w.2.1 ∧ w.2.2.1 ≤ mc ∧ w.2.2.2 ≤ ms ∧ K (va_rf (R0 g a0 a1 a2 a3 w.1 w.2.1) :: r) (F g a0 a1 a2 a3 w.1 w.2.1, w.2)) := rfl
theorem yfv_LIIIrL_ok {g : hG} {mc ms : Nat} {cs : List Nat} {P : hG → Nat → Int32 → Int32 → Int32 → yM → Nat → Prop} {R0 : hG → Nat → Int32 → Int32 → Int32 → yM → Nat → Option Nat} {F : hG → Nat → Int32 → Int32 → Int32 → yM → Nat → yM} {p : Program} {l : Launch} {e : Env} {R : Room} {s : State} {m : MethodId} {args : Array Value} {below : List Frame} {meth : Method} {c : Code} {nL : Nat} {cc : ByteArray} {Q0 : State → Prop} {H0 : Heap} {ins : Instr} {len : Nat} (hS : se_Snd p l e R s m args below meth c Q0 nL (fun a => a) (yRM g H0) cc ins len (yov_LIIIrL g mc ms 0 0 cs P (fun g a0 a1 a2 a3 m n x m' n' => x = R0 g a0 a1 a2 a3 m n ∧ m' = F g a0 a1 a2 a3 m n ∧ n' = n))) : se_Snd p l e R s m args below meth c Q0 nL (fun a => a) (yRM g H0) cc ins len (yfv_LIIIrL g mc ms cs P R0 F) :=
  hS.mono fun st w K Y h => by
    unfold yfv_LIIIrL at h
    split at h
    · rename_i a3 a2 a1 a0 r
      obtain ⟨hc, h8, hP, r1, r2, hq⟩ := h
      exact ⟨hc, h8, hP, r1, r2, fun x m' n' e _ _ => by
              obtain ⟨rfl, rfl, rfl⟩ := e
              exact hq⟩
    · exact h.elim
def yt_LIIIrL (rty : FieldType) (mc ms : Nat) (Q : hG → Nat → Int32 → Int32 → Int32 → yM → Nat → Option Nat → yM → Nat → Prop) (g : hG) (a0 : Nat) (a1 : Int32) (a2 : Int32) (a3 : Int32) (m : yM) (n : Nat) : Option Value → yW → Prop := yRt (some rty) mc ms ((fun (g : hG) (av : List Value) (m : yM) (n : Nat) (v : Option Value) (m' : yM) (n' : Nat) => ∀ (a0 : Nat) (a1 : Int32) (a2 : Int32) (a3 : Int32), av = [.ref a0, .int a1, .int a2, .int a3] → ∃ x, v = some (va_rf x) ∧ Q g a0 a1 a2 a3 m n x m' n') g [.ref a0, .int a1, .int a2, .int a3] m n)
theorem yt_LIIIrL_e {rty : FieldType} {mc ms : Nat} {Q : hG → Nat → Int32 → Int32 → Int32 → yM → Nat → Option Nat → yM → Nat → Prop} {g : hG} {a0 : Nat} {a1 : Int32} {a2 : Int32} {a3 : Int32} {m : yM} {n : Nat} {w : yW} {z : Nat} (hr : (∃ n, rty = .object n) ∨ ∃ t, rty = .array t) : yt_LIIIrL rty mc ms Q g a0 a1 a2 a3 m n (some (.ref z)) w = (w.2.2.1 ≤ mc ∧ w.2.2.2 ≤ ms ∧ Q g a0 a1 a2 a3 m n (some z) w.1 w.2.1) := by
  apply propext
  constructor
  · intro h
    obtain ⟨x, e, hq⟩ := h.2.2.2 _ _ _ _ rfl
    cases x with
    | none => cases e
    | some x => cases e; exact ⟨h.2.1, h.2.2.1, hq⟩
  · intro h
    obtain ⟨h1, h2, h3⟩ := h
    exact ⟨⟨_, rfl, hr⟩, h1, h2, fun _ _ _ _ e => by
      cases e
      exact ⟨some z, rfl, h3⟩⟩
theorem yt_LIIIrL_n {rty : FieldType} {mc ms : Nat} {Q : hG → Nat → Int32 → Int32 → Int32 → yM → Nat → Option Nat → yM → Nat → Prop} {g : hG} {a0 : Nat} {a1 : Int32} {a2 : Int32} {a3 : Int32} {m : yM} {n : Nat} {w : yW} (hr : (∃ n, rty = .object n) ∨ ∃ t, rty = .array t) : yt_LIIIrL rty mc ms Q g a0 a1 a2 a3 m n (some .null) w = (w.2.2.1 ≤ mc ∧ w.2.2.2 ≤ ms ∧ Q g a0 a1 a2 a3 m n none w.1 w.2.1) := by
  apply propext
  constructor
  · intro h
    obtain ⟨x, e, hq⟩ := h.2.2.2 _ _ _ _ rfl
    cases x with
    | none => exact ⟨h.2.1, h.2.2.1, hq⟩
    | some x => cases e
  · intro h
    obtain ⟨h1, h2, h3⟩ := h
    exact ⟨⟨_, rfl, hr⟩, h1, h2, fun _ _ _ _ e => by
      cases e
      exact ⟨none, rfl, h3⟩⟩
theorem ym_LIIIrL_of {l : Launch} {y : MethodName} {own : String} {cc : ByteArray} {maxL fr lo mc ms : Nat} {rty : FieldType} {P : hG → Nat → Int32 → Int32 → Int32 → yM → Nat → Prop} {Q : hG → Nat → Int32 → Int32 → Int32 → yM → Nat → Option Nat → yM → Nat → Prop} {T : hG → Nat → Nat → se_Op yW} (hy : plainName y.cls = true) (hyc : y.cls = own) (hT : yTS l own y.name cc maxL (some rty) fr lo mc ms T) (hL : 4 ≤ maxL)
    (body : ∀ (g : hG) (a0 : Nat) (a1 : Int32) (a2 : Int32) (a3 : Int32) (m : yM) (n : Nat), hVg g → yIn g m n → P g a0 a1 a2 a3 m n → ∀ G : Nat → se_L → List Value → yW → Prop, (∀ (stops : List Nat) (f pc : Nat) (L : se_L) (st : List Value) (w : yW), wpN True (T g) cc stops G (yXt mc ms (yNoX g [.ref a0, .int a1, .int a2, .int a3] m n)) (yt_LIIIrL rty mc ms Q g a0 a1 a2 a3 m n) f pc L st w → G pc L st w) → G 0 (se_ent [.ref a0, .int a1, .int a2, .int a3] maxL) [] (m, n, 0, 0)) : ym_LIIIrL l y (ws_ y cc maxL (some rty)) fr lo mc ms P Q :=
  yOf hy hyc hT (fun g av m n h => by
    obtain ⟨a0, a1, a2, a3, rfl, _⟩ := h
    exact hL) (fun g av m n h1 h2 hp G hG => by
    obtain ⟨a0, a1, a2, a3, rfl, hp⟩ := hp
    exact body g a0 a1 a2 a3 m n h1 h2 hp G hG)
abbrev ym_LIIIrZ (l : Launch) (y : MethodName) (ws : List Cond) (fr lo mc ms : Nat) (P : hG → Nat → Int32 → Int32 → Int32 → yM → Nat → Prop) (Q : hG → Nat → Int32 → Int32 → Int32 → yM → Nat → Bool → yM → Nat → Prop) : Prop := yCon l y ws fr lo mc ms (fun (g : hG) (av : List Value) (m : yM) (n : Nat) => ∃ (a0 : Nat) (a1 : Int32) (a2 : Int32) (a3 : Int32), av = [.ref a0, .int a1, .int a2, .int a3] ∧ P g a0 a1 a2 a3 m n) (fun (g : hG) (av : List Value) (m : yM) (n : Nat) (v : Option Value) (m' : yM) (n' : Nat) => ∀ (a0 : Nat) (a1 : Int32) (a2 : Int32) (a3 : Int32), av = [.ref a0, .int a1, .int a2, .int a3] → ∃ x, v = some (.int (bI x)) ∧ Q g a0 a1 a2 a3 m n x m' n') yNoX
def yo_LIIIrZ (g : hG) (mc ms mc' ms' : Nat) (P : hG → Nat → Int32 → Int32 → Int32 → yM → Nat → Prop) (Q : hG → Nat → Int32 → Int32 → Int32 → yM → Nat → Bool → yM → Nat → Prop) : se_Op yW := fun st w K Y => match st with
  | .int a3 :: .int a2 :: .int a1 :: .ref a0 :: r => se_c8 8 r ∧ P g a0 a1 a2 a3 w.1 w.2.1 ∧ w.2.2.1 + mc' ≤ mc ∧ w.2.2.2 + ms' ≤ ms ∧ ∀ x m' n', Q g a0 a1 a2 a3 w.1 w.2.1 x m' n' → yIn g m' n' → w.2.1 ≤ n' → K (.int (bI x) :: r) (m', n', w.2.2.1 + mc', w.2.2.2 + ms')
  | _ => False
theorem yo_LIIIrZ_r {g : hG} {mc ms mc' ms' : Nat} {P : hG → Nat → Int32 → Int32 → Int32 → yM → Nat → Prop} {Q : hG → Nat → Int32 → Int32 → Int32 → yM → Nat → Bool → yM → Nat → Prop} {a0 : Nat} {a1 : Int32} {a2 : Int32} {a3 : Int32} {r : List Value} {w : yW} {K : List Value → yW → Prop} {Y : Nat → yW → Prop} : yo_LIIIrZ g mc ms mc' ms' P Q (.int a3 :: .int a2 :: .int a1 :: .ref a0 :: r) w K Y = (se_c8 8 r ∧ P g a0 a1 a2 a3 w.1 w.2.1 ∧ w.2.2.1 + mc' ≤ mc ∧ w.2.2.2 + ms' ≤ ms ∧ ∀ x m' n', Q g a0 a1 a2 a3 w.1 w.2.1 x m' n' → yIn g m' n' → w.2.1 ≤ n' → K (.int (bI x) :: r) (m', n', w.2.2.1 + mc', w.2.2.2 + ms')) := rfl
theorem yo_LIIIrZ_ok {g : hG} {mc ms mc' ms' : Nat} {P : hG → Nat → Int32 → Int32 → Int32 → yM → Nat → Prop} {Q : hG → Nat → Int32 → Int32 → Int32 → yM → Nat → Bool → yM → Nat → Prop} {p : Program} {l : Launch} {e : Env} {R : Room} {s : State} {m : MethodId} {args : Array Value} {below : List Frame} {meth : Method} {c : Code} {nL : Nat} {cc : ByteArray} {Q0 : State → Prop} {H0 : Heap} {ins : Instr} {len : Nat} (hS : se_Snd p l e R s m args below meth c Q0 nL (fun a => a) (yRM g H0) cc ins len (yCS g 4 mc ms mc' ms' (fun (g : hG) (av : List Value) (m : yM) (n : Nat) => ∃ (a0 : Nat) (a1 : Int32) (a2 : Int32) (a3 : Int32), av = [.ref a0, .int a1, .int a2, .int a3] ∧ P g a0 a1 a2 a3 m n) (fun (g : hG) (av : List Value) (m : yM) (n : Nat) (v : Option Value) (m' : yM) (n' : Nat) => ∀ (a0 : Nat) (a1 : Int32) (a2 : Int32) (a3 : Int32), av = [.ref a0, .int a1, .int a2, .int a3] → ∃ x, v = some (.int (bI x)) ∧ Q g a0 a1 a2 a3 m n x m' n') yNoX)) : se_Snd p l e R s m args below meth c Q0 nL (fun a => a) (yRM g H0) cc ins len (yo_LIIIrZ g mc ms mc' ms' P Q) :=
  hS.mono fun st w K Y h => by
    unfold yo_LIIIrZ at h
    split at h
    · rename_i a3 a2 a1 a0 r
      obtain ⟨h8, hP, r1, r2, hq⟩ := h
      exact (⟨h8, ⟨a0, a1, a2, a3, rfl, hP⟩, r1, r2, fun v m' n' hp hi hn => by
              obtain ⟨x, rfl, hx⟩ := hp a0 a1 a2 a3 rfl
              exact hq x m' n' hx hi hn, fun b m' n' hp => hp.elim⟩ : yGo g mc ms mc' ms' ((fun (g : hG) (av : List Value) (m : yM) (n : Nat) => ∃ (a0 : Nat) (a1 : Int32) (a2 : Int32) (a3 : Int32), av = [.ref a0, .int a1, .int a2, .int a3] ∧ P g a0 a1 a2 a3 m n) g) ((fun (g : hG) (av : List Value) (m : yM) (n : Nat) (v : Option Value) (m' : yM) (n' : Nat) => ∀ (a0 : Nat) (a1 : Int32) (a2 : Int32) (a3 : Int32), av = [.ref a0, .int a1, .int a2, .int a3] → ∃ x, v = some (.int (bI x)) ∧ Q g a0 a1 a2 a3 m n x m' n') g) (yNoX g) [.ref a0, .int a1, .int a2, .int a3] r w K Y)
    · exact h.elim
def yp_LIIIrZ (g : hG) (mc ms : Nat) (P : hG → Nat → Int32 → Int32 → Int32 → yM → Nat → Prop) (R0 : hG → Nat → Int32 → Int32 → Int32 → yM → Nat → Bool) : se_Op yW := fun st w K Y => match st with
  | .int a3 :: .int a2 :: .int a1 :: .ref a0 :: r => se_c8 8 r ∧ P g a0 a1 a2 a3 w.1 w.2.1 ∧ w.2.2.1 ≤ mc ∧ w.2.2.2 ≤ ms ∧ K (.int (bI (R0 g a0 a1 a2 a3 w.1 w.2.1)) :: r) w
  | _ => False
theorem yp_LIIIrZ_r {g : hG} {mc ms : Nat} {P : hG → Nat → Int32 → Int32 → Int32 → yM → Nat → Prop} {R0 : hG → Nat → Int32 → Int32 → Int32 → yM → Nat → Bool} {a0 : Nat} {a1 : Int32} {a2 : Int32} {a3 : Int32} {r : List Value} {w : yW} {K : List Value → yW → Prop} {Y : Nat → yW → Prop} : yp_LIIIrZ g mc ms P R0 (.int a3 :: .int a2 :: .int a1 :: .ref a0 :: r) w K Y = (se_c8 8 r ∧ P g a0 a1 a2 a3 w.1 w.2.1 ∧ w.2.2.1 ≤ mc ∧ w.2.2.2 ≤ ms ∧ K (.int (bI (R0 g a0 a1 a2 a3 w.1 w.2.1)) :: r) w) := rfl
theorem yp_LIIIrZ_ok {g : hG} {mc ms : Nat} {P : hG → Nat → Int32 → Int32 → Int32 → yM → Nat → Prop} {R0 : hG → Nat → Int32 → Int32 → Int32 → yM → Nat → Bool} {p : Program} {l : Launch} {e : Env} {R : Room} {s : State} {m : MethodId} {args : Array Value} {below : List Frame} {meth : Method} {c : Code} {nL : Nat} {cc : ByteArray} {Q0 : State → Prop} {H0 : Heap} {ins : Instr} {len : Nat} (hS : se_Snd p l e R s m args below meth c Q0 nL (fun a => a) (yRM g H0) cc ins len (yo_LIIIrZ g mc ms 0 0 P (fun g a0 a1 a2 a3 m n x m' n' => x = R0 g a0 a1 a2 a3 m n ∧ m' = m ∧ n' = n))) : se_Snd p l e R s m args below meth c Q0 nL (fun a => a) (yRM g H0) cc ins len (yp_LIIIrZ g mc ms P R0) :=
  hS.mono fun st w K Y h => by
    unfold yp_LIIIrZ at h
    split at h
    · rename_i a3 a2 a1 a0 r
      obtain ⟨h8, hP, r1, r2, hq⟩ := h
      exact ⟨h8, hP, r1, r2, fun x m' n' e _ _ => by
              obtain ⟨rfl, rfl, rfl⟩ := e
              exact hq⟩
    · exact h.elim
def yf_LIIIrZ (g : hG) (mc ms : Nat) (P : hG → Nat → Int32 → Int32 → Int32 → yM → Nat → Prop) (R0 : hG → Nat → Int32 → Int32 → Int32 → yM → Nat → Bool) (F : hG → Nat → Int32 → Int32 → Int32 → yM → Nat → yM) : se_Op yW := fun st w K Y => match st with
  | .int a3 :: .int a2 :: .int a1 :: .ref a0 :: r => se_c8 8 r ∧ P g a0 a1 a2 a3 w.1 w.2.1 ∧ w.2.2.1 ≤ mc ∧ w.2.2.2 ≤ ms ∧ K (.int (bI (R0 g a0 a1 a2 a3 w.1 w.2.1)) :: r) (F g a0 a1 a2 a3 w.1 w.2.1, w.2)
  | _ => False
theorem yf_LIIIrZ_r {g : hG} {mc ms : Nat} {P : hG → Nat → Int32 → Int32 → Int32 → yM → Nat → Prop} {R0 : hG → Nat → Int32 → Int32 → Int32 → yM → Nat → Bool} {F : hG → Nat → Int32 → Int32 → Int32 → yM → Nat → yM} {a0 : Nat} {a1 : Int32} {a2 : Int32} {a3 : Int32} {r : List Value} {w : yW} {K : List Value → yW → Prop} {Y : Nat → yW → Prop} : yf_LIIIrZ g mc ms P R0 F (.int a3 :: .int a2 :: .int a1 :: .ref a0 :: r) w K Y = (se_c8 8 r ∧ P g a0 a1 a2 a3 w.1 w.2.1 ∧ w.2.2.1 ≤ mc ∧ w.2.2.2 ≤ ms ∧ K (.int (bI (R0 g a0 a1 a2 a3 w.1 w.2.1)) :: r) (F g a0 a1 a2 a3 w.1 w.2.1, w.2)) := rfl
theorem yf_LIIIrZ_ok {g : hG} {mc ms : Nat} {P : hG → Nat → Int32 → Int32 → Int32 → yM → Nat → Prop} {R0 : hG → Nat → Int32 → Int32 → Int32 → yM → Nat → Bool} {F : hG → Nat → Int32 → Int32 → Int32 → yM → Nat → yM} {p : Program} {l : Launch} {e : Env} {R : Room} {s : State} {m : MethodId} {args : Array Value} {below : List Frame} {meth : Method} {c : Code} {nL : Nat} {cc : ByteArray} {Q0 : State → Prop} {H0 : Heap} {ins : Instr} {len : Nat} (hS : se_Snd p l e R s m args below meth c Q0 nL (fun a => a) (yRM g H0) cc ins len (yo_LIIIrZ g mc ms 0 0 P (fun g a0 a1 a2 a3 m n x m' n' => x = R0 g a0 a1 a2 a3 m n ∧ m' = F g a0 a1 a2 a3 m n ∧ n' = n))) : se_Snd p l e R s m args below meth c Q0 nL (fun a => a) (yRM g H0) cc ins len (yf_LIIIrZ g mc ms P R0 F) :=
  hS.mono fun st w K Y h => by
    unfold yf_LIIIrZ at h
    split at h
    · rename_i a3 a2 a1 a0 r
      obtain ⟨h8, hP, r1, r2, hq⟩ := h
      exact ⟨h8, hP, r1, r2, fun x m' n' e _ _ => by
              obtain ⟨rfl, rfl, rfl⟩ := e
              exact hq⟩
    · exact h.elim
def yt_LIIIrZ (mc ms : Nat) (Q : hG → Nat → Int32 → Int32 → Int32 → yM → Nat → Bool → yM → Nat → Prop) (g : hG) (a0 : Nat) (a1 : Int32) (a2 : Int32) (a3 : Int32) (m : yM) (n : Nat) : Option Value → yW → Prop := yRt (some .boolean) mc ms ((fun (g : hG) (av : List Value) (m : yM) (n : Nat) (v : Option Value) (m' : yM) (n' : Nat) => ∀ (a0 : Nat) (a1 : Int32) (a2 : Int32) (a3 : Int32), av = [.ref a0, .int a1, .int a2, .int a3] → ∃ x, v = some (.int (bI x)) ∧ Q g a0 a1 a2 a3 m n x m' n') g [.ref a0, .int a1, .int a2, .int a3] m n)
theorem yt_LIIIrZ_e {mc ms : Nat} {Q : hG → Nat → Int32 → Int32 → Int32 → yM → Nat → Bool → yM → Nat → Prop} {g : hG} {a0 : Nat} {a1 : Int32} {a2 : Int32} {a3 : Int32} {m : yM} {n : Nat} {w : yW} {z : Int32} : yt_LIIIrZ mc ms Q g a0 a1 a2 a3 m n (some (.int z)) w = (w.2.2.1 ≤ mc ∧ w.2.2.2 ≤ ms ∧ rz z fun x => Q g a0 a1 a2 a3 m n x w.1 w.2.1) := by
  apply propext
  constructor
  · intro h
    obtain ⟨x, e, hq⟩ := h.2.2.2 _ _ _ _ rfl
    cases e
    exact ⟨h.2.1, h.2.2.1, ⟨x, rfl, hq⟩⟩
  · intro h
    obtain ⟨h1, h2, h3⟩ := h
    obtain ⟨x, rfl, h3⟩ := h3
    exact ⟨⟨_, rfl, bI_nar x⟩, h1, h2, fun _ _ _ _ e => by
      cases e
      exact ⟨x, rfl, h3⟩⟩
theorem ym_LIIIrZ_of {l : Launch} {y : MethodName} {own : String} {cc : ByteArray} {maxL fr lo mc ms : Nat} {P : hG → Nat → Int32 → Int32 → Int32 → yM → Nat → Prop} {Q : hG → Nat → Int32 → Int32 → Int32 → yM → Nat → Bool → yM → Nat → Prop} {T : hG → Nat → Nat → se_Op yW} (hy : plainName y.cls = true) (hyc : y.cls = own) (hT : yTS l own y.name cc maxL (some .boolean) fr lo mc ms T) (hL : 4 ≤ maxL)
    (body : ∀ (g : hG) (a0 : Nat) (a1 : Int32) (a2 : Int32) (a3 : Int32) (m : yM) (n : Nat), hVg g → yIn g m n → P g a0 a1 a2 a3 m n → ∀ G : Nat → se_L → List Value → yW → Prop, (∀ (stops : List Nat) (f pc : Nat) (L : se_L) (st : List Value) (w : yW), wpN True (T g) cc stops G (yXt mc ms (yNoX g [.ref a0, .int a1, .int a2, .int a3] m n)) (yt_LIIIrZ mc ms Q g a0 a1 a2 a3 m n) f pc L st w → G pc L st w) → G 0 (se_ent [.ref a0, .int a1, .int a2, .int a3] maxL) [] (m, n, 0, 0)) : ym_LIIIrZ l y (ws_ y cc maxL (some .boolean)) fr lo mc ms P Q :=
  yOf hy hyc hT (fun g av m n h => by
    obtain ⟨a0, a1, a2, a3, rfl, _⟩ := h
    exact hL) (fun g av m n h1 h2 hp G hG => by
    obtain ⟨a0, a1, a2, a3, rfl, hp⟩ := hp
    exact body g a0 a1 a2 a3 m n h1 h2 hp G hG)
abbrev ym_LIILrV (l : Launch) (y : MethodName) (ws : List Cond) (fr lo mc ms : Nat) (P : hG → Nat → Int32 → Int32 → Nat → yM → Nat → Prop) (Q : hG → Nat → Int32 → Int32 → Nat → yM → Nat → yM → Nat → Prop) : Prop := yCon l y ws fr lo mc ms (fun (g : hG) (av : List Value) (m : yM) (n : Nat) => ∃ (a0 : Nat) (a1 : Int32) (a2 : Int32) (a3 : Nat), av = [.ref a0, .int a1, .int a2, .ref a3] ∧ P g a0 a1 a2 a3 m n) (fun (g : hG) (av : List Value) (m : yM) (n : Nat) (v : Option Value) (m' : yM) (n' : Nat) => ∀ (a0 : Nat) (a1 : Int32) (a2 : Int32) (a3 : Nat), av = [.ref a0, .int a1, .int a2, .ref a3] → v = none ∧ Q g a0 a1 a2 a3 m n m' n') yNoX
def yo_LIILrV (g : hG) (mc ms mc' ms' : Nat) (P : hG → Nat → Int32 → Int32 → Nat → yM → Nat → Prop) (Q : hG → Nat → Int32 → Int32 → Nat → yM → Nat → yM → Nat → Prop) : se_Op yW := fun st w K Y => match st with
  | .ref a3 :: .int a2 :: .int a1 :: .ref a0 :: r => se_c8 8 r ∧ P g a0 a1 a2 a3 w.1 w.2.1 ∧ w.2.2.1 + mc' ≤ mc ∧ w.2.2.2 + ms' ≤ ms ∧ ∀ m' n', Q g a0 a1 a2 a3 w.1 w.2.1 m' n' → yIn g m' n' → w.2.1 ≤ n' → K r (m', n', w.2.2.1 + mc', w.2.2.2 + ms')
  | _ => False
theorem yo_LIILrV_r {g : hG} {mc ms mc' ms' : Nat} {P : hG → Nat → Int32 → Int32 → Nat → yM → Nat → Prop} {Q : hG → Nat → Int32 → Int32 → Nat → yM → Nat → yM → Nat → Prop} {a0 : Nat} {a1 : Int32} {a2 : Int32} {a3 : Nat} {r : List Value} {w : yW} {K : List Value → yW → Prop} {Y : Nat → yW → Prop} : yo_LIILrV g mc ms mc' ms' P Q (.ref a3 :: .int a2 :: .int a1 :: .ref a0 :: r) w K Y = (se_c8 8 r ∧ P g a0 a1 a2 a3 w.1 w.2.1 ∧ w.2.2.1 + mc' ≤ mc ∧ w.2.2.2 + ms' ≤ ms ∧ ∀ m' n', Q g a0 a1 a2 a3 w.1 w.2.1 m' n' → yIn g m' n' → w.2.1 ≤ n' → K r (m', n', w.2.2.1 + mc', w.2.2.2 + ms')) := rfl
theorem yo_LIILrV_ok {g : hG} {mc ms mc' ms' : Nat} {P : hG → Nat → Int32 → Int32 → Nat → yM → Nat → Prop} {Q : hG → Nat → Int32 → Int32 → Nat → yM → Nat → yM → Nat → Prop} {p : Program} {l : Launch} {e : Env} {R : Room} {s : State} {m : MethodId} {args : Array Value} {below : List Frame} {meth : Method} {c : Code} {nL : Nat} {cc : ByteArray} {Q0 : State → Prop} {H0 : Heap} {ins : Instr} {len : Nat} (hS : se_Snd p l e R s m args below meth c Q0 nL (fun a => a) (yRM g H0) cc ins len (yCS g 4 mc ms mc' ms' (fun (g : hG) (av : List Value) (m : yM) (n : Nat) => ∃ (a0 : Nat) (a1 : Int32) (a2 : Int32) (a3 : Nat), av = [.ref a0, .int a1, .int a2, .ref a3] ∧ P g a0 a1 a2 a3 m n) (fun (g : hG) (av : List Value) (m : yM) (n : Nat) (v : Option Value) (m' : yM) (n' : Nat) => ∀ (a0 : Nat) (a1 : Int32) (a2 : Int32) (a3 : Nat), av = [.ref a0, .int a1, .int a2, .ref a3] → v = none ∧ Q g a0 a1 a2 a3 m n m' n') yNoX)) : se_Snd p l e R s m args below meth c Q0 nL (fun a => a) (yRM g H0) cc ins len (yo_LIILrV g mc ms mc' ms' P Q) :=
  hS.mono fun st w K Y h => by
    unfold yo_LIILrV at h
    split at h
    · rename_i a3 a2 a1 a0 r
      obtain ⟨h8, hP, r1, r2, hq⟩ := h
      exact (⟨h8, ⟨a0, a1, a2, a3, rfl, hP⟩, r1, r2, fun v m' n' hp hi hn => by
              obtain ⟨rfl, hx⟩ := hp a0 a1 a2 a3 rfl
              exact hq m' n' hx hi hn, fun b m' n' hp => hp.elim⟩ : yGo g mc ms mc' ms' ((fun (g : hG) (av : List Value) (m : yM) (n : Nat) => ∃ (a0 : Nat) (a1 : Int32) (a2 : Int32) (a3 : Nat), av = [.ref a0, .int a1, .int a2, .ref a3] ∧ P g a0 a1 a2 a3 m n) g) ((fun (g : hG) (av : List Value) (m : yM) (n : Nat) (v : Option Value) (m' : yM) (n' : Nat) => ∀ (a0 : Nat) (a1 : Int32) (a2 : Int32) (a3 : Nat), av = [.ref a0, .int a1, .int a2, .ref a3] → v = none ∧ Q g a0 a1 a2 a3 m n m' n') g) (yNoX g) [.ref a0, .int a1, .int a2, .ref a3] r w K Y)
    · exact h.elim
def yf_LIILrV (g : hG) (mc ms : Nat) (P : hG → Nat → Int32 → Int32 → Nat → yM → Nat → Prop) (F : hG → Nat → Int32 → Int32 → Nat → yM → Nat → yM) : se_Op yW := fun st w K Y => match st with
  | .ref a3 :: .int a2 :: .int a1 :: .ref a0 :: r => se_c8 8 r ∧ P g a0 a1 a2 a3 w.1 w.2.1 ∧ w.2.2.1 ≤ mc ∧ w.2.2.2 ≤ ms ∧ K (r) (F g a0 a1 a2 a3 w.1 w.2.1, w.2)
  | _ => False
theorem yf_LIILrV_r {g : hG} {mc ms : Nat} {P : hG → Nat → Int32 → Int32 → Nat → yM → Nat → Prop} {F : hG → Nat → Int32 → Int32 → Nat → yM → Nat → yM} {a0 : Nat} {a1 : Int32} {a2 : Int32} {a3 : Nat} {r : List Value} {w : yW} {K : List Value → yW → Prop} {Y : Nat → yW → Prop} : yf_LIILrV g mc ms P F (.ref a3 :: .int a2 :: .int a1 :: .ref a0 :: r) w K Y = (se_c8 8 r ∧ P g a0 a1 a2 a3 w.1 w.2.1 ∧ w.2.2.1 ≤ mc ∧ w.2.2.2 ≤ ms ∧ K (r) (F g a0 a1 a2 a3 w.1 w.2.1, w.2)) := rfl
theorem yf_LIILrV_ok {g : hG} {mc ms : Nat} {P : hG → Nat → Int32 → Int32 → Nat → yM → Nat → Prop} {F : hG → Nat → Int32 → Int32 → Nat → yM → Nat → yM} {p : Program} {l : Launch} {e : Env} {R : Room} {s : State} {m : MethodId} {args : Array Value} {below : List Frame} {meth : Method} {c : Code} {nL : Nat} {cc : ByteArray} {Q0 : State → Prop} {H0 : Heap} {ins : Instr} {len : Nat} (hS : se_Snd p l e R s m args below meth c Q0 nL (fun a => a) (yRM g H0) cc ins len (yo_LIILrV g mc ms 0 0 P (fun g a0 a1 a2 a3 m n m' n' => m' = F g a0 a1 a2 a3 m n ∧ n' = n))) : se_Snd p l e R s m args below meth c Q0 nL (fun a => a) (yRM g H0) cc ins len (yf_LIILrV g mc ms P F) :=
  hS.mono fun st w K Y h => by
    unfold yf_LIILrV at h
    split at h
    · rename_i a3 a2 a1 a0 r
      obtain ⟨h8, hP, r1, r2, hq⟩ := h
      exact ⟨h8, hP, r1, r2, fun m' n' e _ _ => by
              obtain ⟨rfl, rfl⟩ := e
              exact hq⟩
    · exact h.elim
def yt_LIILrV (mc ms : Nat) (Q : hG → Nat → Int32 → Int32 → Nat → yM → Nat → yM → Nat → Prop) (g : hG) (a0 : Nat) (a1 : Int32) (a2 : Int32) (a3 : Nat) (m : yM) (n : Nat) : Option Value → yW → Prop := yRt none mc ms ((fun (g : hG) (av : List Value) (m : yM) (n : Nat) (v : Option Value) (m' : yM) (n' : Nat) => ∀ (a0 : Nat) (a1 : Int32) (a2 : Int32) (a3 : Nat), av = [.ref a0, .int a1, .int a2, .ref a3] → v = none ∧ Q g a0 a1 a2 a3 m n m' n') g [.ref a0, .int a1, .int a2, .ref a3] m n)
theorem yt_LIILrV_e {mc ms : Nat} {Q : hG → Nat → Int32 → Int32 → Nat → yM → Nat → yM → Nat → Prop} {g : hG} {a0 : Nat} {a1 : Int32} {a2 : Int32} {a3 : Nat} {m : yM} {n : Nat} {w : yW} : yt_LIILrV mc ms Q g a0 a1 a2 a3 m n none w = (w.2.2.1 ≤ mc ∧ w.2.2.2 ≤ ms ∧ Q g a0 a1 a2 a3 m n w.1 w.2.1) := by
  apply propext
  exact ⟨fun h => ⟨h.2.1, h.2.2.1, (h.2.2.2 _ _ _ _ rfl).2⟩, fun h => ⟨rfl, h.1, h.2.1, fun _ _ _ _ e => by
    cases e
    exact ⟨rfl, h.2.2⟩⟩⟩
theorem ym_LIILrV_of {l : Launch} {y : MethodName} {own : String} {cc : ByteArray} {maxL fr lo mc ms : Nat} {P : hG → Nat → Int32 → Int32 → Nat → yM → Nat → Prop} {Q : hG → Nat → Int32 → Int32 → Nat → yM → Nat → yM → Nat → Prop} {T : hG → Nat → Nat → se_Op yW} (hy : plainName y.cls = true) (hyc : y.cls = own) (hT : yTS l own y.name cc maxL none fr lo mc ms T) (hL : 4 ≤ maxL)
    (body : ∀ (g : hG) (a0 : Nat) (a1 : Int32) (a2 : Int32) (a3 : Nat) (m : yM) (n : Nat), hVg g → yIn g m n → P g a0 a1 a2 a3 m n → ∀ G : Nat → se_L → List Value → yW → Prop, (∀ (stops : List Nat) (f pc : Nat) (L : se_L) (st : List Value) (w : yW), wpN True (T g) cc stops G (yXt mc ms (yNoX g [.ref a0, .int a1, .int a2, .ref a3] m n)) (yt_LIILrV mc ms Q g a0 a1 a2 a3 m n) f pc L st w → G pc L st w) → G 0 (se_ent [.ref a0, .int a1, .int a2, .ref a3] maxL) [] (m, n, 0, 0)) : ym_LIILrV l y (ws_ y cc maxL none) fr lo mc ms P Q :=
  yOf hy hyc hT (fun g av m n h => by
    obtain ⟨a0, a1, a2, a3, rfl, _⟩ := h
    exact hL) (fun g av m n h1 h2 hp G hG => by
    obtain ⟨a0, a1, a2, a3, rfl, hp⟩ := hp
    exact body g a0 a1 a2 a3 m n h1 h2 hp G hG)
abbrev ym_LIIZrZ (l : Launch) (y : MethodName) (ws : List Cond) (fr lo mc ms : Nat) (P : hG → Nat → Int32 → Int32 → Int32 → yM → Nat → Prop) (Q : hG → Nat → Int32 → Int32 → Int32 → yM → Nat → Bool → yM → Nat → Prop) : Prop := yCon l y ws fr lo mc ms (fun (g : hG) (av : List Value) (m : yM) (n : Nat) => ∃ (a0 : Nat) (a1 : Int32) (a2 : Int32) (a3 : Int32), av = [.ref a0, .int a1, .int a2, .int a3] ∧ P g a0 a1 a2 a3 m n) (fun (g : hG) (av : List Value) (m : yM) (n : Nat) (v : Option Value) (m' : yM) (n' : Nat) => ∀ (a0 : Nat) (a1 : Int32) (a2 : Int32) (a3 : Int32), av = [.ref a0, .int a1, .int a2, .int a3] → ∃ x, v = some (.int (bI x)) ∧ Q g a0 a1 a2 a3 m n x m' n') yNoX
def yov_LIIZrZ (g : hG) (mc ms mc' ms' : Nat) (cs : List Nat) (P : hG → Nat → Int32 → Int32 → Int32 → yM → Nat → Prop) (Q : hG → Nat → Int32 → Int32 → Int32 → yM → Nat → Bool → yM → Nat → Prop) : se_Op yW := fun st w K Y => match st with
  | .int a3 :: .int a2 :: .int a1 :: .ref a0 :: r => yc w.1 a0 ∈ cs ∧ se_c8 8 r ∧ P g a0 a1 a2 a3 w.1 w.2.1 ∧ w.2.2.1 + mc' ≤ mc ∧ w.2.2.2 + ms' ≤ ms ∧ ∀ x m' n', Q g a0 a1 a2 a3 w.1 w.2.1 x m' n' → yIn g m' n' → w.2.1 ≤ n' → K (.int (bI x) :: r) (m', n', w.2.2.1 + mc', w.2.2.2 + ms')
  | _ => False
theorem yov_LIIZrZ_r {g : hG} {mc ms mc' ms' : Nat} {cs : List Nat} {P : hG → Nat → Int32 → Int32 → Int32 → yM → Nat → Prop} {Q : hG → Nat → Int32 → Int32 → Int32 → yM → Nat → Bool → yM → Nat → Prop} {a0 : Nat} {a1 : Int32} {a2 : Int32} {a3 : Int32} {r : List Value} {w : yW} {K : List Value → yW → Prop} {Y : Nat → yW → Prop} : yov_LIIZrZ g mc ms mc' ms' cs P Q (.int a3 :: .int a2 :: .int a1 :: .ref a0 :: r) w K Y = (yc w.1 a0 ∈ cs ∧ se_c8 8 r ∧ P g a0 a1 a2 a3 w.1 w.2.1 ∧ w.2.2.1 + mc' ≤ mc ∧ w.2.2.2 + ms' ≤ ms ∧ ∀ x m' n', Q g a0 a1 a2 a3 w.1 w.2.1 x m' n' → yIn g m' n' → w.2.1 ≤ n' → K (.int (bI x) :: r) (m', n', w.2.2.1 + mc', w.2.2.2 + ms')) := rfl
theorem yov_LIIZrZ_ok {g : hG} {mc ms mc' ms' : Nat} {cs : List Nat} {P : hG → Nat → Int32 → Int32 → Int32 → yM → Nat → Prop} {Q : hG → Nat → Int32 → Int32 → Int32 → yM → Nat → Bool → yM → Nat → Prop} {p : Program} {l : Launch} {e : Env} {R : Room} {s : State} {m : MethodId} {args : Array Value} {below : List Frame} {meth : Method} {c : Code} {nL : Nat} {cc : ByteArray} {Q0 : State → Prop} {H0 : Heap} {ins : Instr} {len : Nat} (hS : se_Snd p l e R s m args below meth c Q0 nL (fun a => a) (yRM g H0) cc ins len (yCV g 3 mc ms mc' ms' cs (fun (g : hG) (av : List Value) (m : yM) (n : Nat) => ∃ (a0 : Nat) (a1 : Int32) (a2 : Int32) (a3 : Int32), av = [.ref a0, .int a1, .int a2, .int a3] ∧ P g a0 a1 a2 a3 m n) (fun (g : hG) (av : List Value) (m : yM) (n : Nat) (v : Option Value) (m' : yM) (n' : Nat) => ∀ (a0 : Nat) (a1 : Int32) (a2 : Int32) (a3 : Int32), av = [.ref a0, .int a1, .int a2, .int a3] → ∃ x, v = some (.int (bI x)) ∧ Q g a0 a1 a2 a3 m n x m' n') yNoX)) : se_Snd p l e R s m args below meth c Q0 nL (fun a => a) (yRM g H0) cc ins len (yov_LIIZrZ g mc ms mc' ms' cs P Q) :=
  hS.mono fun st w K Y h => by
    unfold yov_LIIZrZ at h
    split at h
    · rename_i a3 a2 a1 a0 r
      obtain ⟨hc, h8, hP, r1, r2, hq⟩ := h
      exact (⟨hc, h8, ⟨a0, a1, a2, a3, rfl, hP⟩, r1, r2, fun v m' n' hp hi hn => by
              obtain ⟨x, rfl, hx⟩ := hp a0 a1 a2 a3 rfl
              exact hq x m' n' hx hi hn, fun b m' n' hp => hp.elim⟩ : (yRcv cs w.1 [.ref a0, .int a1, .int a2, .int a3] ∧ yGo g mc ms mc' ms' ((fun (g : hG) (av : List Value) (m : yM) (n : Nat) => ∃ (a0 : Nat) (a1 : Int32) (a2 : Int32) (a3 : Int32), av = [.ref a0, .int a1, .int a2, .int a3] ∧ P g a0 a1 a2 a3 m n) g) ((fun (g : hG) (av : List Value) (m : yM) (n : Nat) (v : Option Value) (m' : yM) (n' : Nat) => ∀ (a0 : Nat) (a1 : Int32) (a2 : Int32) (a3 : Int32), av = [.ref a0, .int a1, .int a2, .int a3] → ∃ x, v = some (.int (bI x)) ∧ Q g a0 a1 a2 a3 m n x m' n') g) (yNoX g) [.ref a0, .int a1, .int a2, .int a3] r w K Y))
    · exact h.elim
def ypv_LIIZrZ (g : hG) (mc ms : Nat) (cs : List Nat) (P : hG → Nat → Int32 → Int32 → Int32 → yM → Nat → Prop) (R0 : hG → Nat → Int32 → Int32 → Int32 → yM → Nat → Bool) : se_Op yW := fun st w K Y => match st with
  | .int a3 :: .int a2 :: .int a1 :: .ref a0 :: r => yc w.1 a0 ∈ cs ∧ se_c8 8 r ∧ P g a0 a1 a2 a3 w.1 w.2.1 ∧ w.2.2.1 ≤ mc ∧ w.2.2.2 ≤ ms ∧ K (.int (bI (R0 g a0 a1 a2 a3 w.1 w.2.1)) :: r) w
  | _ => False
theorem ypv_LIIZrZ_r {g : hG} {mc ms : Nat} {cs : List Nat} {P : hG → Nat → Int32 → Int32 → Int32 → yM → Nat → Prop} {R0 : hG → Nat → Int32 → Int32 → Int32 → yM → Nat → Bool} {a0 : Nat} {a1 : Int32} {a2 : Int32} {a3 : Int32} {r : List Value} {w : yW} {K : List Value → yW → Prop} {Y : Nat → yW → Prop} : ypv_LIIZrZ g mc ms cs P R0 (.int a3 :: .int a2 :: .int a1 :: .ref a0 :: r) w K Y = (yc w.1 a0 ∈ cs ∧ se_c8 8 r ∧ P g a0 a1 a2 a3 w.1 w.2.1 ∧ w.2.2.1 ≤ mc ∧ w.2.2.2 ≤ ms ∧ K (.int (bI (R0 g a0 a1 a2 a3 w.1 w.2.1)) :: r) w) := rfl
theorem ypv_LIIZrZ_ok {g : hG} {mc ms : Nat} {cs : List Nat} {P : hG → Nat → Int32 → Int32 → Int32 → yM → Nat → Prop} {R0 : hG → Nat → Int32 → Int32 → Int32 → yM → Nat → Bool} {p : Program} {l : Launch} {e : Env} {R : Room} {s : State} {m : MethodId} {args : Array Value} {below : List Frame} {meth : Method} {c : Code} {nL : Nat} {cc : ByteArray} {Q0 : State → Prop} {H0 : Heap} {ins : Instr} {len : Nat} (hS : se_Snd p l e R s m args below meth c Q0 nL (fun a => a) (yRM g H0) cc ins len (yov_LIIZrZ g mc ms 0 0 cs P (fun g a0 a1 a2 a3 m n x m' n' => x = R0 g a0 a1 a2 a3 m n ∧ m' = m ∧ n' = n))) : se_Snd p l e R s m args below meth c Q0 nL (fun a => a) (yRM g H0) cc ins len (ypv_LIIZrZ g mc ms cs P R0) :=
  hS.mono fun st w K Y h => by
    unfold ypv_LIIZrZ at h
    split at h
    · rename_i a3 a2 a1 a0 r
      obtain ⟨hc, h8, hP, r1, r2, hq⟩ := h
      exact ⟨hc, h8, hP, r1, r2, fun x m' n' e _ _ => by
              obtain ⟨rfl, rfl, rfl⟩ := e
              exact hq⟩
    · exact h.elim
def yfv_LIIZrZ (g : hG) (mc ms : Nat) (cs : List Nat) (P : hG → Nat → Int32 → Int32 → Int32 → yM → Nat → Prop) (R0 : hG → Nat → Int32 → Int32 → Int32 → yM → Nat → Bool) (F : hG → Nat → Int32 → Int32 → Int32 → yM → Nat → yM) : se_Op yW := fun st w K Y => match st with
  | .int a3 :: .int a2 :: .int a1 :: .ref a0 :: r => yc w.1 a0 ∈ cs ∧ se_c8 8 r ∧ P g a0 a1 a2 a3 w.1 w.2.1 ∧ w.2.2.1 ≤ mc ∧ w.2.2.2 ≤ ms ∧ K (.int (bI (R0 g a0 a1 a2 a3 w.1 w.2.1)) :: r) (F g a0 a1 a2 a3 w.1 w.2.1, w.2)
  | _ => False
theorem yfv_LIIZrZ_r {g : hG} {mc ms : Nat} {cs : List Nat} {P : hG → Nat → Int32 → Int32 → Int32 → yM → Nat → Prop} {R0 : hG → Nat → Int32 → Int32 → Int32 → yM → Nat → Bool} {F : hG → Nat → Int32 → Int32 → Int32 → yM → Nat → yM} {a0 : Nat} {a1 : Int32} {a2 : Int32} {a3 : Int32} {r : List Value} {w : yW} {K : List Value → yW → Prop} {Y : Nat → yW → Prop} : yfv_LIIZrZ g mc ms cs P R0 F (.int a3 :: .int a2 :: .int a1 :: .ref a0 :: r) w K Y = (yc w.1 a0 ∈ cs ∧ se_c8 8 r ∧ P g a0 a1 a2 a3 w.1 w.2.1 ∧ w.2.2.1 ≤ mc ∧ w.2.2.2 ≤ ms ∧ K (.int (bI (R0 g a0 a1 a2 a3 w.1 w.2.1)) :: r) (F g a0 a1 a2 a3 w.1 w.2.1, w.2)) := rfl
theorem yfv_LIIZrZ_ok {g : hG} {mc ms : Nat} {cs : List Nat} {P : hG → Nat → Int32 → Int32 → Int32 → yM → Nat → Prop} {R0 : hG → Nat → Int32 → Int32 → Int32 → yM → Nat → Bool} {F : hG → Nat → Int32 → Int32 → Int32 → yM → Nat → yM} {p : Program} {l : Launch} {e : Env} {R : Room} {s : State} {m : MethodId} {args : Array Value} {below : List Frame} {meth : Method} {c : Code} {nL : Nat} {cc : ByteArray} {Q0 : State → Prop} {H0 : Heap} {ins : Instr} {len : Nat} (hS : se_Snd p l e R s m args below meth c Q0 nL (fun a => a) (yRM g H0) cc ins len (yov_LIIZrZ g mc ms 0 0 cs P (fun g a0 a1 a2 a3 m n x m' n' => x = R0 g a0 a1 a2 a3 m n ∧ m' = F g a0 a1 a2 a3 m n ∧ n' = n))) : se_Snd p l e R s m args below meth c Q0 nL (fun a => a) (yRM g H0) cc ins len (yfv_LIIZrZ g mc ms cs P R0 F) :=
  hS.mono fun st w K Y h => by
    unfold yfv_LIIZrZ at h
    split at h
    · rename_i a3 a2 a1 a0 r
      obtain ⟨hc, h8, hP, r1, r2, hq⟩ := h
      exact ⟨hc, h8, hP, r1, r2, fun x m' n' e _ _ => by
              obtain ⟨rfl, rfl, rfl⟩ := e
              exact hq⟩
    · exact h.elim
def yt_LIIZrZ (mc ms : Nat) (Q : hG → Nat → Int32 → Int32 → Int32 → yM → Nat → Bool → yM → Nat → Prop) (g : hG) (a0 : Nat) (a1 : Int32) (a2 : Int32) (a3 : Int32) (m : yM) (n : Nat) : Option Value → yW → Prop := yRt (some .boolean) mc ms ((fun (g : hG) (av : List Value) (m : yM) (n : Nat) (v : Option Value) (m' : yM) (n' : Nat) => ∀ (a0 : Nat) (a1 : Int32) (a2 : Int32) (a3 : Int32), av = [.ref a0, .int a1, .int a2, .int a3] → ∃ x, v = some (.int (bI x)) ∧ Q g a0 a1 a2 a3 m n x m' n') g [.ref a0, .int a1, .int a2, .int a3] m n)
theorem yt_LIIZrZ_e {mc ms : Nat} {Q : hG → Nat → Int32 → Int32 → Int32 → yM → Nat → Bool → yM → Nat → Prop} {g : hG} {a0 : Nat} {a1 : Int32} {a2 : Int32} {a3 : Int32} {m : yM} {n : Nat} {w : yW} {z : Int32} : yt_LIIZrZ mc ms Q g a0 a1 a2 a3 m n (some (.int z)) w = (w.2.2.1 ≤ mc ∧ w.2.2.2 ≤ ms ∧ rz z fun x => Q g a0 a1 a2 a3 m n x w.1 w.2.1) := by
  apply propext
  constructor
  · intro h
    obtain ⟨x, e, hq⟩ := h.2.2.2 _ _ _ _ rfl
    cases e
    exact ⟨h.2.1, h.2.2.1, ⟨x, rfl, hq⟩⟩
  · intro h
    obtain ⟨h1, h2, h3⟩ := h
    obtain ⟨x, rfl, h3⟩ := h3
    exact ⟨⟨_, rfl, bI_nar x⟩, h1, h2, fun _ _ _ _ e => by
      cases e
      exact ⟨x, rfl, h3⟩⟩
theorem ym_LIIZrZ_of {l : Launch} {y : MethodName} {own : String} {cc : ByteArray} {maxL fr lo mc ms : Nat} {P : hG → Nat → Int32 → Int32 → Int32 → yM → Nat → Prop} {Q : hG → Nat → Int32 → Int32 → Int32 → yM → Nat → Bool → yM → Nat → Prop} {T : hG → Nat → Nat → se_Op yW} (hy : plainName y.cls = true) (hyc : y.cls = own) (hT : yTS l own y.name cc maxL (some .boolean) fr lo mc ms T) (hL : 4 ≤ maxL)
    (body : ∀ (g : hG) (a0 : Nat) (a1 : Int32) (a2 : Int32) (a3 : Int32) (m : yM) (n : Nat), hVg g → yIn g m n → P g a0 a1 a2 a3 m n → ∀ G : Nat → se_L → List Value → yW → Prop, (∀ (stops : List Nat) (f pc : Nat) (L : se_L) (st : List Value) (w : yW), wpN True (T g) cc stops G (yXt mc ms (yNoX g [.ref a0, .int a1, .int a2, .int a3] m n)) (yt_LIIZrZ mc ms Q g a0 a1 a2 a3 m n) f pc L st w → G pc L st w) → G 0 (se_ent [.ref a0, .int a1, .int a2, .int a3] maxL) [] (m, n, 0, 0)) : ym_LIIZrZ l y (ws_ y cc maxL (some .boolean)) fr lo mc ms P Q :=
  yOf hy hyc hT (fun g av m n h => by
    obtain ⟨a0, a1, a2, a3, rfl, _⟩ := h
    exact hL) (fun g av m n h1 h2 hp G hG => by
    obtain ⟨a0, a1, a2, a3, rfl, hp⟩ := hp
    exact body g a0 a1 a2 a3 m n h1 h2 hp G hG)
abbrev ym_LIIrI (l : Launch) (y : MethodName) (ws : List Cond) (fr lo mc ms : Nat) (P : hG → Nat → Int32 → Int32 → yM → Nat → Prop) (Q : hG → Nat → Int32 → Int32 → yM → Nat → Int32 → yM → Nat → Prop) : Prop := yCon l y ws fr lo mc ms (fun (g : hG) (av : List Value) (m : yM) (n : Nat) => ∃ (a0 : Nat) (a1 : Int32) (a2 : Int32), av = [.ref a0, .int a1, .int a2] ∧ P g a0 a1 a2 m n) (fun (g : hG) (av : List Value) (m : yM) (n : Nat) (v : Option Value) (m' : yM) (n' : Nat) => ∀ (a0 : Nat) (a1 : Int32) (a2 : Int32), av = [.ref a0, .int a1, .int a2] → ∃ x, v = some (.int x) ∧ Q g a0 a1 a2 m n x m' n') yNoX
def yov_LIIrI (g : hG) (mc ms mc' ms' : Nat) (cs : List Nat) (P : hG → Nat → Int32 → Int32 → yM → Nat → Prop) (Q : hG → Nat → Int32 → Int32 → yM → Nat → Int32 → yM → Nat → Prop) : se_Op yW := fun st w K Y => match st with
  | .int a2 :: .int a1 :: .ref a0 :: r => yc w.1 a0 ∈ cs ∧ se_c8 8 r ∧ P g a0 a1 a2 w.1 w.2.1 ∧ w.2.2.1 + mc' ≤ mc ∧ w.2.2.2 + ms' ≤ ms ∧ ∀ x m' n', Q g a0 a1 a2 w.1 w.2.1 x m' n' → yIn g m' n' → w.2.1 ≤ n' → K (.int x :: r) (m', n', w.2.2.1 + mc', w.2.2.2 + ms')
  | _ => False
theorem yov_LIIrI_r {g : hG} {mc ms mc' ms' : Nat} {cs : List Nat} {P : hG → Nat → Int32 → Int32 → yM → Nat → Prop} {Q : hG → Nat → Int32 → Int32 → yM → Nat → Int32 → yM → Nat → Prop} {a0 : Nat} {a1 : Int32} {a2 : Int32} {r : List Value} {w : yW} {K : List Value → yW → Prop} {Y : Nat → yW → Prop} : yov_LIIrI g mc ms mc' ms' cs P Q (.int a2 :: .int a1 :: .ref a0 :: r) w K Y = (yc w.1 a0 ∈ cs ∧ se_c8 8 r ∧ P g a0 a1 a2 w.1 w.2.1 ∧ w.2.2.1 + mc' ≤ mc ∧ w.2.2.2 + ms' ≤ ms ∧ ∀ x m' n', Q g a0 a1 a2 w.1 w.2.1 x m' n' → yIn g m' n' → w.2.1 ≤ n' → K (.int x :: r) (m', n', w.2.2.1 + mc', w.2.2.2 + ms')) := rfl
theorem yov_LIIrI_ok {g : hG} {mc ms mc' ms' : Nat} {cs : List Nat} {P : hG → Nat → Int32 → Int32 → yM → Nat → Prop} {Q : hG → Nat → Int32 → Int32 → yM → Nat → Int32 → yM → Nat → Prop} {p : Program} {l : Launch} {e : Env} {R : Room} {s : State} {m : MethodId} {args : Array Value} {below : List Frame} {meth : Method} {c : Code} {nL : Nat} {cc : ByteArray} {Q0 : State → Prop} {H0 : Heap} {ins : Instr} {len : Nat} (hS : se_Snd p l e R s m args below meth c Q0 nL (fun a => a) (yRM g H0) cc ins len (yCV g 2 mc ms mc' ms' cs (fun (g : hG) (av : List Value) (m : yM) (n : Nat) => ∃ (a0 : Nat) (a1 : Int32) (a2 : Int32), av = [.ref a0, .int a1, .int a2] ∧ P g a0 a1 a2 m n) (fun (g : hG) (av : List Value) (m : yM) (n : Nat) (v : Option Value) (m' : yM) (n' : Nat) => ∀ (a0 : Nat) (a1 : Int32) (a2 : Int32), av = [.ref a0, .int a1, .int a2] → ∃ x, v = some (.int x) ∧ Q g a0 a1 a2 m n x m' n') yNoX)) : se_Snd p l e R s m args below meth c Q0 nL (fun a => a) (yRM g H0) cc ins len (yov_LIIrI g mc ms mc' ms' cs P Q) :=
  hS.mono fun st w K Y h => by
    unfold yov_LIIrI at h
    split at h
    · rename_i a2 a1 a0 r
      obtain ⟨hc, h8, hP, r1, r2, hq⟩ := h
      exact (⟨hc, h8, ⟨a0, a1, a2, rfl, hP⟩, r1, r2, fun v m' n' hp hi hn => by
              obtain ⟨x, rfl, hx⟩ := hp a0 a1 a2 rfl
              exact hq x m' n' hx hi hn, fun b m' n' hp => hp.elim⟩ : (yRcv cs w.1 [.ref a0, .int a1, .int a2] ∧ yGo g mc ms mc' ms' ((fun (g : hG) (av : List Value) (m : yM) (n : Nat) => ∃ (a0 : Nat) (a1 : Int32) (a2 : Int32), av = [.ref a0, .int a1, .int a2] ∧ P g a0 a1 a2 m n) g) ((fun (g : hG) (av : List Value) (m : yM) (n : Nat) (v : Option Value) (m' : yM) (n' : Nat) => ∀ (a0 : Nat) (a1 : Int32) (a2 : Int32), av = [.ref a0, .int a1, .int a2] → ∃ x, v = some (.int x) ∧ Q g a0 a1 a2 m n x m' n') g) (yNoX g) [.ref a0, .int a1, .int a2] r w K Y))
    · exact h.elim
abbrev ymx_LIIrI (l : Launch) (y : MethodName) (ws : List Cond) (fr lo mc ms : Nat) (P : hG → Nat → Int32 → Int32 → yM → Nat → Prop) (Q : hG → Nat → Int32 → Int32 → yM → Nat → Int32 → yM → Nat → Prop) (X : hG → Nat → Int32 → Int32 → yM → Nat → Nat → yM → Nat → Prop) : Prop := yCon l y ws fr lo mc ms (fun (g : hG) (av : List Value) (m : yM) (n : Nat) => ∃ (a0 : Nat) (a1 : Int32) (a2 : Int32), av = [.ref a0, .int a1, .int a2] ∧ P g a0 a1 a2 m n) (fun (g : hG) (av : List Value) (m : yM) (n : Nat) (v : Option Value) (m' : yM) (n' : Nat) => ∀ (a0 : Nat) (a1 : Int32) (a2 : Int32), av = [.ref a0, .int a1, .int a2] → ∃ x, v = some (.int x) ∧ Q g a0 a1 a2 m n x m' n') (fun (g : hG) (av : List Value) (m : yM) (n : Nat) (b : Nat) (m' : yM) (n' : Nat) => ∃ (a0 : Nat) (a1 : Int32) (a2 : Int32), av = [.ref a0, .int a1, .int a2] ∧ X g a0 a1 a2 m n b m' n')
def yovx_LIIrI (g : hG) (mc ms mc' ms' : Nat) (cs : List Nat) (P : hG → Nat → Int32 → Int32 → yM → Nat → Prop) (Q : hG → Nat → Int32 → Int32 → yM → Nat → Int32 → yM → Nat → Prop) (X : hG → Nat → Int32 → Int32 → yM → Nat → Nat → yM → Nat → Prop) : se_Op yW := fun st w K Y => match st with
  | .int a2 :: .int a1 :: .ref a0 :: r => yc w.1 a0 ∈ cs ∧ se_c8 8 r ∧ P g a0 a1 a2 w.1 w.2.1 ∧ w.2.2.1 + mc' ≤ mc ∧ w.2.2.2 + ms' ≤ ms ∧ (∀ x m' n', Q g a0 a1 a2 w.1 w.2.1 x m' n' → yIn g m' n' → w.2.1 ≤ n' → K (.int x :: r) (m', n', w.2.2.1 + mc', w.2.2.2 + ms')) ∧ ∀ b m' n', X g a0 a1 a2 w.1 w.2.1 b m' n' → yIn g m' n' → w.2.1 ≤ n' → Y b (m', n', w.2.2.1 + mc', w.2.2.2 + ms')
  | _ => False
theorem yovx_LIIrI_r {g : hG} {mc ms mc' ms' : Nat} {cs : List Nat} {P : hG → Nat → Int32 → Int32 → yM → Nat → Prop} {Q : hG → Nat → Int32 → Int32 → yM → Nat → Int32 → yM → Nat → Prop} {X : hG → Nat → Int32 → Int32 → yM → Nat → Nat → yM → Nat → Prop} {a0 : Nat} {a1 : Int32} {a2 : Int32} {r : List Value} {w : yW} {K : List Value → yW → Prop} {Y : Nat → yW → Prop} : yovx_LIIrI g mc ms mc' ms' cs P Q X (.int a2 :: .int a1 :: .ref a0 :: r) w K Y = (yc w.1 a0 ∈ cs ∧ se_c8 8 r ∧ P g a0 a1 a2 w.1 w.2.1 ∧ w.2.2.1 + mc' ≤ mc ∧ w.2.2.2 + ms' ≤ ms ∧ (∀ x m' n', Q g a0 a1 a2 w.1 w.2.1 x m' n' → yIn g m' n' → w.2.1 ≤ n' → K (.int x :: r) (m', n', w.2.2.1 + mc', w.2.2.2 + ms')) ∧ ∀ b m' n', X g a0 a1 a2 w.1 w.2.1 b m' n' → yIn g m' n' → w.2.1 ≤ n' → Y b (m', n', w.2.2.1 + mc', w.2.2.2 + ms')) := rfl
theorem yovx_LIIrI_ok {g : hG} {mc ms mc' ms' : Nat} {cs : List Nat} {P : hG → Nat → Int32 → Int32 → yM → Nat → Prop} {Q : hG → Nat → Int32 → Int32 → yM → Nat → Int32 → yM → Nat → Prop} {X : hG → Nat → Int32 → Int32 → yM → Nat → Nat → yM → Nat → Prop} {p : Program} {l : Launch} {e : Env} {R : Room} {s : State} {m : MethodId} {args : Array Value} {below : List Frame} {meth : Method} {c : Code} {nL : Nat} {cc : ByteArray} {Q0 : State → Prop} {H0 : Heap} {ins : Instr} {len : Nat} (hS : se_Snd p l e R s m args below meth c Q0 nL (fun a => a) (yRM g H0) cc ins len (yCV g 2 mc ms mc' ms' cs (fun (g : hG) (av : List Value) (m : yM) (n : Nat) => ∃ (a0 : Nat) (a1 : Int32) (a2 : Int32), av = [.ref a0, .int a1, .int a2] ∧ P g a0 a1 a2 m n) (fun (g : hG) (av : List Value) (m : yM) (n : Nat) (v : Option Value) (m' : yM) (n' : Nat) => ∀ (a0 : Nat) (a1 : Int32) (a2 : Int32), av = [.ref a0, .int a1, .int a2] → ∃ x, v = some (.int x) ∧ Q g a0 a1 a2 m n x m' n') (fun (g : hG) (av : List Value) (m : yM) (n : Nat) (b : Nat) (m' : yM) (n' : Nat) => ∃ (a0 : Nat) (a1 : Int32) (a2 : Int32), av = [.ref a0, .int a1, .int a2] ∧ X g a0 a1 a2 m n b m' n'))) : se_Snd p l e R s m args below meth c Q0 nL (fun a => a) (yRM g H0) cc ins len (yovx_LIIrI g mc ms mc' ms' cs P Q X) :=
  hS.mono fun st w K Y h => by
    unfold yovx_LIIrI at h
    split at h
    · rename_i a2 a1 a0 r
      obtain ⟨hc, h8, hP, r1, r2, hq⟩ := h
      exact (⟨hc, h8, ⟨a0, a1, a2, rfl, hP⟩, r1, r2, fun v m' n' hp hi hn => by
              obtain ⟨x, rfl, hx⟩ := hp a0 a1 a2 rfl
              exact hq.1 x m' n' hx hi hn, fun b m' n' hp hi hn => by
              obtain ⟨z0, z1, z2, e, hx⟩ := hp
              cases e
              exact hq.2 b m' n' hx hi hn⟩ : (yRcv cs w.1 [.ref a0, .int a1, .int a2] ∧ yGo g mc ms mc' ms' ((fun (g : hG) (av : List Value) (m : yM) (n : Nat) => ∃ (a0 : Nat) (a1 : Int32) (a2 : Int32), av = [.ref a0, .int a1, .int a2] ∧ P g a0 a1 a2 m n) g) ((fun (g : hG) (av : List Value) (m : yM) (n : Nat) (v : Option Value) (m' : yM) (n' : Nat) => ∀ (a0 : Nat) (a1 : Int32) (a2 : Int32), av = [.ref a0, .int a1, .int a2] → ∃ x, v = some (.int x) ∧ Q g a0 a1 a2 m n x m' n') g) ((fun (g : hG) (av : List Value) (m : yM) (n : Nat) (b : Nat) (m' : yM) (n' : Nat) => ∃ (a0 : Nat) (a1 : Int32) (a2 : Int32), av = [.ref a0, .int a1, .int a2] ∧ X g a0 a1 a2 m n b m' n') g) [.ref a0, .int a1, .int a2] r w K Y))
    · exact h.elim
def ypv_LIIrI (g : hG) (mc ms : Nat) (cs : List Nat) (P : hG → Nat → Int32 → Int32 → yM → Nat → Prop) (R0 : hG → Nat → Int32 → Int32 → yM → Nat → Int32) : se_Op yW := fun st w K Y => match st with
  | .int a2 :: .int a1 :: .ref a0 :: r => yc w.1 a0 ∈ cs ∧ se_c8 8 r ∧ P g a0 a1 a2 w.1 w.2.1 ∧ w.2.2.1 ≤ mc ∧ w.2.2.2 ≤ ms ∧ K (.int (R0 g a0 a1 a2 w.1 w.2.1) :: r) w
  | _ => False
theorem ypv_LIIrI_r {g : hG} {mc ms : Nat} {cs : List Nat} {P : hG → Nat → Int32 → Int32 → yM → Nat → Prop} {R0 : hG → Nat → Int32 → Int32 → yM → Nat → Int32} {a0 : Nat} {a1 : Int32} {a2 : Int32} {r : List Value} {w : yW} {K : List Value → yW → Prop} {Y : Nat → yW → Prop} : ypv_LIIrI g mc ms cs P R0 (.int a2 :: .int a1 :: .ref a0 :: r) w K Y = (yc w.1 a0 ∈ cs ∧ se_c8 8 r ∧ P g a0 a1 a2 w.1 w.2.1 ∧ w.2.2.1 ≤ mc ∧ w.2.2.2 ≤ ms ∧ K (.int (R0 g a0 a1 a2 w.1 w.2.1) :: r) w) := rfl
theorem ypv_LIIrI_ok {g : hG} {mc ms : Nat} {cs : List Nat} {P : hG → Nat → Int32 → Int32 → yM → Nat → Prop} {R0 : hG → Nat → Int32 → Int32 → yM → Nat → Int32} {p : Program} {l : Launch} {e : Env} {R : Room} {s : State} {m : MethodId} {args : Array Value} {below : List Frame} {meth : Method} {c : Code} {nL : Nat} {cc : ByteArray} {Q0 : State → Prop} {H0 : Heap} {ins : Instr} {len : Nat} (hS : se_Snd p l e R s m args below meth c Q0 nL (fun a => a) (yRM g H0) cc ins len (yov_LIIrI g mc ms 0 0 cs P (fun g a0 a1 a2 m n x m' n' => x = R0 g a0 a1 a2 m n ∧ m' = m ∧ n' = n))) : se_Snd p l e R s m args below meth c Q0 nL (fun a => a) (yRM g H0) cc ins len (ypv_LIIrI g mc ms cs P R0) :=
  hS.mono fun st w K Y h => by
    unfold ypv_LIIrI at h
    split at h
    · rename_i a2 a1 a0 r
      obtain ⟨hc, h8, hP, r1, r2, hq⟩ := h
      exact ⟨hc, h8, hP, r1, r2, fun x m' n' e _ _ => by
              obtain ⟨rfl, rfl, rfl⟩ := e
              exact hq⟩
    · exact h.elim
def yfv_LIIrI (g : hG) (mc ms : Nat) (cs : List Nat) (P : hG → Nat → Int32 → Int32 → yM → Nat → Prop) (R0 : hG → Nat → Int32 → Int32 → yM → Nat → Int32) (F : hG → Nat → Int32 → Int32 → yM → Nat → yM) : se_Op yW := fun st w K Y => match st with
  | .int a2 :: .int a1 :: .ref a0 :: r => yc w.1 a0 ∈ cs ∧ se_c8 8 r ∧ P g a0 a1 a2 w.1 w.2.1 ∧ w.2.2.1 ≤ mc ∧ w.2.2.2 ≤ ms ∧ K (.int (R0 g a0 a1 a2 w.1 w.2.1) :: r) (F g a0 a1 a2 w.1 w.2.1, w.2)
  | _ => False
theorem yfv_LIIrI_r {g : hG} {mc ms : Nat} {cs : List Nat} {P : hG → Nat → Int32 → Int32 → yM → Nat → Prop} {R0 : hG → Nat → Int32 → Int32 → yM → Nat → Int32} {F : hG → Nat → Int32 → Int32 → yM → Nat → yM} {a0 : Nat} {a1 : Int32} {a2 : Int32} {r : List Value} {w : yW} {K : List Value → yW → Prop} {Y : Nat → yW → Prop} : yfv_LIIrI g mc ms cs P R0 F (.int a2 :: .int a1 :: .ref a0 :: r) w K Y = (yc w.1 a0 ∈ cs ∧ se_c8 8 r ∧ P g a0 a1 a2 w.1 w.2.1 ∧ w.2.2.1 ≤ mc ∧ w.2.2.2 ≤ ms ∧ K (.int (R0 g a0 a1 a2 w.1 w.2.1) :: r) (F g a0 a1 a2 w.1 w.2.1, w.2)) := rfl
theorem yfv_LIIrI_ok {g : hG} {mc ms : Nat} {cs : List Nat} {P : hG → Nat → Int32 → Int32 → yM → Nat → Prop} {R0 : hG → Nat → Int32 → Int32 → yM → Nat → Int32} {F : hG → Nat → Int32 → Int32 → yM → Nat → yM} {p : Program} {l : Launch} {e : Env} {R : Room} {s : State} {m : MethodId} {args : Array Value} {below : List Frame} {meth : Method} {c : Code} {nL : Nat} {cc : ByteArray} {Q0 : State → Prop} {H0 : Heap} {ins : Instr} {len : Nat} (hS : se_Snd p l e R s m args below meth c Q0 nL (fun a => a) (yRM g H0) cc ins len (yov_LIIrI g mc ms 0 0 cs P (fun g a0 a1 a2 m n x m' n' => x = R0 g a0 a1 a2 m n ∧ m' = F g a0 a1 a2 m n ∧ n' = n))) : se_Snd p l e R s m args below meth c Q0 nL (fun a => a) (yRM g H0) cc ins len (yfv_LIIrI g mc ms cs P R0 F) :=
  hS.mono fun st w K Y h => by
    unfold yfv_LIIrI at h
    split at h
    · rename_i a2 a1 a0 r
      obtain ⟨hc, h8, hP, r1, r2, hq⟩ := h
      exact ⟨hc, h8, hP, r1, r2, fun x m' n' e _ _ => by
              obtain ⟨rfl, rfl, rfl⟩ := e
              exact hq⟩
    · exact h.elim
def yt_LIIrI (mc ms : Nat) (Q : hG → Nat → Int32 → Int32 → yM → Nat → Int32 → yM → Nat → Prop) (g : hG) (a0 : Nat) (a1 : Int32) (a2 : Int32) (m : yM) (n : Nat) : Option Value → yW → Prop := yRt (some .int) mc ms ((fun (g : hG) (av : List Value) (m : yM) (n : Nat) (v : Option Value) (m' : yM) (n' : Nat) => ∀ (a0 : Nat) (a1 : Int32) (a2 : Int32), av = [.ref a0, .int a1, .int a2] → ∃ x, v = some (.int x) ∧ Q g a0 a1 a2 m n x m' n') g [.ref a0, .int a1, .int a2] m n)
theorem yt_LIIrI_e {mc ms : Nat} {Q : hG → Nat → Int32 → Int32 → yM → Nat → Int32 → yM → Nat → Prop} {g : hG} {a0 : Nat} {a1 : Int32} {a2 : Int32} {m : yM} {n : Nat} {w : yW} {z : Int32} : yt_LIIrI mc ms Q g a0 a1 a2 m n (some (.int z)) w = (w.2.2.1 ≤ mc ∧ w.2.2.2 ≤ ms ∧ Q g a0 a1 a2 m n z w.1 w.2.1) := by
  apply propext
  constructor
  · intro h
    obtain ⟨x, e, hq⟩ := h.2.2.2 _ _ _ rfl
    cases e
    exact ⟨h.2.1, h.2.2.1, hq⟩
  · intro h
    obtain ⟨h1, h2, h3⟩ := h
    exact ⟨⟨_, rfl, rfl⟩, h1, h2, fun _ _ _ e => by
      cases e
      exact ⟨z, rfl, h3⟩⟩
theorem ym_LIIrI_of {l : Launch} {y : MethodName} {own : String} {cc : ByteArray} {maxL fr lo mc ms : Nat} {P : hG → Nat → Int32 → Int32 → yM → Nat → Prop} {Q : hG → Nat → Int32 → Int32 → yM → Nat → Int32 → yM → Nat → Prop} {T : hG → Nat → Nat → se_Op yW} (hy : plainName y.cls = true) (hyc : y.cls = own) (hT : yTS l own y.name cc maxL (some .int) fr lo mc ms T) (hL : 3 ≤ maxL)
    (body : ∀ (g : hG) (a0 : Nat) (a1 : Int32) (a2 : Int32) (m : yM) (n : Nat), hVg g → yIn g m n → P g a0 a1 a2 m n → ∀ G : Nat → se_L → List Value → yW → Prop, (∀ (stops : List Nat) (f pc : Nat) (L : se_L) (st : List Value) (w : yW), wpN True (T g) cc stops G (yXt mc ms (yNoX g [.ref a0, .int a1, .int a2] m n)) (yt_LIIrI mc ms Q g a0 a1 a2 m n) f pc L st w → G pc L st w) → G 0 (se_ent [.ref a0, .int a1, .int a2] maxL) [] (m, n, 0, 0)) : ym_LIIrI l y (ws_ y cc maxL (some .int)) fr lo mc ms P Q :=
  yOf hy hyc hT (fun g av m n h => by
    obtain ⟨a0, a1, a2, rfl, _⟩ := h
    exact hL) (fun g av m n h1 h2 hp G hG => by
    obtain ⟨a0, a1, a2, rfl, hp⟩ := hp
    exact body g a0 a1 a2 m n h1 h2 hp G hG)
theorem ymx_LIIrI_of {l : Launch} {y : MethodName} {own : String} {cc : ByteArray} {maxL fr lo mc ms : Nat} {P : hG → Nat → Int32 → Int32 → yM → Nat → Prop} {Q : hG → Nat → Int32 → Int32 → yM → Nat → Int32 → yM → Nat → Prop} {X : hG → Nat → Int32 → Int32 → yM → Nat → Nat → yM → Nat → Prop} {T : hG → Nat → Nat → se_Op yW} (hy : plainName y.cls = true) (hyc : y.cls = own) (hT : yTS l own y.name cc maxL (some .int) fr lo mc ms T) (hL : 3 ≤ maxL)
    (body : ∀ (g : hG) (a0 : Nat) (a1 : Int32) (a2 : Int32) (m : yM) (n : Nat), hVg g → yIn g m n → P g a0 a1 a2 m n → ∀ G : Nat → se_L → List Value → yW → Prop, (∀ (stops : List Nat) (f pc : Nat) (L : se_L) (st : List Value) (w : yW), wpN True (T g) cc stops G (yXt mc ms ((fun (g : hG) (av : List Value) (m : yM) (n : Nat) (b : Nat) (m' : yM) (n' : Nat) => ∃ (a0 : Nat) (a1 : Int32) (a2 : Int32), av = [.ref a0, .int a1, .int a2] ∧ X g a0 a1 a2 m n b m' n') g [.ref a0, .int a1, .int a2] m n)) (yt_LIIrI mc ms Q g a0 a1 a2 m n) f pc L st w → G pc L st w) → G 0 (se_ent [.ref a0, .int a1, .int a2] maxL) [] (m, n, 0, 0)) : ymx_LIIrI l y (ws_ y cc maxL (some .int)) fr lo mc ms P Q X :=
  yOf hy hyc hT (fun g av m n h => by
    obtain ⟨a0, a1, a2, rfl, _⟩ := h
    exact hL) (fun g av m n h1 h2 hp G hG => by
    obtain ⟨a0, a1, a2, rfl, hp⟩ := hp
    exact body g a0 a1 a2 m n h1 h2 hp G hG)
abbrev ym_LIIrJ (l : Launch) (y : MethodName) (ws : List Cond) (fr lo mc ms : Nat) (P : hG → Nat → Int32 → Int32 → yM → Nat → Prop) (Q : hG → Nat → Int32 → Int32 → yM → Nat → Int64 → yM → Nat → Prop) : Prop := yCon l y ws fr lo mc ms (fun (g : hG) (av : List Value) (m : yM) (n : Nat) => ∃ (a0 : Nat) (a1 : Int32) (a2 : Int32), av = [.ref a0, .int a1, .int a2] ∧ P g a0 a1 a2 m n) (fun (g : hG) (av : List Value) (m : yM) (n : Nat) (v : Option Value) (m' : yM) (n' : Nat) => ∀ (a0 : Nat) (a1 : Int32) (a2 : Int32), av = [.ref a0, .int a1, .int a2] → ∃ x, v = some (.long x) ∧ Q g a0 a1 a2 m n x m' n') yNoX
def yov_LIIrJ (g : hG) (mc ms mc' ms' : Nat) (cs : List Nat) (P : hG → Nat → Int32 → Int32 → yM → Nat → Prop) (Q : hG → Nat → Int32 → Int32 → yM → Nat → Int64 → yM → Nat → Prop) : se_Op yW := fun st w K Y => match st with
  | .int a2 :: .int a1 :: .ref a0 :: r => yc w.1 a0 ∈ cs ∧ se_c8 8 r ∧ P g a0 a1 a2 w.1 w.2.1 ∧ w.2.2.1 + mc' ≤ mc ∧ w.2.2.2 + ms' ≤ ms ∧ ∀ x m' n', Q g a0 a1 a2 w.1 w.2.1 x m' n' → yIn g m' n' → w.2.1 ≤ n' → K (.long x :: r) (m', n', w.2.2.1 + mc', w.2.2.2 + ms')
  | _ => False
theorem yov_LIIrJ_r {g : hG} {mc ms mc' ms' : Nat} {cs : List Nat} {P : hG → Nat → Int32 → Int32 → yM → Nat → Prop} {Q : hG → Nat → Int32 → Int32 → yM → Nat → Int64 → yM → Nat → Prop} {a0 : Nat} {a1 : Int32} {a2 : Int32} {r : List Value} {w : yW} {K : List Value → yW → Prop} {Y : Nat → yW → Prop} : yov_LIIrJ g mc ms mc' ms' cs P Q (.int a2 :: .int a1 :: .ref a0 :: r) w K Y = (yc w.1 a0 ∈ cs ∧ se_c8 8 r ∧ P g a0 a1 a2 w.1 w.2.1 ∧ w.2.2.1 + mc' ≤ mc ∧ w.2.2.2 + ms' ≤ ms ∧ ∀ x m' n', Q g a0 a1 a2 w.1 w.2.1 x m' n' → yIn g m' n' → w.2.1 ≤ n' → K (.long x :: r) (m', n', w.2.2.1 + mc', w.2.2.2 + ms')) := rfl
theorem yov_LIIrJ_ok {g : hG} {mc ms mc' ms' : Nat} {cs : List Nat} {P : hG → Nat → Int32 → Int32 → yM → Nat → Prop} {Q : hG → Nat → Int32 → Int32 → yM → Nat → Int64 → yM → Nat → Prop} {p : Program} {l : Launch} {e : Env} {R : Room} {s : State} {m : MethodId} {args : Array Value} {below : List Frame} {meth : Method} {c : Code} {nL : Nat} {cc : ByteArray} {Q0 : State → Prop} {H0 : Heap} {ins : Instr} {len : Nat} (hS : se_Snd p l e R s m args below meth c Q0 nL (fun a => a) (yRM g H0) cc ins len (yCV g 2 mc ms mc' ms' cs (fun (g : hG) (av : List Value) (m : yM) (n : Nat) => ∃ (a0 : Nat) (a1 : Int32) (a2 : Int32), av = [.ref a0, .int a1, .int a2] ∧ P g a0 a1 a2 m n) (fun (g : hG) (av : List Value) (m : yM) (n : Nat) (v : Option Value) (m' : yM) (n' : Nat) => ∀ (a0 : Nat) (a1 : Int32) (a2 : Int32), av = [.ref a0, .int a1, .int a2] → ∃ x, v = some (.long x) ∧ Q g a0 a1 a2 m n x m' n') yNoX)) : se_Snd p l e R s m args below meth c Q0 nL (fun a => a) (yRM g H0) cc ins len (yov_LIIrJ g mc ms mc' ms' cs P Q) :=
  hS.mono fun st w K Y h => by
    unfold yov_LIIrJ at h
    split at h
    · rename_i a2 a1 a0 r
      obtain ⟨hc, h8, hP, r1, r2, hq⟩ := h
      exact (⟨hc, h8, ⟨a0, a1, a2, rfl, hP⟩, r1, r2, fun v m' n' hp hi hn => by
              obtain ⟨x, rfl, hx⟩ := hp a0 a1 a2 rfl
              exact hq x m' n' hx hi hn, fun b m' n' hp => hp.elim⟩ : (yRcv cs w.1 [.ref a0, .int a1, .int a2] ∧ yGo g mc ms mc' ms' ((fun (g : hG) (av : List Value) (m : yM) (n : Nat) => ∃ (a0 : Nat) (a1 : Int32) (a2 : Int32), av = [.ref a0, .int a1, .int a2] ∧ P g a0 a1 a2 m n) g) ((fun (g : hG) (av : List Value) (m : yM) (n : Nat) (v : Option Value) (m' : yM) (n' : Nat) => ∀ (a0 : Nat) (a1 : Int32) (a2 : Int32), av = [.ref a0, .int a1, .int a2] → ∃ x, v = some (.long x) ∧ Q g a0 a1 a2 m n x m' n') g) (yNoX g) [.ref a0, .int a1, .int a2] r w K Y))
    · exact h.elim
def ypv_LIIrJ (g : hG) (mc ms : Nat) (cs : List Nat) (P : hG → Nat → Int32 → Int32 → yM → Nat → Prop) (R0 : hG → Nat → Int32 → Int32 → yM → Nat → Int64) : se_Op yW := fun st w K Y => match st with
  | .int a2 :: .int a1 :: .ref a0 :: r => yc w.1 a0 ∈ cs ∧ se_c8 8 r ∧ P g a0 a1 a2 w.1 w.2.1 ∧ w.2.2.1 ≤ mc ∧ w.2.2.2 ≤ ms ∧ K (.long (R0 g a0 a1 a2 w.1 w.2.1) :: r) w
  | _ => False
theorem ypv_LIIrJ_r {g : hG} {mc ms : Nat} {cs : List Nat} {P : hG → Nat → Int32 → Int32 → yM → Nat → Prop} {R0 : hG → Nat → Int32 → Int32 → yM → Nat → Int64} {a0 : Nat} {a1 : Int32} {a2 : Int32} {r : List Value} {w : yW} {K : List Value → yW → Prop} {Y : Nat → yW → Prop} : ypv_LIIrJ g mc ms cs P R0 (.int a2 :: .int a1 :: .ref a0 :: r) w K Y = (yc w.1 a0 ∈ cs ∧ se_c8 8 r ∧ P g a0 a1 a2 w.1 w.2.1 ∧ w.2.2.1 ≤ mc ∧ w.2.2.2 ≤ ms ∧ K (.long (R0 g a0 a1 a2 w.1 w.2.1) :: r) w) := rfl
theorem ypv_LIIrJ_ok {g : hG} {mc ms : Nat} {cs : List Nat} {P : hG → Nat → Int32 → Int32 → yM → Nat → Prop} {R0 : hG → Nat → Int32 → Int32 → yM → Nat → Int64} {p : Program} {l : Launch} {e : Env} {R : Room} {s : State} {m : MethodId} {args : Array Value} {below : List Frame} {meth : Method} {c : Code} {nL : Nat} {cc : ByteArray} {Q0 : State → Prop} {H0 : Heap} {ins : Instr} {len : Nat} (hS : se_Snd p l e R s m args below meth c Q0 nL (fun a => a) (yRM g H0) cc ins len (yov_LIIrJ g mc ms 0 0 cs P (fun g a0 a1 a2 m n x m' n' => x = R0 g a0 a1 a2 m n ∧ m' = m ∧ n' = n))) : se_Snd p l e R s m args below meth c Q0 nL (fun a => a) (yRM g H0) cc ins len (ypv_LIIrJ g mc ms cs P R0) :=
  hS.mono fun st w K Y h => by
    unfold ypv_LIIrJ at h
    split at h
    · rename_i a2 a1 a0 r
      obtain ⟨hc, h8, hP, r1, r2, hq⟩ := h
      exact ⟨hc, h8, hP, r1, r2, fun x m' n' e _ _ => by
              obtain ⟨rfl, rfl, rfl⟩ := e
              exact hq⟩
    · exact h.elim
def yfv_LIIrJ (g : hG) (mc ms : Nat) (cs : List Nat) (P : hG → Nat → Int32 → Int32 → yM → Nat → Prop) (R0 : hG → Nat → Int32 → Int32 → yM → Nat → Int64) (F : hG → Nat → Int32 → Int32 → yM → Nat → yM) : se_Op yW := fun st w K Y => match st with
  | .int a2 :: .int a1 :: .ref a0 :: r => yc w.1 a0 ∈ cs ∧ se_c8 8 r ∧ P g a0 a1 a2 w.1 w.2.1 ∧ w.2.2.1 ≤ mc ∧ w.2.2.2 ≤ ms ∧ K (.long (R0 g a0 a1 a2 w.1 w.2.1) :: r) (F g a0 a1 a2 w.1 w.2.1, w.2)
  | _ => False
theorem yfv_LIIrJ_r {g : hG} {mc ms : Nat} {cs : List Nat} {P : hG → Nat → Int32 → Int32 → yM → Nat → Prop} {R0 : hG → Nat → Int32 → Int32 → yM → Nat → Int64} {F : hG → Nat → Int32 → Int32 → yM → Nat → yM} {a0 : Nat} {a1 : Int32} {a2 : Int32} {r : List Value} {w : yW} {K : List Value → yW → Prop} {Y : Nat → yW → Prop} : yfv_LIIrJ g mc ms cs P R0 F (.int a2 :: .int a1 :: .ref a0 :: r) w K Y = (yc w.1 a0 ∈ cs ∧ se_c8 8 r ∧ P g a0 a1 a2 w.1 w.2.1 ∧ w.2.2.1 ≤ mc ∧ w.2.2.2 ≤ ms ∧ K (.long (R0 g a0 a1 a2 w.1 w.2.1) :: r) (F g a0 a1 a2 w.1 w.2.1, w.2)) := rfl
theorem yfv_LIIrJ_ok {g : hG} {mc ms : Nat} {cs : List Nat} {P : hG → Nat → Int32 → Int32 → yM → Nat → Prop} {R0 : hG → Nat → Int32 → Int32 → yM → Nat → Int64} {F : hG → Nat → Int32 → Int32 → yM → Nat → yM} {p : Program} {l : Launch} {e : Env} {R : Room} {s : State} {m : MethodId} {args : Array Value} {below : List Frame} {meth : Method} {c : Code} {nL : Nat} {cc : ByteArray} {Q0 : State → Prop} {H0 : Heap} {ins : Instr} {len : Nat} (hS : se_Snd p l e R s m args below meth c Q0 nL (fun a => a) (yRM g H0) cc ins len (yov_LIIrJ g mc ms 0 0 cs P (fun g a0 a1 a2 m n x m' n' => x = R0 g a0 a1 a2 m n ∧ m' = F g a0 a1 a2 m n ∧ n' = n))) : se_Snd p l e R s m args below meth c Q0 nL (fun a => a) (yRM g H0) cc ins len (yfv_LIIrJ g mc ms cs P R0 F) :=
  hS.mono fun st w K Y h => by
    unfold yfv_LIIrJ at h
    split at h
    · rename_i a2 a1 a0 r
      obtain ⟨hc, h8, hP, r1, r2, hq⟩ := h
      exact ⟨hc, h8, hP, r1, r2, fun x m' n' e _ _ => by
              obtain ⟨rfl, rfl, rfl⟩ := e
              exact hq⟩
    · exact h.elim
def yt_LIIrJ (mc ms : Nat) (Q : hG → Nat → Int32 → Int32 → yM → Nat → Int64 → yM → Nat → Prop) (g : hG) (a0 : Nat) (a1 : Int32) (a2 : Int32) (m : yM) (n : Nat) : Option Value → yW → Prop := yRt (some .long) mc ms ((fun (g : hG) (av : List Value) (m : yM) (n : Nat) (v : Option Value) (m' : yM) (n' : Nat) => ∀ (a0 : Nat) (a1 : Int32) (a2 : Int32), av = [.ref a0, .int a1, .int a2] → ∃ x, v = some (.long x) ∧ Q g a0 a1 a2 m n x m' n') g [.ref a0, .int a1, .int a2] m n)
theorem yt_LIIrJ_e {mc ms : Nat} {Q : hG → Nat → Int32 → Int32 → yM → Nat → Int64 → yM → Nat → Prop} {g : hG} {a0 : Nat} {a1 : Int32} {a2 : Int32} {m : yM} {n : Nat} {w : yW} {z : Int64} : yt_LIIrJ mc ms Q g a0 a1 a2 m n (some (.long z)) w = (w.2.2.1 ≤ mc ∧ w.2.2.2 ≤ ms ∧ Q g a0 a1 a2 m n z w.1 w.2.1) := by
  apply propext
  constructor
  · intro h
    obtain ⟨x, e, hq⟩ := h.2.2.2 _ _ _ rfl
    cases e
    exact ⟨h.2.1, h.2.2.1, hq⟩
  · intro h
    obtain ⟨h1, h2, h3⟩ := h
    exact ⟨rfl, h1, h2, fun _ _ _ e => by
      cases e
      exact ⟨z, rfl, h3⟩⟩
theorem ym_LIIrJ_of {l : Launch} {y : MethodName} {own : String} {cc : ByteArray} {maxL fr lo mc ms : Nat} {P : hG → Nat → Int32 → Int32 → yM → Nat → Prop} {Q : hG → Nat → Int32 → Int32 → yM → Nat → Int64 → yM → Nat → Prop} {T : hG → Nat → Nat → se_Op yW} (hy : plainName y.cls = true) (hyc : y.cls = own) (hT : yTS l own y.name cc maxL (some .long) fr lo mc ms T) (hL : 3 ≤ maxL)
    (body : ∀ (g : hG) (a0 : Nat) (a1 : Int32) (a2 : Int32) (m : yM) (n : Nat), hVg g → yIn g m n → P g a0 a1 a2 m n → ∀ G : Nat → se_L → List Value → yW → Prop, (∀ (stops : List Nat) (f pc : Nat) (L : se_L) (st : List Value) (w : yW), wpN True (T g) cc stops G (yXt mc ms (yNoX g [.ref a0, .int a1, .int a2] m n)) (yt_LIIrJ mc ms Q g a0 a1 a2 m n) f pc L st w → G pc L st w) → G 0 (se_ent [.ref a0, .int a1, .int a2] maxL) [] (m, n, 0, 0)) : ym_LIIrJ l y (ws_ y cc maxL (some .long)) fr lo mc ms P Q :=
  yOf hy hyc hT (fun g av m n h => by
    obtain ⟨a0, a1, a2, rfl, _⟩ := h
    exact hL) (fun g av m n h1 h2 hp G hG => by
    obtain ⟨a0, a1, a2, rfl, hp⟩ := hp
    exact body g a0 a1 a2 m n h1 h2 hp G hG)
abbrev ym_LIIrL (l : Launch) (y : MethodName) (ws : List Cond) (fr lo mc ms : Nat) (P : hG → Nat → Int32 → Int32 → yM → Nat → Prop) (Q : hG → Nat → Int32 → Int32 → yM → Nat → Option Nat → yM → Nat → Prop) : Prop := yCon l y ws fr lo mc ms (fun (g : hG) (av : List Value) (m : yM) (n : Nat) => ∃ (a0 : Nat) (a1 : Int32) (a2 : Int32), av = [.ref a0, .int a1, .int a2] ∧ P g a0 a1 a2 m n) (fun (g : hG) (av : List Value) (m : yM) (n : Nat) (v : Option Value) (m' : yM) (n' : Nat) => ∀ (a0 : Nat) (a1 : Int32) (a2 : Int32), av = [.ref a0, .int a1, .int a2] → ∃ x, v = some (va_rf x) ∧ Q g a0 a1 a2 m n x m' n') yNoX
def yov_LIIrL (g : hG) (mc ms mc' ms' : Nat) (cs : List Nat) (P : hG → Nat → Int32 → Int32 → yM → Nat → Prop) (Q : hG → Nat → Int32 → Int32 → yM → Nat → Option Nat → yM → Nat → Prop) : se_Op yW := fun st w K Y => match st with
  | .int a2 :: .int a1 :: .ref a0 :: r => yc w.1 a0 ∈ cs ∧ se_c8 8 r ∧ P g a0 a1 a2 w.1 w.2.1 ∧ w.2.2.1 + mc' ≤ mc ∧ w.2.2.2 + ms' ≤ ms ∧ ∀ x m' n', Q g a0 a1 a2 w.1 w.2.1 x m' n' → yIn g m' n' → w.2.1 ≤ n' → K (va_rf x :: r) (m', n', w.2.2.1 + mc', w.2.2.2 + ms')
  | _ => False
theorem yov_LIIrL_r {g : hG} {mc ms mc' ms' : Nat} {cs : List Nat} {P : hG → Nat → Int32 → Int32 → yM → Nat → Prop} {Q : hG → Nat → Int32 → Int32 → yM → Nat → Option Nat → yM → Nat → Prop} {a0 : Nat} {a1 : Int32} {a2 : Int32} {r : List Value} {w : yW} {K : List Value → yW → Prop} {Y : Nat → yW → Prop} : yov_LIIrL g mc ms mc' ms' cs P Q (.int a2 :: .int a1 :: .ref a0 :: r) w K Y = (yc w.1 a0 ∈ cs ∧ se_c8 8 r ∧ P g a0 a1 a2 w.1 w.2.1 ∧ w.2.2.1 + mc' ≤ mc ∧ w.2.2.2 + ms' ≤ ms ∧ ∀ x m' n', Q g a0 a1 a2 w.1 w.2.1 x m' n' → yIn g m' n' → w.2.1 ≤ n' → K (va_rf x :: r) (m', n', w.2.2.1 + mc', w.2.2.2 + ms')) := rfl
theorem yov_LIIrL_ok {g : hG} {mc ms mc' ms' : Nat} {cs : List Nat} {P : hG → Nat → Int32 → Int32 → yM → Nat → Prop} {Q : hG → Nat → Int32 → Int32 → yM → Nat → Option Nat → yM → Nat → Prop} {p : Program} {l : Launch} {e : Env} {R : Room} {s : State} {m : MethodId} {args : Array Value} {below : List Frame} {meth : Method} {c : Code} {nL : Nat} {cc : ByteArray} {Q0 : State → Prop} {H0 : Heap} {ins : Instr} {len : Nat} (hS : se_Snd p l e R s m args below meth c Q0 nL (fun a => a) (yRM g H0) cc ins len (yCV g 2 mc ms mc' ms' cs (fun (g : hG) (av : List Value) (m : yM) (n : Nat) => ∃ (a0 : Nat) (a1 : Int32) (a2 : Int32), av = [.ref a0, .int a1, .int a2] ∧ P g a0 a1 a2 m n) (fun (g : hG) (av : List Value) (m : yM) (n : Nat) (v : Option Value) (m' : yM) (n' : Nat) => ∀ (a0 : Nat) (a1 : Int32) (a2 : Int32), av = [.ref a0, .int a1, .int a2] → ∃ x, v = some (va_rf x) ∧ Q g a0 a1 a2 m n x m' n') yNoX)) : se_Snd p l e R s m args below meth c Q0 nL (fun a => a) (yRM g H0) cc ins len (yov_LIIrL g mc ms mc' ms' cs P Q) :=
  hS.mono fun st w K Y h => by
    unfold yov_LIIrL at h
    split at h
    · rename_i a2 a1 a0 r
      obtain ⟨hc, h8, hP, r1, r2, hq⟩ := h
      exact (⟨hc, h8, ⟨a0, a1, a2, rfl, hP⟩, r1, r2, fun v m' n' hp hi hn => by
              obtain ⟨x, rfl, hx⟩ := hp a0 a1 a2 rfl
              exact hq x m' n' hx hi hn, fun b m' n' hp => hp.elim⟩ : (yRcv cs w.1 [.ref a0, .int a1, .int a2] ∧ yGo g mc ms mc' ms' ((fun (g : hG) (av : List Value) (m : yM) (n : Nat) => ∃ (a0 : Nat) (a1 : Int32) (a2 : Int32), av = [.ref a0, .int a1, .int a2] ∧ P g a0 a1 a2 m n) g) ((fun (g : hG) (av : List Value) (m : yM) (n : Nat) (v : Option Value) (m' : yM) (n' : Nat) => ∀ (a0 : Nat) (a1 : Int32) (a2 : Int32), av = [.ref a0, .int a1, .int a2] → ∃ x, v = some (va_rf x) ∧ Q g a0 a1 a2 m n x m' n') g) (yNoX g) [.ref a0, .int a1, .int a2] r w K Y))
    · exact h.elim
def ypv_LIIrL (g : hG) (mc ms : Nat) (cs : List Nat) (P : hG → Nat → Int32 → Int32 → yM → Nat → Prop) (R0 : hG → Nat → Int32 → Int32 → yM → Nat → Option Nat) : se_Op yW := fun st w K Y => match st with
  | .int a2 :: .int a1 :: .ref a0 :: r => yc w.1 a0 ∈ cs ∧ se_c8 8 r ∧ P g a0 a1 a2 w.1 w.2.1 ∧ w.2.2.1 ≤ mc ∧ w.2.2.2 ≤ ms ∧ K (va_rf (R0 g a0 a1 a2 w.1 w.2.1) :: r) w
  | _ => False
theorem ypv_LIIrL_r {g : hG} {mc ms : Nat} {cs : List Nat} {P : hG → Nat → Int32 → Int32 → yM → Nat → Prop} {R0 : hG → Nat → Int32 → Int32 → yM → Nat → Option Nat} {a0 : Nat} {a1 : Int32} {a2 : Int32} {r : List Value} {w : yW} {K : List Value → yW → Prop} {Y : Nat → yW → Prop} : ypv_LIIrL g mc ms cs P R0 (.int a2 :: .int a1 :: .ref a0 :: r) w K Y = (yc w.1 a0 ∈ cs ∧ se_c8 8 r ∧ P g a0 a1 a2 w.1 w.2.1 ∧ w.2.2.1 ≤ mc ∧ w.2.2.2 ≤ ms ∧ K (va_rf (R0 g a0 a1 a2 w.1 w.2.1) :: r) w) := rfl
theorem ypv_LIIrL_ok {g : hG} {mc ms : Nat} {cs : List Nat} {P : hG → Nat → Int32 → Int32 → yM → Nat → Prop} {R0 : hG → Nat → Int32 → Int32 → yM → Nat → Option Nat} {p : Program} {l : Launch} {e : Env} {R : Room} {s : State} {m : MethodId} {args : Array Value} {below : List Frame} {meth : Method} {c : Code} {nL : Nat} {cc : ByteArray} {Q0 : State → Prop} {H0 : Heap} {ins : Instr} {len : Nat} (hS : se_Snd p l e R s m args below meth c Q0 nL (fun a => a) (yRM g H0) cc ins len (yov_LIIrL g mc ms 0 0 cs P (fun g a0 a1 a2 m n x m' n' => x = R0 g a0 a1 a2 m n ∧ m' = m ∧ n' = n))) : se_Snd p l e R s m args below meth c Q0 nL (fun a => a) (yRM g H0) cc ins len (ypv_LIIrL g mc ms cs P R0) :=
  hS.mono fun st w K Y h => by
    unfold ypv_LIIrL at h
    split at h
    · rename_i a2 a1 a0 r
      obtain ⟨hc, h8, hP, r1, r2, hq⟩ := h
      exact ⟨hc, h8, hP, r1, r2, fun x m' n' e _ _ => by
              obtain ⟨rfl, rfl, rfl⟩ := e
              exact hq⟩
    · exact h.elim
def yfv_LIIrL (g : hG) (mc ms : Nat) (cs : List Nat) (P : hG → Nat → Int32 → Int32 → yM → Nat → Prop) (R0 : hG → Nat → Int32 → Int32 → yM → Nat → Option Nat) (F : hG → Nat → Int32 → Int32 → yM → Nat → yM) : se_Op yW := fun st w K Y => match st with
  | .int a2 :: .int a1 :: .ref a0 :: r => yc w.1 a0 ∈ cs ∧ se_c8 8 r ∧ P g a0 a1 a2 w.1 w.2.1 ∧ w.2.2.1 ≤ mc ∧ w.2.2.2 ≤ ms ∧ K (va_rf (R0 g a0 a1 a2 w.1 w.2.1) :: r) (F g a0 a1 a2 w.1 w.2.1, w.2)
  | _ => False
theorem yfv_LIIrL_r {g : hG} {mc ms : Nat} {cs : List Nat} {P : hG → Nat → Int32 → Int32 → yM → Nat → Prop} {R0 : hG → Nat → Int32 → Int32 → yM → Nat → Option Nat} {F : hG → Nat → Int32 → Int32 → yM → Nat → yM} {a0 : Nat} {a1 : Int32} {a2 : Int32} {r : List Value} {w : yW} {K : List Value → yW → Prop} {Y : Nat → yW → Prop} : yfv_LIIrL g mc ms cs P R0 F (.int a2 :: .int a1 :: .ref a0 :: r) w K Y = (yc w.1 a0 ∈ cs ∧ se_c8 8 r ∧ P g a0 a1 a2 w.1 w.2.1 ∧ w.2.2.1 ≤ mc ∧ w.2.2.2 ≤ ms ∧ K (va_rf (R0 g a0 a1 a2 w.1 w.2.1) :: r) (F g a0 a1 a2 w.1 w.2.1, w.2)) := rfl
theorem yfv_LIIrL_ok {g : hG} {mc ms : Nat} {cs : List Nat} {P : hG → Nat → Int32 → Int32 → yM → Nat → Prop} {R0 : hG → Nat → Int32 → Int32 → yM → Nat → Option Nat} {F : hG → Nat → Int32 → Int32 → yM → Nat → yM} {p : Program} {l : Launch} {e : Env} {R : Room} {s : State} {m : MethodId} {args : Array Value} {below : List Frame} {meth : Method} {c : Code} {nL : Nat} {cc : ByteArray} {Q0 : State → Prop} {H0 : Heap} {ins : Instr} {len : Nat} (hS : se_Snd p l e R s m args below meth c Q0 nL (fun a => a) (yRM g H0) cc ins len (yov_LIIrL g mc ms 0 0 cs P (fun g a0 a1 a2 m n x m' n' => x = R0 g a0 a1 a2 m n ∧ m' = F g a0 a1 a2 m n ∧ n' = n))) : se_Snd p l e R s m args below meth c Q0 nL (fun a => a) (yRM g H0) cc ins len (yfv_LIIrL g mc ms cs P R0 F) :=
  hS.mono fun st w K Y h => by
    unfold yfv_LIIrL at h
    split at h
    · rename_i a2 a1 a0 r
      obtain ⟨hc, h8, hP, r1, r2, hq⟩ := h
      exact ⟨hc, h8, hP, r1, r2, fun x m' n' e _ _ => by
              obtain ⟨rfl, rfl, rfl⟩ := e
              exact hq⟩
    · exact h.elim
def yt_LIIrL (rty : FieldType) (mc ms : Nat) (Q : hG → Nat → Int32 → Int32 → yM → Nat → Option Nat → yM → Nat → Prop) (g : hG) (a0 : Nat) (a1 : Int32) (a2 : Int32) (m : yM) (n : Nat) : Option Value → yW → Prop := yRt (some rty) mc ms ((fun (g : hG) (av : List Value) (m : yM) (n : Nat) (v : Option Value) (m' : yM) (n' : Nat) => ∀ (a0 : Nat) (a1 : Int32) (a2 : Int32), av = [.ref a0, .int a1, .int a2] → ∃ x, v = some (va_rf x) ∧ Q g a0 a1 a2 m n x m' n') g [.ref a0, .int a1, .int a2] m n)
theorem yt_LIIrL_e {rty : FieldType} {mc ms : Nat} {Q : hG → Nat → Int32 → Int32 → yM → Nat → Option Nat → yM → Nat → Prop} {g : hG} {a0 : Nat} {a1 : Int32} {a2 : Int32} {m : yM} {n : Nat} {w : yW} {z : Nat} (hr : (∃ n, rty = .object n) ∨ ∃ t, rty = .array t) : yt_LIIrL rty mc ms Q g a0 a1 a2 m n (some (.ref z)) w = (w.2.2.1 ≤ mc ∧ w.2.2.2 ≤ ms ∧ Q g a0 a1 a2 m n (some z) w.1 w.2.1) := by
  apply propext
  constructor
  · intro h
    obtain ⟨x, e, hq⟩ := h.2.2.2 _ _ _ rfl
    cases x with
    | none => cases e
    | some x => cases e; exact ⟨h.2.1, h.2.2.1, hq⟩
  · intro h
    obtain ⟨h1, h2, h3⟩ := h
    exact ⟨⟨_, rfl, hr⟩, h1, h2, fun _ _ _ e => by
      cases e
      exact ⟨some z, rfl, h3⟩⟩
theorem yt_LIIrL_n {rty : FieldType} {mc ms : Nat} {Q : hG → Nat → Int32 → Int32 → yM → Nat → Option Nat → yM → Nat → Prop} {g : hG} {a0 : Nat} {a1 : Int32} {a2 : Int32} {m : yM} {n : Nat} {w : yW} (hr : (∃ n, rty = .object n) ∨ ∃ t, rty = .array t) : yt_LIIrL rty mc ms Q g a0 a1 a2 m n (some .null) w = (w.2.2.1 ≤ mc ∧ w.2.2.2 ≤ ms ∧ Q g a0 a1 a2 m n none w.1 w.2.1) := by
  apply propext
  constructor
  · intro h
    obtain ⟨x, e, hq⟩ := h.2.2.2 _ _ _ rfl
    cases x with
    | none => exact ⟨h.2.1, h.2.2.1, hq⟩
    | some x => cases e
  · intro h
    obtain ⟨h1, h2, h3⟩ := h
    exact ⟨⟨_, rfl, hr⟩, h1, h2, fun _ _ _ e => by
      cases e
      exact ⟨none, rfl, h3⟩⟩
theorem ym_LIIrL_of {l : Launch} {y : MethodName} {own : String} {cc : ByteArray} {maxL fr lo mc ms : Nat} {rty : FieldType} {P : hG → Nat → Int32 → Int32 → yM → Nat → Prop} {Q : hG → Nat → Int32 → Int32 → yM → Nat → Option Nat → yM → Nat → Prop} {T : hG → Nat → Nat → se_Op yW} (hy : plainName y.cls = true) (hyc : y.cls = own) (hT : yTS l own y.name cc maxL (some rty) fr lo mc ms T) (hL : 3 ≤ maxL)
    (body : ∀ (g : hG) (a0 : Nat) (a1 : Int32) (a2 : Int32) (m : yM) (n : Nat), hVg g → yIn g m n → P g a0 a1 a2 m n → ∀ G : Nat → se_L → List Value → yW → Prop, (∀ (stops : List Nat) (f pc : Nat) (L : se_L) (st : List Value) (w : yW), wpN True (T g) cc stops G (yXt mc ms (yNoX g [.ref a0, .int a1, .int a2] m n)) (yt_LIIrL rty mc ms Q g a0 a1 a2 m n) f pc L st w → G pc L st w) → G 0 (se_ent [.ref a0, .int a1, .int a2] maxL) [] (m, n, 0, 0)) : ym_LIIrL l y (ws_ y cc maxL (some rty)) fr lo mc ms P Q :=
  yOf hy hyc hT (fun g av m n h => by
    obtain ⟨a0, a1, a2, rfl, _⟩ := h
    exact hL) (fun g av m n h1 h2 hp G hG => by
    obtain ⟨a0, a1, a2, rfl, hp⟩ := hp
    exact body g a0 a1 a2 m n h1 h2 hp G hG)
abbrev ym_LIIrV (l : Launch) (y : MethodName) (ws : List Cond) (fr lo mc ms : Nat) (P : hG → Nat → Int32 → Int32 → yM → Nat → Prop) (Q : hG → Nat → Int32 → Int32 → yM → Nat → yM → Nat → Prop) : Prop := yCon l y ws fr lo mc ms (fun (g : hG) (av : List Value) (m : yM) (n : Nat) => ∃ (a0 : Nat) (a1 : Int32) (a2 : Int32), av = [.ref a0, .int a1, .int a2] ∧ P g a0 a1 a2 m n) (fun (g : hG) (av : List Value) (m : yM) (n : Nat) (v : Option Value) (m' : yM) (n' : Nat) => ∀ (a0 : Nat) (a1 : Int32) (a2 : Int32), av = [.ref a0, .int a1, .int a2] → v = none ∧ Q g a0 a1 a2 m n m' n') yNoX
def yo_LIIrV (g : hG) (mc ms mc' ms' : Nat) (P : hG → Nat → Int32 → Int32 → yM → Nat → Prop) (Q : hG → Nat → Int32 → Int32 → yM → Nat → yM → Nat → Prop) : se_Op yW := fun st w K Y => match st with
  | .int a2 :: .int a1 :: .ref a0 :: r => se_c8 8 r ∧ P g a0 a1 a2 w.1 w.2.1 ∧ w.2.2.1 + mc' ≤ mc ∧ w.2.2.2 + ms' ≤ ms ∧ ∀ m' n', Q g a0 a1 a2 w.1 w.2.1 m' n' → yIn g m' n' → w.2.1 ≤ n' → K r (m', n', w.2.2.1 + mc', w.2.2.2 + ms')
  | _ => False
theorem yo_LIIrV_r {g : hG} {mc ms mc' ms' : Nat} {P : hG → Nat → Int32 → Int32 → yM → Nat → Prop} {Q : hG → Nat → Int32 → Int32 → yM → Nat → yM → Nat → Prop} {a0 : Nat} {a1 : Int32} {a2 : Int32} {r : List Value} {w : yW} {K : List Value → yW → Prop} {Y : Nat → yW → Prop} : yo_LIIrV g mc ms mc' ms' P Q (.int a2 :: .int a1 :: .ref a0 :: r) w K Y = (se_c8 8 r ∧ P g a0 a1 a2 w.1 w.2.1 ∧ w.2.2.1 + mc' ≤ mc ∧ w.2.2.2 + ms' ≤ ms ∧ ∀ m' n', Q g a0 a1 a2 w.1 w.2.1 m' n' → yIn g m' n' → w.2.1 ≤ n' → K r (m', n', w.2.2.1 + mc', w.2.2.2 + ms')) := rfl
theorem yo_LIIrV_ok {g : hG} {mc ms mc' ms' : Nat} {P : hG → Nat → Int32 → Int32 → yM → Nat → Prop} {Q : hG → Nat → Int32 → Int32 → yM → Nat → yM → Nat → Prop} {p : Program} {l : Launch} {e : Env} {R : Room} {s : State} {m : MethodId} {args : Array Value} {below : List Frame} {meth : Method} {c : Code} {nL : Nat} {cc : ByteArray} {Q0 : State → Prop} {H0 : Heap} {ins : Instr} {len : Nat} (hS : se_Snd p l e R s m args below meth c Q0 nL (fun a => a) (yRM g H0) cc ins len (yCS g 3 mc ms mc' ms' (fun (g : hG) (av : List Value) (m : yM) (n : Nat) => ∃ (a0 : Nat) (a1 : Int32) (a2 : Int32), av = [.ref a0, .int a1, .int a2] ∧ P g a0 a1 a2 m n) (fun (g : hG) (av : List Value) (m : yM) (n : Nat) (v : Option Value) (m' : yM) (n' : Nat) => ∀ (a0 : Nat) (a1 : Int32) (a2 : Int32), av = [.ref a0, .int a1, .int a2] → v = none ∧ Q g a0 a1 a2 m n m' n') yNoX)) : se_Snd p l e R s m args below meth c Q0 nL (fun a => a) (yRM g H0) cc ins len (yo_LIIrV g mc ms mc' ms' P Q) :=
  hS.mono fun st w K Y h => by
    unfold yo_LIIrV at h
    split at h
    · rename_i a2 a1 a0 r
      obtain ⟨h8, hP, r1, r2, hq⟩ := h
      exact (⟨h8, ⟨a0, a1, a2, rfl, hP⟩, r1, r2, fun v m' n' hp hi hn => by
              obtain ⟨rfl, hx⟩ := hp a0 a1 a2 rfl
              exact hq m' n' hx hi hn, fun b m' n' hp => hp.elim⟩ : yGo g mc ms mc' ms' ((fun (g : hG) (av : List Value) (m : yM) (n : Nat) => ∃ (a0 : Nat) (a1 : Int32) (a2 : Int32), av = [.ref a0, .int a1, .int a2] ∧ P g a0 a1 a2 m n) g) ((fun (g : hG) (av : List Value) (m : yM) (n : Nat) (v : Option Value) (m' : yM) (n' : Nat) => ∀ (a0 : Nat) (a1 : Int32) (a2 : Int32), av = [.ref a0, .int a1, .int a2] → v = none ∧ Q g a0 a1 a2 m n m' n') g) (yNoX g) [.ref a0, .int a1, .int a2] r w K Y)
    · exact h.elim
def yov_LIIrV (g : hG) (mc ms mc' ms' : Nat) (cs : List Nat) (P : hG → Nat → Int32 → Int32 → yM → Nat → Prop) (Q : hG → Nat → Int32 → Int32 → yM → Nat → yM → Nat → Prop) : se_Op yW := fun st w K Y => match st with
  | .int a2 :: .int a1 :: .ref a0 :: r => yc w.1 a0 ∈ cs ∧ se_c8 8 r ∧ P g a0 a1 a2 w.1 w.2.1 ∧ w.2.2.1 + mc' ≤ mc ∧ w.2.2.2 + ms' ≤ ms ∧ ∀ m' n', Q g a0 a1 a2 w.1 w.2.1 m' n' → yIn g m' n' → w.2.1 ≤ n' → K r (m', n', w.2.2.1 + mc', w.2.2.2 + ms')
  | _ => False
theorem yov_LIIrV_r {g : hG} {mc ms mc' ms' : Nat} {cs : List Nat} {P : hG → Nat → Int32 → Int32 → yM → Nat → Prop} {Q : hG → Nat → Int32 → Int32 → yM → Nat → yM → Nat → Prop} {a0 : Nat} {a1 : Int32} {a2 : Int32} {r : List Value} {w : yW} {K : List Value → yW → Prop} {Y : Nat → yW → Prop} : yov_LIIrV g mc ms mc' ms' cs P Q (.int a2 :: .int a1 :: .ref a0 :: r) w K Y = (yc w.1 a0 ∈ cs ∧ se_c8 8 r ∧ P g a0 a1 a2 w.1 w.2.1 ∧ w.2.2.1 + mc' ≤ mc ∧ w.2.2.2 + ms' ≤ ms ∧ ∀ m' n', Q g a0 a1 a2 w.1 w.2.1 m' n' → yIn g m' n' → w.2.1 ≤ n' → K r (m', n', w.2.2.1 + mc', w.2.2.2 + ms')) := rfl
theorem yov_LIIrV_ok {g : hG} {mc ms mc' ms' : Nat} {cs : List Nat} {P : hG → Nat → Int32 → Int32 → yM → Nat → Prop} {Q : hG → Nat → Int32 → Int32 → yM → Nat → yM → Nat → Prop} {p : Program} {l : Launch} {e : Env} {R : Room} {s : State} {m : MethodId} {args : Array Value} {below : List Frame} {meth : Method} {c : Code} {nL : Nat} {cc : ByteArray} {Q0 : State → Prop} {H0 : Heap} {ins : Instr} {len : Nat} (hS : se_Snd p l e R s m args below meth c Q0 nL (fun a => a) (yRM g H0) cc ins len (yCV g 2 mc ms mc' ms' cs (fun (g : hG) (av : List Value) (m : yM) (n : Nat) => ∃ (a0 : Nat) (a1 : Int32) (a2 : Int32), av = [.ref a0, .int a1, .int a2] ∧ P g a0 a1 a2 m n) (fun (g : hG) (av : List Value) (m : yM) (n : Nat) (v : Option Value) (m' : yM) (n' : Nat) => ∀ (a0 : Nat) (a1 : Int32) (a2 : Int32), av = [.ref a0, .int a1, .int a2] → v = none ∧ Q g a0 a1 a2 m n m' n') yNoX)) : se_Snd p l e R s m args below meth c Q0 nL (fun a => a) (yRM g H0) cc ins len (yov_LIIrV g mc ms mc' ms' cs P Q) :=
  hS.mono fun st w K Y h => by
    unfold yov_LIIrV at h
    split at h
    · rename_i a2 a1 a0 r
      obtain ⟨hc, h8, hP, r1, r2, hq⟩ := h
      exact (⟨hc, h8, ⟨a0, a1, a2, rfl, hP⟩, r1, r2, fun v m' n' hp hi hn => by
              obtain ⟨rfl, hx⟩ := hp a0 a1 a2 rfl
              exact hq m' n' hx hi hn, fun b m' n' hp => hp.elim⟩ : (yRcv cs w.1 [.ref a0, .int a1, .int a2] ∧ yGo g mc ms mc' ms' ((fun (g : hG) (av : List Value) (m : yM) (n : Nat) => ∃ (a0 : Nat) (a1 : Int32) (a2 : Int32), av = [.ref a0, .int a1, .int a2] ∧ P g a0 a1 a2 m n) g) ((fun (g : hG) (av : List Value) (m : yM) (n : Nat) (v : Option Value) (m' : yM) (n' : Nat) => ∀ (a0 : Nat) (a1 : Int32) (a2 : Int32), av = [.ref a0, .int a1, .int a2] → v = none ∧ Q g a0 a1 a2 m n m' n') g) (yNoX g) [.ref a0, .int a1, .int a2] r w K Y))
    · exact h.elim
def yf_LIIrV (g : hG) (mc ms : Nat) (P : hG → Nat → Int32 → Int32 → yM → Nat → Prop) (F : hG → Nat → Int32 → Int32 → yM → Nat → yM) : se_Op yW := fun st w K Y => match st with
  | .int a2 :: .int a1 :: .ref a0 :: r => se_c8 8 r ∧ P g a0 a1 a2 w.1 w.2.1 ∧ w.2.2.1 ≤ mc ∧ w.2.2.2 ≤ ms ∧ K (r) (F g a0 a1 a2 w.1 w.2.1, w.2)
  | _ => False
theorem yf_LIIrV_r {g : hG} {mc ms : Nat} {P : hG → Nat → Int32 → Int32 → yM → Nat → Prop} {F : hG → Nat → Int32 → Int32 → yM → Nat → yM} {a0 : Nat} {a1 : Int32} {a2 : Int32} {r : List Value} {w : yW} {K : List Value → yW → Prop} {Y : Nat → yW → Prop} : yf_LIIrV g mc ms P F (.int a2 :: .int a1 :: .ref a0 :: r) w K Y = (se_c8 8 r ∧ P g a0 a1 a2 w.1 w.2.1 ∧ w.2.2.1 ≤ mc ∧ w.2.2.2 ≤ ms ∧ K (r) (F g a0 a1 a2 w.1 w.2.1, w.2)) := rfl
theorem yf_LIIrV_ok {g : hG} {mc ms : Nat} {P : hG → Nat → Int32 → Int32 → yM → Nat → Prop} {F : hG → Nat → Int32 → Int32 → yM → Nat → yM} {p : Program} {l : Launch} {e : Env} {R : Room} {s : State} {m : MethodId} {args : Array Value} {below : List Frame} {meth : Method} {c : Code} {nL : Nat} {cc : ByteArray} {Q0 : State → Prop} {H0 : Heap} {ins : Instr} {len : Nat} (hS : se_Snd p l e R s m args below meth c Q0 nL (fun a => a) (yRM g H0) cc ins len (yo_LIIrV g mc ms 0 0 P (fun g a0 a1 a2 m n m' n' => m' = F g a0 a1 a2 m n ∧ n' = n))) : se_Snd p l e R s m args below meth c Q0 nL (fun a => a) (yRM g H0) cc ins len (yf_LIIrV g mc ms P F) :=
  hS.mono fun st w K Y h => by
    unfold yf_LIIrV at h
    split at h
    · rename_i a2 a1 a0 r
      obtain ⟨h8, hP, r1, r2, hq⟩ := h
      exact ⟨h8, hP, r1, r2, fun m' n' e _ _ => by
              obtain ⟨rfl, rfl⟩ := e
              exact hq⟩
    · exact h.elim
def yfv_LIIrV (g : hG) (mc ms : Nat) (cs : List Nat) (P : hG → Nat → Int32 → Int32 → yM → Nat → Prop) (F : hG → Nat → Int32 → Int32 → yM → Nat → yM) : se_Op yW := fun st w K Y => match st with
  | .int a2 :: .int a1 :: .ref a0 :: r => yc w.1 a0 ∈ cs ∧ se_c8 8 r ∧ P g a0 a1 a2 w.1 w.2.1 ∧ w.2.2.1 ≤ mc ∧ w.2.2.2 ≤ ms ∧ K (r) (F g a0 a1 a2 w.1 w.2.1, w.2)
  | _ => False
theorem yfv_LIIrV_r {g : hG} {mc ms : Nat} {cs : List Nat} {P : hG → Nat → Int32 → Int32 → yM → Nat → Prop} {F : hG → Nat → Int32 → Int32 → yM → Nat → yM} {a0 : Nat} {a1 : Int32} {a2 : Int32} {r : List Value} {w : yW} {K : List Value → yW → Prop} {Y : Nat → yW → Prop} : yfv_LIIrV g mc ms cs P F (.int a2 :: .int a1 :: .ref a0 :: r) w K Y = (yc w.1 a0 ∈ cs ∧ se_c8 8 r ∧ P g a0 a1 a2 w.1 w.2.1 ∧ w.2.2.1 ≤ mc ∧ w.2.2.2 ≤ ms ∧ K (r) (F g a0 a1 a2 w.1 w.2.1, w.2)) := rfl
theorem yfv_LIIrV_ok {g : hG} {mc ms : Nat} {cs : List Nat} {P : hG → Nat → Int32 → Int32 → yM → Nat → Prop} {F : hG → Nat → Int32 → Int32 → yM → Nat → yM} {p : Program} {l : Launch} {e : Env} {R : Room} {s : State} {m : MethodId} {args : Array Value} {below : List Frame} {meth : Method} {c : Code} {nL : Nat} {cc : ByteArray} {Q0 : State → Prop} {H0 : Heap} {ins : Instr} {len : Nat} (hS : se_Snd p l e R s m args below meth c Q0 nL (fun a => a) (yRM g H0) cc ins len (yov_LIIrV g mc ms 0 0 cs P (fun g a0 a1 a2 m n m' n' => m' = F g a0 a1 a2 m n ∧ n' = n))) : se_Snd p l e R s m args below meth c Q0 nL (fun a => a) (yRM g H0) cc ins len (yfv_LIIrV g mc ms cs P F) :=
  hS.mono fun st w K Y h => by
    unfold yfv_LIIrV at h
    split at h
    · rename_i a2 a1 a0 r
      obtain ⟨hc, h8, hP, r1, r2, hq⟩ := h
      exact ⟨hc, h8, hP, r1, r2, fun m' n' e _ _ => by
              obtain ⟨rfl, rfl⟩ := e
              exact hq⟩
    · exact h.elim
def yt_LIIrV (mc ms : Nat) (Q : hG → Nat → Int32 → Int32 → yM → Nat → yM → Nat → Prop) (g : hG) (a0 : Nat) (a1 : Int32) (a2 : Int32) (m : yM) (n : Nat) : Option Value → yW → Prop := yRt none mc ms ((fun (g : hG) (av : List Value) (m : yM) (n : Nat) (v : Option Value) (m' : yM) (n' : Nat) => ∀ (a0 : Nat) (a1 : Int32) (a2 : Int32), av = [.ref a0, .int a1, .int a2] → v = none ∧ Q g a0 a1 a2 m n m' n') g [.ref a0, .int a1, .int a2] m n)
theorem yt_LIIrV_e {mc ms : Nat} {Q : hG → Nat → Int32 → Int32 → yM → Nat → yM → Nat → Prop} {g : hG} {a0 : Nat} {a1 : Int32} {a2 : Int32} {m : yM} {n : Nat} {w : yW} : yt_LIIrV mc ms Q g a0 a1 a2 m n none w = (w.2.2.1 ≤ mc ∧ w.2.2.2 ≤ ms ∧ Q g a0 a1 a2 m n w.1 w.2.1) := by
  apply propext
  exact ⟨fun h => ⟨h.2.1, h.2.2.1, (h.2.2.2 _ _ _ rfl).2⟩, fun h => ⟨rfl, h.1, h.2.1, fun _ _ _ e => by
    cases e
    exact ⟨rfl, h.2.2⟩⟩⟩
theorem ym_LIIrV_of {l : Launch} {y : MethodName} {own : String} {cc : ByteArray} {maxL fr lo mc ms : Nat} {P : hG → Nat → Int32 → Int32 → yM → Nat → Prop} {Q : hG → Nat → Int32 → Int32 → yM → Nat → yM → Nat → Prop} {T : hG → Nat → Nat → se_Op yW} (hy : plainName y.cls = true) (hyc : y.cls = own) (hT : yTS l own y.name cc maxL none fr lo mc ms T) (hL : 3 ≤ maxL)
    (body : ∀ (g : hG) (a0 : Nat) (a1 : Int32) (a2 : Int32) (m : yM) (n : Nat), hVg g → yIn g m n → P g a0 a1 a2 m n → ∀ G : Nat → se_L → List Value → yW → Prop, (∀ (stops : List Nat) (f pc : Nat) (L : se_L) (st : List Value) (w : yW), wpN True (T g) cc stops G (yXt mc ms (yNoX g [.ref a0, .int a1, .int a2] m n)) (yt_LIIrV mc ms Q g a0 a1 a2 m n) f pc L st w → G pc L st w) → G 0 (se_ent [.ref a0, .int a1, .int a2] maxL) [] (m, n, 0, 0)) : ym_LIIrV l y (ws_ y cc maxL none) fr lo mc ms P Q :=
  yOf hy hyc hT (fun g av m n h => by
    obtain ⟨a0, a1, a2, rfl, _⟩ := h
    exact hL) (fun g av m n h1 h2 hp G hG => by
    obtain ⟨a0, a1, a2, rfl, hp⟩ := hp
    exact body g a0 a1 a2 m n h1 h2 hp G hG)
abbrev ym_LIIrZ (l : Launch) (y : MethodName) (ws : List Cond) (fr lo mc ms : Nat) (P : hG → Nat → Int32 → Int32 → yM → Nat → Prop) (Q : hG → Nat → Int32 → Int32 → yM → Nat → Bool → yM → Nat → Prop) : Prop := yCon l y ws fr lo mc ms (fun (g : hG) (av : List Value) (m : yM) (n : Nat) => ∃ (a0 : Nat) (a1 : Int32) (a2 : Int32), av = [.ref a0, .int a1, .int a2] ∧ P g a0 a1 a2 m n) (fun (g : hG) (av : List Value) (m : yM) (n : Nat) (v : Option Value) (m' : yM) (n' : Nat) => ∀ (a0 : Nat) (a1 : Int32) (a2 : Int32), av = [.ref a0, .int a1, .int a2] → ∃ x, v = some (.int (bI x)) ∧ Q g a0 a1 a2 m n x m' n') yNoX
def yov_LIIrZ (g : hG) (mc ms mc' ms' : Nat) (cs : List Nat) (P : hG → Nat → Int32 → Int32 → yM → Nat → Prop) (Q : hG → Nat → Int32 → Int32 → yM → Nat → Bool → yM → Nat → Prop) : se_Op yW := fun st w K Y => match st with
  | .int a2 :: .int a1 :: .ref a0 :: r => yc w.1 a0 ∈ cs ∧ se_c8 8 r ∧ P g a0 a1 a2 w.1 w.2.1 ∧ w.2.2.1 + mc' ≤ mc ∧ w.2.2.2 + ms' ≤ ms ∧ ∀ x m' n', Q g a0 a1 a2 w.1 w.2.1 x m' n' → yIn g m' n' → w.2.1 ≤ n' → K (.int (bI x) :: r) (m', n', w.2.2.1 + mc', w.2.2.2 + ms')
  | _ => False
theorem yov_LIIrZ_r {g : hG} {mc ms mc' ms' : Nat} {cs : List Nat} {P : hG → Nat → Int32 → Int32 → yM → Nat → Prop} {Q : hG → Nat → Int32 → Int32 → yM → Nat → Bool → yM → Nat → Prop} {a0 : Nat} {a1 : Int32} {a2 : Int32} {r : List Value} {w : yW} {K : List Value → yW → Prop} {Y : Nat → yW → Prop} : yov_LIIrZ g mc ms mc' ms' cs P Q (.int a2 :: .int a1 :: .ref a0 :: r) w K Y = (yc w.1 a0 ∈ cs ∧ se_c8 8 r ∧ P g a0 a1 a2 w.1 w.2.1 ∧ w.2.2.1 + mc' ≤ mc ∧ w.2.2.2 + ms' ≤ ms ∧ ∀ x m' n', Q g a0 a1 a2 w.1 w.2.1 x m' n' → yIn g m' n' → w.2.1 ≤ n' → K (.int (bI x) :: r) (m', n', w.2.2.1 + mc', w.2.2.2 + ms')) := rfl
theorem yov_LIIrZ_ok {g : hG} {mc ms mc' ms' : Nat} {cs : List Nat} {P : hG → Nat → Int32 → Int32 → yM → Nat → Prop} {Q : hG → Nat → Int32 → Int32 → yM → Nat → Bool → yM → Nat → Prop} {p : Program} {l : Launch} {e : Env} {R : Room} {s : State} {m : MethodId} {args : Array Value} {below : List Frame} {meth : Method} {c : Code} {nL : Nat} {cc : ByteArray} {Q0 : State → Prop} {H0 : Heap} {ins : Instr} {len : Nat} (hS : se_Snd p l e R s m args below meth c Q0 nL (fun a => a) (yRM g H0) cc ins len (yCV g 2 mc ms mc' ms' cs (fun (g : hG) (av : List Value) (m : yM) (n : Nat) => ∃ (a0 : Nat) (a1 : Int32) (a2 : Int32), av = [.ref a0, .int a1, .int a2] ∧ P g a0 a1 a2 m n) (fun (g : hG) (av : List Value) (m : yM) (n : Nat) (v : Option Value) (m' : yM) (n' : Nat) => ∀ (a0 : Nat) (a1 : Int32) (a2 : Int32), av = [.ref a0, .int a1, .int a2] → ∃ x, v = some (.int (bI x)) ∧ Q g a0 a1 a2 m n x m' n') yNoX)) : se_Snd p l e R s m args below meth c Q0 nL (fun a => a) (yRM g H0) cc ins len (yov_LIIrZ g mc ms mc' ms' cs P Q) :=
  hS.mono fun st w K Y h => by
    unfold yov_LIIrZ at h
    split at h
    · rename_i a2 a1 a0 r
      obtain ⟨hc, h8, hP, r1, r2, hq⟩ := h
      exact (⟨hc, h8, ⟨a0, a1, a2, rfl, hP⟩, r1, r2, fun v m' n' hp hi hn => by
              obtain ⟨x, rfl, hx⟩ := hp a0 a1 a2 rfl
              exact hq x m' n' hx hi hn, fun b m' n' hp => hp.elim⟩ : (yRcv cs w.1 [.ref a0, .int a1, .int a2] ∧ yGo g mc ms mc' ms' ((fun (g : hG) (av : List Value) (m : yM) (n : Nat) => ∃ (a0 : Nat) (a1 : Int32) (a2 : Int32), av = [.ref a0, .int a1, .int a2] ∧ P g a0 a1 a2 m n) g) ((fun (g : hG) (av : List Value) (m : yM) (n : Nat) (v : Option Value) (m' : yM) (n' : Nat) => ∀ (a0 : Nat) (a1 : Int32) (a2 : Int32), av = [.ref a0, .int a1, .int a2] → ∃ x, v = some (.int (bI x)) ∧ Q g a0 a1 a2 m n x m' n') g) (yNoX g) [.ref a0, .int a1, .int a2] r w K Y))
    · exact h.elim
def ypv_LIIrZ (g : hG) (mc ms : Nat) (cs : List Nat) (P : hG → Nat → Int32 → Int32 → yM → Nat → Prop) (R0 : hG → Nat → Int32 → Int32 → yM → Nat → Bool) : se_Op yW := fun st w K Y => match st with
  | .int a2 :: .int a1 :: .ref a0 :: r => yc w.1 a0 ∈ cs ∧ se_c8 8 r ∧ P g a0 a1 a2 w.1 w.2.1 ∧ w.2.2.1 ≤ mc ∧ w.2.2.2 ≤ ms ∧ K (.int (bI (R0 g a0 a1 a2 w.1 w.2.1)) :: r) w
  | _ => False
theorem ypv_LIIrZ_r {g : hG} {mc ms : Nat} {cs : List Nat} {P : hG → Nat → Int32 → Int32 → yM → Nat → Prop} {R0 : hG → Nat → Int32 → Int32 → yM → Nat → Bool} {a0 : Nat} {a1 : Int32} {a2 : Int32} {r : List Value} {w : yW} {K : List Value → yW → Prop} {Y : Nat → yW → Prop} : ypv_LIIrZ g mc ms cs P R0 (.int a2 :: .int a1 :: .ref a0 :: r) w K Y = (yc w.1 a0 ∈ cs ∧ se_c8 8 r ∧ P g a0 a1 a2 w.1 w.2.1 ∧ w.2.2.1 ≤ mc ∧ w.2.2.2 ≤ ms ∧ K (.int (bI (R0 g a0 a1 a2 w.1 w.2.1)) :: r) w) := rfl
theorem ypv_LIIrZ_ok {g : hG} {mc ms : Nat} {cs : List Nat} {P : hG → Nat → Int32 → Int32 → yM → Nat → Prop} {R0 : hG → Nat → Int32 → Int32 → yM → Nat → Bool} {p : Program} {l : Launch} {e : Env} {R : Room} {s : State} {m : MethodId} {args : Array Value} {below : List Frame} {meth : Method} {c : Code} {nL : Nat} {cc : ByteArray} {Q0 : State → Prop} {H0 : Heap} {ins : Instr} {len : Nat} (hS : se_Snd p l e R s m args below meth c Q0 nL (fun a => a) (yRM g H0) cc ins len (yov_LIIrZ g mc ms 0 0 cs P (fun g a0 a1 a2 m n x m' n' => x = R0 g a0 a1 a2 m n ∧ m' = m ∧ n' = n))) : se_Snd p l e R s m args below meth c Q0 nL (fun a => a) (yRM g H0) cc ins len (ypv_LIIrZ g mc ms cs P R0) :=
  hS.mono fun st w K Y h => by
    unfold ypv_LIIrZ at h
    split at h
    · rename_i a2 a1 a0 r
      obtain ⟨hc, h8, hP, r1, r2, hq⟩ := h
      exact ⟨hc, h8, hP, r1, r2, fun x m' n' e _ _ => by
              obtain ⟨rfl, rfl, rfl⟩ := e
              exact hq⟩
    · exact h.elim
def yfv_LIIrZ (g : hG) (mc ms : Nat) (cs : List Nat) (P : hG → Nat → Int32 → Int32 → yM → Nat → Prop) (R0 : hG → Nat → Int32 → Int32 → yM → Nat → Bool) (F : hG → Nat → Int32 → Int32 → yM → Nat → yM) : se_Op yW := fun st w K Y => match st with
  | .int a2 :: .int a1 :: .ref a0 :: r => yc w.1 a0 ∈ cs ∧ se_c8 8 r ∧ P g a0 a1 a2 w.1 w.2.1 ∧ w.2.2.1 ≤ mc ∧ w.2.2.2 ≤ ms ∧ K (.int (bI (R0 g a0 a1 a2 w.1 w.2.1)) :: r) (F g a0 a1 a2 w.1 w.2.1, w.2)
  | _ => False
theorem yfv_LIIrZ_r {g : hG} {mc ms : Nat} {cs : List Nat} {P : hG → Nat → Int32 → Int32 → yM → Nat → Prop} {R0 : hG → Nat → Int32 → Int32 → yM → Nat → Bool} {F : hG → Nat → Int32 → Int32 → yM → Nat → yM} {a0 : Nat} {a1 : Int32} {a2 : Int32} {r : List Value} {w : yW} {K : List Value → yW → Prop} {Y : Nat → yW → Prop} : yfv_LIIrZ g mc ms cs P R0 F (.int a2 :: .int a1 :: .ref a0 :: r) w K Y = (yc w.1 a0 ∈ cs ∧ se_c8 8 r ∧ P g a0 a1 a2 w.1 w.2.1 ∧ w.2.2.1 ≤ mc ∧ w.2.2.2 ≤ ms ∧ K (.int (bI (R0 g a0 a1 a2 w.1 w.2.1)) :: r) (F g a0 a1 a2 w.1 w.2.1, w.2)) := rfl
theorem yfv_LIIrZ_ok {g : hG} {mc ms : Nat} {cs : List Nat} {P : hG → Nat → Int32 → Int32 → yM → Nat → Prop} {R0 : hG → Nat → Int32 → Int32 → yM → Nat → Bool} {F : hG → Nat → Int32 → Int32 → yM → Nat → yM} {p : Program} {l : Launch} {e : Env} {R : Room} {s : State} {m : MethodId} {args : Array Value} {below : List Frame} {meth : Method} {c : Code} {nL : Nat} {cc : ByteArray} {Q0 : State → Prop} {H0 : Heap} {ins : Instr} {len : Nat} (hS : se_Snd p l e R s m args below meth c Q0 nL (fun a => a) (yRM g H0) cc ins len (yov_LIIrZ g mc ms 0 0 cs P (fun g a0 a1 a2 m n x m' n' => x = R0 g a0 a1 a2 m n ∧ m' = F g a0 a1 a2 m n ∧ n' = n))) : se_Snd p l e R s m args below meth c Q0 nL (fun a => a) (yRM g H0) cc ins len (yfv_LIIrZ g mc ms cs P R0 F) :=
  hS.mono fun st w K Y h => by
    unfold yfv_LIIrZ at h
    split at h
    · rename_i a2 a1 a0 r
      obtain ⟨hc, h8, hP, r1, r2, hq⟩ := h
      exact ⟨hc, h8, hP, r1, r2, fun x m' n' e _ _ => by
              obtain ⟨rfl, rfl, rfl⟩ := e
              exact hq⟩
    · exact h.elim
def yt_LIIrZ (mc ms : Nat) (Q : hG → Nat → Int32 → Int32 → yM → Nat → Bool → yM → Nat → Prop) (g : hG) (a0 : Nat) (a1 : Int32) (a2 : Int32) (m : yM) (n : Nat) : Option Value → yW → Prop := yRt (some .boolean) mc ms ((fun (g : hG) (av : List Value) (m : yM) (n : Nat) (v : Option Value) (m' : yM) (n' : Nat) => ∀ (a0 : Nat) (a1 : Int32) (a2 : Int32), av = [.ref a0, .int a1, .int a2] → ∃ x, v = some (.int (bI x)) ∧ Q g a0 a1 a2 m n x m' n') g [.ref a0, .int a1, .int a2] m n)
theorem yt_LIIrZ_e {mc ms : Nat} {Q : hG → Nat → Int32 → Int32 → yM → Nat → Bool → yM → Nat → Prop} {g : hG} {a0 : Nat} {a1 : Int32} {a2 : Int32} {m : yM} {n : Nat} {w : yW} {z : Int32} : yt_LIIrZ mc ms Q g a0 a1 a2 m n (some (.int z)) w = (w.2.2.1 ≤ mc ∧ w.2.2.2 ≤ ms ∧ rz z fun x => Q g a0 a1 a2 m n x w.1 w.2.1) := by
  apply propext
  constructor
  · intro h
    obtain ⟨x, e, hq⟩ := h.2.2.2 _ _ _ rfl
    cases e
    exact ⟨h.2.1, h.2.2.1, ⟨x, rfl, hq⟩⟩
  · intro h
    obtain ⟨h1, h2, h3⟩ := h
    obtain ⟨x, rfl, h3⟩ := h3
    exact ⟨⟨_, rfl, bI_nar x⟩, h1, h2, fun _ _ _ e => by
      cases e
      exact ⟨x, rfl, h3⟩⟩
theorem ym_LIIrZ_of {l : Launch} {y : MethodName} {own : String} {cc : ByteArray} {maxL fr lo mc ms : Nat} {P : hG → Nat → Int32 → Int32 → yM → Nat → Prop} {Q : hG → Nat → Int32 → Int32 → yM → Nat → Bool → yM → Nat → Prop} {T : hG → Nat → Nat → se_Op yW} (hy : plainName y.cls = true) (hyc : y.cls = own) (hT : yTS l own y.name cc maxL (some .boolean) fr lo mc ms T) (hL : 3 ≤ maxL)
    (body : ∀ (g : hG) (a0 : Nat) (a1 : Int32) (a2 : Int32) (m : yM) (n : Nat), hVg g → yIn g m n → P g a0 a1 a2 m n → ∀ G : Nat → se_L → List Value → yW → Prop, (∀ (stops : List Nat) (f pc : Nat) (L : se_L) (st : List Value) (w : yW), wpN True (T g) cc stops G (yXt mc ms (yNoX g [.ref a0, .int a1, .int a2] m n)) (yt_LIIrZ mc ms Q g a0 a1 a2 m n) f pc L st w → G pc L st w) → G 0 (se_ent [.ref a0, .int a1, .int a2] maxL) [] (m, n, 0, 0)) : ym_LIIrZ l y (ws_ y cc maxL (some .boolean)) fr lo mc ms P Q :=
  yOf hy hyc hT (fun g av m n h => by
    obtain ⟨a0, a1, a2, rfl, _⟩ := h
    exact hL) (fun g av m n h1 h2 hp G hG => by
    obtain ⟨a0, a1, a2, rfl, hp⟩ := hp
    exact body g a0 a1 a2 m n h1 h2 hp G hG)
abbrev ym_LILLrV (l : Launch) (y : MethodName) (ws : List Cond) (fr lo mc ms : Nat) (P : hG → Nat → Int32 → Nat → Nat → yM → Nat → Prop) (Q : hG → Nat → Int32 → Nat → Nat → yM → Nat → yM → Nat → Prop) : Prop := yCon l y ws fr lo mc ms (fun (g : hG) (av : List Value) (m : yM) (n : Nat) => ∃ (a0 : Nat) (a1 : Int32) (a2 : Nat) (a3 : Nat), av = [.ref a0, .int a1, .ref a2, .ref a3] ∧ P g a0 a1 a2 a3 m n) (fun (g : hG) (av : List Value) (m : yM) (n : Nat) (v : Option Value) (m' : yM) (n' : Nat) => ∀ (a0 : Nat) (a1 : Int32) (a2 : Nat) (a3 : Nat), av = [.ref a0, .int a1, .ref a2, .ref a3] → v = none ∧ Q g a0 a1 a2 a3 m n m' n') yNoX
def yo_LILLrV (g : hG) (mc ms mc' ms' : Nat) (P : hG → Nat → Int32 → Nat → Nat → yM → Nat → Prop) (Q : hG → Nat → Int32 → Nat → Nat → yM → Nat → yM → Nat → Prop) : se_Op yW := fun st w K Y => match st with
  | .ref a3 :: .ref a2 :: .int a1 :: .ref a0 :: r => se_c8 8 r ∧ P g a0 a1 a2 a3 w.1 w.2.1 ∧ w.2.2.1 + mc' ≤ mc ∧ w.2.2.2 + ms' ≤ ms ∧ ∀ m' n', Q g a0 a1 a2 a3 w.1 w.2.1 m' n' → yIn g m' n' → w.2.1 ≤ n' → K r (m', n', w.2.2.1 + mc', w.2.2.2 + ms')
  | _ => False
theorem yo_LILLrV_r {g : hG} {mc ms mc' ms' : Nat} {P : hG → Nat → Int32 → Nat → Nat → yM → Nat → Prop} {Q : hG → Nat → Int32 → Nat → Nat → yM → Nat → yM → Nat → Prop} {a0 : Nat} {a1 : Int32} {a2 : Nat} {a3 : Nat} {r : List Value} {w : yW} {K : List Value → yW → Prop} {Y : Nat → yW → Prop} : yo_LILLrV g mc ms mc' ms' P Q (.ref a3 :: .ref a2 :: .int a1 :: .ref a0 :: r) w K Y = (se_c8 8 r ∧ P g a0 a1 a2 a3 w.1 w.2.1 ∧ w.2.2.1 + mc' ≤ mc ∧ w.2.2.2 + ms' ≤ ms ∧ ∀ m' n', Q g a0 a1 a2 a3 w.1 w.2.1 m' n' → yIn g m' n' → w.2.1 ≤ n' → K r (m', n', w.2.2.1 + mc', w.2.2.2 + ms')) := rfl
theorem yo_LILLrV_ok {g : hG} {mc ms mc' ms' : Nat} {P : hG → Nat → Int32 → Nat → Nat → yM → Nat → Prop} {Q : hG → Nat → Int32 → Nat → Nat → yM → Nat → yM → Nat → Prop} {p : Program} {l : Launch} {e : Env} {R : Room} {s : State} {m : MethodId} {args : Array Value} {below : List Frame} {meth : Method} {c : Code} {nL : Nat} {cc : ByteArray} {Q0 : State → Prop} {H0 : Heap} {ins : Instr} {len : Nat} (hS : se_Snd p l e R s m args below meth c Q0 nL (fun a => a) (yRM g H0) cc ins len (yCS g 4 mc ms mc' ms' (fun (g : hG) (av : List Value) (m : yM) (n : Nat) => ∃ (a0 : Nat) (a1 : Int32) (a2 : Nat) (a3 : Nat), av = [.ref a0, .int a1, .ref a2, .ref a3] ∧ P g a0 a1 a2 a3 m n) (fun (g : hG) (av : List Value) (m : yM) (n : Nat) (v : Option Value) (m' : yM) (n' : Nat) => ∀ (a0 : Nat) (a1 : Int32) (a2 : Nat) (a3 : Nat), av = [.ref a0, .int a1, .ref a2, .ref a3] → v = none ∧ Q g a0 a1 a2 a3 m n m' n') yNoX)) : se_Snd p l e R s m args below meth c Q0 nL (fun a => a) (yRM g H0) cc ins len (yo_LILLrV g mc ms mc' ms' P Q) :=
  hS.mono fun st w K Y h => by
    unfold yo_LILLrV at h
    split at h
    · rename_i a3 a2 a1 a0 r
      obtain ⟨h8, hP, r1, r2, hq⟩ := h
      exact (⟨h8, ⟨a0, a1, a2, a3, rfl, hP⟩, r1, r2, fun v m' n' hp hi hn => by
              obtain ⟨rfl, hx⟩ := hp a0 a1 a2 a3 rfl
              exact hq m' n' hx hi hn, fun b m' n' hp => hp.elim⟩ : yGo g mc ms mc' ms' ((fun (g : hG) (av : List Value) (m : yM) (n : Nat) => ∃ (a0 : Nat) (a1 : Int32) (a2 : Nat) (a3 : Nat), av = [.ref a0, .int a1, .ref a2, .ref a3] ∧ P g a0 a1 a2 a3 m n) g) ((fun (g : hG) (av : List Value) (m : yM) (n : Nat) (v : Option Value) (m' : yM) (n' : Nat) => ∀ (a0 : Nat) (a1 : Int32) (a2 : Nat) (a3 : Nat), av = [.ref a0, .int a1, .ref a2, .ref a3] → v = none ∧ Q g a0 a1 a2 a3 m n m' n') g) (yNoX g) [.ref a0, .int a1, .ref a2, .ref a3] r w K Y)
    · exact h.elim
def yf_LILLrV (g : hG) (mc ms : Nat) (P : hG → Nat → Int32 → Nat → Nat → yM → Nat → Prop) (F : hG → Nat → Int32 → Nat → Nat → yM → Nat → yM) : se_Op yW := fun st w K Y => match st with
  | .ref a3 :: .ref a2 :: .int a1 :: .ref a0 :: r => se_c8 8 r ∧ P g a0 a1 a2 a3 w.1 w.2.1 ∧ w.2.2.1 ≤ mc ∧ w.2.2.2 ≤ ms ∧ K (r) (F g a0 a1 a2 a3 w.1 w.2.1, w.2)
  | _ => False
theorem yf_LILLrV_r {g : hG} {mc ms : Nat} {P : hG → Nat → Int32 → Nat → Nat → yM → Nat → Prop} {F : hG → Nat → Int32 → Nat → Nat → yM → Nat → yM} {a0 : Nat} {a1 : Int32} {a2 : Nat} {a3 : Nat} {r : List Value} {w : yW} {K : List Value → yW → Prop} {Y : Nat → yW → Prop} : yf_LILLrV g mc ms P F (.ref a3 :: .ref a2 :: .int a1 :: .ref a0 :: r) w K Y = (se_c8 8 r ∧ P g a0 a1 a2 a3 w.1 w.2.1 ∧ w.2.2.1 ≤ mc ∧ w.2.2.2 ≤ ms ∧ K (r) (F g a0 a1 a2 a3 w.1 w.2.1, w.2)) := rfl
theorem yf_LILLrV_ok {g : hG} {mc ms : Nat} {P : hG → Nat → Int32 → Nat → Nat → yM → Nat → Prop} {F : hG → Nat → Int32 → Nat → Nat → yM → Nat → yM} {p : Program} {l : Launch} {e : Env} {R : Room} {s : State} {m : MethodId} {args : Array Value} {below : List Frame} {meth : Method} {c : Code} {nL : Nat} {cc : ByteArray} {Q0 : State → Prop} {H0 : Heap} {ins : Instr} {len : Nat} (hS : se_Snd p l e R s m args below meth c Q0 nL (fun a => a) (yRM g H0) cc ins len (yo_LILLrV g mc ms 0 0 P (fun g a0 a1 a2 a3 m n m' n' => m' = F g a0 a1 a2 a3 m n ∧ n' = n))) : se_Snd p l e R s m args below meth c Q0 nL (fun a => a) (yRM g H0) cc ins len (yf_LILLrV g mc ms P F) :=
  hS.mono fun st w K Y h => by
    unfold yf_LILLrV at h
    split at h
    · rename_i a3 a2 a1 a0 r
      obtain ⟨h8, hP, r1, r2, hq⟩ := h
      exact ⟨h8, hP, r1, r2, fun m' n' e _ _ => by
              obtain ⟨rfl, rfl⟩ := e
              exact hq⟩
    · exact h.elim
def yt_LILLrV (mc ms : Nat) (Q : hG → Nat → Int32 → Nat → Nat → yM → Nat → yM → Nat → Prop) (g : hG) (a0 : Nat) (a1 : Int32) (a2 : Nat) (a3 : Nat) (m : yM) (n : Nat) : Option Value → yW → Prop := yRt none mc ms ((fun (g : hG) (av : List Value) (m : yM) (n : Nat) (v : Option Value) (m' : yM) (n' : Nat) => ∀ (a0 : Nat) (a1 : Int32) (a2 : Nat) (a3 : Nat), av = [.ref a0, .int a1, .ref a2, .ref a3] → v = none ∧ Q g a0 a1 a2 a3 m n m' n') g [.ref a0, .int a1, .ref a2, .ref a3] m n)
theorem yt_LILLrV_e {mc ms : Nat} {Q : hG → Nat → Int32 → Nat → Nat → yM → Nat → yM → Nat → Prop} {g : hG} {a0 : Nat} {a1 : Int32} {a2 : Nat} {a3 : Nat} {m : yM} {n : Nat} {w : yW} : yt_LILLrV mc ms Q g a0 a1 a2 a3 m n none w = (w.2.2.1 ≤ mc ∧ w.2.2.2 ≤ ms ∧ Q g a0 a1 a2 a3 m n w.1 w.2.1) := by
  apply propext
  exact ⟨fun h => ⟨h.2.1, h.2.2.1, (h.2.2.2 _ _ _ _ rfl).2⟩, fun h => ⟨rfl, h.1, h.2.1, fun _ _ _ _ e => by
    cases e
    exact ⟨rfl, h.2.2⟩⟩⟩
theorem ym_LILLrV_of {l : Launch} {y : MethodName} {own : String} {cc : ByteArray} {maxL fr lo mc ms : Nat} {P : hG → Nat → Int32 → Nat → Nat → yM → Nat → Prop} {Q : hG → Nat → Int32 → Nat → Nat → yM → Nat → yM → Nat → Prop} {T : hG → Nat → Nat → se_Op yW} (hy : plainName y.cls = true) (hyc : y.cls = own) (hT : yTS l own y.name cc maxL none fr lo mc ms T) (hL : 4 ≤ maxL)
    (body : ∀ (g : hG) (a0 : Nat) (a1 : Int32) (a2 : Nat) (a3 : Nat) (m : yM) (n : Nat), hVg g → yIn g m n → P g a0 a1 a2 a3 m n → ∀ G : Nat → se_L → List Value → yW → Prop, (∀ (stops : List Nat) (f pc : Nat) (L : se_L) (st : List Value) (w : yW), wpN True (T g) cc stops G (yXt mc ms (yNoX g [.ref a0, .int a1, .ref a2, .ref a3] m n)) (yt_LILLrV mc ms Q g a0 a1 a2 a3 m n) f pc L st w → G pc L st w) → G 0 (se_ent [.ref a0, .int a1, .ref a2, .ref a3] maxL) [] (m, n, 0, 0)) : ym_LILLrV l y (ws_ y cc maxL none) fr lo mc ms P Q :=
  yOf hy hyc hT (fun g av m n h => by
    obtain ⟨a0, a1, a2, a3, rfl, _⟩ := h
    exact hL) (fun g av m n h1 h2 hp G hG => by
    obtain ⟨a0, a1, a2, a3, rfl, hp⟩ := hp
    exact body g a0 a1 a2 a3 m n h1 h2 hp G hG)
abbrev ym_LILrV (l : Launch) (y : MethodName) (ws : List Cond) (fr lo mc ms : Nat) (P : hG → Nat → Int32 → Nat → yM → Nat → Prop) (Q : hG → Nat → Int32 → Nat → yM → Nat → yM → Nat → Prop) : Prop := yCon l y ws fr lo mc ms (fun (g : hG) (av : List Value) (m : yM) (n : Nat) => ∃ (a0 : Nat) (a1 : Int32) (a2 : Nat), av = [.ref a0, .int a1, .ref a2] ∧ P g a0 a1 a2 m n) (fun (g : hG) (av : List Value) (m : yM) (n : Nat) (v : Option Value) (m' : yM) (n' : Nat) => ∀ (a0 : Nat) (a1 : Int32) (a2 : Nat), av = [.ref a0, .int a1, .ref a2] → v = none ∧ Q g a0 a1 a2 m n m' n') yNoX
def yo_LILrV (g : hG) (mc ms mc' ms' : Nat) (P : hG → Nat → Int32 → Nat → yM → Nat → Prop) (Q : hG → Nat → Int32 → Nat → yM → Nat → yM → Nat → Prop) : se_Op yW := fun st w K Y => match st with
  | .ref a2 :: .int a1 :: .ref a0 :: r => se_c8 8 r ∧ P g a0 a1 a2 w.1 w.2.1 ∧ w.2.2.1 + mc' ≤ mc ∧ w.2.2.2 + ms' ≤ ms ∧ ∀ m' n', Q g a0 a1 a2 w.1 w.2.1 m' n' → yIn g m' n' → w.2.1 ≤ n' → K r (m', n', w.2.2.1 + mc', w.2.2.2 + ms')
  | _ => False
theorem yo_LILrV_r {g : hG} {mc ms mc' ms' : Nat} {P : hG → Nat → Int32 → Nat → yM → Nat → Prop} {Q : hG → Nat → Int32 → Nat → yM → Nat → yM → Nat → Prop} {a0 : Nat} {a1 : Int32} {a2 : Nat} {r : List Value} {w : yW} {K : List Value → yW → Prop} {Y : Nat → yW → Prop} : yo_LILrV g mc ms mc' ms' P Q (.ref a2 :: .int a1 :: .ref a0 :: r) w K Y = (se_c8 8 r ∧ P g a0 a1 a2 w.1 w.2.1 ∧ w.2.2.1 + mc' ≤ mc ∧ w.2.2.2 + ms' ≤ ms ∧ ∀ m' n', Q g a0 a1 a2 w.1 w.2.1 m' n' → yIn g m' n' → w.2.1 ≤ n' → K r (m', n', w.2.2.1 + mc', w.2.2.2 + ms')) := rfl
theorem yo_LILrV_ok {g : hG} {mc ms mc' ms' : Nat} {P : hG → Nat → Int32 → Nat → yM → Nat → Prop} {Q : hG → Nat → Int32 → Nat → yM → Nat → yM → Nat → Prop} {p : Program} {l : Launch} {e : Env} {R : Room} {s : State} {m : MethodId} {args : Array Value} {below : List Frame} {meth : Method} {c : Code} {nL : Nat} {cc : ByteArray} {Q0 : State → Prop} {H0 : Heap} {ins : Instr} {len : Nat} (hS : se_Snd p l e R s m args below meth c Q0 nL (fun a => a) (yRM g H0) cc ins len (yCS g 3 mc ms mc' ms' (fun (g : hG) (av : List Value) (m : yM) (n : Nat) => ∃ (a0 : Nat) (a1 : Int32) (a2 : Nat), av = [.ref a0, .int a1, .ref a2] ∧ P g a0 a1 a2 m n) (fun (g : hG) (av : List Value) (m : yM) (n : Nat) (v : Option Value) (m' : yM) (n' : Nat) => ∀ (a0 : Nat) (a1 : Int32) (a2 : Nat), av = [.ref a0, .int a1, .ref a2] → v = none ∧ Q g a0 a1 a2 m n m' n') yNoX)) : se_Snd p l e R s m args below meth c Q0 nL (fun a => a) (yRM g H0) cc ins len (yo_LILrV g mc ms mc' ms' P Q) :=
  hS.mono fun st w K Y h => by
    unfold yo_LILrV at h
    split at h
    · rename_i a2 a1 a0 r
      obtain ⟨h8, hP, r1, r2, hq⟩ := h
      exact (⟨h8, ⟨a0, a1, a2, rfl, hP⟩, r1, r2, fun v m' n' hp hi hn => by
              obtain ⟨rfl, hx⟩ := hp a0 a1 a2 rfl
              exact hq m' n' hx hi hn, fun b m' n' hp => hp.elim⟩ : yGo g mc ms mc' ms' ((fun (g : hG) (av : List Value) (m : yM) (n : Nat) => ∃ (a0 : Nat) (a1 : Int32) (a2 : Nat), av = [.ref a0, .int a1, .ref a2] ∧ P g a0 a1 a2 m n) g) ((fun (g : hG) (av : List Value) (m : yM) (n : Nat) (v : Option Value) (m' : yM) (n' : Nat) => ∀ (a0 : Nat) (a1 : Int32) (a2 : Nat), av = [.ref a0, .int a1, .ref a2] → v = none ∧ Q g a0 a1 a2 m n m' n') g) (yNoX g) [.ref a0, .int a1, .ref a2] r w K Y)
    · exact h.elim
def yf_LILrV (g : hG) (mc ms : Nat) (P : hG → Nat → Int32 → Nat → yM → Nat → Prop) (F : hG → Nat → Int32 → Nat → yM → Nat → yM) : se_Op yW := fun st w K Y => match st with
  | .ref a2 :: .int a1 :: .ref a0 :: r => se_c8 8 r ∧ P g a0 a1 a2 w.1 w.2.1 ∧ w.2.2.1 ≤ mc ∧ w.2.2.2 ≤ ms ∧ K (r) (F g a0 a1 a2 w.1 w.2.1, w.2)
  | _ => False
theorem yf_LILrV_r {g : hG} {mc ms : Nat} {P : hG → Nat → Int32 → Nat → yM → Nat → Prop} {F : hG → Nat → Int32 → Nat → yM → Nat → yM} {a0 : Nat} {a1 : Int32} {a2 : Nat} {r : List Value} {w : yW} {K : List Value → yW → Prop} {Y : Nat → yW → Prop} : yf_LILrV g mc ms P F (.ref a2 :: .int a1 :: .ref a0 :: r) w K Y = (se_c8 8 r ∧ P g a0 a1 a2 w.1 w.2.1 ∧ w.2.2.1 ≤ mc ∧ w.2.2.2 ≤ ms ∧ K (r) (F g a0 a1 a2 w.1 w.2.1, w.2)) := rfl
theorem yf_LILrV_ok {g : hG} {mc ms : Nat} {P : hG → Nat → Int32 → Nat → yM → Nat → Prop} {F : hG → Nat → Int32 → Nat → yM → Nat → yM} {p : Program} {l : Launch} {e : Env} {R : Room} {s : State} {m : MethodId} {args : Array Value} {below : List Frame} {meth : Method} {c : Code} {nL : Nat} {cc : ByteArray} {Q0 : State → Prop} {H0 : Heap} {ins : Instr} {len : Nat} (hS : se_Snd p l e R s m args below meth c Q0 nL (fun a => a) (yRM g H0) cc ins len (yo_LILrV g mc ms 0 0 P (fun g a0 a1 a2 m n m' n' => m' = F g a0 a1 a2 m n ∧ n' = n))) : se_Snd p l e R s m args below meth c Q0 nL (fun a => a) (yRM g H0) cc ins len (yf_LILrV g mc ms P F) :=
  hS.mono fun st w K Y h => by
    unfold yf_LILrV at h
    split at h
    · rename_i a2 a1 a0 r
      obtain ⟨h8, hP, r1, r2, hq⟩ := h
      exact ⟨h8, hP, r1, r2, fun m' n' e _ _ => by
              obtain ⟨rfl, rfl⟩ := e
              exact hq⟩
    · exact h.elim
def yt_LILrV (mc ms : Nat) (Q : hG → Nat → Int32 → Nat → yM → Nat → yM → Nat → Prop) (g : hG) (a0 : Nat) (a1 : Int32) (a2 : Nat) (m : yM) (n : Nat) : Option Value → yW → Prop := yRt none mc ms ((fun (g : hG) (av : List Value) (m : yM) (n : Nat) (v : Option Value) (m' : yM) (n' : Nat) => ∀ (a0 : Nat) (a1 : Int32) (a2 : Nat), av = [.ref a0, .int a1, .ref a2] → v = none ∧ Q g a0 a1 a2 m n m' n') g [.ref a0, .int a1, .ref a2] m n)
theorem yt_LILrV_e {mc ms : Nat} {Q : hG → Nat → Int32 → Nat → yM → Nat → yM → Nat → Prop} {g : hG} {a0 : Nat} {a1 : Int32} {a2 : Nat} {m : yM} {n : Nat} {w : yW} : yt_LILrV mc ms Q g a0 a1 a2 m n none w = (w.2.2.1 ≤ mc ∧ w.2.2.2 ≤ ms ∧ Q g a0 a1 a2 m n w.1 w.2.1) := by
  apply propext
  exact ⟨fun h => ⟨h.2.1, h.2.2.1, (h.2.2.2 _ _ _ rfl).2⟩, fun h => ⟨rfl, h.1, h.2.1, fun _ _ _ e => by
    cases e
    exact ⟨rfl, h.2.2⟩⟩⟩
theorem ym_LILrV_of {l : Launch} {y : MethodName} {own : String} {cc : ByteArray} {maxL fr lo mc ms : Nat} {P : hG → Nat → Int32 → Nat → yM → Nat → Prop} {Q : hG → Nat → Int32 → Nat → yM → Nat → yM → Nat → Prop} {T : hG → Nat → Nat → se_Op yW} (hy : plainName y.cls = true) (hyc : y.cls = own) (hT : yTS l own y.name cc maxL none fr lo mc ms T) (hL : 3 ≤ maxL)
    (body : ∀ (g : hG) (a0 : Nat) (a1 : Int32) (a2 : Nat) (m : yM) (n : Nat), hVg g → yIn g m n → P g a0 a1 a2 m n → ∀ G : Nat → se_L → List Value → yW → Prop, (∀ (stops : List Nat) (f pc : Nat) (L : se_L) (st : List Value) (w : yW), wpN True (T g) cc stops G (yXt mc ms (yNoX g [.ref a0, .int a1, .ref a2] m n)) (yt_LILrV mc ms Q g a0 a1 a2 m n) f pc L st w → G pc L st w) → G 0 (se_ent [.ref a0, .int a1, .ref a2] maxL) [] (m, n, 0, 0)) : ym_LILrV l y (ws_ y cc maxL none) fr lo mc ms P Q :=
  yOf hy hyc hT (fun g av m n h => by
    obtain ⟨a0, a1, a2, rfl, _⟩ := h
    exact hL) (fun g av m n h1 h2 hp G hG => by
    obtain ⟨a0, a1, a2, rfl, hp⟩ := hp
    exact body g a0 a1 a2 m n h1 h2 hp G hG)
abbrev ym_LIrI (l : Launch) (y : MethodName) (ws : List Cond) (fr lo mc ms : Nat) (P : hG → Nat → Int32 → yM → Nat → Prop) (Q : hG → Nat → Int32 → yM → Nat → Int32 → yM → Nat → Prop) : Prop := yCon l y ws fr lo mc ms (fun (g : hG) (av : List Value) (m : yM) (n : Nat) => ∃ (a0 : Nat) (a1 : Int32), av = [.ref a0, .int a1] ∧ P g a0 a1 m n) (fun (g : hG) (av : List Value) (m : yM) (n : Nat) (v : Option Value) (m' : yM) (n' : Nat) => ∀ (a0 : Nat) (a1 : Int32), av = [.ref a0, .int a1] → ∃ x, v = some (.int x) ∧ Q g a0 a1 m n x m' n') yNoX
def yov_LIrI (g : hG) (mc ms mc' ms' : Nat) (cs : List Nat) (P : hG → Nat → Int32 → yM → Nat → Prop) (Q : hG → Nat → Int32 → yM → Nat → Int32 → yM → Nat → Prop) : se_Op yW := fun st w K Y => match st with
  | .int a1 :: .ref a0 :: r => yc w.1 a0 ∈ cs ∧ se_c8 8 r ∧ P g a0 a1 w.1 w.2.1 ∧ w.2.2.1 + mc' ≤ mc ∧ w.2.2.2 + ms' ≤ ms ∧ ∀ x m' n', Q g a0 a1 w.1 w.2.1 x m' n' → yIn g m' n' → w.2.1 ≤ n' → K (.int x :: r) (m', n', w.2.2.1 + mc', w.2.2.2 + ms')
  | _ => False
theorem yov_LIrI_r {g : hG} {mc ms mc' ms' : Nat} {cs : List Nat} {P : hG → Nat → Int32 → yM → Nat → Prop} {Q : hG → Nat → Int32 → yM → Nat → Int32 → yM → Nat → Prop} {a0 : Nat} {a1 : Int32} {r : List Value} {w : yW} {K : List Value → yW → Prop} {Y : Nat → yW → Prop} : yov_LIrI g mc ms mc' ms' cs P Q (.int a1 :: .ref a0 :: r) w K Y = (yc w.1 a0 ∈ cs ∧ se_c8 8 r ∧ P g a0 a1 w.1 w.2.1 ∧ w.2.2.1 + mc' ≤ mc ∧ w.2.2.2 + ms' ≤ ms ∧ ∀ x m' n', Q g a0 a1 w.1 w.2.1 x m' n' → yIn g m' n' → w.2.1 ≤ n' → K (.int x :: r) (m', n', w.2.2.1 + mc', w.2.2.2 + ms')) := rfl
theorem yov_LIrI_ok {g : hG} {mc ms mc' ms' : Nat} {cs : List Nat} {P : hG → Nat → Int32 → yM → Nat → Prop} {Q : hG → Nat → Int32 → yM → Nat → Int32 → yM → Nat → Prop} {p : Program} {l : Launch} {e : Env} {R : Room} {s : State} {m : MethodId} {args : Array Value} {below : List Frame} {meth : Method} {c : Code} {nL : Nat} {cc : ByteArray} {Q0 : State → Prop} {H0 : Heap} {ins : Instr} {len : Nat} (hS : se_Snd p l e R s m args below meth c Q0 nL (fun a => a) (yRM g H0) cc ins len (yCV g 1 mc ms mc' ms' cs (fun (g : hG) (av : List Value) (m : yM) (n : Nat) => ∃ (a0 : Nat) (a1 : Int32), av = [.ref a0, .int a1] ∧ P g a0 a1 m n) (fun (g : hG) (av : List Value) (m : yM) (n : Nat) (v : Option Value) (m' : yM) (n' : Nat) => ∀ (a0 : Nat) (a1 : Int32), av = [.ref a0, .int a1] → ∃ x, v = some (.int x) ∧ Q g a0 a1 m n x m' n') yNoX)) : se_Snd p l e R s m args below meth c Q0 nL (fun a => a) (yRM g H0) cc ins len (yov_LIrI g mc ms mc' ms' cs P Q) :=
  hS.mono fun st w K Y h => by
    unfold yov_LIrI at h
    split at h
    · rename_i a1 a0 r
      obtain ⟨hc, h8, hP, r1, r2, hq⟩ := h
      exact (⟨hc, h8, ⟨a0, a1, rfl, hP⟩, r1, r2, fun v m' n' hp hi hn => by
              obtain ⟨x, rfl, hx⟩ := hp a0 a1 rfl
              exact hq x m' n' hx hi hn, fun b m' n' hp => hp.elim⟩ : (yRcv cs w.1 [.ref a0, .int a1] ∧ yGo g mc ms mc' ms' ((fun (g : hG) (av : List Value) (m : yM) (n : Nat) => ∃ (a0 : Nat) (a1 : Int32), av = [.ref a0, .int a1] ∧ P g a0 a1 m n) g) ((fun (g : hG) (av : List Value) (m : yM) (n : Nat) (v : Option Value) (m' : yM) (n' : Nat) => ∀ (a0 : Nat) (a1 : Int32), av = [.ref a0, .int a1] → ∃ x, v = some (.int x) ∧ Q g a0 a1 m n x m' n') g) (yNoX g) [.ref a0, .int a1] r w K Y))
    · exact h.elim
abbrev ymx_LIrI (l : Launch) (y : MethodName) (ws : List Cond) (fr lo mc ms : Nat) (P : hG → Nat → Int32 → yM → Nat → Prop) (Q : hG → Nat → Int32 → yM → Nat → Int32 → yM → Nat → Prop) (X : hG → Nat → Int32 → yM → Nat → Nat → yM → Nat → Prop) : Prop := yCon l y ws fr lo mc ms (fun (g : hG) (av : List Value) (m : yM) (n : Nat) => ∃ (a0 : Nat) (a1 : Int32), av = [.ref a0, .int a1] ∧ P g a0 a1 m n) (fun (g : hG) (av : List Value) (m : yM) (n : Nat) (v : Option Value) (m' : yM) (n' : Nat) => ∀ (a0 : Nat) (a1 : Int32), av = [.ref a0, .int a1] → ∃ x, v = some (.int x) ∧ Q g a0 a1 m n x m' n') (fun (g : hG) (av : List Value) (m : yM) (n : Nat) (b : Nat) (m' : yM) (n' : Nat) => ∃ (a0 : Nat) (a1 : Int32), av = [.ref a0, .int a1] ∧ X g a0 a1 m n b m' n')
def yovx_LIrI (g : hG) (mc ms mc' ms' : Nat) (cs : List Nat) (P : hG → Nat → Int32 → yM → Nat → Prop) (Q : hG → Nat → Int32 → yM → Nat → Int32 → yM → Nat → Prop) (X : hG → Nat → Int32 → yM → Nat → Nat → yM → Nat → Prop) : se_Op yW := fun st w K Y => match st with
  | .int a1 :: .ref a0 :: r => yc w.1 a0 ∈ cs ∧ se_c8 8 r ∧ P g a0 a1 w.1 w.2.1 ∧ w.2.2.1 + mc' ≤ mc ∧ w.2.2.2 + ms' ≤ ms ∧ (∀ x m' n', Q g a0 a1 w.1 w.2.1 x m' n' → yIn g m' n' → w.2.1 ≤ n' → K (.int x :: r) (m', n', w.2.2.1 + mc', w.2.2.2 + ms')) ∧ ∀ b m' n', X g a0 a1 w.1 w.2.1 b m' n' → yIn g m' n' → w.2.1 ≤ n' → Y b (m', n', w.2.2.1 + mc', w.2.2.2 + ms')
  | _ => False
theorem yovx_LIrI_r {g : hG} {mc ms mc' ms' : Nat} {cs : List Nat} {P : hG → Nat → Int32 → yM → Nat → Prop} {Q : hG → Nat → Int32 → yM → Nat → Int32 → yM → Nat → Prop} {X : hG → Nat → Int32 → yM → Nat → Nat → yM → Nat → Prop} {a0 : Nat} {a1 : Int32} {r : List Value} {w : yW} {K : List Value → yW → Prop} {Y : Nat → yW → Prop} : yovx_LIrI g mc ms mc' ms' cs P Q X (.int a1 :: .ref a0 :: r) w K Y = (yc w.1 a0 ∈ cs ∧ se_c8 8 r ∧ P g a0 a1 w.1 w.2.1 ∧ w.2.2.1 + mc' ≤ mc ∧ w.2.2.2 + ms' ≤ ms ∧ (∀ x m' n', Q g a0 a1 w.1 w.2.1 x m' n' → yIn g m' n' → w.2.1 ≤ n' → K (.int x :: r) (m', n', w.2.2.1 + mc', w.2.2.2 + ms')) ∧ ∀ b m' n', X g a0 a1 w.1 w.2.1 b m' n' → yIn g m' n' → w.2.1 ≤ n' → Y b (m', n', w.2.2.1 + mc', w.2.2.2 + ms')) := rfl
theorem yovx_LIrI_ok {g : hG} {mc ms mc' ms' : Nat} {cs : List Nat} {P : hG → Nat → Int32 → yM → Nat → Prop} {Q : hG → Nat → Int32 → yM → Nat → Int32 → yM → Nat → Prop} {X : hG → Nat → Int32 → yM → Nat → Nat → yM → Nat → Prop} {p : Program} {l : Launch} {e : Env} {R : Room} {s : State} {m : MethodId} {args : Array Value} {below : List Frame} {meth : Method} {c : Code} {nL : Nat} {cc : ByteArray} {Q0 : State → Prop} {H0 : Heap} {ins : Instr} {len : Nat} (hS : se_Snd p l e R s m args below meth c Q0 nL (fun a => a) (yRM g H0) cc ins len (yCV g 1 mc ms mc' ms' cs (fun (g : hG) (av : List Value) (m : yM) (n : Nat) => ∃ (a0 : Nat) (a1 : Int32), av = [.ref a0, .int a1] ∧ P g a0 a1 m n) (fun (g : hG) (av : List Value) (m : yM) (n : Nat) (v : Option Value) (m' : yM) (n' : Nat) => ∀ (a0 : Nat) (a1 : Int32), av = [.ref a0, .int a1] → ∃ x, v = some (.int x) ∧ Q g a0 a1 m n x m' n') (fun (g : hG) (av : List Value) (m : yM) (n : Nat) (b : Nat) (m' : yM) (n' : Nat) => ∃ (a0 : Nat) (a1 : Int32), av = [.ref a0, .int a1] ∧ X g a0 a1 m n b m' n'))) : se_Snd p l e R s m args below meth c Q0 nL (fun a => a) (yRM g H0) cc ins len (yovx_LIrI g mc ms mc' ms' cs P Q X) :=
  hS.mono fun st w K Y h => by
    unfold yovx_LIrI at h
    split at h
    · rename_i a1 a0 r
      obtain ⟨hc, h8, hP, r1, r2, hq⟩ := h
      exact (⟨hc, h8, ⟨a0, a1, rfl, hP⟩, r1, r2, fun v m' n' hp hi hn => by
              obtain ⟨x, rfl, hx⟩ := hp a0 a1 rfl
              exact hq.1 x m' n' hx hi hn, fun b m' n' hp hi hn => by
              obtain ⟨z0, z1, e, hx⟩ := hp
              cases e
              exact hq.2 b m' n' hx hi hn⟩ : (yRcv cs w.1 [.ref a0, .int a1] ∧ yGo g mc ms mc' ms' ((fun (g : hG) (av : List Value) (m : yM) (n : Nat) => ∃ (a0 : Nat) (a1 : Int32), av = [.ref a0, .int a1] ∧ P g a0 a1 m n) g) ((fun (g : hG) (av : List Value) (m : yM) (n : Nat) (v : Option Value) (m' : yM) (n' : Nat) => ∀ (a0 : Nat) (a1 : Int32), av = [.ref a0, .int a1] → ∃ x, v = some (.int x) ∧ Q g a0 a1 m n x m' n') g) ((fun (g : hG) (av : List Value) (m : yM) (n : Nat) (b : Nat) (m' : yM) (n' : Nat) => ∃ (a0 : Nat) (a1 : Int32), av = [.ref a0, .int a1] ∧ X g a0 a1 m n b m' n') g) [.ref a0, .int a1] r w K Y))
    · exact h.elim
def ypv_LIrI (g : hG) (mc ms : Nat) (cs : List Nat) (P : hG → Nat → Int32 → yM → Nat → Prop) (R0 : hG → Nat → Int32 → yM → Nat → Int32) : se_Op yW := fun st w K Y => match st with
  | .int a1 :: .ref a0 :: r => yc w.1 a0 ∈ cs ∧ se_c8 8 r ∧ P g a0 a1 w.1 w.2.1 ∧ w.2.2.1 ≤ mc ∧ w.2.2.2 ≤ ms ∧ K (.int (R0 g a0 a1 w.1 w.2.1) :: r) w
  | _ => False
theorem ypv_LIrI_r {g : hG} {mc ms : Nat} {cs : List Nat} {P : hG → Nat → Int32 → yM → Nat → Prop} {R0 : hG → Nat → Int32 → yM → Nat → Int32} {a0 : Nat} {a1 : Int32} {r : List Value} {w : yW} {K : List Value → yW → Prop} {Y : Nat → yW → Prop} : ypv_LIrI g mc ms cs P R0 (.int a1 :: .ref a0 :: r) w K Y = (yc w.1 a0 ∈ cs ∧ se_c8 8 r ∧ P g a0 a1 w.1 w.2.1 ∧ w.2.2.1 ≤ mc ∧ w.2.2.2 ≤ ms ∧ K (.int (R0 g a0 a1 w.1 w.2.1) :: r) w) := rfl
theorem ypv_LIrI_ok {g : hG} {mc ms : Nat} {cs : List Nat} {P : hG → Nat → Int32 → yM → Nat → Prop} {R0 : hG → Nat → Int32 → yM → Nat → Int32} {p : Program} {l : Launch} {e : Env} {R : Room} {s : State} {m : MethodId} {args : Array Value} {below : List Frame} {meth : Method} {c : Code} {nL : Nat} {cc : ByteArray} {Q0 : State → Prop} {H0 : Heap} {ins : Instr} {len : Nat} (hS : se_Snd p l e R s m args below meth c Q0 nL (fun a => a) (yRM g H0) cc ins len (yov_LIrI g mc ms 0 0 cs P (fun g a0 a1 m n x m' n' => x = R0 g a0 a1 m n ∧ m' = m ∧ n' = n))) : se_Snd p l e R s m args below meth c Q0 nL (fun a => a) (yRM g H0) cc ins len (ypv_LIrI g mc ms cs P R0) :=
  hS.mono fun st w K Y h => by
    unfold ypv_LIrI at h
    split at h
    · rename_i a1 a0 r
      obtain ⟨hc, h8, hP, r1, r2, hq⟩ := h
      exact ⟨hc, h8, hP, r1, r2, fun x m' n' e _ _ => by
              obtain ⟨rfl, rfl, rfl⟩ := e
              exact hq⟩
    · exact h.elim
def yfv_LIrI (g : hG) (mc ms : Nat) (cs : List Nat) (P : hG → Nat → Int32 → yM → Nat → Prop) (R0 : hG → Nat → Int32 → yM → Nat → Int32) (F : hG → Nat → Int32 → yM → Nat → yM) : se_Op yW := fun st w K Y => match st with
  | .int a1 :: .ref a0 :: r => yc w.1 a0 ∈ cs ∧ se_c8 8 r ∧ P g a0 a1 w.1 w.2.1 ∧ w.2.2.1 ≤ mc ∧ w.2.2.2 ≤ ms ∧ K (.int (R0 g a0 a1 w.1 w.2.1) :: r) (F g a0 a1 w.1 w.2.1, w.2)
  | _ => False
theorem yfv_LIrI_r {g : hG} {mc ms : Nat} {cs : List Nat} {P : hG → Nat → Int32 → yM → Nat → Prop} {R0 : hG → Nat → Int32 → yM → Nat → Int32} {F : hG → Nat → Int32 → yM → Nat → yM} {a0 : Nat} {a1 : Int32} {r : List Value} {w : yW} {K : List Value → yW → Prop} {Y : Nat → yW → Prop} : yfv_LIrI g mc ms cs P R0 F (.int a1 :: .ref a0 :: r) w K Y = (yc w.1 a0 ∈ cs ∧ se_c8 8 r ∧ P g a0 a1 w.1 w.2.1 ∧ w.2.2.1 ≤ mc ∧ w.2.2.2 ≤ ms ∧ K (.int (R0 g a0 a1 w.1 w.2.1) :: r) (F g a0 a1 w.1 w.2.1, w.2)) := rfl
theorem yfv_LIrI_ok {g : hG} {mc ms : Nat} {cs : List Nat} {P : hG → Nat → Int32 → yM → Nat → Prop} {R0 : hG → Nat → Int32 → yM → Nat → Int32} {F : hG → Nat → Int32 → yM → Nat → yM} {p : Program} {l : Launch} {e : Env} {R : Room} {s : State} {m : MethodId} {args : Array Value} {below : List Frame} {meth : Method} {c : Code} {nL : Nat} {cc : ByteArray} {Q0 : State → Prop} {H0 : Heap} {ins : Instr} {len : Nat} (hS : se_Snd p l e R s m args below meth c Q0 nL (fun a => a) (yRM g H0) cc ins len (yov_LIrI g mc ms 0 0 cs P (fun g a0 a1 m n x m' n' => x = R0 g a0 a1 m n ∧ m' = F g a0 a1 m n ∧ n' = n))) : se_Snd p l e R s m args below meth c Q0 nL (fun a => a) (yRM g H0) cc ins len (yfv_LIrI g mc ms cs P R0 F) :=
  hS.mono fun st w K Y h => by
    unfold yfv_LIrI at h
    split at h
    · rename_i a1 a0 r
      obtain ⟨hc, h8, hP, r1, r2, hq⟩ := h
      exact ⟨hc, h8, hP, r1, r2, fun x m' n' e _ _ => by
              obtain ⟨rfl, rfl, rfl⟩ := e
              exact hq⟩
    · exact h.elim
def yt_LIrI (mc ms : Nat) (Q : hG → Nat → Int32 → yM → Nat → Int32 → yM → Nat → Prop) (g : hG) (a0 : Nat) (a1 : Int32) (m : yM) (n : Nat) : Option Value → yW → Prop := yRt (some .int) mc ms ((fun (g : hG) (av : List Value) (m : yM) (n : Nat) (v : Option Value) (m' : yM) (n' : Nat) => ∀ (a0 : Nat) (a1 : Int32), av = [.ref a0, .int a1] → ∃ x, v = some (.int x) ∧ Q g a0 a1 m n x m' n') g [.ref a0, .int a1] m n)
theorem yt_LIrI_e {mc ms : Nat} {Q : hG → Nat → Int32 → yM → Nat → Int32 → yM → Nat → Prop} {g : hG} {a0 : Nat} {a1 : Int32} {m : yM} {n : Nat} {w : yW} {z : Int32} : yt_LIrI mc ms Q g a0 a1 m n (some (.int z)) w = (w.2.2.1 ≤ mc ∧ w.2.2.2 ≤ ms ∧ Q g a0 a1 m n z w.1 w.2.1) := by
  apply propext
  constructor
  · intro h
    obtain ⟨x, e, hq⟩ := h.2.2.2 _ _ rfl
    cases e
    exact ⟨h.2.1, h.2.2.1, hq⟩
  · intro h
    obtain ⟨h1, h2, h3⟩ := h
    exact ⟨⟨_, rfl, rfl⟩, h1, h2, fun _ _ e => by
      cases e
      exact ⟨z, rfl, h3⟩⟩
theorem ym_LIrI_of {l : Launch} {y : MethodName} {own : String} {cc : ByteArray} {maxL fr lo mc ms : Nat} {P : hG → Nat → Int32 → yM → Nat → Prop} {Q : hG → Nat → Int32 → yM → Nat → Int32 → yM → Nat → Prop} {T : hG → Nat → Nat → se_Op yW} (hy : plainName y.cls = true) (hyc : y.cls = own) (hT : yTS l own y.name cc maxL (some .int) fr lo mc ms T) (hL : 2 ≤ maxL)
    (body : ∀ (g : hG) (a0 : Nat) (a1 : Int32) (m : yM) (n : Nat), hVg g → yIn g m n → P g a0 a1 m n → ∀ G : Nat → se_L → List Value → yW → Prop, (∀ (stops : List Nat) (f pc : Nat) (L : se_L) (st : List Value) (w : yW), wpN True (T g) cc stops G (yXt mc ms (yNoX g [.ref a0, .int a1] m n)) (yt_LIrI mc ms Q g a0 a1 m n) f pc L st w → G pc L st w) → G 0 (se_ent [.ref a0, .int a1] maxL) [] (m, n, 0, 0)) : ym_LIrI l y (ws_ y cc maxL (some .int)) fr lo mc ms P Q :=
  yOf hy hyc hT (fun g av m n h => by
    obtain ⟨a0, a1, rfl, _⟩ := h
    exact hL) (fun g av m n h1 h2 hp G hG => by
    obtain ⟨a0, a1, rfl, hp⟩ := hp
    exact body g a0 a1 m n h1 h2 hp G hG)
theorem ymx_LIrI_of {l : Launch} {y : MethodName} {own : String} {cc : ByteArray} {maxL fr lo mc ms : Nat} {P : hG → Nat → Int32 → yM → Nat → Prop} {Q : hG → Nat → Int32 → yM → Nat → Int32 → yM → Nat → Prop} {X : hG → Nat → Int32 → yM → Nat → Nat → yM → Nat → Prop} {T : hG → Nat → Nat → se_Op yW} (hy : plainName y.cls = true) (hyc : y.cls = own) (hT : yTS l own y.name cc maxL (some .int) fr lo mc ms T) (hL : 2 ≤ maxL)
    (body : ∀ (g : hG) (a0 : Nat) (a1 : Int32) (m : yM) (n : Nat), hVg g → yIn g m n → P g a0 a1 m n → ∀ G : Nat → se_L → List Value → yW → Prop, (∀ (stops : List Nat) (f pc : Nat) (L : se_L) (st : List Value) (w : yW), wpN True (T g) cc stops G (yXt mc ms ((fun (g : hG) (av : List Value) (m : yM) (n : Nat) (b : Nat) (m' : yM) (n' : Nat) => ∃ (a0 : Nat) (a1 : Int32), av = [.ref a0, .int a1] ∧ X g a0 a1 m n b m' n') g [.ref a0, .int a1] m n)) (yt_LIrI mc ms Q g a0 a1 m n) f pc L st w → G pc L st w) → G 0 (se_ent [.ref a0, .int a1] maxL) [] (m, n, 0, 0)) : ymx_LIrI l y (ws_ y cc maxL (some .int)) fr lo mc ms P Q X :=
  yOf hy hyc hT (fun g av m n h => by
    obtain ⟨a0, a1, rfl, _⟩ := h
    exact hL) (fun g av m n h1 h2 hp G hG => by
    obtain ⟨a0, a1, rfl, hp⟩ := hp
    exact body g a0 a1 m n h1 h2 hp G hG)
abbrev ym_LIrJ (l : Launch) (y : MethodName) (ws : List Cond) (fr lo mc ms : Nat) (P : hG → Nat → Int32 → yM → Nat → Prop) (Q : hG → Nat → Int32 → yM → Nat → Int64 → yM → Nat → Prop) : Prop := yCon l y ws fr lo mc ms (fun (g : hG) (av : List Value) (m : yM) (n : Nat) => ∃ (a0 : Nat) (a1 : Int32), av = [.ref a0, .int a1] ∧ P g a0 a1 m n) (fun (g : hG) (av : List Value) (m : yM) (n : Nat) (v : Option Value) (m' : yM) (n' : Nat) => ∀ (a0 : Nat) (a1 : Int32), av = [.ref a0, .int a1] → ∃ x, v = some (.long x) ∧ Q g a0 a1 m n x m' n') yNoX
def yov_LIrJ (g : hG) (mc ms mc' ms' : Nat) (cs : List Nat) (P : hG → Nat → Int32 → yM → Nat → Prop) (Q : hG → Nat → Int32 → yM → Nat → Int64 → yM → Nat → Prop) : se_Op yW := fun st w K Y => match st with
  | .int a1 :: .ref a0 :: r => yc w.1 a0 ∈ cs ∧ se_c8 8 r ∧ P g a0 a1 w.1 w.2.1 ∧ w.2.2.1 + mc' ≤ mc ∧ w.2.2.2 + ms' ≤ ms ∧ ∀ x m' n', Q g a0 a1 w.1 w.2.1 x m' n' → yIn g m' n' → w.2.1 ≤ n' → K (.long x :: r) (m', n', w.2.2.1 + mc', w.2.2.2 + ms')
  | _ => False
theorem yov_LIrJ_r {g : hG} {mc ms mc' ms' : Nat} {cs : List Nat} {P : hG → Nat → Int32 → yM → Nat → Prop} {Q : hG → Nat → Int32 → yM → Nat → Int64 → yM → Nat → Prop} {a0 : Nat} {a1 : Int32} {r : List Value} {w : yW} {K : List Value → yW → Prop} {Y : Nat → yW → Prop} : yov_LIrJ g mc ms mc' ms' cs P Q (.int a1 :: .ref a0 :: r) w K Y = (yc w.1 a0 ∈ cs ∧ se_c8 8 r ∧ P g a0 a1 w.1 w.2.1 ∧ w.2.2.1 + mc' ≤ mc ∧ w.2.2.2 + ms' ≤ ms ∧ ∀ x m' n', Q g a0 a1 w.1 w.2.1 x m' n' → yIn g m' n' → w.2.1 ≤ n' → K (.long x :: r) (m', n', w.2.2.1 + mc', w.2.2.2 + ms')) := rfl
theorem yov_LIrJ_ok {g : hG} {mc ms mc' ms' : Nat} {cs : List Nat} {P : hG → Nat → Int32 → yM → Nat → Prop} {Q : hG → Nat → Int32 → yM → Nat → Int64 → yM → Nat → Prop} {p : Program} {l : Launch} {e : Env} {R : Room} {s : State} {m : MethodId} {args : Array Value} {below : List Frame} {meth : Method} {c : Code} {nL : Nat} {cc : ByteArray} {Q0 : State → Prop} {H0 : Heap} {ins : Instr} {len : Nat} (hS : se_Snd p l e R s m args below meth c Q0 nL (fun a => a) (yRM g H0) cc ins len (yCV g 1 mc ms mc' ms' cs (fun (g : hG) (av : List Value) (m : yM) (n : Nat) => ∃ (a0 : Nat) (a1 : Int32), av = [.ref a0, .int a1] ∧ P g a0 a1 m n) (fun (g : hG) (av : List Value) (m : yM) (n : Nat) (v : Option Value) (m' : yM) (n' : Nat) => ∀ (a0 : Nat) (a1 : Int32), av = [.ref a0, .int a1] → ∃ x, v = some (.long x) ∧ Q g a0 a1 m n x m' n') yNoX)) : se_Snd p l e R s m args below meth c Q0 nL (fun a => a) (yRM g H0) cc ins len (yov_LIrJ g mc ms mc' ms' cs P Q) :=
  hS.mono fun st w K Y h => by
    unfold yov_LIrJ at h
    split at h
    · rename_i a1 a0 r
      obtain ⟨hc, h8, hP, r1, r2, hq⟩ := h
      exact (⟨hc, h8, ⟨a0, a1, rfl, hP⟩, r1, r2, fun v m' n' hp hi hn => by
              obtain ⟨x, rfl, hx⟩ := hp a0 a1 rfl
              exact hq x m' n' hx hi hn, fun b m' n' hp => hp.elim⟩ : (yRcv cs w.1 [.ref a0, .int a1] ∧ yGo g mc ms mc' ms' ((fun (g : hG) (av : List Value) (m : yM) (n : Nat) => ∃ (a0 : Nat) (a1 : Int32), av = [.ref a0, .int a1] ∧ P g a0 a1 m n) g) ((fun (g : hG) (av : List Value) (m : yM) (n : Nat) (v : Option Value) (m' : yM) (n' : Nat) => ∀ (a0 : Nat) (a1 : Int32), av = [.ref a0, .int a1] → ∃ x, v = some (.long x) ∧ Q g a0 a1 m n x m' n') g) (yNoX g) [.ref a0, .int a1] r w K Y))
    · exact h.elim
def ypv_LIrJ (g : hG) (mc ms : Nat) (cs : List Nat) (P : hG → Nat → Int32 → yM → Nat → Prop) (R0 : hG → Nat → Int32 → yM → Nat → Int64) : se_Op yW := fun st w K Y => match st with
  | .int a1 :: .ref a0 :: r => yc w.1 a0 ∈ cs ∧ se_c8 8 r ∧ P g a0 a1 w.1 w.2.1 ∧ w.2.2.1 ≤ mc ∧ w.2.2.2 ≤ ms ∧ K (.long (R0 g a0 a1 w.1 w.2.1) :: r) w
  | _ => False
theorem ypv_LIrJ_r {g : hG} {mc ms : Nat} {cs : List Nat} {P : hG → Nat → Int32 → yM → Nat → Prop} {R0 : hG → Nat → Int32 → yM → Nat → Int64} {a0 : Nat} {a1 : Int32} {r : List Value} {w : yW} {K : List Value → yW → Prop} {Y : Nat → yW → Prop} : ypv_LIrJ g mc ms cs P R0 (.int a1 :: .ref a0 :: r) w K Y = (yc w.1 a0 ∈ cs ∧ se_c8 8 r ∧ P g a0 a1 w.1 w.2.1 ∧ w.2.2.1 ≤ mc ∧ w.2.2.2 ≤ ms ∧ K (.long (R0 g a0 a1 w.1 w.2.1) :: r) w) := rfl
theorem ypv_LIrJ_ok {g : hG} {mc ms : Nat} {cs : List Nat} {P : hG → Nat → Int32 → yM → Nat → Prop} {R0 : hG → Nat → Int32 → yM → Nat → Int64} {p : Program} {l : Launch} {e : Env} {R : Room} {s : State} {m : MethodId} {args : Array Value} {below : List Frame} {meth : Method} {c : Code} {nL : Nat} {cc : ByteArray} {Q0 : State → Prop} {H0 : Heap} {ins : Instr} {len : Nat} (hS : se_Snd p l e R s m args below meth c Q0 nL (fun a => a) (yRM g H0) cc ins len (yov_LIrJ g mc ms 0 0 cs P (fun g a0 a1 m n x m' n' => x = R0 g a0 a1 m n ∧ m' = m ∧ n' = n))) : se_Snd p l e R s m args below meth c Q0 nL (fun a => a) (yRM g H0) cc ins len (ypv_LIrJ g mc ms cs P R0) :=
  hS.mono fun st w K Y h => by
    unfold ypv_LIrJ at h
    split at h
    · rename_i a1 a0 r
      obtain ⟨hc, h8, hP, r1, r2, hq⟩ := h
      exact ⟨hc, h8, hP, r1, r2, fun x m' n' e _ _ => by
              obtain ⟨rfl, rfl, rfl⟩ := e
              exact hq⟩
    · exact h.elim
def yfv_LIrJ (g : hG) (mc ms : Nat) (cs : List Nat) (P : hG → Nat → Int32 → yM → Nat → Prop) (R0 : hG → Nat → Int32 → yM → Nat → Int64) (F : hG → Nat → Int32 → yM → Nat → yM) : se_Op yW := fun st w K Y => match st with
  | .int a1 :: .ref a0 :: r => yc w.1 a0 ∈ cs ∧ se_c8 8 r ∧ P g a0 a1 w.1 w.2.1 ∧ w.2.2.1 ≤ mc ∧ w.2.2.2 ≤ ms ∧ K (.long (R0 g a0 a1 w.1 w.2.1) :: r) (F g a0 a1 w.1 w.2.1, w.2)
  | _ => False
theorem yfv_LIrJ_r {g : hG} {mc ms : Nat} {cs : List Nat} {P : hG → Nat → Int32 → yM → Nat → Prop} {R0 : hG → Nat → Int32 → yM → Nat → Int64} {F : hG → Nat → Int32 → yM → Nat → yM} {a0 : Nat} {a1 : Int32} {r : List Value} {w : yW} {K : List Value → yW → Prop} {Y : Nat → yW → Prop} : yfv_LIrJ g mc ms cs P R0 F (.int a1 :: .ref a0 :: r) w K Y = (yc w.1 a0 ∈ cs ∧ se_c8 8 r ∧ P g a0 a1 w.1 w.2.1 ∧ w.2.2.1 ≤ mc ∧ w.2.2.2 ≤ ms ∧ K (.long (R0 g a0 a1 w.1 w.2.1) :: r) (F g a0 a1 w.1 w.2.1, w.2)) := rfl
theorem yfv_LIrJ_ok {g : hG} {mc ms : Nat} {cs : List Nat} {P : hG → Nat → Int32 → yM → Nat → Prop} {R0 : hG → Nat → Int32 → yM → Nat → Int64} {F : hG → Nat → Int32 → yM → Nat → yM} {p : Program} {l : Launch} {e : Env} {R : Room} {s : State} {m : MethodId} {args : Array Value} {below : List Frame} {meth : Method} {c : Code} {nL : Nat} {cc : ByteArray} {Q0 : State → Prop} {H0 : Heap} {ins : Instr} {len : Nat} (hS : se_Snd p l e R s m args below meth c Q0 nL (fun a => a) (yRM g H0) cc ins len (yov_LIrJ g mc ms 0 0 cs P (fun g a0 a1 m n x m' n' => x = R0 g a0 a1 m n ∧ m' = F g a0 a1 m n ∧ n' = n))) : se_Snd p l e R s m args below meth c Q0 nL (fun a => a) (yRM g H0) cc ins len (yfv_LIrJ g mc ms cs P R0 F) :=
  hS.mono fun st w K Y h => by
    unfold yfv_LIrJ at h
    split at h
    · rename_i a1 a0 r
      obtain ⟨hc, h8, hP, r1, r2, hq⟩ := h
      exact ⟨hc, h8, hP, r1, r2, fun x m' n' e _ _ => by
              obtain ⟨rfl, rfl, rfl⟩ := e
              exact hq⟩
    · exact h.elim
def yt_LIrJ (mc ms : Nat) (Q : hG → Nat → Int32 → yM → Nat → Int64 → yM → Nat → Prop) (g : hG) (a0 : Nat) (a1 : Int32) (m : yM) (n : Nat) : Option Value → yW → Prop := yRt (some .long) mc ms ((fun (g : hG) (av : List Value) (m : yM) (n : Nat) (v : Option Value) (m' : yM) (n' : Nat) => ∀ (a0 : Nat) (a1 : Int32), av = [.ref a0, .int a1] → ∃ x, v = some (.long x) ∧ Q g a0 a1 m n x m' n') g [.ref a0, .int a1] m n)
theorem yt_LIrJ_e {mc ms : Nat} {Q : hG → Nat → Int32 → yM → Nat → Int64 → yM → Nat → Prop} {g : hG} {a0 : Nat} {a1 : Int32} {m : yM} {n : Nat} {w : yW} {z : Int64} : yt_LIrJ mc ms Q g a0 a1 m n (some (.long z)) w = (w.2.2.1 ≤ mc ∧ w.2.2.2 ≤ ms ∧ Q g a0 a1 m n z w.1 w.2.1) := by
  apply propext
  constructor
  · intro h
    obtain ⟨x, e, hq⟩ := h.2.2.2 _ _ rfl
    cases e
    exact ⟨h.2.1, h.2.2.1, hq⟩
  · intro h
    obtain ⟨h1, h2, h3⟩ := h
    exact ⟨rfl, h1, h2, fun _ _ e => by
      cases e
      exact ⟨z, rfl, h3⟩⟩
theorem ym_LIrJ_of {l : Launch} {y : MethodName} {own : String} {cc : ByteArray} {maxL fr lo mc ms : Nat} {P : hG → Nat → Int32 → yM → Nat → Prop} {Q : hG → Nat → Int32 → yM → Nat → Int64 → yM → Nat → Prop} {T : hG → Nat → Nat → se_Op yW} (hy : plainName y.cls = true) (hyc : y.cls = own) (hT : yTS l own y.name cc maxL (some .long) fr lo mc ms T) (hL : 2 ≤ maxL)
    (body : ∀ (g : hG) (a0 : Nat) (a1 : Int32) (m : yM) (n : Nat), hVg g → yIn g m n → P g a0 a1 m n → ∀ G : Nat → se_L → List Value → yW → Prop, (∀ (stops : List Nat) (f pc : Nat) (L : se_L) (st : List Value) (w : yW), wpN True (T g) cc stops G (yXt mc ms (yNoX g [.ref a0, .int a1] m n)) (yt_LIrJ mc ms Q g a0 a1 m n) f pc L st w → G pc L st w) → G 0 (se_ent [.ref a0, .int a1] maxL) [] (m, n, 0, 0)) : ym_LIrJ l y (ws_ y cc maxL (some .long)) fr lo mc ms P Q :=
  yOf hy hyc hT (fun g av m n h => by
    obtain ⟨a0, a1, rfl, _⟩ := h
    exact hL) (fun g av m n h1 h2 hp G hG => by
    obtain ⟨a0, a1, rfl, hp⟩ := hp
    exact body g a0 a1 m n h1 h2 hp G hG)
abbrev ym_LIrL (l : Launch) (y : MethodName) (ws : List Cond) (fr lo mc ms : Nat) (P : hG → Nat → Int32 → yM → Nat → Prop) (Q : hG → Nat → Int32 → yM → Nat → Option Nat → yM → Nat → Prop) : Prop := yCon l y ws fr lo mc ms (fun (g : hG) (av : List Value) (m : yM) (n : Nat) => ∃ (a0 : Nat) (a1 : Int32), av = [.ref a0, .int a1] ∧ P g a0 a1 m n) (fun (g : hG) (av : List Value) (m : yM) (n : Nat) (v : Option Value) (m' : yM) (n' : Nat) => ∀ (a0 : Nat) (a1 : Int32), av = [.ref a0, .int a1] → ∃ x, v = some (va_rf x) ∧ Q g a0 a1 m n x m' n') yNoX
def yov_LIrL (g : hG) (mc ms mc' ms' : Nat) (cs : List Nat) (P : hG → Nat → Int32 → yM → Nat → Prop) (Q : hG → Nat → Int32 → yM → Nat → Option Nat → yM → Nat → Prop) : se_Op yW := fun st w K Y => match st with
  | .int a1 :: .ref a0 :: r => yc w.1 a0 ∈ cs ∧ se_c8 8 r ∧ P g a0 a1 w.1 w.2.1 ∧ w.2.2.1 + mc' ≤ mc ∧ w.2.2.2 + ms' ≤ ms ∧ ∀ x m' n', Q g a0 a1 w.1 w.2.1 x m' n' → yIn g m' n' → w.2.1 ≤ n' → K (va_rf x :: r) (m', n', w.2.2.1 + mc', w.2.2.2 + ms')
  | _ => False
theorem yov_LIrL_r {g : hG} {mc ms mc' ms' : Nat} {cs : List Nat} {P : hG → Nat → Int32 → yM → Nat → Prop} {Q : hG → Nat → Int32 → yM → Nat → Option Nat → yM → Nat → Prop} {a0 : Nat} {a1 : Int32} {r : List Value} {w : yW} {K : List Value → yW → Prop} {Y : Nat → yW → Prop} : yov_LIrL g mc ms mc' ms' cs P Q (.int a1 :: .ref a0 :: r) w K Y = (yc w.1 a0 ∈ cs ∧ se_c8 8 r ∧ P g a0 a1 w.1 w.2.1 ∧ w.2.2.1 + mc' ≤ mc ∧ w.2.2.2 + ms' ≤ ms ∧ ∀ x m' n', Q g a0 a1 w.1 w.2.1 x m' n' → yIn g m' n' → w.2.1 ≤ n' → K (va_rf x :: r) (m', n', w.2.2.1 + mc', w.2.2.2 + ms')) := rfl
theorem yov_LIrL_ok {g : hG} {mc ms mc' ms' : Nat} {cs : List Nat} {P : hG → Nat → Int32 → yM → Nat → Prop} {Q : hG → Nat → Int32 → yM → Nat → Option Nat → yM → Nat → Prop} {p : Program} {l : Launch} {e : Env} {R : Room} {s : State} {m : MethodId} {args : Array Value} {below : List Frame} {meth : Method} {c : Code} {nL : Nat} {cc : ByteArray} {Q0 : State → Prop} {H0 : Heap} {ins : Instr} {len : Nat} (hS : se_Snd p l e R s m args below meth c Q0 nL (fun a => a) (yRM g H0) cc ins len (yCV g 1 mc ms mc' ms' cs (fun (g : hG) (av : List Value) (m : yM) (n : Nat) => ∃ (a0 : Nat) (a1 : Int32), av = [.ref a0, .int a1] ∧ P g a0 a1 m n) (fun (g : hG) (av : List Value) (m : yM) (n : Nat) (v : Option Value) (m' : yM) (n' : Nat) => ∀ (a0 : Nat) (a1 : Int32), av = [.ref a0, .int a1] → ∃ x, v = some (va_rf x) ∧ Q g a0 a1 m n x m' n') yNoX)) : se_Snd p l e R s m args below meth c Q0 nL (fun a => a) (yRM g H0) cc ins len (yov_LIrL g mc ms mc' ms' cs P Q) :=
  hS.mono fun st w K Y h => by
    unfold yov_LIrL at h
    split at h
    · rename_i a1 a0 r
      obtain ⟨hc, h8, hP, r1, r2, hq⟩ := h
      exact (⟨hc, h8, ⟨a0, a1, rfl, hP⟩, r1, r2, fun v m' n' hp hi hn => by
              obtain ⟨x, rfl, hx⟩ := hp a0 a1 rfl
              exact hq x m' n' hx hi hn, fun b m' n' hp => hp.elim⟩ : (yRcv cs w.1 [.ref a0, .int a1] ∧ yGo g mc ms mc' ms' ((fun (g : hG) (av : List Value) (m : yM) (n : Nat) => ∃ (a0 : Nat) (a1 : Int32), av = [.ref a0, .int a1] ∧ P g a0 a1 m n) g) ((fun (g : hG) (av : List Value) (m : yM) (n : Nat) (v : Option Value) (m' : yM) (n' : Nat) => ∀ (a0 : Nat) (a1 : Int32), av = [.ref a0, .int a1] → ∃ x, v = some (va_rf x) ∧ Q g a0 a1 m n x m' n') g) (yNoX g) [.ref a0, .int a1] r w K Y))
    · exact h.elim
def ypv_LIrL (g : hG) (mc ms : Nat) (cs : List Nat) (P : hG → Nat → Int32 → yM → Nat → Prop) (R0 : hG → Nat → Int32 → yM → Nat → Option Nat) : se_Op yW := fun st w K Y => match st with
  | .int a1 :: .ref a0 :: r => yc w.1 a0 ∈ cs ∧ se_c8 8 r ∧ P g a0 a1 w.1 w.2.1 ∧ w.2.2.1 ≤ mc ∧ w.2.2.2 ≤ ms ∧ K (va_rf (R0 g a0 a1 w.1 w.2.1) :: r) w
  | _ => False
theorem ypv_LIrL_r {g : hG} {mc ms : Nat} {cs : List Nat} {P : hG → Nat → Int32 → yM → Nat → Prop} {R0 : hG → Nat → Int32 → yM → Nat → Option Nat} {a0 : Nat} {a1 : Int32} {r : List Value} {w : yW} {K : List Value → yW → Prop} {Y : Nat → yW → Prop} : ypv_LIrL g mc ms cs P R0 (.int a1 :: .ref a0 :: r) w K Y = (yc w.1 a0 ∈ cs ∧ se_c8 8 r ∧ P g a0 a1 w.1 w.2.1 ∧ w.2.2.1 ≤ mc ∧ w.2.2.2 ≤ ms ∧ K (va_rf (R0 g a0 a1 w.1 w.2.1) :: r) w) := rfl
theorem ypv_LIrL_ok {g : hG} {mc ms : Nat} {cs : List Nat} {P : hG → Nat → Int32 → yM → Nat → Prop} {R0 : hG → Nat → Int32 → yM → Nat → Option Nat} {p : Program} {l : Launch} {e : Env} {R : Room} {s : State} {m : MethodId} {args : Array Value} {below : List Frame} {meth : Method} {c : Code} {nL : Nat} {cc : ByteArray} {Q0 : State → Prop} {H0 : Heap} {ins : Instr} {len : Nat} (hS : se_Snd p l e R s m args below meth c Q0 nL (fun a => a) (yRM g H0) cc ins len (yov_LIrL g mc ms 0 0 cs P (fun g a0 a1 m n x m' n' => x = R0 g a0 a1 m n ∧ m' = m ∧ n' = n))) : se_Snd p l e R s m args below meth c Q0 nL (fun a => a) (yRM g H0) cc ins len (ypv_LIrL g mc ms cs P R0) :=
  hS.mono fun st w K Y h => by
    unfold ypv_LIrL at h
    split at h
    · rename_i a1 a0 r
      obtain ⟨hc, h8, hP, r1, r2, hq⟩ := h
      exact ⟨hc, h8, hP, r1, r2, fun x m' n' e _ _ => by
              obtain ⟨rfl, rfl, rfl⟩ := e
              exact hq⟩
    · exact h.elim
def yfv_LIrL (g : hG) (mc ms : Nat) (cs : List Nat) (P : hG → Nat → Int32 → yM → Nat → Prop) (R0 : hG → Nat → Int32 → yM → Nat → Option Nat) (F : hG → Nat → Int32 → yM → Nat → yM) : se_Op yW := fun st w K Y => match st with
  | .int a1 :: .ref a0 :: r => yc w.1 a0 ∈ cs ∧ se_c8 8 r ∧ P g a0 a1 w.1 w.2.1 ∧ w.2.2.1 ≤ mc ∧ w.2.2.2 ≤ ms ∧ K (va_rf (R0 g a0 a1 w.1 w.2.1) :: r) (F g a0 a1 w.1 w.2.1, w.2)
  | _ => False
theorem yfv_LIrL_r {g : hG} {mc ms : Nat} {cs : List Nat} {P : hG → Nat → Int32 → yM → Nat → Prop} {R0 : hG → Nat → Int32 → yM → Nat → Option Nat} {F : hG → Nat → Int32 → yM → Nat → yM} {a0 : Nat} {a1 : Int32} {r : List Value} {w : yW} {K : List Value → yW → Prop} {Y : Nat → yW → Prop} : yfv_LIrL g mc ms cs P R0 F (.int a1 :: .ref a0 :: r) w K Y = (yc w.1 a0 ∈ cs ∧ se_c8 8 r ∧ P g a0 a1 w.1 w.2.1 ∧ w.2.2.1 ≤ mc ∧ w.2.2.2 ≤ ms ∧ K (va_rf (R0 g a0 a1 w.1 w.2.1) :: r) (F g a0 a1 w.1 w.2.1, w.2)) := rfl
theorem yfv_LIrL_ok {g : hG} {mc ms : Nat} {cs : List Nat} {P : hG → Nat → Int32 → yM → Nat → Prop} {R0 : hG → Nat → Int32 → yM → Nat → Option Nat} {F : hG → Nat → Int32 → yM → Nat → yM} {p : Program} {l : Launch} {e : Env} {R : Room} {s : State} {m : MethodId} {args : Array Value} {below : List Frame} {meth : Method} {c : Code} {nL : Nat} {cc : ByteArray} {Q0 : State → Prop} {H0 : Heap} {ins : Instr} {len : Nat} (hS : se_Snd p l e R s m args below meth c Q0 nL (fun a => a) (yRM g H0) cc ins len (yov_LIrL g mc ms 0 0 cs P (fun g a0 a1 m n x m' n' => x = R0 g a0 a1 m n ∧ m' = F g a0 a1 m n ∧ n' = n))) : se_Snd p l e R s m args below meth c Q0 nL (fun a => a) (yRM g H0) cc ins len (yfv_LIrL g mc ms cs P R0 F) :=
  hS.mono fun st w K Y h => by
    unfold yfv_LIrL at h
    split at h
    · rename_i a1 a0 r
      obtain ⟨hc, h8, hP, r1, r2, hq⟩ := h
      exact ⟨hc, h8, hP, r1, r2, fun x m' n' e _ _ => by
              obtain ⟨rfl, rfl, rfl⟩ := e
              exact hq⟩
    · exact h.elim
def yt_LIrL (rty : FieldType) (mc ms : Nat) (Q : hG → Nat → Int32 → yM → Nat → Option Nat → yM → Nat → Prop) (g : hG) (a0 : Nat) (a1 : Int32) (m : yM) (n : Nat) : Option Value → yW → Prop := yRt (some rty) mc ms ((fun (g : hG) (av : List Value) (m : yM) (n : Nat) (v : Option Value) (m' : yM) (n' : Nat) => ∀ (a0 : Nat) (a1 : Int32), av = [.ref a0, .int a1] → ∃ x, v = some (va_rf x) ∧ Q g a0 a1 m n x m' n') g [.ref a0, .int a1] m n)
theorem yt_LIrL_e {rty : FieldType} {mc ms : Nat} {Q : hG → Nat → Int32 → yM → Nat → Option Nat → yM → Nat → Prop} {g : hG} {a0 : Nat} {a1 : Int32} {m : yM} {n : Nat} {w : yW} {z : Nat} (hr : (∃ n, rty = .object n) ∨ ∃ t, rty = .array t) : yt_LIrL rty mc ms Q g a0 a1 m n (some (.ref z)) w = (w.2.2.1 ≤ mc ∧ w.2.2.2 ≤ ms ∧ Q g a0 a1 m n (some z) w.1 w.2.1) := by
  apply propext
  constructor
  · intro h
    obtain ⟨x, e, hq⟩ := h.2.2.2 _ _ rfl
    cases x with
    | none => cases e
    | some x => cases e; exact ⟨h.2.1, h.2.2.1, hq⟩
  · intro h
    obtain ⟨h1, h2, h3⟩ := h
    exact ⟨⟨_, rfl, hr⟩, h1, h2, fun _ _ e => by
      cases e
      exact ⟨some z, rfl, h3⟩⟩
theorem yt_LIrL_n {rty : FieldType} {mc ms : Nat} {Q : hG → Nat → Int32 → yM → Nat → Option Nat → yM → Nat → Prop} {g : hG} {a0 : Nat} {a1 : Int32} {m : yM} {n : Nat} {w : yW} (hr : (∃ n, rty = .object n) ∨ ∃ t, rty = .array t) : yt_LIrL rty mc ms Q g a0 a1 m n (some .null) w = (w.2.2.1 ≤ mc ∧ w.2.2.2 ≤ ms ∧ Q g a0 a1 m n none w.1 w.2.1) := by
  apply propext
  constructor
  · intro h
    obtain ⟨x, e, hq⟩ := h.2.2.2 _ _ rfl
    cases x with
    | none => exact ⟨h.2.1, h.2.2.1, hq⟩
    | some x => cases e
  · intro h
    obtain ⟨h1, h2, h3⟩ := h
    exact ⟨⟨_, rfl, hr⟩, h1, h2, fun _ _ e => by
      cases e
      exact ⟨none, rfl, h3⟩⟩
theorem ym_LIrL_of {l : Launch} {y : MethodName} {own : String} {cc : ByteArray} {maxL fr lo mc ms : Nat} {rty : FieldType} {P : hG → Nat → Int32 → yM → Nat → Prop} {Q : hG → Nat → Int32 → yM → Nat → Option Nat → yM → Nat → Prop} {T : hG → Nat → Nat → se_Op yW} (hy : plainName y.cls = true) (hyc : y.cls = own) (hT : yTS l own y.name cc maxL (some rty) fr lo mc ms T) (hL : 2 ≤ maxL)
    (body : ∀ (g : hG) (a0 : Nat) (a1 : Int32) (m : yM) (n : Nat), hVg g → yIn g m n → P g a0 a1 m n → ∀ G : Nat → se_L → List Value → yW → Prop, (∀ (stops : List Nat) (f pc : Nat) (L : se_L) (st : List Value) (w : yW), wpN True (T g) cc stops G (yXt mc ms (yNoX g [.ref a0, .int a1] m n)) (yt_LIrL rty mc ms Q g a0 a1 m n) f pc L st w → G pc L st w) → G 0 (se_ent [.ref a0, .int a1] maxL) [] (m, n, 0, 0)) : ym_LIrL l y (ws_ y cc maxL (some rty)) fr lo mc ms P Q :=
  yOf hy hyc hT (fun g av m n h => by
    obtain ⟨a0, a1, rfl, _⟩ := h
    exact hL) (fun g av m n h1 h2 hp G hG => by
    obtain ⟨a0, a1, rfl, hp⟩ := hp
    exact body g a0 a1 m n h1 h2 hp G hG)
abbrev ym_LIrV (l : Launch) (y : MethodName) (ws : List Cond) (fr lo mc ms : Nat) (P : hG → Nat → Int32 → yM → Nat → Prop) (Q : hG → Nat → Int32 → yM → Nat → yM → Nat → Prop) : Prop := yCon l y ws fr lo mc ms (fun (g : hG) (av : List Value) (m : yM) (n : Nat) => ∃ (a0 : Nat) (a1 : Int32), av = [.ref a0, .int a1] ∧ P g a0 a1 m n) (fun (g : hG) (av : List Value) (m : yM) (n : Nat) (v : Option Value) (m' : yM) (n' : Nat) => ∀ (a0 : Nat) (a1 : Int32), av = [.ref a0, .int a1] → v = none ∧ Q g a0 a1 m n m' n') yNoX
def yo_LIrV (g : hG) (mc ms mc' ms' : Nat) (P : hG → Nat → Int32 → yM → Nat → Prop) (Q : hG → Nat → Int32 → yM → Nat → yM → Nat → Prop) : se_Op yW := fun st w K Y => match st with
  | .int a1 :: .ref a0 :: r => se_c8 8 r ∧ P g a0 a1 w.1 w.2.1 ∧ w.2.2.1 + mc' ≤ mc ∧ w.2.2.2 + ms' ≤ ms ∧ ∀ m' n', Q g a0 a1 w.1 w.2.1 m' n' → yIn g m' n' → w.2.1 ≤ n' → K r (m', n', w.2.2.1 + mc', w.2.2.2 + ms')
  | _ => False
theorem yo_LIrV_r {g : hG} {mc ms mc' ms' : Nat} {P : hG → Nat → Int32 → yM → Nat → Prop} {Q : hG → Nat → Int32 → yM → Nat → yM → Nat → Prop} {a0 : Nat} {a1 : Int32} {r : List Value} {w : yW} {K : List Value → yW → Prop} {Y : Nat → yW → Prop} : yo_LIrV g mc ms mc' ms' P Q (.int a1 :: .ref a0 :: r) w K Y = (se_c8 8 r ∧ P g a0 a1 w.1 w.2.1 ∧ w.2.2.1 + mc' ≤ mc ∧ w.2.2.2 + ms' ≤ ms ∧ ∀ m' n', Q g a0 a1 w.1 w.2.1 m' n' → yIn g m' n' → w.2.1 ≤ n' → K r (m', n', w.2.2.1 + mc', w.2.2.2 + ms')) := rfl
theorem yo_LIrV_ok {g : hG} {mc ms mc' ms' : Nat} {P : hG → Nat → Int32 → yM → Nat → Prop} {Q : hG → Nat → Int32 → yM → Nat → yM → Nat → Prop} {p : Program} {l : Launch} {e : Env} {R : Room} {s : State} {m : MethodId} {args : Array Value} {below : List Frame} {meth : Method} {c : Code} {nL : Nat} {cc : ByteArray} {Q0 : State → Prop} {H0 : Heap} {ins : Instr} {len : Nat} (hS : se_Snd p l e R s m args below meth c Q0 nL (fun a => a) (yRM g H0) cc ins len (yCS g 2 mc ms mc' ms' (fun (g : hG) (av : List Value) (m : yM) (n : Nat) => ∃ (a0 : Nat) (a1 : Int32), av = [.ref a0, .int a1] ∧ P g a0 a1 m n) (fun (g : hG) (av : List Value) (m : yM) (n : Nat) (v : Option Value) (m' : yM) (n' : Nat) => ∀ (a0 : Nat) (a1 : Int32), av = [.ref a0, .int a1] → v = none ∧ Q g a0 a1 m n m' n') yNoX)) : se_Snd p l e R s m args below meth c Q0 nL (fun a => a) (yRM g H0) cc ins len (yo_LIrV g mc ms mc' ms' P Q) :=
  hS.mono fun st w K Y h => by
    unfold yo_LIrV at h
    split at h
    · rename_i a1 a0 r
      obtain ⟨h8, hP, r1, r2, hq⟩ := h
      exact (⟨h8, ⟨a0, a1, rfl, hP⟩, r1, r2, fun v m' n' hp hi hn => by
              obtain ⟨rfl, hx⟩ := hp a0 a1 rfl
              exact hq m' n' hx hi hn, fun b m' n' hp => hp.elim⟩ : yGo g mc ms mc' ms' ((fun (g : hG) (av : List Value) (m : yM) (n : Nat) => ∃ (a0 : Nat) (a1 : Int32), av = [.ref a0, .int a1] ∧ P g a0 a1 m n) g) ((fun (g : hG) (av : List Value) (m : yM) (n : Nat) (v : Option Value) (m' : yM) (n' : Nat) => ∀ (a0 : Nat) (a1 : Int32), av = [.ref a0, .int a1] → v = none ∧ Q g a0 a1 m n m' n') g) (yNoX g) [.ref a0, .int a1] r w K Y)
    · exact h.elim
def yov_LIrV (g : hG) (mc ms mc' ms' : Nat) (cs : List Nat) (P : hG → Nat → Int32 → yM → Nat → Prop) (Q : hG → Nat → Int32 → yM → Nat → yM → Nat → Prop) : se_Op yW := fun st w K Y => match st with
  | .int a1 :: .ref a0 :: r => yc w.1 a0 ∈ cs ∧ se_c8 8 r ∧ P g a0 a1 w.1 w.2.1 ∧ w.2.2.1 + mc' ≤ mc ∧ w.2.2.2 + ms' ≤ ms ∧ ∀ m' n', Q g a0 a1 w.1 w.2.1 m' n' → yIn g m' n' → w.2.1 ≤ n' → K r (m', n', w.2.2.1 + mc', w.2.2.2 + ms')
  | _ => False
theorem yov_LIrV_r {g : hG} {mc ms mc' ms' : Nat} {cs : List Nat} {P : hG → Nat → Int32 → yM → Nat → Prop} {Q : hG → Nat → Int32 → yM → Nat → yM → Nat → Prop} {a0 : Nat} {a1 : Int32} {r : List Value} {w : yW} {K : List Value → yW → Prop} {Y : Nat → yW → Prop} : yov_LIrV g mc ms mc' ms' cs P Q (.int a1 :: .ref a0 :: r) w K Y = (yc w.1 a0 ∈ cs ∧ se_c8 8 r ∧ P g a0 a1 w.1 w.2.1 ∧ w.2.2.1 + mc' ≤ mc ∧ w.2.2.2 + ms' ≤ ms ∧ ∀ m' n', Q g a0 a1 w.1 w.2.1 m' n' → yIn g m' n' → w.2.1 ≤ n' → K r (m', n', w.2.2.1 + mc', w.2.2.2 + ms')) := rfl
theorem yov_LIrV_ok {g : hG} {mc ms mc' ms' : Nat} {cs : List Nat} {P : hG → Nat → Int32 → yM → Nat → Prop} {Q : hG → Nat → Int32 → yM → Nat → yM → Nat → Prop} {p : Program} {l : Launch} {e : Env} {R : Room} {s : State} {m : MethodId} {args : Array Value} {below : List Frame} {meth : Method} {c : Code} {nL : Nat} {cc : ByteArray} {Q0 : State → Prop} {H0 : Heap} {ins : Instr} {len : Nat} (hS : se_Snd p l e R s m args below meth c Q0 nL (fun a => a) (yRM g H0) cc ins len (yCV g 1 mc ms mc' ms' cs (fun (g : hG) (av : List Value) (m : yM) (n : Nat) => ∃ (a0 : Nat) (a1 : Int32), av = [.ref a0, .int a1] ∧ P g a0 a1 m n) (fun (g : hG) (av : List Value) (m : yM) (n : Nat) (v : Option Value) (m' : yM) (n' : Nat) => ∀ (a0 : Nat) (a1 : Int32), av = [.ref a0, .int a1] → v = none ∧ Q g a0 a1 m n m' n') yNoX)) : se_Snd p l e R s m args below meth c Q0 nL (fun a => a) (yRM g H0) cc ins len (yov_LIrV g mc ms mc' ms' cs P Q) :=
  hS.mono fun st w K Y h => by
    unfold yov_LIrV at h
    split at h
    · rename_i a1 a0 r
      obtain ⟨hc, h8, hP, r1, r2, hq⟩ := h
      exact (⟨hc, h8, ⟨a0, a1, rfl, hP⟩, r1, r2, fun v m' n' hp hi hn => by
              obtain ⟨rfl, hx⟩ := hp a0 a1 rfl
              exact hq m' n' hx hi hn, fun b m' n' hp => hp.elim⟩ : (yRcv cs w.1 [.ref a0, .int a1] ∧ yGo g mc ms mc' ms' ((fun (g : hG) (av : List Value) (m : yM) (n : Nat) => ∃ (a0 : Nat) (a1 : Int32), av = [.ref a0, .int a1] ∧ P g a0 a1 m n) g) ((fun (g : hG) (av : List Value) (m : yM) (n : Nat) (v : Option Value) (m' : yM) (n' : Nat) => ∀ (a0 : Nat) (a1 : Int32), av = [.ref a0, .int a1] → v = none ∧ Q g a0 a1 m n m' n') g) (yNoX g) [.ref a0, .int a1] r w K Y))
    · exact h.elim
abbrev ymx_LIrV (l : Launch) (y : MethodName) (ws : List Cond) (fr lo mc ms : Nat) (P : hG → Nat → Int32 → yM → Nat → Prop) (Q : hG → Nat → Int32 → yM → Nat → yM → Nat → Prop) (X : hG → Nat → Int32 → yM → Nat → Nat → yM → Nat → Prop) : Prop := yCon l y ws fr lo mc ms (fun (g : hG) (av : List Value) (m : yM) (n : Nat) => ∃ (a0 : Nat) (a1 : Int32), av = [.ref a0, .int a1] ∧ P g a0 a1 m n) (fun (g : hG) (av : List Value) (m : yM) (n : Nat) (v : Option Value) (m' : yM) (n' : Nat) => ∀ (a0 : Nat) (a1 : Int32), av = [.ref a0, .int a1] → v = none ∧ Q g a0 a1 m n m' n') (fun (g : hG) (av : List Value) (m : yM) (n : Nat) (b : Nat) (m' : yM) (n' : Nat) => ∃ (a0 : Nat) (a1 : Int32), av = [.ref a0, .int a1] ∧ X g a0 a1 m n b m' n')
def yox_LIrV (g : hG) (mc ms mc' ms' : Nat) (P : hG → Nat → Int32 → yM → Nat → Prop) (Q : hG → Nat → Int32 → yM → Nat → yM → Nat → Prop) (X : hG → Nat → Int32 → yM → Nat → Nat → yM → Nat → Prop) : se_Op yW := fun st w K Y => match st with
  | .int a1 :: .ref a0 :: r => se_c8 8 r ∧ P g a0 a1 w.1 w.2.1 ∧ w.2.2.1 + mc' ≤ mc ∧ w.2.2.2 + ms' ≤ ms ∧ (∀ m' n', Q g a0 a1 w.1 w.2.1 m' n' → yIn g m' n' → w.2.1 ≤ n' → K r (m', n', w.2.2.1 + mc', w.2.2.2 + ms')) ∧ ∀ b m' n', X g a0 a1 w.1 w.2.1 b m' n' → yIn g m' n' → w.2.1 ≤ n' → Y b (m', n', w.2.2.1 + mc', w.2.2.2 + ms')
  | _ => False
theorem yox_LIrV_r {g : hG} {mc ms mc' ms' : Nat} {P : hG → Nat → Int32 → yM → Nat → Prop} {Q : hG → Nat → Int32 → yM → Nat → yM → Nat → Prop} {X : hG → Nat → Int32 → yM → Nat → Nat → yM → Nat → Prop} {a0 : Nat} {a1 : Int32} {r : List Value} {w : yW} {K : List Value → yW → Prop} {Y : Nat → yW → Prop} : yox_LIrV g mc ms mc' ms' P Q X (.int a1 :: .ref a0 :: r) w K Y = (se_c8 8 r ∧ P g a0 a1 w.1 w.2.1 ∧ w.2.2.1 + mc' ≤ mc ∧ w.2.2.2 + ms' ≤ ms ∧ (∀ m' n', Q g a0 a1 w.1 w.2.1 m' n' → yIn g m' n' → w.2.1 ≤ n' → K r (m', n', w.2.2.1 + mc', w.2.2.2 + ms')) ∧ ∀ b m' n', X g a0 a1 w.1 w.2.1 b m' n' → yIn g m' n' → w.2.1 ≤ n' → Y b (m', n', w.2.2.1 + mc', w.2.2.2 + ms')) := rfl
theorem yox_LIrV_ok {g : hG} {mc ms mc' ms' : Nat} {P : hG → Nat → Int32 → yM → Nat → Prop} {Q : hG → Nat → Int32 → yM → Nat → yM → Nat → Prop} {X : hG → Nat → Int32 → yM → Nat → Nat → yM → Nat → Prop} {p : Program} {l : Launch} {e : Env} {R : Room} {s : State} {m : MethodId} {args : Array Value} {below : List Frame} {meth : Method} {c : Code} {nL : Nat} {cc : ByteArray} {Q0 : State → Prop} {H0 : Heap} {ins : Instr} {len : Nat} (hS : se_Snd p l e R s m args below meth c Q0 nL (fun a => a) (yRM g H0) cc ins len (yCS g 2 mc ms mc' ms' (fun (g : hG) (av : List Value) (m : yM) (n : Nat) => ∃ (a0 : Nat) (a1 : Int32), av = [.ref a0, .int a1] ∧ P g a0 a1 m n) (fun (g : hG) (av : List Value) (m : yM) (n : Nat) (v : Option Value) (m' : yM) (n' : Nat) => ∀ (a0 : Nat) (a1 : Int32), av = [.ref a0, .int a1] → v = none ∧ Q g a0 a1 m n m' n') (fun (g : hG) (av : List Value) (m : yM) (n : Nat) (b : Nat) (m' : yM) (n' : Nat) => ∃ (a0 : Nat) (a1 : Int32), av = [.ref a0, .int a1] ∧ X g a0 a1 m n b m' n'))) : se_Snd p l e R s m args below meth c Q0 nL (fun a => a) (yRM g H0) cc ins len (yox_LIrV g mc ms mc' ms' P Q X) :=
  hS.mono fun st w K Y h => by
    unfold yox_LIrV at h
    split at h
    · rename_i a1 a0 r
      obtain ⟨h8, hP, r1, r2, hq⟩ := h
      exact (⟨h8, ⟨a0, a1, rfl, hP⟩, r1, r2, fun v m' n' hp hi hn => by
              obtain ⟨rfl, hx⟩ := hp a0 a1 rfl
              exact hq.1 m' n' hx hi hn, fun b m' n' hp hi hn => by
              obtain ⟨z0, z1, e, hx⟩ := hp
              cases e
              exact hq.2 b m' n' hx hi hn⟩ : yGo g mc ms mc' ms' ((fun (g : hG) (av : List Value) (m : yM) (n : Nat) => ∃ (a0 : Nat) (a1 : Int32), av = [.ref a0, .int a1] ∧ P g a0 a1 m n) g) ((fun (g : hG) (av : List Value) (m : yM) (n : Nat) (v : Option Value) (m' : yM) (n' : Nat) => ∀ (a0 : Nat) (a1 : Int32), av = [.ref a0, .int a1] → v = none ∧ Q g a0 a1 m n m' n') g) ((fun (g : hG) (av : List Value) (m : yM) (n : Nat) (b : Nat) (m' : yM) (n' : Nat) => ∃ (a0 : Nat) (a1 : Int32), av = [.ref a0, .int a1] ∧ X g a0 a1 m n b m' n') g) [.ref a0, .int a1] r w K Y)
    · exact h.elim
def yovx_LIrV (g : hG) (mc ms mc' ms' : Nat) (cs : List Nat) (P : hG → Nat → Int32 → yM → Nat → Prop) (Q : hG → Nat → Int32 → yM → Nat → yM → Nat → Prop) (X : hG → Nat → Int32 → yM → Nat → Nat → yM → Nat → Prop) : se_Op yW := fun st w K Y => match st with
  | .int a1 :: .ref a0 :: r => yc w.1 a0 ∈ cs ∧ se_c8 8 r ∧ P g a0 a1 w.1 w.2.1 ∧ w.2.2.1 + mc' ≤ mc ∧ w.2.2.2 + ms' ≤ ms ∧ (∀ m' n', Q g a0 a1 w.1 w.2.1 m' n' → yIn g m' n' → w.2.1 ≤ n' → K r (m', n', w.2.2.1 + mc', w.2.2.2 + ms')) ∧ ∀ b m' n', X g a0 a1 w.1 w.2.1 b m' n' → yIn g m' n' → w.2.1 ≤ n' → Y b (m', n', w.2.2.1 + mc', w.2.2.2 + ms')
  | _ => False
theorem yovx_LIrV_r {g : hG} {mc ms mc' ms' : Nat} {cs : List Nat} {P : hG → Nat → Int32 → yM → Nat → Prop} {Q : hG → Nat → Int32 → yM → Nat → yM → Nat → Prop} {X : hG → Nat → Int32 → yM → Nat → Nat → yM → Nat → Prop} {a0 : Nat} {a1 : Int32} {r : List Value} {w : yW} {K : List Value → yW → Prop} {Y : Nat → yW → Prop} : yovx_LIrV g mc ms mc' ms' cs P Q X (.int a1 :: .ref a0 :: r) w K Y = (yc w.1 a0 ∈ cs ∧ se_c8 8 r ∧ P g a0 a1 w.1 w.2.1 ∧ w.2.2.1 + mc' ≤ mc ∧ w.2.2.2 + ms' ≤ ms ∧ (∀ m' n', Q g a0 a1 w.1 w.2.1 m' n' → yIn g m' n' → w.2.1 ≤ n' → K r (m', n', w.2.2.1 + mc', w.2.2.2 + ms')) ∧ ∀ b m' n', X g a0 a1 w.1 w.2.1 b m' n' → yIn g m' n' → w.2.1 ≤ n' → Y b (m', n', w.2.2.1 + mc', w.2.2.2 + ms')) := rfl
theorem yovx_LIrV_ok {g : hG} {mc ms mc' ms' : Nat} {cs : List Nat} {P : hG → Nat → Int32 → yM → Nat → Prop} {Q : hG → Nat → Int32 → yM → Nat → yM → Nat → Prop} {X : hG → Nat → Int32 → yM → Nat → Nat → yM → Nat → Prop} {p : Program} {l : Launch} {e : Env} {R : Room} {s : State} {m : MethodId} {args : Array Value} {below : List Frame} {meth : Method} {c : Code} {nL : Nat} {cc : ByteArray} {Q0 : State → Prop} {H0 : Heap} {ins : Instr} {len : Nat} (hS : se_Snd p l e R s m args below meth c Q0 nL (fun a => a) (yRM g H0) cc ins len (yCV g 1 mc ms mc' ms' cs (fun (g : hG) (av : List Value) (m : yM) (n : Nat) => ∃ (a0 : Nat) (a1 : Int32), av = [.ref a0, .int a1] ∧ P g a0 a1 m n) (fun (g : hG) (av : List Value) (m : yM) (n : Nat) (v : Option Value) (m' : yM) (n' : Nat) => ∀ (a0 : Nat) (a1 : Int32), av = [.ref a0, .int a1] → v = none ∧ Q g a0 a1 m n m' n') (fun (g : hG) (av : List Value) (m : yM) (n : Nat) (b : Nat) (m' : yM) (n' : Nat) => ∃ (a0 : Nat) (a1 : Int32), av = [.ref a0, .int a1] ∧ X g a0 a1 m n b m' n'))) : se_Snd p l e R s m args below meth c Q0 nL (fun a => a) (yRM g H0) cc ins len (yovx_LIrV g mc ms mc' ms' cs P Q X) :=
  hS.mono fun st w K Y h => by
    unfold yovx_LIrV at h
    split at h
    · rename_i a1 a0 r
      obtain ⟨hc, h8, hP, r1, r2, hq⟩ := h
      exact (⟨hc, h8, ⟨a0, a1, rfl, hP⟩, r1, r2, fun v m' n' hp hi hn => by
              obtain ⟨rfl, hx⟩ := hp a0 a1 rfl
              exact hq.1 m' n' hx hi hn, fun b m' n' hp hi hn => by
              obtain ⟨z0, z1, e, hx⟩ := hp
              cases e
              exact hq.2 b m' n' hx hi hn⟩ : (yRcv cs w.1 [.ref a0, .int a1] ∧ yGo g mc ms mc' ms' ((fun (g : hG) (av : List Value) (m : yM) (n : Nat) => ∃ (a0 : Nat) (a1 : Int32), av = [.ref a0, .int a1] ∧ P g a0 a1 m n) g) ((fun (g : hG) (av : List Value) (m : yM) (n : Nat) (v : Option Value) (m' : yM) (n' : Nat) => ∀ (a0 : Nat) (a1 : Int32), av = [.ref a0, .int a1] → v = none ∧ Q g a0 a1 m n m' n') g) ((fun (g : hG) (av : List Value) (m : yM) (n : Nat) (b : Nat) (m' : yM) (n' : Nat) => ∃ (a0 : Nat) (a1 : Int32), av = [.ref a0, .int a1] ∧ X g a0 a1 m n b m' n') g) [.ref a0, .int a1] r w K Y))
    · exact h.elim
def yf_LIrV (g : hG) (mc ms : Nat) (P : hG → Nat → Int32 → yM → Nat → Prop) (F : hG → Nat → Int32 → yM → Nat → yM) : se_Op yW := fun st w K Y => match st with
  | .int a1 :: .ref a0 :: r => se_c8 8 r ∧ P g a0 a1 w.1 w.2.1 ∧ w.2.2.1 ≤ mc ∧ w.2.2.2 ≤ ms ∧ K (r) (F g a0 a1 w.1 w.2.1, w.2)
  | _ => False
theorem yf_LIrV_r {g : hG} {mc ms : Nat} {P : hG → Nat → Int32 → yM → Nat → Prop} {F : hG → Nat → Int32 → yM → Nat → yM} {a0 : Nat} {a1 : Int32} {r : List Value} {w : yW} {K : List Value → yW → Prop} {Y : Nat → yW → Prop} : yf_LIrV g mc ms P F (.int a1 :: .ref a0 :: r) w K Y = (se_c8 8 r ∧ P g a0 a1 w.1 w.2.1 ∧ w.2.2.1 ≤ mc ∧ w.2.2.2 ≤ ms ∧ K (r) (F g a0 a1 w.1 w.2.1, w.2)) := rfl
theorem yf_LIrV_ok {g : hG} {mc ms : Nat} {P : hG → Nat → Int32 → yM → Nat → Prop} {F : hG → Nat → Int32 → yM → Nat → yM} {p : Program} {l : Launch} {e : Env} {R : Room} {s : State} {m : MethodId} {args : Array Value} {below : List Frame} {meth : Method} {c : Code} {nL : Nat} {cc : ByteArray} {Q0 : State → Prop} {H0 : Heap} {ins : Instr} {len : Nat} (hS : se_Snd p l e R s m args below meth c Q0 nL (fun a => a) (yRM g H0) cc ins len (yo_LIrV g mc ms 0 0 P (fun g a0 a1 m n m' n' => m' = F g a0 a1 m n ∧ n' = n))) : se_Snd p l e R s m args below meth c Q0 nL (fun a => a) (yRM g H0) cc ins len (yf_LIrV g mc ms P F) :=
  hS.mono fun st w K Y h => by
    unfold yf_LIrV at h
    split at h
    · rename_i a1 a0 r
      obtain ⟨h8, hP, r1, r2, hq⟩ := h
      exact ⟨h8, hP, r1, r2, fun m' n' e _ _ => by
              obtain ⟨rfl, rfl⟩ := e
              exact hq⟩
    · exact h.elim
def yfv_LIrV (g : hG) (mc ms : Nat) (cs : List Nat) (P : hG → Nat → Int32 → yM → Nat → Prop) (F : hG → Nat → Int32 → yM → Nat → yM) : se_Op yW := fun st w K Y => match st with
  | .int a1 :: .ref a0 :: r => yc w.1 a0 ∈ cs ∧ se_c8 8 r ∧ P g a0 a1 w.1 w.2.1 ∧ w.2.2.1 ≤ mc ∧ w.2.2.2 ≤ ms ∧ K (r) (F g a0 a1 w.1 w.2.1, w.2)
  | _ => False
theorem yfv_LIrV_r {g : hG} {mc ms : Nat} {cs : List Nat} {P : hG → Nat → Int32 → yM → Nat → Prop} {F : hG → Nat → Int32 → yM → Nat → yM} {a0 : Nat} {a1 : Int32} {r : List Value} {w : yW} {K : List Value → yW → Prop} {Y : Nat → yW → Prop} : yfv_LIrV g mc ms cs P F (.int a1 :: .ref a0 :: r) w K Y = (yc w.1 a0 ∈ cs ∧ se_c8 8 r ∧ P g a0 a1 w.1 w.2.1 ∧ w.2.2.1 ≤ mc ∧ w.2.2.2 ≤ ms ∧ K (r) (F g a0 a1 w.1 w.2.1, w.2)) := rfl
theorem yfv_LIrV_ok {g : hG} {mc ms : Nat} {cs : List Nat} {P : hG → Nat → Int32 → yM → Nat → Prop} {F : hG → Nat → Int32 → yM → Nat → yM} {p : Program} {l : Launch} {e : Env} {R : Room} {s : State} {m : MethodId} {args : Array Value} {below : List Frame} {meth : Method} {c : Code} {nL : Nat} {cc : ByteArray} {Q0 : State → Prop} {H0 : Heap} {ins : Instr} {len : Nat} (hS : se_Snd p l e R s m args below meth c Q0 nL (fun a => a) (yRM g H0) cc ins len (yov_LIrV g mc ms 0 0 cs P (fun g a0 a1 m n m' n' => m' = F g a0 a1 m n ∧ n' = n))) : se_Snd p l e R s m args below meth c Q0 nL (fun a => a) (yRM g H0) cc ins len (yfv_LIrV g mc ms cs P F) :=
  hS.mono fun st w K Y h => by
    unfold yfv_LIrV at h
    split at h
    · rename_i a1 a0 r
      obtain ⟨hc, h8, hP, r1, r2, hq⟩ := h
      exact ⟨hc, h8, hP, r1, r2, fun m' n' e _ _ => by
              obtain ⟨rfl, rfl⟩ := e
              exact hq⟩
    · exact h.elim
def yt_LIrV (mc ms : Nat) (Q : hG → Nat → Int32 → yM → Nat → yM → Nat → Prop) (g : hG) (a0 : Nat) (a1 : Int32) (m : yM) (n : Nat) : Option Value → yW → Prop := yRt none mc ms ((fun (g : hG) (av : List Value) (m : yM) (n : Nat) (v : Option Value) (m' : yM) (n' : Nat) => ∀ (a0 : Nat) (a1 : Int32), av = [.ref a0, .int a1] → v = none ∧ Q g a0 a1 m n m' n') g [.ref a0, .int a1] m n)
theorem yt_LIrV_e {mc ms : Nat} {Q : hG → Nat → Int32 → yM → Nat → yM → Nat → Prop} {g : hG} {a0 : Nat} {a1 : Int32} {m : yM} {n : Nat} {w : yW} : yt_LIrV mc ms Q g a0 a1 m n none w = (w.2.2.1 ≤ mc ∧ w.2.2.2 ≤ ms ∧ Q g a0 a1 m n w.1 w.2.1) := by
  apply propext
  exact ⟨fun h => ⟨h.2.1, h.2.2.1, (h.2.2.2 _ _ rfl).2⟩, fun h => ⟨rfl, h.1, h.2.1, fun _ _ e => by
    cases e
    exact ⟨rfl, h.2.2⟩⟩⟩
theorem ym_LIrV_of {l : Launch} {y : MethodName} {own : String} {cc : ByteArray} {maxL fr lo mc ms : Nat} {P : hG → Nat → Int32 → yM → Nat → Prop} {Q : hG → Nat → Int32 → yM → Nat → yM → Nat → Prop} {T : hG → Nat → Nat → se_Op yW} (hy : plainName y.cls = true) (hyc : y.cls = own) (hT : yTS l own y.name cc maxL none fr lo mc ms T) (hL : 2 ≤ maxL)
    (body : ∀ (g : hG) (a0 : Nat) (a1 : Int32) (m : yM) (n : Nat), hVg g → yIn g m n → P g a0 a1 m n → ∀ G : Nat → se_L → List Value → yW → Prop, (∀ (stops : List Nat) (f pc : Nat) (L : se_L) (st : List Value) (w : yW), wpN True (T g) cc stops G (yXt mc ms (yNoX g [.ref a0, .int a1] m n)) (yt_LIrV mc ms Q g a0 a1 m n) f pc L st w → G pc L st w) → G 0 (se_ent [.ref a0, .int a1] maxL) [] (m, n, 0, 0)) : ym_LIrV l y (ws_ y cc maxL none) fr lo mc ms P Q :=
  yOf hy hyc hT (fun g av m n h => by
    obtain ⟨a0, a1, rfl, _⟩ := h
    exact hL) (fun g av m n h1 h2 hp G hG => by
    obtain ⟨a0, a1, rfl, hp⟩ := hp
    exact body g a0 a1 m n h1 h2 hp G hG)
theorem ymx_LIrV_of {l : Launch} {y : MethodName} {own : String} {cc : ByteArray} {maxL fr lo mc ms : Nat} {P : hG → Nat → Int32 → yM → Nat → Prop} {Q : hG → Nat → Int32 → yM → Nat → yM → Nat → Prop} {X : hG → Nat → Int32 → yM → Nat → Nat → yM → Nat → Prop} {T : hG → Nat → Nat → se_Op yW} (hy : plainName y.cls = true) (hyc : y.cls = own) (hT : yTS l own y.name cc maxL none fr lo mc ms T) (hL : 2 ≤ maxL)
    (body : ∀ (g : hG) (a0 : Nat) (a1 : Int32) (m : yM) (n : Nat), hVg g → yIn g m n → P g a0 a1 m n → ∀ G : Nat → se_L → List Value → yW → Prop, (∀ (stops : List Nat) (f pc : Nat) (L : se_L) (st : List Value) (w : yW), wpN True (T g) cc stops G (yXt mc ms ((fun (g : hG) (av : List Value) (m : yM) (n : Nat) (b : Nat) (m' : yM) (n' : Nat) => ∃ (a0 : Nat) (a1 : Int32), av = [.ref a0, .int a1] ∧ X g a0 a1 m n b m' n') g [.ref a0, .int a1] m n)) (yt_LIrV mc ms Q g a0 a1 m n) f pc L st w → G pc L st w) → G 0 (se_ent [.ref a0, .int a1] maxL) [] (m, n, 0, 0)) : ymx_LIrV l y (ws_ y cc maxL none) fr lo mc ms P Q X :=
  yOf hy hyc hT (fun g av m n h => by
    obtain ⟨a0, a1, rfl, _⟩ := h
    exact hL) (fun g av m n h1 h2 hp G hG => by
    obtain ⟨a0, a1, rfl, hp⟩ := hp
    exact body g a0 a1 m n h1 h2 hp G hG)
abbrev ym_LIrZ (l : Launch) (y : MethodName) (ws : List Cond) (fr lo mc ms : Nat) (P : hG → Nat → Int32 → yM → Nat → Prop) (Q : hG → Nat → Int32 → yM → Nat → Bool → yM → Nat → Prop) : Prop := yCon l y ws fr lo mc ms (fun (g : hG) (av : List Value) (m : yM) (n : Nat) => ∃ (a0 : Nat) (a1 : Int32), av = [.ref a0, .int a1] ∧ P g a0 a1 m n) (fun (g : hG) (av : List Value) (m : yM) (n : Nat) (v : Option Value) (m' : yM) (n' : Nat) => ∀ (a0 : Nat) (a1 : Int32), av = [.ref a0, .int a1] → ∃ x, v = some (.int (bI x)) ∧ Q g a0 a1 m n x m' n') yNoX
def yov_LIrZ (g : hG) (mc ms mc' ms' : Nat) (cs : List Nat) (P : hG → Nat → Int32 → yM → Nat → Prop) (Q : hG → Nat → Int32 → yM → Nat → Bool → yM → Nat → Prop) : se_Op yW := fun st w K Y => match st with
  | .int a1 :: .ref a0 :: r => yc w.1 a0 ∈ cs ∧ se_c8 8 r ∧ P g a0 a1 w.1 w.2.1 ∧ w.2.2.1 + mc' ≤ mc ∧ w.2.2.2 + ms' ≤ ms ∧ ∀ x m' n', Q g a0 a1 w.1 w.2.1 x m' n' → yIn g m' n' → w.2.1 ≤ n' → K (.int (bI x) :: r) (m', n', w.2.2.1 + mc', w.2.2.2 + ms')
  | _ => False
theorem yov_LIrZ_r {g : hG} {mc ms mc' ms' : Nat} {cs : List Nat} {P : hG → Nat → Int32 → yM → Nat → Prop} {Q : hG → Nat → Int32 → yM → Nat → Bool → yM → Nat → Prop} {a0 : Nat} {a1 : Int32} {r : List Value} {w : yW} {K : List Value → yW → Prop} {Y : Nat → yW → Prop} : yov_LIrZ g mc ms mc' ms' cs P Q (.int a1 :: .ref a0 :: r) w K Y = (yc w.1 a0 ∈ cs ∧ se_c8 8 r ∧ P g a0 a1 w.1 w.2.1 ∧ w.2.2.1 + mc' ≤ mc ∧ w.2.2.2 + ms' ≤ ms ∧ ∀ x m' n', Q g a0 a1 w.1 w.2.1 x m' n' → yIn g m' n' → w.2.1 ≤ n' → K (.int (bI x) :: r) (m', n', w.2.2.1 + mc', w.2.2.2 + ms')) := rfl
theorem yov_LIrZ_ok {g : hG} {mc ms mc' ms' : Nat} {cs : List Nat} {P : hG → Nat → Int32 → yM → Nat → Prop} {Q : hG → Nat → Int32 → yM → Nat → Bool → yM → Nat → Prop} {p : Program} {l : Launch} {e : Env} {R : Room} {s : State} {m : MethodId} {args : Array Value} {below : List Frame} {meth : Method} {c : Code} {nL : Nat} {cc : ByteArray} {Q0 : State → Prop} {H0 : Heap} {ins : Instr} {len : Nat} (hS : se_Snd p l e R s m args below meth c Q0 nL (fun a => a) (yRM g H0) cc ins len (yCV g 1 mc ms mc' ms' cs (fun (g : hG) (av : List Value) (m : yM) (n : Nat) => ∃ (a0 : Nat) (a1 : Int32), av = [.ref a0, .int a1] ∧ P g a0 a1 m n) (fun (g : hG) (av : List Value) (m : yM) (n : Nat) (v : Option Value) (m' : yM) (n' : Nat) => ∀ (a0 : Nat) (a1 : Int32), av = [.ref a0, .int a1] → ∃ x, v = some (.int (bI x)) ∧ Q g a0 a1 m n x m' n') yNoX)) : se_Snd p l e R s m args below meth c Q0 nL (fun a => a) (yRM g H0) cc ins len (yov_LIrZ g mc ms mc' ms' cs P Q) :=
  hS.mono fun st w K Y h => by
    unfold yov_LIrZ at h
    split at h
    · rename_i a1 a0 r
      obtain ⟨hc, h8, hP, r1, r2, hq⟩ := h
      exact (⟨hc, h8, ⟨a0, a1, rfl, hP⟩, r1, r2, fun v m' n' hp hi hn => by
              obtain ⟨x, rfl, hx⟩ := hp a0 a1 rfl
              exact hq x m' n' hx hi hn, fun b m' n' hp => hp.elim⟩ : (yRcv cs w.1 [.ref a0, .int a1] ∧ yGo g mc ms mc' ms' ((fun (g : hG) (av : List Value) (m : yM) (n : Nat) => ∃ (a0 : Nat) (a1 : Int32), av = [.ref a0, .int a1] ∧ P g a0 a1 m n) g) ((fun (g : hG) (av : List Value) (m : yM) (n : Nat) (v : Option Value) (m' : yM) (n' : Nat) => ∀ (a0 : Nat) (a1 : Int32), av = [.ref a0, .int a1] → ∃ x, v = some (.int (bI x)) ∧ Q g a0 a1 m n x m' n') g) (yNoX g) [.ref a0, .int a1] r w K Y))
    · exact h.elim
abbrev ymx_LIrZ (l : Launch) (y : MethodName) (ws : List Cond) (fr lo mc ms : Nat) (P : hG → Nat → Int32 → yM → Nat → Prop) (Q : hG → Nat → Int32 → yM → Nat → Bool → yM → Nat → Prop) (X : hG → Nat → Int32 → yM → Nat → Nat → yM → Nat → Prop) : Prop := yCon l y ws fr lo mc ms (fun (g : hG) (av : List Value) (m : yM) (n : Nat) => ∃ (a0 : Nat) (a1 : Int32), av = [.ref a0, .int a1] ∧ P g a0 a1 m n) (fun (g : hG) (av : List Value) (m : yM) (n : Nat) (v : Option Value) (m' : yM) (n' : Nat) => ∀ (a0 : Nat) (a1 : Int32), av = [.ref a0, .int a1] → ∃ x, v = some (.int (bI x)) ∧ Q g a0 a1 m n x m' n') (fun (g : hG) (av : List Value) (m : yM) (n : Nat) (b : Nat) (m' : yM) (n' : Nat) => ∃ (a0 : Nat) (a1 : Int32), av = [.ref a0, .int a1] ∧ X g a0 a1 m n b m' n')
def yovx_LIrZ (g : hG) (mc ms mc' ms' : Nat) (cs : List Nat) (P : hG → Nat → Int32 → yM → Nat → Prop) (Q : hG → Nat → Int32 → yM → Nat → Bool → yM → Nat → Prop) (X : hG → Nat → Int32 → yM → Nat → Nat → yM → Nat → Prop) : se_Op yW := fun st w K Y => match st with
  | .int a1 :: .ref a0 :: r => yc w.1 a0 ∈ cs ∧ se_c8 8 r ∧ P g a0 a1 w.1 w.2.1 ∧ w.2.2.1 + mc' ≤ mc ∧ w.2.2.2 + ms' ≤ ms ∧ (∀ x m' n', Q g a0 a1 w.1 w.2.1 x m' n' → yIn g m' n' → w.2.1 ≤ n' → K (.int (bI x) :: r) (m', n', w.2.2.1 + mc', w.2.2.2 + ms')) ∧ ∀ b m' n', X g a0 a1 w.1 w.2.1 b m' n' → yIn g m' n' → w.2.1 ≤ n' → Y b (m', n', w.2.2.1 + mc', w.2.2.2 + ms')
  | _ => False
theorem yovx_LIrZ_r {g : hG} {mc ms mc' ms' : Nat} {cs : List Nat} {P : hG → Nat → Int32 → yM → Nat → Prop} {Q : hG → Nat → Int32 → yM → Nat → Bool → yM → Nat → Prop} {X : hG → Nat → Int32 → yM → Nat → Nat → yM → Nat → Prop} {a0 : Nat} {a1 : Int32} {r : List Value} {w : yW} {K : List Value → yW → Prop} {Y : Nat → yW → Prop} : yovx_LIrZ g mc ms mc' ms' cs P Q X (.int a1 :: .ref a0 :: r) w K Y = (yc w.1 a0 ∈ cs ∧ se_c8 8 r ∧ P g a0 a1 w.1 w.2.1 ∧ w.2.2.1 + mc' ≤ mc ∧ w.2.2.2 + ms' ≤ ms ∧ (∀ x m' n', Q g a0 a1 w.1 w.2.1 x m' n' → yIn g m' n' → w.2.1 ≤ n' → K (.int (bI x) :: r) (m', n', w.2.2.1 + mc', w.2.2.2 + ms')) ∧ ∀ b m' n', X g a0 a1 w.1 w.2.1 b m' n' → yIn g m' n' → w.2.1 ≤ n' → Y b (m', n', w.2.2.1 + mc', w.2.2.2 + ms')) := rfl
theorem yovx_LIrZ_ok {g : hG} {mc ms mc' ms' : Nat} {cs : List Nat} {P : hG → Nat → Int32 → yM → Nat → Prop} {Q : hG → Nat → Int32 → yM → Nat → Bool → yM → Nat → Prop} {X : hG → Nat → Int32 → yM → Nat → Nat → yM → Nat → Prop} {p : Program} {l : Launch} {e : Env} {R : Room} {s : State} {m : MethodId} {args : Array Value} {below : List Frame} {meth : Method} {c : Code} {nL : Nat} {cc : ByteArray} {Q0 : State → Prop} {H0 : Heap} {ins : Instr} {len : Nat} (hS : se_Snd p l e R s m args below meth c Q0 nL (fun a => a) (yRM g H0) cc ins len (yCV g 1 mc ms mc' ms' cs (fun (g : hG) (av : List Value) (m : yM) (n : Nat) => ∃ (a0 : Nat) (a1 : Int32), av = [.ref a0, .int a1] ∧ P g a0 a1 m n) (fun (g : hG) (av : List Value) (m : yM) (n : Nat) (v : Option Value) (m' : yM) (n' : Nat) => ∀ (a0 : Nat) (a1 : Int32), av = [.ref a0, .int a1] → ∃ x, v = some (.int (bI x)) ∧ Q g a0 a1 m n x m' n') (fun (g : hG) (av : List Value) (m : yM) (n : Nat) (b : Nat) (m' : yM) (n' : Nat) => ∃ (a0 : Nat) (a1 : Int32), av = [.ref a0, .int a1] ∧ X g a0 a1 m n b m' n'))) : se_Snd p l e R s m args below meth c Q0 nL (fun a => a) (yRM g H0) cc ins len (yovx_LIrZ g mc ms mc' ms' cs P Q X) :=
  hS.mono fun st w K Y h => by
    unfold yovx_LIrZ at h
    split at h
    · rename_i a1 a0 r
      obtain ⟨hc, h8, hP, r1, r2, hq⟩ := h
      exact (⟨hc, h8, ⟨a0, a1, rfl, hP⟩, r1, r2, fun v m' n' hp hi hn => by
              obtain ⟨x, rfl, hx⟩ := hp a0 a1 rfl
              exact hq.1 x m' n' hx hi hn, fun b m' n' hp hi hn => by
              obtain ⟨z0, z1, e, hx⟩ := hp
              cases e
              exact hq.2 b m' n' hx hi hn⟩ : (yRcv cs w.1 [.ref a0, .int a1] ∧ yGo g mc ms mc' ms' ((fun (g : hG) (av : List Value) (m : yM) (n : Nat) => ∃ (a0 : Nat) (a1 : Int32), av = [.ref a0, .int a1] ∧ P g a0 a1 m n) g) ((fun (g : hG) (av : List Value) (m : yM) (n : Nat) (v : Option Value) (m' : yM) (n' : Nat) => ∀ (a0 : Nat) (a1 : Int32), av = [.ref a0, .int a1] → ∃ x, v = some (.int (bI x)) ∧ Q g a0 a1 m n x m' n') g) ((fun (g : hG) (av : List Value) (m : yM) (n : Nat) (b : Nat) (m' : yM) (n' : Nat) => ∃ (a0 : Nat) (a1 : Int32), av = [.ref a0, .int a1] ∧ X g a0 a1 m n b m' n') g) [.ref a0, .int a1] r w K Y))
    · exact h.elim
def ypv_LIrZ (g : hG) (mc ms : Nat) (cs : List Nat) (P : hG → Nat → Int32 → yM → Nat → Prop) (R0 : hG → Nat → Int32 → yM → Nat → Bool) : se_Op yW := fun st w K Y => match st with
  | .int a1 :: .ref a0 :: r => yc w.1 a0 ∈ cs ∧ se_c8 8 r ∧ P g a0 a1 w.1 w.2.1 ∧ w.2.2.1 ≤ mc ∧ w.2.2.2 ≤ ms ∧ K (.int (bI (R0 g a0 a1 w.1 w.2.1)) :: r) w
  | _ => False
theorem ypv_LIrZ_r {g : hG} {mc ms : Nat} {cs : List Nat} {P : hG → Nat → Int32 → yM → Nat → Prop} {R0 : hG → Nat → Int32 → yM → Nat → Bool} {a0 : Nat} {a1 : Int32} {r : List Value} {w : yW} {K : List Value → yW → Prop} {Y : Nat → yW → Prop} : ypv_LIrZ g mc ms cs P R0 (.int a1 :: .ref a0 :: r) w K Y = (yc w.1 a0 ∈ cs ∧ se_c8 8 r ∧ P g a0 a1 w.1 w.2.1 ∧ w.2.2.1 ≤ mc ∧ w.2.2.2 ≤ ms ∧ K (.int (bI (R0 g a0 a1 w.1 w.2.1)) :: r) w) := rfl
theorem ypv_LIrZ_ok {g : hG} {mc ms : Nat} {cs : List Nat} {P : hG → Nat → Int32 → yM → Nat → Prop} {R0 : hG → Nat → Int32 → yM → Nat → Bool} {p : Program} {l : Launch} {e : Env} {R : Room} {s : State} {m : MethodId} {args : Array Value} {below : List Frame} {meth : Method} {c : Code} {nL : Nat} {cc : ByteArray} {Q0 : State → Prop} {H0 : Heap} {ins : Instr} {len : Nat} (hS : se_Snd p l e R s m args below meth c Q0 nL (fun a => a) (yRM g H0) cc ins len (yov_LIrZ g mc ms 0 0 cs P (fun g a0 a1 m n x m' n' => x = R0 g a0 a1 m n ∧ m' = m ∧ n' = n))) : se_Snd p l e R s m args below meth c Q0 nL (fun a => a) (yRM g H0) cc ins len (ypv_LIrZ g mc ms cs P R0) :=
  hS.mono fun st w K Y h => by
    unfold ypv_LIrZ at h
    split at h
    · rename_i a1 a0 r
      obtain ⟨hc, h8, hP, r1, r2, hq⟩ := h
      exact ⟨hc, h8, hP, r1, r2, fun x m' n' e _ _ => by
              obtain ⟨rfl, rfl, rfl⟩ := e
              exact hq⟩
    · exact h.elim
def yfv_LIrZ (g : hG) (mc ms : Nat) (cs : List Nat) (P : hG → Nat → Int32 → yM → Nat → Prop) (R0 : hG → Nat → Int32 → yM → Nat → Bool) (F : hG → Nat → Int32 → yM → Nat → yM) : se_Op yW := fun st w K Y => match st with
  | .int a1 :: .ref a0 :: r => yc w.1 a0 ∈ cs ∧ se_c8 8 r ∧ P g a0 a1 w.1 w.2.1 ∧ w.2.2.1 ≤ mc ∧ w.2.2.2 ≤ ms ∧ K (.int (bI (R0 g a0 a1 w.1 w.2.1)) :: r) (F g a0 a1 w.1 w.2.1, w.2)
  | _ => False
theorem yfv_LIrZ_r {g : hG} {mc ms : Nat} {cs : List Nat} {P : hG → Nat → Int32 → yM → Nat → Prop} {R0 : hG → Nat → Int32 → yM → Nat → Bool} {F : hG → Nat → Int32 → yM → Nat → yM} {a0 : Nat} {a1 : Int32} {r : List Value} {w : yW} {K : List Value → yW → Prop} {Y : Nat → yW → Prop} : yfv_LIrZ g mc ms cs P R0 F (.int a1 :: .ref a0 :: r) w K Y = (yc w.1 a0 ∈ cs ∧ se_c8 8 r ∧ P g a0 a1 w.1 w.2.1 ∧ w.2.2.1 ≤ mc ∧ w.2.2.2 ≤ ms ∧ K (.int (bI (R0 g a0 a1 w.1 w.2.1)) :: r) (F g a0 a1 w.1 w.2.1, w.2)) := rfl
theorem yfv_LIrZ_ok {g : hG} {mc ms : Nat} {cs : List Nat} {P : hG → Nat → Int32 → yM → Nat → Prop} {R0 : hG → Nat → Int32 → yM → Nat → Bool} {F : hG → Nat → Int32 → yM → Nat → yM} {p : Program} {l : Launch} {e : Env} {R : Room} {s : State} {m : MethodId} {args : Array Value} {below : List Frame} {meth : Method} {c : Code} {nL : Nat} {cc : ByteArray} {Q0 : State → Prop} {H0 : Heap} {ins : Instr} {len : Nat} (hS : se_Snd p l e R s m args below meth c Q0 nL (fun a => a) (yRM g H0) cc ins len (yov_LIrZ g mc ms 0 0 cs P (fun g a0 a1 m n x m' n' => x = R0 g a0 a1 m n ∧ m' = F g a0 a1 m n ∧ n' = n))) : se_Snd p l e R s m args below meth c Q0 nL (fun a => a) (yRM g H0) cc ins len (yfv_LIrZ g mc ms cs P R0 F) :=
  hS.mono fun st w K Y h => by
    unfold yfv_LIrZ at h
    split at h
    · rename_i a1 a0 r
      obtain ⟨hc, h8, hP, r1, r2, hq⟩ := h
      exact ⟨hc, h8, hP, r1, r2, fun x m' n' e _ _ => by
              obtain ⟨rfl, rfl, rfl⟩ := e
              exact hq⟩
    · exact h.elim
def yt_LIrZ (mc ms : Nat) (Q : hG → Nat → Int32 → yM → Nat → Bool → yM → Nat → Prop) (g : hG) (a0 : Nat) (a1 : Int32) (m : yM) (n : Nat) : Option Value → yW → Prop := yRt (some .boolean) mc ms ((fun (g : hG) (av : List Value) (m : yM) (n : Nat) (v : Option Value) (m' : yM) (n' : Nat) => ∀ (a0 : Nat) (a1 : Int32), av = [.ref a0, .int a1] → ∃ x, v = some (.int (bI x)) ∧ Q g a0 a1 m n x m' n') g [.ref a0, .int a1] m n)
theorem yt_LIrZ_e {mc ms : Nat} {Q : hG → Nat → Int32 → yM → Nat → Bool → yM → Nat → Prop} {g : hG} {a0 : Nat} {a1 : Int32} {m : yM} {n : Nat} {w : yW} {z : Int32} : yt_LIrZ mc ms Q g a0 a1 m n (some (.int z)) w = (w.2.2.1 ≤ mc ∧ w.2.2.2 ≤ ms ∧ rz z fun x => Q g a0 a1 m n x w.1 w.2.1) := by
  apply propext
  constructor
  · intro h
    obtain ⟨x, e, hq⟩ := h.2.2.2 _ _ rfl
    cases e
    exact ⟨h.2.1, h.2.2.1, ⟨x, rfl, hq⟩⟩
  · intro h
    obtain ⟨h1, h2, h3⟩ := h
    obtain ⟨x, rfl, h3⟩ := h3
    exact ⟨⟨_, rfl, bI_nar x⟩, h1, h2, fun _ _ e => by
      cases e
      exact ⟨x, rfl, h3⟩⟩
theorem ym_LIrZ_of {l : Launch} {y : MethodName} {own : String} {cc : ByteArray} {maxL fr lo mc ms : Nat} {P : hG → Nat → Int32 → yM → Nat → Prop} {Q : hG → Nat → Int32 → yM → Nat → Bool → yM → Nat → Prop} {T : hG → Nat → Nat → se_Op yW} (hy : plainName y.cls = true) (hyc : y.cls = own) (hT : yTS l own y.name cc maxL (some .boolean) fr lo mc ms T) (hL : 2 ≤ maxL)
    (body : ∀ (g : hG) (a0 : Nat) (a1 : Int32) (m : yM) (n : Nat), hVg g → yIn g m n → P g a0 a1 m n → ∀ G : Nat → se_L → List Value → yW → Prop, (∀ (stops : List Nat) (f pc : Nat) (L : se_L) (st : List Value) (w : yW), wpN True (T g) cc stops G (yXt mc ms (yNoX g [.ref a0, .int a1] m n)) (yt_LIrZ mc ms Q g a0 a1 m n) f pc L st w → G pc L st w) → G 0 (se_ent [.ref a0, .int a1] maxL) [] (m, n, 0, 0)) : ym_LIrZ l y (ws_ y cc maxL (some .boolean)) fr lo mc ms P Q :=
  yOf hy hyc hT (fun g av m n h => by
    obtain ⟨a0, a1, rfl, _⟩ := h
    exact hL) (fun g av m n h1 h2 hp G hG => by
    obtain ⟨a0, a1, rfl, hp⟩ := hp
    exact body g a0 a1 m n h1 h2 hp G hG)
theorem ymx_LIrZ_of {l : Launch} {y : MethodName} {own : String} {cc : ByteArray} {maxL fr lo mc ms : Nat} {P : hG → Nat → Int32 → yM → Nat → Prop} {Q : hG → Nat → Int32 → yM → Nat → Bool → yM → Nat → Prop} {X : hG → Nat → Int32 → yM → Nat → Nat → yM → Nat → Prop} {T : hG → Nat → Nat → se_Op yW} (hy : plainName y.cls = true) (hyc : y.cls = own) (hT : yTS l own y.name cc maxL (some .boolean) fr lo mc ms T) (hL : 2 ≤ maxL)
    (body : ∀ (g : hG) (a0 : Nat) (a1 : Int32) (m : yM) (n : Nat), hVg g → yIn g m n → P g a0 a1 m n → ∀ G : Nat → se_L → List Value → yW → Prop, (∀ (stops : List Nat) (f pc : Nat) (L : se_L) (st : List Value) (w : yW), wpN True (T g) cc stops G (yXt mc ms ((fun (g : hG) (av : List Value) (m : yM) (n : Nat) (b : Nat) (m' : yM) (n' : Nat) => ∃ (a0 : Nat) (a1 : Int32), av = [.ref a0, .int a1] ∧ X g a0 a1 m n b m' n') g [.ref a0, .int a1] m n)) (yt_LIrZ mc ms Q g a0 a1 m n) f pc L st w → G pc L st w) → G 0 (se_ent [.ref a0, .int a1] maxL) [] (m, n, 0, 0)) : ymx_LIrZ l y (ws_ y cc maxL (some .boolean)) fr lo mc ms P Q X :=
  yOf hy hyc hT (fun g av m n h => by
    obtain ⟨a0, a1, rfl, _⟩ := h
    exact hL) (fun g av m n h1 h2 hp G hG => by
    obtain ⟨a0, a1, rfl, hp⟩ := hp
    exact body g a0 a1 m n h1 h2 hp G hG)
abbrev ym_LJIIIrV (l : Launch) (y : MethodName) (ws : List Cond) (fr lo mc ms : Nat) (P : hG → Nat → Int64 → Int32 → Int32 → Int32 → yM → Nat → Prop) (Q : hG → Nat → Int64 → Int32 → Int32 → Int32 → yM → Nat → yM → Nat → Prop) : Prop := yCon l y ws fr lo mc ms (fun (g : hG) (av : List Value) (m : yM) (n : Nat) => ∃ (a0 : Nat) (a1 : Int64) (a2 : Int32) (a3 : Int32) (a4 : Int32), av = [.ref a0, .long a1, .int a2, .int a3, .int a4] ∧ P g a0 a1 a2 a3 a4 m n) (fun (g : hG) (av : List Value) (m : yM) (n : Nat) (v : Option Value) (m' : yM) (n' : Nat) => ∀ (a0 : Nat) (a1 : Int64) (a2 : Int32) (a3 : Int32) (a4 : Int32), av = [.ref a0, .long a1, .int a2, .int a3, .int a4] → v = none ∧ Q g a0 a1 a2 a3 a4 m n m' n') yNoX
def yo_LJIIIrV (g : hG) (mc ms mc' ms' : Nat) (P : hG → Nat → Int64 → Int32 → Int32 → Int32 → yM → Nat → Prop) (Q : hG → Nat → Int64 → Int32 → Int32 → Int32 → yM → Nat → yM → Nat → Prop) : se_Op yW := fun st w K Y => match st with
  | .int a4 :: .int a3 :: .int a2 :: .long a1 :: .ref a0 :: r => se_c8 8 r ∧ P g a0 a1 a2 a3 a4 w.1 w.2.1 ∧ w.2.2.1 + mc' ≤ mc ∧ w.2.2.2 + ms' ≤ ms ∧ ∀ m' n', Q g a0 a1 a2 a3 a4 w.1 w.2.1 m' n' → yIn g m' n' → w.2.1 ≤ n' → K r (m', n', w.2.2.1 + mc', w.2.2.2 + ms')
  | _ => False
theorem yo_LJIIIrV_r {g : hG} {mc ms mc' ms' : Nat} {P : hG → Nat → Int64 → Int32 → Int32 → Int32 → yM → Nat → Prop} {Q : hG → Nat → Int64 → Int32 → Int32 → Int32 → yM → Nat → yM → Nat → Prop} {a0 : Nat} {a1 : Int64} {a2 : Int32} {a3 : Int32} {a4 : Int32} {r : List Value} {w : yW} {K : List Value → yW → Prop} {Y : Nat → yW → Prop} : yo_LJIIIrV g mc ms mc' ms' P Q (.int a4 :: .int a3 :: .int a2 :: .long a1 :: .ref a0 :: r) w K Y = (se_c8 8 r ∧ P g a0 a1 a2 a3 a4 w.1 w.2.1 ∧ w.2.2.1 + mc' ≤ mc ∧ w.2.2.2 + ms' ≤ ms ∧ ∀ m' n', Q g a0 a1 a2 a3 a4 w.1 w.2.1 m' n' → yIn g m' n' → w.2.1 ≤ n' → K r (m', n', w.2.2.1 + mc', w.2.2.2 + ms')) := rfl
theorem yo_LJIIIrV_ok {g : hG} {mc ms mc' ms' : Nat} {P : hG → Nat → Int64 → Int32 → Int32 → Int32 → yM → Nat → Prop} {Q : hG → Nat → Int64 → Int32 → Int32 → Int32 → yM → Nat → yM → Nat → Prop} {p : Program} {l : Launch} {e : Env} {R : Room} {s : State} {m : MethodId} {args : Array Value} {below : List Frame} {meth : Method} {c : Code} {nL : Nat} {cc : ByteArray} {Q0 : State → Prop} {H0 : Heap} {ins : Instr} {len : Nat} (hS : se_Snd p l e R s m args below meth c Q0 nL (fun a => a) (yRM g H0) cc ins len (yCS g 5 mc ms mc' ms' (fun (g : hG) (av : List Value) (m : yM) (n : Nat) => ∃ (a0 : Nat) (a1 : Int64) (a2 : Int32) (a3 : Int32) (a4 : Int32), av = [.ref a0, .long a1, .int a2, .int a3, .int a4] ∧ P g a0 a1 a2 a3 a4 m n) (fun (g : hG) (av : List Value) (m : yM) (n : Nat) (v : Option Value) (m' : yM) (n' : Nat) => ∀ (a0 : Nat) (a1 : Int64) (a2 : Int32) (a3 : Int32) (a4 : Int32), av = [.ref a0, .long a1, .int a2, .int a3, .int a4] → v = none ∧ Q g a0 a1 a2 a3 a4 m n m' n') yNoX)) : se_Snd p l e R s m args below meth c Q0 nL (fun a => a) (yRM g H0) cc ins len (yo_LJIIIrV g mc ms mc' ms' P Q) :=
  hS.mono fun st w K Y h => by
    unfold yo_LJIIIrV at h
    split at h
    · rename_i a4 a3 a2 a1 a0 r
      obtain ⟨h8, hP, r1, r2, hq⟩ := h
      exact (⟨h8, ⟨a0, a1, a2, a3, a4, rfl, hP⟩, r1, r2, fun v m' n' hp hi hn => by
              obtain ⟨rfl, hx⟩ := hp a0 a1 a2 a3 a4 rfl
              exact hq m' n' hx hi hn, fun b m' n' hp => hp.elim⟩ : yGo g mc ms mc' ms' ((fun (g : hG) (av : List Value) (m : yM) (n : Nat) => ∃ (a0 : Nat) (a1 : Int64) (a2 : Int32) (a3 : Int32) (a4 : Int32), av = [.ref a0, .long a1, .int a2, .int a3, .int a4] ∧ P g a0 a1 a2 a3 a4 m n) g) ((fun (g : hG) (av : List Value) (m : yM) (n : Nat) (v : Option Value) (m' : yM) (n' : Nat) => ∀ (a0 : Nat) (a1 : Int64) (a2 : Int32) (a3 : Int32) (a4 : Int32), av = [.ref a0, .long a1, .int a2, .int a3, .int a4] → v = none ∧ Q g a0 a1 a2 a3 a4 m n m' n') g) (yNoX g) [.ref a0, .long a1, .int a2, .int a3, .int a4] r w K Y)
    · exact h.elim
def yf_LJIIIrV (g : hG) (mc ms : Nat) (P : hG → Nat → Int64 → Int32 → Int32 → Int32 → yM → Nat → Prop) (F : hG → Nat → Int64 → Int32 → Int32 → Int32 → yM → Nat → yM) : se_Op yW := fun st w K Y => match st with
  | .int a4 :: .int a3 :: .int a2 :: .long a1 :: .ref a0 :: r => se_c8 8 r ∧ P g a0 a1 a2 a3 a4 w.1 w.2.1 ∧ w.2.2.1 ≤ mc ∧ w.2.2.2 ≤ ms ∧ K (r) (F g a0 a1 a2 a3 a4 w.1 w.2.1, w.2)
  | _ => False
theorem yf_LJIIIrV_r {g : hG} {mc ms : Nat} {P : hG → Nat → Int64 → Int32 → Int32 → Int32 → yM → Nat → Prop} {F : hG → Nat → Int64 → Int32 → Int32 → Int32 → yM → Nat → yM} {a0 : Nat} {a1 : Int64} {a2 : Int32} {a3 : Int32} {a4 : Int32} {r : List Value} {w : yW} {K : List Value → yW → Prop} {Y : Nat → yW → Prop} : yf_LJIIIrV g mc ms P F (.int a4 :: .int a3 :: .int a2 :: .long a1 :: .ref a0 :: r) w K Y = (se_c8 8 r ∧ P g a0 a1 a2 a3 a4 w.1 w.2.1 ∧ w.2.2.1 ≤ mc ∧ w.2.2.2 ≤ ms ∧ K (r) (F g a0 a1 a2 a3 a4 w.1 w.2.1, w.2)) := rfl
theorem yf_LJIIIrV_ok {g : hG} {mc ms : Nat} {P : hG → Nat → Int64 → Int32 → Int32 → Int32 → yM → Nat → Prop} {F : hG → Nat → Int64 → Int32 → Int32 → Int32 → yM → Nat → yM} {p : Program} {l : Launch} {e : Env} {R : Room} {s : State} {m : MethodId} {args : Array Value} {below : List Frame} {meth : Method} {c : Code} {nL : Nat} {cc : ByteArray} {Q0 : State → Prop} {H0 : Heap} {ins : Instr} {len : Nat} (hS : se_Snd p l e R s m args below meth c Q0 nL (fun a => a) (yRM g H0) cc ins len (yo_LJIIIrV g mc ms 0 0 P (fun g a0 a1 a2 a3 a4 m n m' n' => m' = F g a0 a1 a2 a3 a4 m n ∧ n' = n))) : se_Snd p l e R s m args below meth c Q0 nL (fun a => a) (yRM g H0) cc ins len (yf_LJIIIrV g mc ms P F) :=
  hS.mono fun st w K Y h => by
    unfold yf_LJIIIrV at h
    split at h
    · rename_i a4 a3 a2 a1 a0 r
      obtain ⟨h8, hP, r1, r2, hq⟩ := h
      exact ⟨h8, hP, r1, r2, fun m' n' e _ _ => by
              obtain ⟨rfl, rfl⟩ := e
              exact hq⟩
    · exact h.elim
def yt_LJIIIrV (mc ms : Nat) (Q : hG → Nat → Int64 → Int32 → Int32 → Int32 → yM → Nat → yM → Nat → Prop) (g : hG) (a0 : Nat) (a1 : Int64) (a2 : Int32) (a3 : Int32) (a4 : Int32) (m : yM) (n : Nat) : Option Value → yW → Prop := yRt none mc ms ((fun (g : hG) (av : List Value) (m : yM) (n : Nat) (v : Option Value) (m' : yM) (n' : Nat) => ∀ (a0 : Nat) (a1 : Int64) (a2 : Int32) (a3 : Int32) (a4 : Int32), av = [.ref a0, .long a1, .int a2, .int a3, .int a4] → v = none ∧ Q g a0 a1 a2 a3 a4 m n m' n') g [.ref a0, .long a1, .int a2, .int a3, .int a4] m n)
theorem yt_LJIIIrV_e {mc ms : Nat} {Q : hG → Nat → Int64 → Int32 → Int32 → Int32 → yM → Nat → yM → Nat → Prop} {g : hG} {a0 : Nat} {a1 : Int64} {a2 : Int32} {a3 : Int32} {a4 : Int32} {m : yM} {n : Nat} {w : yW} : yt_LJIIIrV mc ms Q g a0 a1 a2 a3 a4 m n none w = (w.2.2.1 ≤ mc ∧ w.2.2.2 ≤ ms ∧ Q g a0 a1 a2 a3 a4 m n w.1 w.2.1) := by
  apply propext
  exact ⟨fun h => ⟨h.2.1, h.2.2.1, (h.2.2.2 _ _ _ _ _ rfl).2⟩, fun h => ⟨rfl, h.1, h.2.1, fun _ _ _ _ _ e => by
    cases e
    exact ⟨rfl, h.2.2⟩⟩⟩
theorem ym_LJIIIrV_of {l : Launch} {y : MethodName} {own : String} {cc : ByteArray} {maxL fr lo mc ms : Nat} {P : hG → Nat → Int64 → Int32 → Int32 → Int32 → yM → Nat → Prop} {Q : hG → Nat → Int64 → Int32 → Int32 → Int32 → yM → Nat → yM → Nat → Prop} {T : hG → Nat → Nat → se_Op yW} (hy : plainName y.cls = true) (hyc : y.cls = own) (hT : yTS l own y.name cc maxL none fr lo mc ms T) (hL : 6 ≤ maxL)
    (body : ∀ (g : hG) (a0 : Nat) (a1 : Int64) (a2 : Int32) (a3 : Int32) (a4 : Int32) (m : yM) (n : Nat), hVg g → yIn g m n → P g a0 a1 a2 a3 a4 m n → ∀ G : Nat → se_L → List Value → yW → Prop, (∀ (stops : List Nat) (f pc : Nat) (L : se_L) (st : List Value) (w : yW), wpN True (T g) cc stops G (yXt mc ms (yNoX g [.ref a0, .long a1, .int a2, .int a3, .int a4] m n)) (yt_LJIIIrV mc ms Q g a0 a1 a2 a3 a4 m n) f pc L st w → G pc L st w) → G 0 (se_ent [.ref a0, .long a1, .int a2, .int a3, .int a4] maxL) [] (m, n, 0, 0)) : ym_LJIIIrV l y (ws_ y cc maxL none) fr lo mc ms P Q :=
  yOf hy hyc hT (fun g av m n h => by
    obtain ⟨a0, a1, a2, a3, a4, rfl, _⟩ := h
    exact hL) (fun g av m n h1 h2 hp G hG => by
    obtain ⟨a0, a1, a2, a3, a4, rfl, hp⟩ := hp
    exact body g a0 a1 a2 a3 a4 m n h1 h2 hp G hG)
abbrev ym_LJJrJ (l : Launch) (y : MethodName) (ws : List Cond) (fr lo mc ms : Nat) (P : hG → Nat → Int64 → Int64 → yM → Nat → Prop) (Q : hG → Nat → Int64 → Int64 → yM → Nat → Int64 → yM → Nat → Prop) : Prop := yCon l y ws fr lo mc ms (fun (g : hG) (av : List Value) (m : yM) (n : Nat) => ∃ (a0 : Nat) (a1 : Int64) (a2 : Int64), av = [.ref a0, .long a1, .long a2] ∧ P g a0 a1 a2 m n) (fun (g : hG) (av : List Value) (m : yM) (n : Nat) (v : Option Value) (m' : yM) (n' : Nat) => ∀ (a0 : Nat) (a1 : Int64) (a2 : Int64), av = [.ref a0, .long a1, .long a2] → ∃ x, v = some (.long x) ∧ Q g a0 a1 a2 m n x m' n') yNoX
def yov_LJJrJ (g : hG) (mc ms mc' ms' : Nat) (cs : List Nat) (P : hG → Nat → Int64 → Int64 → yM → Nat → Prop) (Q : hG → Nat → Int64 → Int64 → yM → Nat → Int64 → yM → Nat → Prop) : se_Op yW := fun st w K Y => match st with
  | .long a2 :: .long a1 :: .ref a0 :: r => yc w.1 a0 ∈ cs ∧ se_c8 8 r ∧ P g a0 a1 a2 w.1 w.2.1 ∧ w.2.2.1 + mc' ≤ mc ∧ w.2.2.2 + ms' ≤ ms ∧ ∀ x m' n', Q g a0 a1 a2 w.1 w.2.1 x m' n' → yIn g m' n' → w.2.1 ≤ n' → K (.long x :: r) (m', n', w.2.2.1 + mc', w.2.2.2 + ms')
  | _ => False
theorem yov_LJJrJ_r {g : hG} {mc ms mc' ms' : Nat} {cs : List Nat} {P : hG → Nat → Int64 → Int64 → yM → Nat → Prop} {Q : hG → Nat → Int64 → Int64 → yM → Nat → Int64 → yM → Nat → Prop} {a0 : Nat} {a1 : Int64} {a2 : Int64} {r : List Value} {w : yW} {K : List Value → yW → Prop} {Y : Nat → yW → Prop} : yov_LJJrJ g mc ms mc' ms' cs P Q (.long a2 :: .long a1 :: .ref a0 :: r) w K Y = (yc w.1 a0 ∈ cs ∧ se_c8 8 r ∧ P g a0 a1 a2 w.1 w.2.1 ∧ w.2.2.1 + mc' ≤ mc ∧ w.2.2.2 + ms' ≤ ms ∧ ∀ x m' n', Q g a0 a1 a2 w.1 w.2.1 x m' n' → yIn g m' n' → w.2.1 ≤ n' → K (.long x :: r) (m', n', w.2.2.1 + mc', w.2.2.2 + ms')) := rfl
theorem yov_LJJrJ_ok {g : hG} {mc ms mc' ms' : Nat} {cs : List Nat} {P : hG → Nat → Int64 → Int64 → yM → Nat → Prop} {Q : hG → Nat → Int64 → Int64 → yM → Nat → Int64 → yM → Nat → Prop} {p : Program} {l : Launch} {e : Env} {R : Room} {s : State} {m : MethodId} {args : Array Value} {below : List Frame} {meth : Method} {c : Code} {nL : Nat} {cc : ByteArray} {Q0 : State → Prop} {H0 : Heap} {ins : Instr} {len : Nat} (hS : se_Snd p l e R s m args below meth c Q0 nL (fun a => a) (yRM g H0) cc ins len (yCV g 2 mc ms mc' ms' cs (fun (g : hG) (av : List Value) (m : yM) (n : Nat) => ∃ (a0 : Nat) (a1 : Int64) (a2 : Int64), av = [.ref a0, .long a1, .long a2] ∧ P g a0 a1 a2 m n) (fun (g : hG) (av : List Value) (m : yM) (n : Nat) (v : Option Value) (m' : yM) (n' : Nat) => ∀ (a0 : Nat) (a1 : Int64) (a2 : Int64), av = [.ref a0, .long a1, .long a2] → ∃ x, v = some (.long x) ∧ Q g a0 a1 a2 m n x m' n') yNoX)) : se_Snd p l e R s m args below meth c Q0 nL (fun a => a) (yRM g H0) cc ins len (yov_LJJrJ g mc ms mc' ms' cs P Q) :=
  hS.mono fun st w K Y h => by
    unfold yov_LJJrJ at h
    split at h
    · rename_i a2 a1 a0 r
      obtain ⟨hc, h8, hP, r1, r2, hq⟩ := h
      exact (⟨hc, h8, ⟨a0, a1, a2, rfl, hP⟩, r1, r2, fun v m' n' hp hi hn => by
              obtain ⟨x, rfl, hx⟩ := hp a0 a1 a2 rfl
              exact hq x m' n' hx hi hn, fun b m' n' hp => hp.elim⟩ : (yRcv cs w.1 [.ref a0, .long a1, .long a2] ∧ yGo g mc ms mc' ms' ((fun (g : hG) (av : List Value) (m : yM) (n : Nat) => ∃ (a0 : Nat) (a1 : Int64) (a2 : Int64), av = [.ref a0, .long a1, .long a2] ∧ P g a0 a1 a2 m n) g) ((fun (g : hG) (av : List Value) (m : yM) (n : Nat) (v : Option Value) (m' : yM) (n' : Nat) => ∀ (a0 : Nat) (a1 : Int64) (a2 : Int64), av = [.ref a0, .long a1, .long a2] → ∃ x, v = some (.long x) ∧ Q g a0 a1 a2 m n x m' n') g) (yNoX g) [.ref a0, .long a1, .long a2] r w K Y))
    · exact h.elim
def ypv_LJJrJ (g : hG) (mc ms : Nat) (cs : List Nat) (P : hG → Nat → Int64 → Int64 → yM → Nat → Prop) (R0 : hG → Nat → Int64 → Int64 → yM → Nat → Int64) : se_Op yW := fun st w K Y => match st with
  | .long a2 :: .long a1 :: .ref a0 :: r => yc w.1 a0 ∈ cs ∧ se_c8 8 r ∧ P g a0 a1 a2 w.1 w.2.1 ∧ w.2.2.1 ≤ mc ∧ w.2.2.2 ≤ ms ∧ K (.long (R0 g a0 a1 a2 w.1 w.2.1) :: r) w
  | _ => False
theorem ypv_LJJrJ_r {g : hG} {mc ms : Nat} {cs : List Nat} {P : hG → Nat → Int64 → Int64 → yM → Nat → Prop} {R0 : hG → Nat → Int64 → Int64 → yM → Nat → Int64} {a0 : Nat} {a1 : Int64} {a2 : Int64} {r : List Value} {w : yW} {K : List Value → yW → Prop} {Y : Nat → yW → Prop} : ypv_LJJrJ g mc ms cs P R0 (.long a2 :: .long a1 :: .ref a0 :: r) w K Y = (yc w.1 a0 ∈ cs ∧ se_c8 8 r ∧ P g a0 a1 a2 w.1 w.2.1 ∧ w.2.2.1 ≤ mc ∧ w.2.2.2 ≤ ms ∧ K (.long (R0 g a0 a1 a2 w.1 w.2.1) :: r) w) := rfl
theorem ypv_LJJrJ_ok {g : hG} {mc ms : Nat} {cs : List Nat} {P : hG → Nat → Int64 → Int64 → yM → Nat → Prop} {R0 : hG → Nat → Int64 → Int64 → yM → Nat → Int64} {p : Program} {l : Launch} {e : Env} {R : Room} {s : State} {m : MethodId} {args : Array Value} {below : List Frame} {meth : Method} {c : Code} {nL : Nat} {cc : ByteArray} {Q0 : State → Prop} {H0 : Heap} {ins : Instr} {len : Nat} (hS : se_Snd p l e R s m args below meth c Q0 nL (fun a => a) (yRM g H0) cc ins len (yov_LJJrJ g mc ms 0 0 cs P (fun g a0 a1 a2 m n x m' n' => x = R0 g a0 a1 a2 m n ∧ m' = m ∧ n' = n))) : se_Snd p l e R s m args below meth c Q0 nL (fun a => a) (yRM g H0) cc ins len (ypv_LJJrJ g mc ms cs P R0) :=
  hS.mono fun st w K Y h => by
    unfold ypv_LJJrJ at h
    split at h
    · rename_i a2 a1 a0 r
      obtain ⟨hc, h8, hP, r1, r2, hq⟩ := h
      exact ⟨hc, h8, hP, r1, r2, fun x m' n' e _ _ => by
              obtain ⟨rfl, rfl, rfl⟩ := e
              exact hq⟩
    · exact h.elim
def yfv_LJJrJ (g : hG) (mc ms : Nat) (cs : List Nat) (P : hG → Nat → Int64 → Int64 → yM → Nat → Prop) (R0 : hG → Nat → Int64 → Int64 → yM → Nat → Int64) (F : hG → Nat → Int64 → Int64 → yM → Nat → yM) : se_Op yW := fun st w K Y => match st with
  | .long a2 :: .long a1 :: .ref a0 :: r => yc w.1 a0 ∈ cs ∧ se_c8 8 r ∧ P g a0 a1 a2 w.1 w.2.1 ∧ w.2.2.1 ≤ mc ∧ w.2.2.2 ≤ ms ∧ K (.long (R0 g a0 a1 a2 w.1 w.2.1) :: r) (F g a0 a1 a2 w.1 w.2.1, w.2)
  | _ => False
theorem yfv_LJJrJ_r {g : hG} {mc ms : Nat} {cs : List Nat} {P : hG → Nat → Int64 → Int64 → yM → Nat → Prop} {R0 : hG → Nat → Int64 → Int64 → yM → Nat → Int64} {F : hG → Nat → Int64 → Int64 → yM → Nat → yM} {a0 : Nat} {a1 : Int64} {a2 : Int64} {r : List Value} {w : yW} {K : List Value → yW → Prop} {Y : Nat → yW → Prop} : yfv_LJJrJ g mc ms cs P R0 F (.long a2 :: .long a1 :: .ref a0 :: r) w K Y = (yc w.1 a0 ∈ cs ∧ se_c8 8 r ∧ P g a0 a1 a2 w.1 w.2.1 ∧ w.2.2.1 ≤ mc ∧ w.2.2.2 ≤ ms ∧ K (.long (R0 g a0 a1 a2 w.1 w.2.1) :: r) (F g a0 a1 a2 w.1 w.2.1, w.2)) := rfl
theorem yfv_LJJrJ_ok {g : hG} {mc ms : Nat} {cs : List Nat} {P : hG → Nat → Int64 → Int64 → yM → Nat → Prop} {R0 : hG → Nat → Int64 → Int64 → yM → Nat → Int64} {F : hG → Nat → Int64 → Int64 → yM → Nat → yM} {p : Program} {l : Launch} {e : Env} {R : Room} {s : State} {m : MethodId} {args : Array Value} {below : List Frame} {meth : Method} {c : Code} {nL : Nat} {cc : ByteArray} {Q0 : State → Prop} {H0 : Heap} {ins : Instr} {len : Nat} (hS : se_Snd p l e R s m args below meth c Q0 nL (fun a => a) (yRM g H0) cc ins len (yov_LJJrJ g mc ms 0 0 cs P (fun g a0 a1 a2 m n x m' n' => x = R0 g a0 a1 a2 m n ∧ m' = F g a0 a1 a2 m n ∧ n' = n))) : se_Snd p l e R s m args below meth c Q0 nL (fun a => a) (yRM g H0) cc ins len (yfv_LJJrJ g mc ms cs P R0 F) :=
  hS.mono fun st w K Y h => by
    unfold yfv_LJJrJ at h
    split at h
    · rename_i a2 a1 a0 r
      obtain ⟨hc, h8, hP, r1, r2, hq⟩ := h
      exact ⟨hc, h8, hP, r1, r2, fun x m' n' e _ _ => by
              obtain ⟨rfl, rfl, rfl⟩ := e
              exact hq⟩
    · exact h.elim
def yt_LJJrJ (mc ms : Nat) (Q : hG → Nat → Int64 → Int64 → yM → Nat → Int64 → yM → Nat → Prop) (g : hG) (a0 : Nat) (a1 : Int64) (a2 : Int64) (m : yM) (n : Nat) : Option Value → yW → Prop := yRt (some .long) mc ms ((fun (g : hG) (av : List Value) (m : yM) (n : Nat) (v : Option Value) (m' : yM) (n' : Nat) => ∀ (a0 : Nat) (a1 : Int64) (a2 : Int64), av = [.ref a0, .long a1, .long a2] → ∃ x, v = some (.long x) ∧ Q g a0 a1 a2 m n x m' n') g [.ref a0, .long a1, .long a2] m n)
theorem yt_LJJrJ_e {mc ms : Nat} {Q : hG → Nat → Int64 → Int64 → yM → Nat → Int64 → yM → Nat → Prop} {g : hG} {a0 : Nat} {a1 : Int64} {a2 : Int64} {m : yM} {n : Nat} {w : yW} {z : Int64} : yt_LJJrJ mc ms Q g a0 a1 a2 m n (some (.long z)) w = (w.2.2.1 ≤ mc ∧ w.2.2.2 ≤ ms ∧ Q g a0 a1 a2 m n z w.1 w.2.1) := by
  apply propext
  constructor
  · intro h
    obtain ⟨x, e, hq⟩ := h.2.2.2 _ _ _ rfl
    cases e
    exact ⟨h.2.1, h.2.2.1, hq⟩
  · intro h
    obtain ⟨h1, h2, h3⟩ := h
    exact ⟨rfl, h1, h2, fun _ _ _ e => by
      cases e
      exact ⟨z, rfl, h3⟩⟩
theorem ym_LJJrJ_of {l : Launch} {y : MethodName} {own : String} {cc : ByteArray} {maxL fr lo mc ms : Nat} {P : hG → Nat → Int64 → Int64 → yM → Nat → Prop} {Q : hG → Nat → Int64 → Int64 → yM → Nat → Int64 → yM → Nat → Prop} {T : hG → Nat → Nat → se_Op yW} (hy : plainName y.cls = true) (hyc : y.cls = own) (hT : yTS l own y.name cc maxL (some .long) fr lo mc ms T) (hL : 5 ≤ maxL)
    (body : ∀ (g : hG) (a0 : Nat) (a1 : Int64) (a2 : Int64) (m : yM) (n : Nat), hVg g → yIn g m n → P g a0 a1 a2 m n → ∀ G : Nat → se_L → List Value → yW → Prop, (∀ (stops : List Nat) (f pc : Nat) (L : se_L) (st : List Value) (w : yW), wpN True (T g) cc stops G (yXt mc ms (yNoX g [.ref a0, .long a1, .long a2] m n)) (yt_LJJrJ mc ms Q g a0 a1 a2 m n) f pc L st w → G pc L st w) → G 0 (se_ent [.ref a0, .long a1, .long a2] maxL) [] (m, n, 0, 0)) : ym_LJJrJ l y (ws_ y cc maxL (some .long)) fr lo mc ms P Q :=
  yOf hy hyc hT (fun g av m n h => by
    obtain ⟨a0, a1, a2, rfl, _⟩ := h
    exact hL) (fun g av m n h1 h2 hp G hG => by
    obtain ⟨a0, a1, a2, rfl, hp⟩ := hp
    exact body g a0 a1 a2 m n h1 h2 hp G hG)
abbrev ym_LJJrV (l : Launch) (y : MethodName) (ws : List Cond) (fr lo mc ms : Nat) (P : hG → Nat → Int64 → Int64 → yM → Nat → Prop) (Q : hG → Nat → Int64 → Int64 → yM → Nat → yM → Nat → Prop) : Prop := yCon l y ws fr lo mc ms (fun (g : hG) (av : List Value) (m : yM) (n : Nat) => ∃ (a0 : Nat) (a1 : Int64) (a2 : Int64), av = [.ref a0, .long a1, .long a2] ∧ P g a0 a1 a2 m n) (fun (g : hG) (av : List Value) (m : yM) (n : Nat) (v : Option Value) (m' : yM) (n' : Nat) => ∀ (a0 : Nat) (a1 : Int64) (a2 : Int64), av = [.ref a0, .long a1, .long a2] → v = none ∧ Q g a0 a1 a2 m n m' n') yNoX
def yo_LJJrV (g : hG) (mc ms mc' ms' : Nat) (P : hG → Nat → Int64 → Int64 → yM → Nat → Prop) (Q : hG → Nat → Int64 → Int64 → yM → Nat → yM → Nat → Prop) : se_Op yW := fun st w K Y => match st with
  | .long a2 :: .long a1 :: .ref a0 :: r => se_c8 8 r ∧ P g a0 a1 a2 w.1 w.2.1 ∧ w.2.2.1 + mc' ≤ mc ∧ w.2.2.2 + ms' ≤ ms ∧ ∀ m' n', Q g a0 a1 a2 w.1 w.2.1 m' n' → yIn g m' n' → w.2.1 ≤ n' → K r (m', n', w.2.2.1 + mc', w.2.2.2 + ms')
  | _ => False
theorem yo_LJJrV_r {g : hG} {mc ms mc' ms' : Nat} {P : hG → Nat → Int64 → Int64 → yM → Nat → Prop} {Q : hG → Nat → Int64 → Int64 → yM → Nat → yM → Nat → Prop} {a0 : Nat} {a1 : Int64} {a2 : Int64} {r : List Value} {w : yW} {K : List Value → yW → Prop} {Y : Nat → yW → Prop} : yo_LJJrV g mc ms mc' ms' P Q (.long a2 :: .long a1 :: .ref a0 :: r) w K Y = (se_c8 8 r ∧ P g a0 a1 a2 w.1 w.2.1 ∧ w.2.2.1 + mc' ≤ mc ∧ w.2.2.2 + ms' ≤ ms ∧ ∀ m' n', Q g a0 a1 a2 w.1 w.2.1 m' n' → yIn g m' n' → w.2.1 ≤ n' → K r (m', n', w.2.2.1 + mc', w.2.2.2 + ms')) := rfl
theorem yo_LJJrV_ok {g : hG} {mc ms mc' ms' : Nat} {P : hG → Nat → Int64 → Int64 → yM → Nat → Prop} {Q : hG → Nat → Int64 → Int64 → yM → Nat → yM → Nat → Prop} {p : Program} {l : Launch} {e : Env} {R : Room} {s : State} {m : MethodId} {args : Array Value} {below : List Frame} {meth : Method} {c : Code} {nL : Nat} {cc : ByteArray} {Q0 : State → Prop} {H0 : Heap} {ins : Instr} {len : Nat} (hS : se_Snd p l e R s m args below meth c Q0 nL (fun a => a) (yRM g H0) cc ins len (yCS g 3 mc ms mc' ms' (fun (g : hG) (av : List Value) (m : yM) (n : Nat) => ∃ (a0 : Nat) (a1 : Int64) (a2 : Int64), av = [.ref a0, .long a1, .long a2] ∧ P g a0 a1 a2 m n) (fun (g : hG) (av : List Value) (m : yM) (n : Nat) (v : Option Value) (m' : yM) (n' : Nat) => ∀ (a0 : Nat) (a1 : Int64) (a2 : Int64), av = [.ref a0, .long a1, .long a2] → v = none ∧ Q g a0 a1 a2 m n m' n') yNoX)) : se_Snd p l e R s m args below meth c Q0 nL (fun a => a) (yRM g H0) cc ins len (yo_LJJrV g mc ms mc' ms' P Q) :=
  hS.mono fun st w K Y h => by
    unfold yo_LJJrV at h
    split at h
    · rename_i a2 a1 a0 r
      obtain ⟨h8, hP, r1, r2, hq⟩ := h
      exact (⟨h8, ⟨a0, a1, a2, rfl, hP⟩, r1, r2, fun v m' n' hp hi hn => by
              obtain ⟨rfl, hx⟩ := hp a0 a1 a2 rfl
              exact hq m' n' hx hi hn, fun b m' n' hp => hp.elim⟩ : yGo g mc ms mc' ms' ((fun (g : hG) (av : List Value) (m : yM) (n : Nat) => ∃ (a0 : Nat) (a1 : Int64) (a2 : Int64), av = [.ref a0, .long a1, .long a2] ∧ P g a0 a1 a2 m n) g) ((fun (g : hG) (av : List Value) (m : yM) (n : Nat) (v : Option Value) (m' : yM) (n' : Nat) => ∀ (a0 : Nat) (a1 : Int64) (a2 : Int64), av = [.ref a0, .long a1, .long a2] → v = none ∧ Q g a0 a1 a2 m n m' n') g) (yNoX g) [.ref a0, .long a1, .long a2] r w K Y)
    · exact h.elim
def yf_LJJrV (g : hG) (mc ms : Nat) (P : hG → Nat → Int64 → Int64 → yM → Nat → Prop) (F : hG → Nat → Int64 → Int64 → yM → Nat → yM) : se_Op yW := fun st w K Y => match st with
  | .long a2 :: .long a1 :: .ref a0 :: r => se_c8 8 r ∧ P g a0 a1 a2 w.1 w.2.1 ∧ w.2.2.1 ≤ mc ∧ w.2.2.2 ≤ ms ∧ K (r) (F g a0 a1 a2 w.1 w.2.1, w.2)
  | _ => False
theorem yf_LJJrV_r {g : hG} {mc ms : Nat} {P : hG → Nat → Int64 → Int64 → yM → Nat → Prop} {F : hG → Nat → Int64 → Int64 → yM → Nat → yM} {a0 : Nat} {a1 : Int64} {a2 : Int64} {r : List Value} {w : yW} {K : List Value → yW → Prop} {Y : Nat → yW → Prop} : yf_LJJrV g mc ms P F (.long a2 :: .long a1 :: .ref a0 :: r) w K Y = (se_c8 8 r ∧ P g a0 a1 a2 w.1 w.2.1 ∧ w.2.2.1 ≤ mc ∧ w.2.2.2 ≤ ms ∧ K (r) (F g a0 a1 a2 w.1 w.2.1, w.2)) := rfl
theorem yf_LJJrV_ok {g : hG} {mc ms : Nat} {P : hG → Nat → Int64 → Int64 → yM → Nat → Prop} {F : hG → Nat → Int64 → Int64 → yM → Nat → yM} {p : Program} {l : Launch} {e : Env} {R : Room} {s : State} {m : MethodId} {args : Array Value} {below : List Frame} {meth : Method} {c : Code} {nL : Nat} {cc : ByteArray} {Q0 : State → Prop} {H0 : Heap} {ins : Instr} {len : Nat} (hS : se_Snd p l e R s m args below meth c Q0 nL (fun a => a) (yRM g H0) cc ins len (yo_LJJrV g mc ms 0 0 P (fun g a0 a1 a2 m n m' n' => m' = F g a0 a1 a2 m n ∧ n' = n))) : se_Snd p l e R s m args below meth c Q0 nL (fun a => a) (yRM g H0) cc ins len (yf_LJJrV g mc ms P F) :=
  hS.mono fun st w K Y h => by
    unfold yf_LJJrV at h
    split at h
    · rename_i a2 a1 a0 r
      obtain ⟨h8, hP, r1, r2, hq⟩ := h
      exact ⟨h8, hP, r1, r2, fun m' n' e _ _ => by
              obtain ⟨rfl, rfl⟩ := e
              exact hq⟩
    · exact h.elim
def yt_LJJrV (mc ms : Nat) (Q : hG → Nat → Int64 → Int64 → yM → Nat → yM → Nat → Prop) (g : hG) (a0 : Nat) (a1 : Int64) (a2 : Int64) (m : yM) (n : Nat) : Option Value → yW → Prop := yRt none mc ms ((fun (g : hG) (av : List Value) (m : yM) (n : Nat) (v : Option Value) (m' : yM) (n' : Nat) => ∀ (a0 : Nat) (a1 : Int64) (a2 : Int64), av = [.ref a0, .long a1, .long a2] → v = none ∧ Q g a0 a1 a2 m n m' n') g [.ref a0, .long a1, .long a2] m n)
theorem yt_LJJrV_e {mc ms : Nat} {Q : hG → Nat → Int64 → Int64 → yM → Nat → yM → Nat → Prop} {g : hG} {a0 : Nat} {a1 : Int64} {a2 : Int64} {m : yM} {n : Nat} {w : yW} : yt_LJJrV mc ms Q g a0 a1 a2 m n none w = (w.2.2.1 ≤ mc ∧ w.2.2.2 ≤ ms ∧ Q g a0 a1 a2 m n w.1 w.2.1) := by
  apply propext
  exact ⟨fun h => ⟨h.2.1, h.2.2.1, (h.2.2.2 _ _ _ rfl).2⟩, fun h => ⟨rfl, h.1, h.2.1, fun _ _ _ e => by
    cases e
    exact ⟨rfl, h.2.2⟩⟩⟩
theorem ym_LJJrV_of {l : Launch} {y : MethodName} {own : String} {cc : ByteArray} {maxL fr lo mc ms : Nat} {P : hG → Nat → Int64 → Int64 → yM → Nat → Prop} {Q : hG → Nat → Int64 → Int64 → yM → Nat → yM → Nat → Prop} {T : hG → Nat → Nat → se_Op yW} (hy : plainName y.cls = true) (hyc : y.cls = own) (hT : yTS l own y.name cc maxL none fr lo mc ms T) (hL : 5 ≤ maxL)
    (body : ∀ (g : hG) (a0 : Nat) (a1 : Int64) (a2 : Int64) (m : yM) (n : Nat), hVg g → yIn g m n → P g a0 a1 a2 m n → ∀ G : Nat → se_L → List Value → yW → Prop, (∀ (stops : List Nat) (f pc : Nat) (L : se_L) (st : List Value) (w : yW), wpN True (T g) cc stops G (yXt mc ms (yNoX g [.ref a0, .long a1, .long a2] m n)) (yt_LJJrV mc ms Q g a0 a1 a2 m n) f pc L st w → G pc L st w) → G 0 (se_ent [.ref a0, .long a1, .long a2] maxL) [] (m, n, 0, 0)) : ym_LJJrV l y (ws_ y cc maxL none) fr lo mc ms P Q :=
  yOf hy hyc hT (fun g av m n h => by
    obtain ⟨a0, a1, a2, rfl, _⟩ := h
    exact hL) (fun g av m n h1 h2 hp G hG => by
    obtain ⟨a0, a1, a2, rfl, hp⟩ := hp
    exact body g a0 a1 a2 m n h1 h2 hp G hG)
abbrev ym_LJJrZ (l : Launch) (y : MethodName) (ws : List Cond) (fr lo mc ms : Nat) (P : hG → Nat → Int64 → Int64 → yM → Nat → Prop) (Q : hG → Nat → Int64 → Int64 → yM → Nat → Bool → yM → Nat → Prop) : Prop := yCon l y ws fr lo mc ms (fun (g : hG) (av : List Value) (m : yM) (n : Nat) => ∃ (a0 : Nat) (a1 : Int64) (a2 : Int64), av = [.ref a0, .long a1, .long a2] ∧ P g a0 a1 a2 m n) (fun (g : hG) (av : List Value) (m : yM) (n : Nat) (v : Option Value) (m' : yM) (n' : Nat) => ∀ (a0 : Nat) (a1 : Int64) (a2 : Int64), av = [.ref a0, .long a1, .long a2] → ∃ x, v = some (.int (bI x)) ∧ Q g a0 a1 a2 m n x m' n') yNoX
def yov_LJJrZ (g : hG) (mc ms mc' ms' : Nat) (cs : List Nat) (P : hG → Nat → Int64 → Int64 → yM → Nat → Prop) (Q : hG → Nat → Int64 → Int64 → yM → Nat → Bool → yM → Nat → Prop) : se_Op yW := fun st w K Y => match st with
  | .long a2 :: .long a1 :: .ref a0 :: r => yc w.1 a0 ∈ cs ∧ se_c8 8 r ∧ P g a0 a1 a2 w.1 w.2.1 ∧ w.2.2.1 + mc' ≤ mc ∧ w.2.2.2 + ms' ≤ ms ∧ ∀ x m' n', Q g a0 a1 a2 w.1 w.2.1 x m' n' → yIn g m' n' → w.2.1 ≤ n' → K (.int (bI x) :: r) (m', n', w.2.2.1 + mc', w.2.2.2 + ms')
  | _ => False
theorem yov_LJJrZ_r {g : hG} {mc ms mc' ms' : Nat} {cs : List Nat} {P : hG → Nat → Int64 → Int64 → yM → Nat → Prop} {Q : hG → Nat → Int64 → Int64 → yM → Nat → Bool → yM → Nat → Prop} {a0 : Nat} {a1 : Int64} {a2 : Int64} {r : List Value} {w : yW} {K : List Value → yW → Prop} {Y : Nat → yW → Prop} : yov_LJJrZ g mc ms mc' ms' cs P Q (.long a2 :: .long a1 :: .ref a0 :: r) w K Y = (yc w.1 a0 ∈ cs ∧ se_c8 8 r ∧ P g a0 a1 a2 w.1 w.2.1 ∧ w.2.2.1 + mc' ≤ mc ∧ w.2.2.2 + ms' ≤ ms ∧ ∀ x m' n', Q g a0 a1 a2 w.1 w.2.1 x m' n' → yIn g m' n' → w.2.1 ≤ n' → K (.int (bI x) :: r) (m', n', w.2.2.1 + mc', w.2.2.2 + ms')) := rfl
theorem yov_LJJrZ_ok {g : hG} {mc ms mc' ms' : Nat} {cs : List Nat} {P : hG → Nat → Int64 → Int64 → yM → Nat → Prop} {Q : hG → Nat → Int64 → Int64 → yM → Nat → Bool → yM → Nat → Prop} {p : Program} {l : Launch} {e : Env} {R : Room} {s : State} {m : MethodId} {args : Array Value} {below : List Frame} {meth : Method} {c : Code} {nL : Nat} {cc : ByteArray} {Q0 : State → Prop} {H0 : Heap} {ins : Instr} {len : Nat} (hS : se_Snd p l e R s m args below meth c Q0 nL (fun a => a) (yRM g H0) cc ins len (yCV g 2 mc ms mc' ms' cs (fun (g : hG) (av : List Value) (m : yM) (n : Nat) => ∃ (a0 : Nat) (a1 : Int64) (a2 : Int64), av = [.ref a0, .long a1, .long a2] ∧ P g a0 a1 a2 m n) (fun (g : hG) (av : List Value) (m : yM) (n : Nat) (v : Option Value) (m' : yM) (n' : Nat) => ∀ (a0 : Nat) (a1 : Int64) (a2 : Int64), av = [.ref a0, .long a1, .long a2] → ∃ x, v = some (.int (bI x)) ∧ Q g a0 a1 a2 m n x m' n') yNoX)) : se_Snd p l e R s m args below meth c Q0 nL (fun a => a) (yRM g H0) cc ins len (yov_LJJrZ g mc ms mc' ms' cs P Q) :=
  hS.mono fun st w K Y h => by
    unfold yov_LJJrZ at h
    split at h
    · rename_i a2 a1 a0 r
      obtain ⟨hc, h8, hP, r1, r2, hq⟩ := h
      exact (⟨hc, h8, ⟨a0, a1, a2, rfl, hP⟩, r1, r2, fun v m' n' hp hi hn => by
              obtain ⟨x, rfl, hx⟩ := hp a0 a1 a2 rfl
              exact hq x m' n' hx hi hn, fun b m' n' hp => hp.elim⟩ : (yRcv cs w.1 [.ref a0, .long a1, .long a2] ∧ yGo g mc ms mc' ms' ((fun (g : hG) (av : List Value) (m : yM) (n : Nat) => ∃ (a0 : Nat) (a1 : Int64) (a2 : Int64), av = [.ref a0, .long a1, .long a2] ∧ P g a0 a1 a2 m n) g) ((fun (g : hG) (av : List Value) (m : yM) (n : Nat) (v : Option Value) (m' : yM) (n' : Nat) => ∀ (a0 : Nat) (a1 : Int64) (a2 : Int64), av = [.ref a0, .long a1, .long a2] → ∃ x, v = some (.int (bI x)) ∧ Q g a0 a1 a2 m n x m' n') g) (yNoX g) [.ref a0, .long a1, .long a2] r w K Y))
    · exact h.elim
def ypv_LJJrZ (g : hG) (mc ms : Nat) (cs : List Nat) (P : hG → Nat → Int64 → Int64 → yM → Nat → Prop) (R0 : hG → Nat → Int64 → Int64 → yM → Nat → Bool) : se_Op yW := fun st w K Y => match st with
  | .long a2 :: .long a1 :: .ref a0 :: r => yc w.1 a0 ∈ cs ∧ se_c8 8 r ∧ P g a0 a1 a2 w.1 w.2.1 ∧ w.2.2.1 ≤ mc ∧ w.2.2.2 ≤ ms ∧ K (.int (bI (R0 g a0 a1 a2 w.1 w.2.1)) :: r) w
  | _ => False
theorem ypv_LJJrZ_r {g : hG} {mc ms : Nat} {cs : List Nat} {P : hG → Nat → Int64 → Int64 → yM → Nat → Prop} {R0 : hG → Nat → Int64 → Int64 → yM → Nat → Bool} {a0 : Nat} {a1 : Int64} {a2 : Int64} {r : List Value} {w : yW} {K : List Value → yW → Prop} {Y : Nat → yW → Prop} : ypv_LJJrZ g mc ms cs P R0 (.long a2 :: .long a1 :: .ref a0 :: r) w K Y = (yc w.1 a0 ∈ cs ∧ se_c8 8 r ∧ P g a0 a1 a2 w.1 w.2.1 ∧ w.2.2.1 ≤ mc ∧ w.2.2.2 ≤ ms ∧ K (.int (bI (R0 g a0 a1 a2 w.1 w.2.1)) :: r) w) := rfl
theorem ypv_LJJrZ_ok {g : hG} {mc ms : Nat} {cs : List Nat} {P : hG → Nat → Int64 → Int64 → yM → Nat → Prop} {R0 : hG → Nat → Int64 → Int64 → yM → Nat → Bool} {p : Program} {l : Launch} {e : Env} {R : Room} {s : State} {m : MethodId} {args : Array Value} {below : List Frame} {meth : Method} {c : Code} {nL : Nat} {cc : ByteArray} {Q0 : State → Prop} {H0 : Heap} {ins : Instr} {len : Nat} (hS : se_Snd p l e R s m args below meth c Q0 nL (fun a => a) (yRM g H0) cc ins len (yov_LJJrZ g mc ms 0 0 cs P (fun g a0 a1 a2 m n x m' n' => x = R0 g a0 a1 a2 m n ∧ m' = m ∧ n' = n))) : se_Snd p l e R s m args below meth c Q0 nL (fun a => a) (yRM g H0) cc ins len (ypv_LJJrZ g mc ms cs P R0) :=
  hS.mono fun st w K Y h => by
    unfold ypv_LJJrZ at h
    split at h
    · rename_i a2 a1 a0 r
      obtain ⟨hc, h8, hP, r1, r2, hq⟩ := h
      exact ⟨hc, h8, hP, r1, r2, fun x m' n' e _ _ => by
              obtain ⟨rfl, rfl, rfl⟩ := e
              exact hq⟩
    · exact h.elim
def yfv_LJJrZ (g : hG) (mc ms : Nat) (cs : List Nat) (P : hG → Nat → Int64 → Int64 → yM → Nat → Prop) (R0 : hG → Nat → Int64 → Int64 → yM → Nat → Bool) (F : hG → Nat → Int64 → Int64 → yM → Nat → yM) : se_Op yW := fun st w K Y => match st with
  | .long a2 :: .long a1 :: .ref a0 :: r => yc w.1 a0 ∈ cs ∧ se_c8 8 r ∧ P g a0 a1 a2 w.1 w.2.1 ∧ w.2.2.1 ≤ mc ∧ w.2.2.2 ≤ ms ∧ K (.int (bI (R0 g a0 a1 a2 w.1 w.2.1)) :: r) (F g a0 a1 a2 w.1 w.2.1, w.2)
  | _ => False
theorem yfv_LJJrZ_r {g : hG} {mc ms : Nat} {cs : List Nat} {P : hG → Nat → Int64 → Int64 → yM → Nat → Prop} {R0 : hG → Nat → Int64 → Int64 → yM → Nat → Bool} {F : hG → Nat → Int64 → Int64 → yM → Nat → yM} {a0 : Nat} {a1 : Int64} {a2 : Int64} {r : List Value} {w : yW} {K : List Value → yW → Prop} {Y : Nat → yW → Prop} : yfv_LJJrZ g mc ms cs P R0 F (.long a2 :: .long a1 :: .ref a0 :: r) w K Y = (yc w.1 a0 ∈ cs ∧ se_c8 8 r ∧ P g a0 a1 a2 w.1 w.2.1 ∧ w.2.2.1 ≤ mc ∧ w.2.2.2 ≤ ms ∧ K (.int (bI (R0 g a0 a1 a2 w.1 w.2.1)) :: r) (F g a0 a1 a2 w.1 w.2.1, w.2)) := rfl
theorem yfv_LJJrZ_ok {g : hG} {mc ms : Nat} {cs : List Nat} {P : hG → Nat → Int64 → Int64 → yM → Nat → Prop} {R0 : hG → Nat → Int64 → Int64 → yM → Nat → Bool} {F : hG → Nat → Int64 → Int64 → yM → Nat → yM} {p : Program} {l : Launch} {e : Env} {R : Room} {s : State} {m : MethodId} {args : Array Value} {below : List Frame} {meth : Method} {c : Code} {nL : Nat} {cc : ByteArray} {Q0 : State → Prop} {H0 : Heap} {ins : Instr} {len : Nat} (hS : se_Snd p l e R s m args below meth c Q0 nL (fun a => a) (yRM g H0) cc ins len (yov_LJJrZ g mc ms 0 0 cs P (fun g a0 a1 a2 m n x m' n' => x = R0 g a0 a1 a2 m n ∧ m' = F g a0 a1 a2 m n ∧ n' = n))) : se_Snd p l e R s m args below meth c Q0 nL (fun a => a) (yRM g H0) cc ins len (yfv_LJJrZ g mc ms cs P R0 F) :=
  hS.mono fun st w K Y h => by
    unfold yfv_LJJrZ at h
    split at h
    · rename_i a2 a1 a0 r
      obtain ⟨hc, h8, hP, r1, r2, hq⟩ := h
      exact ⟨hc, h8, hP, r1, r2, fun x m' n' e _ _ => by
              obtain ⟨rfl, rfl, rfl⟩ := e
              exact hq⟩
    · exact h.elim
def yt_LJJrZ (mc ms : Nat) (Q : hG → Nat → Int64 → Int64 → yM → Nat → Bool → yM → Nat → Prop) (g : hG) (a0 : Nat) (a1 : Int64) (a2 : Int64) (m : yM) (n : Nat) : Option Value → yW → Prop := yRt (some .boolean) mc ms ((fun (g : hG) (av : List Value) (m : yM) (n : Nat) (v : Option Value) (m' : yM) (n' : Nat) => ∀ (a0 : Nat) (a1 : Int64) (a2 : Int64), av = [.ref a0, .long a1, .long a2] → ∃ x, v = some (.int (bI x)) ∧ Q g a0 a1 a2 m n x m' n') g [.ref a0, .long a1, .long a2] m n)
theorem yt_LJJrZ_e {mc ms : Nat} {Q : hG → Nat → Int64 → Int64 → yM → Nat → Bool → yM → Nat → Prop} {g : hG} {a0 : Nat} {a1 : Int64} {a2 : Int64} {m : yM} {n : Nat} {w : yW} {z : Int32} : yt_LJJrZ mc ms Q g a0 a1 a2 m n (some (.int z)) w = (w.2.2.1 ≤ mc ∧ w.2.2.2 ≤ ms ∧ rz z fun x => Q g a0 a1 a2 m n x w.1 w.2.1) := by
  apply propext
  constructor
  · intro h
    obtain ⟨x, e, hq⟩ := h.2.2.2 _ _ _ rfl
    cases e
    exact ⟨h.2.1, h.2.2.1, ⟨x, rfl, hq⟩⟩
  · intro h
    obtain ⟨h1, h2, h3⟩ := h
    obtain ⟨x, rfl, h3⟩ := h3
    exact ⟨⟨_, rfl, bI_nar x⟩, h1, h2, fun _ _ _ e => by
      cases e
      exact ⟨x, rfl, h3⟩⟩
theorem ym_LJJrZ_of {l : Launch} {y : MethodName} {own : String} {cc : ByteArray} {maxL fr lo mc ms : Nat} {P : hG → Nat → Int64 → Int64 → yM → Nat → Prop} {Q : hG → Nat → Int64 → Int64 → yM → Nat → Bool → yM → Nat → Prop} {T : hG → Nat → Nat → se_Op yW} (hy : plainName y.cls = true) (hyc : y.cls = own) (hT : yTS l own y.name cc maxL (some .boolean) fr lo mc ms T) (hL : 5 ≤ maxL)
    (body : ∀ (g : hG) (a0 : Nat) (a1 : Int64) (a2 : Int64) (m : yM) (n : Nat), hVg g → yIn g m n → P g a0 a1 a2 m n → ∀ G : Nat → se_L → List Value → yW → Prop, (∀ (stops : List Nat) (f pc : Nat) (L : se_L) (st : List Value) (w : yW), wpN True (T g) cc stops G (yXt mc ms (yNoX g [.ref a0, .long a1, .long a2] m n)) (yt_LJJrZ mc ms Q g a0 a1 a2 m n) f pc L st w → G pc L st w) → G 0 (se_ent [.ref a0, .long a1, .long a2] maxL) [] (m, n, 0, 0)) : ym_LJJrZ l y (ws_ y cc maxL (some .boolean)) fr lo mc ms P Q :=
  yOf hy hyc hT (fun g av m n h => by
    obtain ⟨a0, a1, a2, rfl, _⟩ := h
    exact hL) (fun g av m n h1 h2 hp G hG => by
    obtain ⟨a0, a1, a2, rfl, hp⟩ := hp
    exact body g a0 a1 a2 m n h1 h2 hp G hG)
abbrev ym_LLIIrI (l : Launch) (y : MethodName) (ws : List Cond) (fr lo mc ms : Nat) (P : hG → Nat → Nat → Int32 → Int32 → yM → Nat → Prop) (Q : hG → Nat → Nat → Int32 → Int32 → yM → Nat → Int32 → yM → Nat → Prop) : Prop := yCon l y ws fr lo mc ms (fun (g : hG) (av : List Value) (m : yM) (n : Nat) => ∃ (a0 : Nat) (a1 : Nat) (a2 : Int32) (a3 : Int32), av = [.ref a0, .ref a1, .int a2, .int a3] ∧ P g a0 a1 a2 a3 m n) (fun (g : hG) (av : List Value) (m : yM) (n : Nat) (v : Option Value) (m' : yM) (n' : Nat) => ∀ (a0 : Nat) (a1 : Nat) (a2 : Int32) (a3 : Int32), av = [.ref a0, .ref a1, .int a2, .int a3] → ∃ x, v = some (.int x) ∧ Q g a0 a1 a2 a3 m n x m' n') yNoX
def yov_LLIIrI (g : hG) (mc ms mc' ms' : Nat) (cs : List Nat) (P : hG → Nat → Nat → Int32 → Int32 → yM → Nat → Prop) (Q : hG → Nat → Nat → Int32 → Int32 → yM → Nat → Int32 → yM → Nat → Prop) : se_Op yW := fun st w K Y => match st with
  | .int a3 :: .int a2 :: .ref a1 :: .ref a0 :: r => yc w.1 a0 ∈ cs ∧ se_c8 8 r ∧ P g a0 a1 a2 a3 w.1 w.2.1 ∧ w.2.2.1 + mc' ≤ mc ∧ w.2.2.2 + ms' ≤ ms ∧ ∀ x m' n', Q g a0 a1 a2 a3 w.1 w.2.1 x m' n' → yIn g m' n' → w.2.1 ≤ n' → K (.int x :: r) (m', n', w.2.2.1 + mc', w.2.2.2 + ms')
  | _ => False
theorem yov_LLIIrI_r {g : hG} {mc ms mc' ms' : Nat} {cs : List Nat} {P : hG → Nat → Nat → Int32 → Int32 → yM → Nat → Prop} {Q : hG → Nat → Nat → Int32 → Int32 → yM → Nat → Int32 → yM → Nat → Prop} {a0 : Nat} {a1 : Nat} {a2 : Int32} {a3 : Int32} {r : List Value} {w : yW} {K : List Value → yW → Prop} {Y : Nat → yW → Prop} : yov_LLIIrI g mc ms mc' ms' cs P Q (.int a3 :: .int a2 :: .ref a1 :: .ref a0 :: r) w K Y = (yc w.1 a0 ∈ cs ∧ se_c8 8 r ∧ P g a0 a1 a2 a3 w.1 w.2.1 ∧ w.2.2.1 + mc' ≤ mc ∧ w.2.2.2 + ms' ≤ ms ∧ ∀ x m' n', Q g a0 a1 a2 a3 w.1 w.2.1 x m' n' → yIn g m' n' → w.2.1 ≤ n' → K (.int x :: r) (m', n', w.2.2.1 + mc', w.2.2.2 + ms')) := rfl
theorem yov_LLIIrI_ok {g : hG} {mc ms mc' ms' : Nat} {cs : List Nat} {P : hG → Nat → Nat → Int32 → Int32 → yM → Nat → Prop} {Q : hG → Nat → Nat → Int32 → Int32 → yM → Nat → Int32 → yM → Nat → Prop} {p : Program} {l : Launch} {e : Env} {R : Room} {s : State} {m : MethodId} {args : Array Value} {below : List Frame} {meth : Method} {c : Code} {nL : Nat} {cc : ByteArray} {Q0 : State → Prop} {H0 : Heap} {ins : Instr} {len : Nat} (hS : se_Snd p l e R s m args below meth c Q0 nL (fun a => a) (yRM g H0) cc ins len (yCV g 3 mc ms mc' ms' cs (fun (g : hG) (av : List Value) (m : yM) (n : Nat) => ∃ (a0 : Nat) (a1 : Nat) (a2 : Int32) (a3 : Int32), av = [.ref a0, .ref a1, .int a2, .int a3] ∧ P g a0 a1 a2 a3 m n) (fun (g : hG) (av : List Value) (m : yM) (n : Nat) (v : Option Value) (m' : yM) (n' : Nat) => ∀ (a0 : Nat) (a1 : Nat) (a2 : Int32) (a3 : Int32), av = [.ref a0, .ref a1, .int a2, .int a3] → ∃ x, v = some (.int x) ∧ Q g a0 a1 a2 a3 m n x m' n') yNoX)) : se_Snd p l e R s m args below meth c Q0 nL (fun a => a) (yRM g H0) cc ins len (yov_LLIIrI g mc ms mc' ms' cs P Q) :=
  hS.mono fun st w K Y h => by
    unfold yov_LLIIrI at h
    split at h
    · rename_i a3 a2 a1 a0 r
      obtain ⟨hc, h8, hP, r1, r2, hq⟩ := h
      exact (⟨hc, h8, ⟨a0, a1, a2, a3, rfl, hP⟩, r1, r2, fun v m' n' hp hi hn => by
              obtain ⟨x, rfl, hx⟩ := hp a0 a1 a2 a3 rfl
              exact hq x m' n' hx hi hn, fun b m' n' hp => hp.elim⟩ : (yRcv cs w.1 [.ref a0, .ref a1, .int a2, .int a3] ∧ yGo g mc ms mc' ms' ((fun (g : hG) (av : List Value) (m : yM) (n : Nat) => ∃ (a0 : Nat) (a1 : Nat) (a2 : Int32) (a3 : Int32), av = [.ref a0, .ref a1, .int a2, .int a3] ∧ P g a0 a1 a2 a3 m n) g) ((fun (g : hG) (av : List Value) (m : yM) (n : Nat) (v : Option Value) (m' : yM) (n' : Nat) => ∀ (a0 : Nat) (a1 : Nat) (a2 : Int32) (a3 : Int32), av = [.ref a0, .ref a1, .int a2, .int a3] → ∃ x, v = some (.int x) ∧ Q g a0 a1 a2 a3 m n x m' n') g) (yNoX g) [.ref a0, .ref a1, .int a2, .int a3] r w K Y))
    · exact h.elim
abbrev ymx_LLIIrI (l : Launch) (y : MethodName) (ws : List Cond) (fr lo mc ms : Nat) (P : hG → Nat → Nat → Int32 → Int32 → yM → Nat → Prop) (Q : hG → Nat → Nat → Int32 → Int32 → yM → Nat → Int32 → yM → Nat → Prop) (X : hG → Nat → Nat → Int32 → Int32 → yM → Nat → Nat → yM → Nat → Prop) : Prop := yCon l y ws fr lo mc ms (fun (g : hG) (av : List Value) (m : yM) (n : Nat) => ∃ (a0 : Nat) (a1 : Nat) (a2 : Int32) (a3 : Int32), av = [.ref a0, .ref a1, .int a2, .int a3] ∧ P g a0 a1 a2 a3 m n) (fun (g : hG) (av : List Value) (m : yM) (n : Nat) (v : Option Value) (m' : yM) (n' : Nat) => ∀ (a0 : Nat) (a1 : Nat) (a2 : Int32) (a3 : Int32), av = [.ref a0, .ref a1, .int a2, .int a3] → ∃ x, v = some (.int x) ∧ Q g a0 a1 a2 a3 m n x m' n') (fun (g : hG) (av : List Value) (m : yM) (n : Nat) (b : Nat) (m' : yM) (n' : Nat) => ∃ (a0 : Nat) (a1 : Nat) (a2 : Int32) (a3 : Int32), av = [.ref a0, .ref a1, .int a2, .int a3] ∧ X g a0 a1 a2 a3 m n b m' n')
def yovx_LLIIrI (g : hG) (mc ms mc' ms' : Nat) (cs : List Nat) (P : hG → Nat → Nat → Int32 → Int32 → yM → Nat → Prop) (Q : hG → Nat → Nat → Int32 → Int32 → yM → Nat → Int32 → yM → Nat → Prop) (X : hG → Nat → Nat → Int32 → Int32 → yM → Nat → Nat → yM → Nat → Prop) : se_Op yW := fun st w K Y => match st with
  | .int a3 :: .int a2 :: .ref a1 :: .ref a0 :: r => yc w.1 a0 ∈ cs ∧ se_c8 8 r ∧ P g a0 a1 a2 a3 w.1 w.2.1 ∧ w.2.2.1 + mc' ≤ mc ∧ w.2.2.2 + ms' ≤ ms ∧ (∀ x m' n', Q g a0 a1 a2 a3 w.1 w.2.1 x m' n' → yIn g m' n' → w.2.1 ≤ n' → K (.int x :: r) (m', n', w.2.2.1 + mc', w.2.2.2 + ms')) ∧ ∀ b m' n', X g a0 a1 a2 a3 w.1 w.2.1 b m' n' → yIn g m' n' → w.2.1 ≤ n' → Y b (m', n', w.2.2.1 + mc', w.2.2.2 + ms')
  | _ => False
theorem yovx_LLIIrI_r {g : hG} {mc ms mc' ms' : Nat} {cs : List Nat} {P : hG → Nat → Nat → Int32 → Int32 → yM → Nat → Prop} {Q : hG → Nat → Nat → Int32 → Int32 → yM → Nat → Int32 → yM → Nat → Prop} {X : hG → Nat → Nat → Int32 → Int32 → yM → Nat → Nat → yM → Nat → Prop} {a0 : Nat} {a1 : Nat} {a2 : Int32} {a3 : Int32} {r : List Value} {w : yW} {K : List Value → yW → Prop} {Y : Nat → yW → Prop} : yovx_LLIIrI g mc ms mc' ms' cs P Q X (.int a3 :: .int a2 :: .ref a1 :: .ref a0 :: r) w K Y = (yc w.1 a0 ∈ cs ∧ se_c8 8 r ∧ P g a0 a1 a2 a3 w.1 w.2.1 ∧ w.2.2.1 + mc' ≤ mc ∧ w.2.2.2 + ms' ≤ ms ∧ (∀ x m' n', Q g a0 a1 a2 a3 w.1 w.2.1 x m' n' → yIn g m' n' → w.2.1 ≤ n' → K (.int x :: r) (m', n', w.2.2.1 + mc', w.2.2.2 + ms')) ∧ ∀ b m' n', X g a0 a1 a2 a3 w.1 w.2.1 b m' n' → yIn g m' n' → w.2.1 ≤ n' → Y b (m', n', w.2.2.1 + mc', w.2.2.2 + ms')) := rfl
theorem yovx_LLIIrI_ok {g : hG} {mc ms mc' ms' : Nat} {cs : List Nat} {P : hG → Nat → Nat → Int32 → Int32 → yM → Nat → Prop} {Q : hG → Nat → Nat → Int32 → Int32 → yM → Nat → Int32 → yM → Nat → Prop} {X : hG → Nat → Nat → Int32 → Int32 → yM → Nat → Nat → yM → Nat → Prop} {p : Program} {l : Launch} {e : Env} {R : Room} {s : State} {m : MethodId} {args : Array Value} {below : List Frame} {meth : Method} {c : Code} {nL : Nat} {cc : ByteArray} {Q0 : State → Prop} {H0 : Heap} {ins : Instr} {len : Nat} (hS : se_Snd p l e R s m args below meth c Q0 nL (fun a => a) (yRM g H0) cc ins len (yCV g 3 mc ms mc' ms' cs (fun (g : hG) (av : List Value) (m : yM) (n : Nat) => ∃ (a0 : Nat) (a1 : Nat) (a2 : Int32) (a3 : Int32), av = [.ref a0, .ref a1, .int a2, .int a3] ∧ P g a0 a1 a2 a3 m n) (fun (g : hG) (av : List Value) (m : yM) (n : Nat) (v : Option Value) (m' : yM) (n' : Nat) => ∀ (a0 : Nat) (a1 : Nat) (a2 : Int32) (a3 : Int32), av = [.ref a0, .ref a1, .int a2, .int a3] → ∃ x, v = some (.int x) ∧ Q g a0 a1 a2 a3 m n x m' n') (fun (g : hG) (av : List Value) (m : yM) (n : Nat) (b : Nat) (m' : yM) (n' : Nat) => ∃ (a0 : Nat) (a1 : Nat) (a2 : Int32) (a3 : Int32), av = [.ref a0, .ref a1, .int a2, .int a3] ∧ X g a0 a1 a2 a3 m n b m' n'))) : se_Snd p l e R s m args below meth c Q0 nL (fun a => a) (yRM g H0) cc ins len (yovx_LLIIrI g mc ms mc' ms' cs P Q X) :=
  hS.mono fun st w K Y h => by
    unfold yovx_LLIIrI at h
    split at h
    · rename_i a3 a2 a1 a0 r
      obtain ⟨hc, h8, hP, r1, r2, hq⟩ := h
      exact (⟨hc, h8, ⟨a0, a1, a2, a3, rfl, hP⟩, r1, r2, fun v m' n' hp hi hn => by
              obtain ⟨x, rfl, hx⟩ := hp a0 a1 a2 a3 rfl
              exact hq.1 x m' n' hx hi hn, fun b m' n' hp hi hn => by
              obtain ⟨z0, z1, z2, z3, e, hx⟩ := hp
              cases e
              exact hq.2 b m' n' hx hi hn⟩ : (yRcv cs w.1 [.ref a0, .ref a1, .int a2, .int a3] ∧ yGo g mc ms mc' ms' ((fun (g : hG) (av : List Value) (m : yM) (n : Nat) => ∃ (a0 : Nat) (a1 : Nat) (a2 : Int32) (a3 : Int32), av = [.ref a0, .ref a1, .int a2, .int a3] ∧ P g a0 a1 a2 a3 m n) g) ((fun (g : hG) (av : List Value) (m : yM) (n : Nat) (v : Option Value) (m' : yM) (n' : Nat) => ∀ (a0 : Nat) (a1 : Nat) (a2 : Int32) (a3 : Int32), av = [.ref a0, .ref a1, .int a2, .int a3] → ∃ x, v = some (.int x) ∧ Q g a0 a1 a2 a3 m n x m' n') g) ((fun (g : hG) (av : List Value) (m : yM) (n : Nat) (b : Nat) (m' : yM) (n' : Nat) => ∃ (a0 : Nat) (a1 : Nat) (a2 : Int32) (a3 : Int32), av = [.ref a0, .ref a1, .int a2, .int a3] ∧ X g a0 a1 a2 a3 m n b m' n') g) [.ref a0, .ref a1, .int a2, .int a3] r w K Y))
    · exact h.elim
def ypv_LLIIrI (g : hG) (mc ms : Nat) (cs : List Nat) (P : hG → Nat → Nat → Int32 → Int32 → yM → Nat → Prop) (R0 : hG → Nat → Nat → Int32 → Int32 → yM → Nat → Int32) : se_Op yW := fun st w K Y => match st with
  | .int a3 :: .int a2 :: .ref a1 :: .ref a0 :: r => yc w.1 a0 ∈ cs ∧ se_c8 8 r ∧ P g a0 a1 a2 a3 w.1 w.2.1 ∧ w.2.2.1 ≤ mc ∧ w.2.2.2 ≤ ms ∧ K (.int (R0 g a0 a1 a2 a3 w.1 w.2.1) :: r) w
  | _ => False
theorem ypv_LLIIrI_r {g : hG} {mc ms : Nat} {cs : List Nat} {P : hG → Nat → Nat → Int32 → Int32 → yM → Nat → Prop} {R0 : hG → Nat → Nat → Int32 → Int32 → yM → Nat → Int32} {a0 : Nat} {a1 : Nat} {a2 : Int32} {a3 : Int32} {r : List Value} {w : yW} {K : List Value → yW → Prop} {Y : Nat → yW → Prop} : ypv_LLIIrI g mc ms cs P R0 (.int a3 :: .int a2 :: .ref a1 :: .ref a0 :: r) w K Y = (yc w.1 a0 ∈ cs ∧ se_c8 8 r ∧ P g a0 a1 a2 a3 w.1 w.2.1 ∧ w.2.2.1 ≤ mc ∧ w.2.2.2 ≤ ms ∧ K (.int (R0 g a0 a1 a2 a3 w.1 w.2.1) :: r) w) := rfl
theorem ypv_LLIIrI_ok {g : hG} {mc ms : Nat} {cs : List Nat} {P : hG → Nat → Nat → Int32 → Int32 → yM → Nat → Prop} {R0 : hG → Nat → Nat → Int32 → Int32 → yM → Nat → Int32} {p : Program} {l : Launch} {e : Env} {R : Room} {s : State} {m : MethodId} {args : Array Value} {below : List Frame} {meth : Method} {c : Code} {nL : Nat} {cc : ByteArray} {Q0 : State → Prop} {H0 : Heap} {ins : Instr} {len : Nat} (hS : se_Snd p l e R s m args below meth c Q0 nL (fun a => a) (yRM g H0) cc ins len (yov_LLIIrI g mc ms 0 0 cs P (fun g a0 a1 a2 a3 m n x m' n' => x = R0 g a0 a1 a2 a3 m n ∧ m' = m ∧ n' = n))) : se_Snd p l e R s m args below meth c Q0 nL (fun a => a) (yRM g H0) cc ins len (ypv_LLIIrI g mc ms cs P R0) :=
  hS.mono fun st w K Y h => by
    unfold ypv_LLIIrI at h
    split at h
    · rename_i a3 a2 a1 a0 r
      obtain ⟨hc, h8, hP, r1, r2, hq⟩ := h
      exact ⟨hc, h8, hP, r1, r2, fun x m' n' e _ _ => by
              obtain ⟨rfl, rfl, rfl⟩ := e
              exact hq⟩
    · exact h.elim
def yfv_LLIIrI (g : hG) (mc ms : Nat) (cs : List Nat) (P : hG → Nat → Nat → Int32 → Int32 → yM → Nat → Prop) (R0 : hG → Nat → Nat → Int32 → Int32 → yM → Nat → Int32) (F : hG → Nat → Nat → Int32 → Int32 → yM → Nat → yM) : se_Op yW := fun st w K Y => match st with
  | .int a3 :: .int a2 :: .ref a1 :: .ref a0 :: r => yc w.1 a0 ∈ cs ∧ se_c8 8 r ∧ P g a0 a1 a2 a3 w.1 w.2.1 ∧ w.2.2.1 ≤ mc ∧ w.2.2.2 ≤ ms ∧ K (.int (R0 g a0 a1 a2 a3 w.1 w.2.1) :: r) (F g a0 a1 a2 a3 w.1 w.2.1, w.2)
  | _ => False
theorem yfv_LLIIrI_r {g : hG} {mc ms : Nat} {cs : List Nat} {P : hG → Nat → Nat → Int32 → Int32 → yM → Nat → Prop} {R0 : hG → Nat → Nat → Int32 → Int32 → yM → Nat → Int32} {F : hG → Nat → Nat → Int32 → Int32 → yM → Nat → yM} {a0 : Nat} {a1 : Nat} {a2 : Int32} {a3 : Int32} {r : List Value} {w : yW} {K : List Value → yW → Prop} {Y : Nat → yW → Prop} : yfv_LLIIrI g mc ms cs P R0 F (.int a3 :: .int a2 :: .ref a1 :: .ref a0 :: r) w K Y = (yc w.1 a0 ∈ cs ∧ se_c8 8 r ∧ P g a0 a1 a2 a3 w.1 w.2.1 ∧ w.2.2.1 ≤ mc ∧ w.2.2.2 ≤ ms ∧ K (.int (R0 g a0 a1 a2 a3 w.1 w.2.1) :: r) (F g a0 a1 a2 a3 w.1 w.2.1, w.2)) := rfl
theorem yfv_LLIIrI_ok {g : hG} {mc ms : Nat} {cs : List Nat} {P : hG → Nat → Nat → Int32 → Int32 → yM → Nat → Prop} {R0 : hG → Nat → Nat → Int32 → Int32 → yM → Nat → Int32} {F : hG → Nat → Nat → Int32 → Int32 → yM → Nat → yM} {p : Program} {l : Launch} {e : Env} {R : Room} {s : State} {m : MethodId} {args : Array Value} {below : List Frame} {meth : Method} {c : Code} {nL : Nat} {cc : ByteArray} {Q0 : State → Prop} {H0 : Heap} {ins : Instr} {len : Nat} (hS : se_Snd p l e R s m args below meth c Q0 nL (fun a => a) (yRM g H0) cc ins len (yov_LLIIrI g mc ms 0 0 cs P (fun g a0 a1 a2 a3 m n x m' n' => x = R0 g a0 a1 a2 a3 m n ∧ m' = F g a0 a1 a2 a3 m n ∧ n' = n))) : se_Snd p l e R s m args below meth c Q0 nL (fun a => a) (yRM g H0) cc ins len (yfv_LLIIrI g mc ms cs P R0 F) :=
  hS.mono fun st w K Y h => by
    unfold yfv_LLIIrI at h
    split at h
    · rename_i a3 a2 a1 a0 r
      obtain ⟨hc, h8, hP, r1, r2, hq⟩ := h
      exact ⟨hc, h8, hP, r1, r2, fun x m' n' e _ _ => by
              obtain ⟨rfl, rfl, rfl⟩ := e
              exact hq⟩
    · exact h.elim
def yt_LLIIrI (mc ms : Nat) (Q : hG → Nat → Nat → Int32 → Int32 → yM → Nat → Int32 → yM → Nat → Prop) (g : hG) (a0 : Nat) (a1 : Nat) (a2 : Int32) (a3 : Int32) (m : yM) (n : Nat) : Option Value → yW → Prop := yRt (some .int) mc ms ((fun (g : hG) (av : List Value) (m : yM) (n : Nat) (v : Option Value) (m' : yM) (n' : Nat) => ∀ (a0 : Nat) (a1 : Nat) (a2 : Int32) (a3 : Int32), av = [.ref a0, .ref a1, .int a2, .int a3] → ∃ x, v = some (.int x) ∧ Q g a0 a1 a2 a3 m n x m' n') g [.ref a0, .ref a1, .int a2, .int a3] m n)
theorem yt_LLIIrI_e {mc ms : Nat} {Q : hG → Nat → Nat → Int32 → Int32 → yM → Nat → Int32 → yM → Nat → Prop} {g : hG} {a0 : Nat} {a1 : Nat} {a2 : Int32} {a3 : Int32} {m : yM} {n : Nat} {w : yW} {z : Int32} : yt_LLIIrI mc ms Q g a0 a1 a2 a3 m n (some (.int z)) w = (w.2.2.1 ≤ mc ∧ w.2.2.2 ≤ ms ∧ Q g a0 a1 a2 a3 m n z w.1 w.2.1) := by
  apply propext
  constructor
  · intro h
    obtain ⟨x, e, hq⟩ := h.2.2.2 _ _ _ _ rfl
    cases e
    exact ⟨h.2.1, h.2.2.1, hq⟩
  · intro h
    obtain ⟨h1, h2, h3⟩ := h
    exact ⟨⟨_, rfl, rfl⟩, h1, h2, fun _ _ _ _ e => by
      cases e
      exact ⟨z, rfl, h3⟩⟩
theorem ym_LLIIrI_of {l : Launch} {y : MethodName} {own : String} {cc : ByteArray} {maxL fr lo mc ms : Nat} {P : hG → Nat → Nat → Int32 → Int32 → yM → Nat → Prop} {Q : hG → Nat → Nat → Int32 → Int32 → yM → Nat → Int32 → yM → Nat → Prop} {T : hG → Nat → Nat → se_Op yW} (hy : plainName y.cls = true) (hyc : y.cls = own) (hT : yTS l own y.name cc maxL (some .int) fr lo mc ms T) (hL : 4 ≤ maxL)
    (body : ∀ (g : hG) (a0 : Nat) (a1 : Nat) (a2 : Int32) (a3 : Int32) (m : yM) (n : Nat), hVg g → yIn g m n → P g a0 a1 a2 a3 m n → ∀ G : Nat → se_L → List Value → yW → Prop, (∀ (stops : List Nat) (f pc : Nat) (L : se_L) (st : List Value) (w : yW), wpN True (T g) cc stops G (yXt mc ms (yNoX g [.ref a0, .ref a1, .int a2, .int a3] m n)) (yt_LLIIrI mc ms Q g a0 a1 a2 a3 m n) f pc L st w → G pc L st w) → G 0 (se_ent [.ref a0, .ref a1, .int a2, .int a3] maxL) [] (m, n, 0, 0)) : ym_LLIIrI l y (ws_ y cc maxL (some .int)) fr lo mc ms P Q :=
  yOf hy hyc hT (fun g av m n h => by
    obtain ⟨a0, a1, a2, a3, rfl, _⟩ := h
    exact hL) (fun g av m n h1 h2 hp G hG => by
    obtain ⟨a0, a1, a2, a3, rfl, hp⟩ := hp
    exact body g a0 a1 a2 a3 m n h1 h2 hp G hG)
theorem ymx_LLIIrI_of {l : Launch} {y : MethodName} {own : String} {cc : ByteArray} {maxL fr lo mc ms : Nat} {P : hG → Nat → Nat → Int32 → Int32 → yM → Nat → Prop} {Q : hG → Nat → Nat → Int32 → Int32 → yM → Nat → Int32 → yM → Nat → Prop} {X : hG → Nat → Nat → Int32 → Int32 → yM → Nat → Nat → yM → Nat → Prop} {T : hG → Nat → Nat → se_Op yW} (hy : plainName y.cls = true) (hyc : y.cls = own) (hT : yTS l own y.name cc maxL (some .int) fr lo mc ms T) (hL : 4 ≤ maxL)
    (body : ∀ (g : hG) (a0 : Nat) (a1 : Nat) (a2 : Int32) (a3 : Int32) (m : yM) (n : Nat), hVg g → yIn g m n → P g a0 a1 a2 a3 m n → ∀ G : Nat → se_L → List Value → yW → Prop, (∀ (stops : List Nat) (f pc : Nat) (L : se_L) (st : List Value) (w : yW), wpN True (T g) cc stops G (yXt mc ms ((fun (g : hG) (av : List Value) (m : yM) (n : Nat) (b : Nat) (m' : yM) (n' : Nat) => ∃ (a0 : Nat) (a1 : Nat) (a2 : Int32) (a3 : Int32), av = [.ref a0, .ref a1, .int a2, .int a3] ∧ X g a0 a1 a2 a3 m n b m' n') g [.ref a0, .ref a1, .int a2, .int a3] m n)) (yt_LLIIrI mc ms Q g a0 a1 a2 a3 m n) f pc L st w → G pc L st w) → G 0 (se_ent [.ref a0, .ref a1, .int a2, .int a3] maxL) [] (m, n, 0, 0)) : ymx_LLIIrI l y (ws_ y cc maxL (some .int)) fr lo mc ms P Q X :=
  yOf hy hyc hT (fun g av m n h => by
    obtain ⟨a0, a1, a2, a3, rfl, _⟩ := h
    exact hL) (fun g av m n h1 h2 hp G hG => by
    obtain ⟨a0, a1, a2, a3, rfl, hp⟩ := hp
    exact body g a0 a1 a2 a3 m n h1 h2 hp G hG)
abbrev ym_LLIIrV (l : Launch) (y : MethodName) (ws : List Cond) (fr lo mc ms : Nat) (P : hG → Nat → Nat → Int32 → Int32 → yM → Nat → Prop) (Q : hG → Nat → Nat → Int32 → Int32 → yM → Nat → yM → Nat → Prop) : Prop := yCon l y ws fr lo mc ms (fun (g : hG) (av : List Value) (m : yM) (n : Nat) => ∃ (a0 : Nat) (a1 : Nat) (a2 : Int32) (a3 : Int32), av = [.ref a0, .ref a1, .int a2, .int a3] ∧ P g a0 a1 a2 a3 m n) (fun (g : hG) (av : List Value) (m : yM) (n : Nat) (v : Option Value) (m' : yM) (n' : Nat) => ∀ (a0 : Nat) (a1 : Nat) (a2 : Int32) (a3 : Int32), av = [.ref a0, .ref a1, .int a2, .int a3] → v = none ∧ Q g a0 a1 a2 a3 m n m' n') yNoX
def yo_LLIIrV (g : hG) (mc ms mc' ms' : Nat) (P : hG → Nat → Nat → Int32 → Int32 → yM → Nat → Prop) (Q : hG → Nat → Nat → Int32 → Int32 → yM → Nat → yM → Nat → Prop) : se_Op yW := fun st w K Y => match st with
  | .int a3 :: .int a2 :: .ref a1 :: .ref a0 :: r => se_c8 8 r ∧ P g a0 a1 a2 a3 w.1 w.2.1 ∧ w.2.2.1 + mc' ≤ mc ∧ w.2.2.2 + ms' ≤ ms ∧ ∀ m' n', Q g a0 a1 a2 a3 w.1 w.2.1 m' n' → yIn g m' n' → w.2.1 ≤ n' → K r (m', n', w.2.2.1 + mc', w.2.2.2 + ms')
  | _ => False
theorem yo_LLIIrV_r {g : hG} {mc ms mc' ms' : Nat} {P : hG → Nat → Nat → Int32 → Int32 → yM → Nat → Prop} {Q : hG → Nat → Nat → Int32 → Int32 → yM → Nat → yM → Nat → Prop} {a0 : Nat} {a1 : Nat} {a2 : Int32} {a3 : Int32} {r : List Value} {w : yW} {K : List Value → yW → Prop} {Y : Nat → yW → Prop} : yo_LLIIrV g mc ms mc' ms' P Q (.int a3 :: .int a2 :: .ref a1 :: .ref a0 :: r) w K Y = (se_c8 8 r ∧ P g a0 a1 a2 a3 w.1 w.2.1 ∧ w.2.2.1 + mc' ≤ mc ∧ w.2.2.2 + ms' ≤ ms ∧ ∀ m' n', Q g a0 a1 a2 a3 w.1 w.2.1 m' n' → yIn g m' n' → w.2.1 ≤ n' → K r (m', n', w.2.2.1 + mc', w.2.2.2 + ms')) := rfl
theorem yo_LLIIrV_ok {g : hG} {mc ms mc' ms' : Nat} {P : hG → Nat → Nat → Int32 → Int32 → yM → Nat → Prop} {Q : hG → Nat → Nat → Int32 → Int32 → yM → Nat → yM → Nat → Prop} {p : Program} {l : Launch} {e : Env} {R : Room} {s : State} {m : MethodId} {args : Array Value} {below : List Frame} {meth : Method} {c : Code} {nL : Nat} {cc : ByteArray} {Q0 : State → Prop} {H0 : Heap} {ins : Instr} {len : Nat} (hS : se_Snd p l e R s m args below meth c Q0 nL (fun a => a) (yRM g H0) cc ins len (yCS g 4 mc ms mc' ms' (fun (g : hG) (av : List Value) (m : yM) (n : Nat) => ∃ (a0 : Nat) (a1 : Nat) (a2 : Int32) (a3 : Int32), av = [.ref a0, .ref a1, .int a2, .int a3] ∧ P g a0 a1 a2 a3 m n) (fun (g : hG) (av : List Value) (m : yM) (n : Nat) (v : Option Value) (m' : yM) (n' : Nat) => ∀ (a0 : Nat) (a1 : Nat) (a2 : Int32) (a3 : Int32), av = [.ref a0, .ref a1, .int a2, .int a3] → v = none ∧ Q g a0 a1 a2 a3 m n m' n') yNoX)) : se_Snd p l e R s m args below meth c Q0 nL (fun a => a) (yRM g H0) cc ins len (yo_LLIIrV g mc ms mc' ms' P Q) :=
  hS.mono fun st w K Y h => by
    unfold yo_LLIIrV at h
    split at h
    · rename_i a3 a2 a1 a0 r
      obtain ⟨h8, hP, r1, r2, hq⟩ := h
      exact (⟨h8, ⟨a0, a1, a2, a3, rfl, hP⟩, r1, r2, fun v m' n' hp hi hn => by
              obtain ⟨rfl, hx⟩ := hp a0 a1 a2 a3 rfl
              exact hq m' n' hx hi hn, fun b m' n' hp => hp.elim⟩ : yGo g mc ms mc' ms' ((fun (g : hG) (av : List Value) (m : yM) (n : Nat) => ∃ (a0 : Nat) (a1 : Nat) (a2 : Int32) (a3 : Int32), av = [.ref a0, .ref a1, .int a2, .int a3] ∧ P g a0 a1 a2 a3 m n) g) ((fun (g : hG) (av : List Value) (m : yM) (n : Nat) (v : Option Value) (m' : yM) (n' : Nat) => ∀ (a0 : Nat) (a1 : Nat) (a2 : Int32) (a3 : Int32), av = [.ref a0, .ref a1, .int a2, .int a3] → v = none ∧ Q g a0 a1 a2 a3 m n m' n') g) (yNoX g) [.ref a0, .ref a1, .int a2, .int a3] r w K Y)
    · exact h.elim
abbrev ymx_LLIIrV (l : Launch) (y : MethodName) (ws : List Cond) (fr lo mc ms : Nat) (P : hG → Nat → Nat → Int32 → Int32 → yM → Nat → Prop) (Q : hG → Nat → Nat → Int32 → Int32 → yM → Nat → yM → Nat → Prop) (X : hG → Nat → Nat → Int32 → Int32 → yM → Nat → Nat → yM → Nat → Prop) : Prop := yCon l y ws fr lo mc ms (fun (g : hG) (av : List Value) (m : yM) (n : Nat) => ∃ (a0 : Nat) (a1 : Nat) (a2 : Int32) (a3 : Int32), av = [.ref a0, .ref a1, .int a2, .int a3] ∧ P g a0 a1 a2 a3 m n) (fun (g : hG) (av : List Value) (m : yM) (n : Nat) (v : Option Value) (m' : yM) (n' : Nat) => ∀ (a0 : Nat) (a1 : Nat) (a2 : Int32) (a3 : Int32), av = [.ref a0, .ref a1, .int a2, .int a3] → v = none ∧ Q g a0 a1 a2 a3 m n m' n') (fun (g : hG) (av : List Value) (m : yM) (n : Nat) (b : Nat) (m' : yM) (n' : Nat) => ∃ (a0 : Nat) (a1 : Nat) (a2 : Int32) (a3 : Int32), av = [.ref a0, .ref a1, .int a2, .int a3] ∧ X g a0 a1 a2 a3 m n b m' n')
def yox_LLIIrV (g : hG) (mc ms mc' ms' : Nat) (P : hG → Nat → Nat → Int32 → Int32 → yM → Nat → Prop) (Q : hG → Nat → Nat → Int32 → Int32 → yM → Nat → yM → Nat → Prop) (X : hG → Nat → Nat → Int32 → Int32 → yM → Nat → Nat → yM → Nat → Prop) : se_Op yW := fun st w K Y => match st with
  | .int a3 :: .int a2 :: .ref a1 :: .ref a0 :: r => se_c8 8 r ∧ P g a0 a1 a2 a3 w.1 w.2.1 ∧ w.2.2.1 + mc' ≤ mc ∧ w.2.2.2 + ms' ≤ ms ∧ (∀ m' n', Q g a0 a1 a2 a3 w.1 w.2.1 m' n' → yIn g m' n' → w.2.1 ≤ n' → K r (m', n', w.2.2.1 + mc', w.2.2.2 + ms')) ∧ ∀ b m' n', X g a0 a1 a2 a3 w.1 w.2.1 b m' n' → yIn g m' n' → w.2.1 ≤ n' → Y b (m', n', w.2.2.1 + mc', w.2.2.2 + ms')
  | _ => False
theorem yox_LLIIrV_r {g : hG} {mc ms mc' ms' : Nat} {P : hG → Nat → Nat → Int32 → Int32 → yM → Nat → Prop} {Q : hG → Nat → Nat → Int32 → Int32 → yM → Nat → yM → Nat → Prop} {X : hG → Nat → Nat → Int32 → Int32 → yM → Nat → Nat → yM → Nat → Prop} {a0 : Nat} {a1 : Nat} {a2 : Int32} {a3 : Int32} {r : List Value} {w : yW} {K : List Value → yW → Prop} {Y : Nat → yW → Prop} : yox_LLIIrV g mc ms mc' ms' P Q X (.int a3 :: .int a2 :: .ref a1 :: .ref a0 :: r) w K Y = (se_c8 8 r ∧ P g a0 a1 a2 a3 w.1 w.2.1 ∧ w.2.2.1 + mc' ≤ mc ∧ w.2.2.2 + ms' ≤ ms ∧ (∀ m' n', Q g a0 a1 a2 a3 w.1 w.2.1 m' n' → yIn g m' n' → w.2.1 ≤ n' → K r (m', n', w.2.2.1 + mc', w.2.2.2 + ms')) ∧ ∀ b m' n', X g a0 a1 a2 a3 w.1 w.2.1 b m' n' → yIn g m' n' → w.2.1 ≤ n' → Y b (m', n', w.2.2.1 + mc', w.2.2.2 + ms')) := rfl
theorem yox_LLIIrV_ok {g : hG} {mc ms mc' ms' : Nat} {P : hG → Nat → Nat → Int32 → Int32 → yM → Nat → Prop} {Q : hG → Nat → Nat → Int32 → Int32 → yM → Nat → yM → Nat → Prop} {X : hG → Nat → Nat → Int32 → Int32 → yM → Nat → Nat → yM → Nat → Prop} {p : Program} {l : Launch} {e : Env} {R : Room} {s : State} {m : MethodId} {args : Array Value} {below : List Frame} {meth : Method} {c : Code} {nL : Nat} {cc : ByteArray} {Q0 : State → Prop} {H0 : Heap} {ins : Instr} {len : Nat} (hS : se_Snd p l e R s m args below meth c Q0 nL (fun a => a) (yRM g H0) cc ins len (yCS g 4 mc ms mc' ms' (fun (g : hG) (av : List Value) (m : yM) (n : Nat) => ∃ (a0 : Nat) (a1 : Nat) (a2 : Int32) (a3 : Int32), av = [.ref a0, .ref a1, .int a2, .int a3] ∧ P g a0 a1 a2 a3 m n) (fun (g : hG) (av : List Value) (m : yM) (n : Nat) (v : Option Value) (m' : yM) (n' : Nat) => ∀ (a0 : Nat) (a1 : Nat) (a2 : Int32) (a3 : Int32), av = [.ref a0, .ref a1, .int a2, .int a3] → v = none ∧ Q g a0 a1 a2 a3 m n m' n') (fun (g : hG) (av : List Value) (m : yM) (n : Nat) (b : Nat) (m' : yM) (n' : Nat) => ∃ (a0 : Nat) (a1 : Nat) (a2 : Int32) (a3 : Int32), av = [.ref a0, .ref a1, .int a2, .int a3] ∧ X g a0 a1 a2 a3 m n b m' n'))) : se_Snd p l e R s m args below meth c Q0 nL (fun a => a) (yRM g H0) cc ins len (yox_LLIIrV g mc ms mc' ms' P Q X) :=
  hS.mono fun st w K Y h => by
    unfold yox_LLIIrV at h
    split at h
    · rename_i a3 a2 a1 a0 r
      obtain ⟨h8, hP, r1, r2, hq⟩ := h
      exact (⟨h8, ⟨a0, a1, a2, a3, rfl, hP⟩, r1, r2, fun v m' n' hp hi hn => by
              obtain ⟨rfl, hx⟩ := hp a0 a1 a2 a3 rfl
              exact hq.1 m' n' hx hi hn, fun b m' n' hp hi hn => by
              obtain ⟨z0, z1, z2, z3, e, hx⟩ := hp
              cases e
              exact hq.2 b m' n' hx hi hn⟩ : yGo g mc ms mc' ms' ((fun (g : hG) (av : List Value) (m : yM) (n : Nat) => ∃ (a0 : Nat) (a1 : Nat) (a2 : Int32) (a3 : Int32), av = [.ref a0, .ref a1, .int a2, .int a3] ∧ P g a0 a1 a2 a3 m n) g) ((fun (g : hG) (av : List Value) (m : yM) (n : Nat) (v : Option Value) (m' : yM) (n' : Nat) => ∀ (a0 : Nat) (a1 : Nat) (a2 : Int32) (a3 : Int32), av = [.ref a0, .ref a1, .int a2, .int a3] → v = none ∧ Q g a0 a1 a2 a3 m n m' n') g) ((fun (g : hG) (av : List Value) (m : yM) (n : Nat) (b : Nat) (m' : yM) (n' : Nat) => ∃ (a0 : Nat) (a1 : Nat) (a2 : Int32) (a3 : Int32), av = [.ref a0, .ref a1, .int a2, .int a3] ∧ X g a0 a1 a2 a3 m n b m' n') g) [.ref a0, .ref a1, .int a2, .int a3] r w K Y)
    · exact h.elim
def yf_LLIIrV (g : hG) (mc ms : Nat) (P : hG → Nat → Nat → Int32 → Int32 → yM → Nat → Prop) (F : hG → Nat → Nat → Int32 → Int32 → yM → Nat → yM) : se_Op yW := fun st w K Y => match st with
  | .int a3 :: .int a2 :: .ref a1 :: .ref a0 :: r => se_c8 8 r ∧ P g a0 a1 a2 a3 w.1 w.2.1 ∧ w.2.2.1 ≤ mc ∧ w.2.2.2 ≤ ms ∧ K (r) (F g a0 a1 a2 a3 w.1 w.2.1, w.2)
  | _ => False
theorem yf_LLIIrV_r {g : hG} {mc ms : Nat} {P : hG → Nat → Nat → Int32 → Int32 → yM → Nat → Prop} {F : hG → Nat → Nat → Int32 → Int32 → yM → Nat → yM} {a0 : Nat} {a1 : Nat} {a2 : Int32} {a3 : Int32} {r : List Value} {w : yW} {K : List Value → yW → Prop} {Y : Nat → yW → Prop} : yf_LLIIrV g mc ms P F (.int a3 :: .int a2 :: .ref a1 :: .ref a0 :: r) w K Y = (se_c8 8 r ∧ P g a0 a1 a2 a3 w.1 w.2.1 ∧ w.2.2.1 ≤ mc ∧ w.2.2.2 ≤ ms ∧ K (r) (F g a0 a1 a2 a3 w.1 w.2.1, w.2)) := rfl
theorem yf_LLIIrV_ok {g : hG} {mc ms : Nat} {P : hG → Nat → Nat → Int32 → Int32 → yM → Nat → Prop} {F : hG → Nat → Nat → Int32 → Int32 → yM → Nat → yM} {p : Program} {l : Launch} {e : Env} {R : Room} {s : State} {m : MethodId} {args : Array Value} {below : List Frame} {meth : Method} {c : Code} {nL : Nat} {cc : ByteArray} {Q0 : State → Prop} {H0 : Heap} {ins : Instr} {len : Nat} (hS : se_Snd p l e R s m args below meth c Q0 nL (fun a => a) (yRM g H0) cc ins len (yo_LLIIrV g mc ms 0 0 P (fun g a0 a1 a2 a3 m n m' n' => m' = F g a0 a1 a2 a3 m n ∧ n' = n))) : se_Snd p l e R s m args below meth c Q0 nL (fun a => a) (yRM g H0) cc ins len (yf_LLIIrV g mc ms P F) :=
  hS.mono fun st w K Y h => by
    unfold yf_LLIIrV at h
    split at h
    · rename_i a3 a2 a1 a0 r
      obtain ⟨h8, hP, r1, r2, hq⟩ := h
      exact ⟨h8, hP, r1, r2, fun m' n' e _ _ => by
              obtain ⟨rfl, rfl⟩ := e
              exact hq⟩
    · exact h.elim
def yt_LLIIrV (mc ms : Nat) (Q : hG → Nat → Nat → Int32 → Int32 → yM → Nat → yM → Nat → Prop) (g : hG) (a0 : Nat) (a1 : Nat) (a2 : Int32) (a3 : Int32) (m : yM) (n : Nat) : Option Value → yW → Prop := yRt none mc ms ((fun (g : hG) (av : List Value) (m : yM) (n : Nat) (v : Option Value) (m' : yM) (n' : Nat) => ∀ (a0 : Nat) (a1 : Nat) (a2 : Int32) (a3 : Int32), av = [.ref a0, .ref a1, .int a2, .int a3] → v = none ∧ Q g a0 a1 a2 a3 m n m' n') g [.ref a0, .ref a1, .int a2, .int a3] m n)
theorem yt_LLIIrV_e {mc ms : Nat} {Q : hG → Nat → Nat → Int32 → Int32 → yM → Nat → yM → Nat → Prop} {g : hG} {a0 : Nat} {a1 : Nat} {a2 : Int32} {a3 : Int32} {m : yM} {n : Nat} {w : yW} : yt_LLIIrV mc ms Q g a0 a1 a2 a3 m n none w = (w.2.2.1 ≤ mc ∧ w.2.2.2 ≤ ms ∧ Q g a0 a1 a2 a3 m n w.1 w.2.1) := by
  apply propext
  exact ⟨fun h => ⟨h.2.1, h.2.2.1, (h.2.2.2 _ _ _ _ rfl).2⟩, fun h => ⟨rfl, h.1, h.2.1, fun _ _ _ _ e => by
    cases e
    exact ⟨rfl, h.2.2⟩⟩⟩
theorem ym_LLIIrV_of {l : Launch} {y : MethodName} {own : String} {cc : ByteArray} {maxL fr lo mc ms : Nat} {P : hG → Nat → Nat → Int32 → Int32 → yM → Nat → Prop} {Q : hG → Nat → Nat → Int32 → Int32 → yM → Nat → yM → Nat → Prop} {T : hG → Nat → Nat → se_Op yW} (hy : plainName y.cls = true) (hyc : y.cls = own) (hT : yTS l own y.name cc maxL none fr lo mc ms T) (hL : 4 ≤ maxL)
    (body : ∀ (g : hG) (a0 : Nat) (a1 : Nat) (a2 : Int32) (a3 : Int32) (m : yM) (n : Nat), hVg g → yIn g m n → P g a0 a1 a2 a3 m n → ∀ G : Nat → se_L → List Value → yW → Prop, (∀ (stops : List Nat) (f pc : Nat) (L : se_L) (st : List Value) (w : yW), wpN True (T g) cc stops G (yXt mc ms (yNoX g [.ref a0, .ref a1, .int a2, .int a3] m n)) (yt_LLIIrV mc ms Q g a0 a1 a2 a3 m n) f pc L st w → G pc L st w) → G 0 (se_ent [.ref a0, .ref a1, .int a2, .int a3] maxL) [] (m, n, 0, 0)) : ym_LLIIrV l y (ws_ y cc maxL none) fr lo mc ms P Q :=
  yOf hy hyc hT (fun g av m n h => by
    obtain ⟨a0, a1, a2, a3, rfl, _⟩ := h
    exact hL) (fun g av m n h1 h2 hp G hG => by
    obtain ⟨a0, a1, a2, a3, rfl, hp⟩ := hp
    exact body g a0 a1 a2 a3 m n h1 h2 hp G hG)
theorem ymx_LLIIrV_of {l : Launch} {y : MethodName} {own : String} {cc : ByteArray} {maxL fr lo mc ms : Nat} {P : hG → Nat → Nat → Int32 → Int32 → yM → Nat → Prop} {Q : hG → Nat → Nat → Int32 → Int32 → yM → Nat → yM → Nat → Prop} {X : hG → Nat → Nat → Int32 → Int32 → yM → Nat → Nat → yM → Nat → Prop} {T : hG → Nat → Nat → se_Op yW} (hy : plainName y.cls = true) (hyc : y.cls = own) (hT : yTS l own y.name cc maxL none fr lo mc ms T) (hL : 4 ≤ maxL)
    (body : ∀ (g : hG) (a0 : Nat) (a1 : Nat) (a2 : Int32) (a3 : Int32) (m : yM) (n : Nat), hVg g → yIn g m n → P g a0 a1 a2 a3 m n → ∀ G : Nat → se_L → List Value → yW → Prop, (∀ (stops : List Nat) (f pc : Nat) (L : se_L) (st : List Value) (w : yW), wpN True (T g) cc stops G (yXt mc ms ((fun (g : hG) (av : List Value) (m : yM) (n : Nat) (b : Nat) (m' : yM) (n' : Nat) => ∃ (a0 : Nat) (a1 : Nat) (a2 : Int32) (a3 : Int32), av = [.ref a0, .ref a1, .int a2, .int a3] ∧ X g a0 a1 a2 a3 m n b m' n') g [.ref a0, .ref a1, .int a2, .int a3] m n)) (yt_LLIIrV mc ms Q g a0 a1 a2 a3 m n) f pc L st w → G pc L st w) → G 0 (se_ent [.ref a0, .ref a1, .int a2, .int a3] maxL) [] (m, n, 0, 0)) : ymx_LLIIrV l y (ws_ y cc maxL none) fr lo mc ms P Q X :=
  yOf hy hyc hT (fun g av m n h => by
    obtain ⟨a0, a1, a2, a3, rfl, _⟩ := h
    exact hL) (fun g av m n h1 h2 hp G hG => by
    obtain ⟨a0, a1, a2, a3, rfl, hp⟩ := hp
    exact body g a0 a1 a2 a3 m n h1 h2 hp G hG)
abbrev ym_LLILrV (l : Launch) (y : MethodName) (ws : List Cond) (fr lo mc ms : Nat) (P : hG → Nat → Nat → Int32 → Nat → yM → Nat → Prop) (Q : hG → Nat → Nat → Int32 → Nat → yM → Nat → yM → Nat → Prop) : Prop := yCon l y ws fr lo mc ms (fun (g : hG) (av : List Value) (m : yM) (n : Nat) => ∃ (a0 : Nat) (a1 : Nat) (a2 : Int32) (a3 : Nat), av = [.ref a0, .ref a1, .int a2, .ref a3] ∧ P g a0 a1 a2 a3 m n) (fun (g : hG) (av : List Value) (m : yM) (n : Nat) (v : Option Value) (m' : yM) (n' : Nat) => ∀ (a0 : Nat) (a1 : Nat) (a2 : Int32) (a3 : Nat), av = [.ref a0, .ref a1, .int a2, .ref a3] → v = none ∧ Q g a0 a1 a2 a3 m n m' n') yNoX
def yo_LLILrV (g : hG) (mc ms mc' ms' : Nat) (P : hG → Nat → Nat → Int32 → Nat → yM → Nat → Prop) (Q : hG → Nat → Nat → Int32 → Nat → yM → Nat → yM → Nat → Prop) : se_Op yW := fun st w K Y => match st with
  | .ref a3 :: .int a2 :: .ref a1 :: .ref a0 :: r => se_c8 8 r ∧ P g a0 a1 a2 a3 w.1 w.2.1 ∧ w.2.2.1 + mc' ≤ mc ∧ w.2.2.2 + ms' ≤ ms ∧ ∀ m' n', Q g a0 a1 a2 a3 w.1 w.2.1 m' n' → yIn g m' n' → w.2.1 ≤ n' → K r (m', n', w.2.2.1 + mc', w.2.2.2 + ms')
  | _ => False
theorem yo_LLILrV_r {g : hG} {mc ms mc' ms' : Nat} {P : hG → Nat → Nat → Int32 → Nat → yM → Nat → Prop} {Q : hG → Nat → Nat → Int32 → Nat → yM → Nat → yM → Nat → Prop} {a0 : Nat} {a1 : Nat} {a2 : Int32} {a3 : Nat} {r : List Value} {w : yW} {K : List Value → yW → Prop} {Y : Nat → yW → Prop} : yo_LLILrV g mc ms mc' ms' P Q (.ref a3 :: .int a2 :: .ref a1 :: .ref a0 :: r) w K Y = (se_c8 8 r ∧ P g a0 a1 a2 a3 w.1 w.2.1 ∧ w.2.2.1 + mc' ≤ mc ∧ w.2.2.2 + ms' ≤ ms ∧ ∀ m' n', Q g a0 a1 a2 a3 w.1 w.2.1 m' n' → yIn g m' n' → w.2.1 ≤ n' → K r (m', n', w.2.2.1 + mc', w.2.2.2 + ms')) := rfl
theorem yo_LLILrV_ok {g : hG} {mc ms mc' ms' : Nat} {P : hG → Nat → Nat → Int32 → Nat → yM → Nat → Prop} {Q : hG → Nat → Nat → Int32 → Nat → yM → Nat → yM → Nat → Prop} {p : Program} {l : Launch} {e : Env} {R : Room} {s : State} {m : MethodId} {args : Array Value} {below : List Frame} {meth : Method} {c : Code} {nL : Nat} {cc : ByteArray} {Q0 : State → Prop} {H0 : Heap} {ins : Instr} {len : Nat} (hS : se_Snd p l e R s m args below meth c Q0 nL (fun a => a) (yRM g H0) cc ins len (yCS g 4 mc ms mc' ms' (fun (g : hG) (av : List Value) (m : yM) (n : Nat) => ∃ (a0 : Nat) (a1 : Nat) (a2 : Int32) (a3 : Nat), av = [.ref a0, .ref a1, .int a2, .ref a3] ∧ P g a0 a1 a2 a3 m n) (fun (g : hG) (av : List Value) (m : yM) (n : Nat) (v : Option Value) (m' : yM) (n' : Nat) => ∀ (a0 : Nat) (a1 : Nat) (a2 : Int32) (a3 : Nat), av = [.ref a0, .ref a1, .int a2, .ref a3] → v = none ∧ Q g a0 a1 a2 a3 m n m' n') yNoX)) : se_Snd p l e R s m args below meth c Q0 nL (fun a => a) (yRM g H0) cc ins len (yo_LLILrV g mc ms mc' ms' P Q) :=
  hS.mono fun st w K Y h => by
    unfold yo_LLILrV at h
    split at h
    · rename_i a3 a2 a1 a0 r
      obtain ⟨h8, hP, r1, r2, hq⟩ := h
      exact (⟨h8, ⟨a0, a1, a2, a3, rfl, hP⟩, r1, r2, fun v m' n' hp hi hn => by
              obtain ⟨rfl, hx⟩ := hp a0 a1 a2 a3 rfl
              exact hq m' n' hx hi hn, fun b m' n' hp => hp.elim⟩ : yGo g mc ms mc' ms' ((fun (g : hG) (av : List Value) (m : yM) (n : Nat) => ∃ (a0 : Nat) (a1 : Nat) (a2 : Int32) (a3 : Nat), av = [.ref a0, .ref a1, .int a2, .ref a3] ∧ P g a0 a1 a2 a3 m n) g) ((fun (g : hG) (av : List Value) (m : yM) (n : Nat) (v : Option Value) (m' : yM) (n' : Nat) => ∀ (a0 : Nat) (a1 : Nat) (a2 : Int32) (a3 : Nat), av = [.ref a0, .ref a1, .int a2, .ref a3] → v = none ∧ Q g a0 a1 a2 a3 m n m' n') g) (yNoX g) [.ref a0, .ref a1, .int a2, .ref a3] r w K Y)
    · exact h.elim
abbrev ymx_LLILrV (l : Launch) (y : MethodName) (ws : List Cond) (fr lo mc ms : Nat) (P : hG → Nat → Nat → Int32 → Nat → yM → Nat → Prop) (Q : hG → Nat → Nat → Int32 → Nat → yM → Nat → yM → Nat → Prop) (X : hG → Nat → Nat → Int32 → Nat → yM → Nat → Nat → yM → Nat → Prop) : Prop := yCon l y ws fr lo mc ms (fun (g : hG) (av : List Value) (m : yM) (n : Nat) => ∃ (a0 : Nat) (a1 : Nat) (a2 : Int32) (a3 : Nat), av = [.ref a0, .ref a1, .int a2, .ref a3] ∧ P g a0 a1 a2 a3 m n) (fun (g : hG) (av : List Value) (m : yM) (n : Nat) (v : Option Value) (m' : yM) (n' : Nat) => ∀ (a0 : Nat) (a1 : Nat) (a2 : Int32) (a3 : Nat), av = [.ref a0, .ref a1, .int a2, .ref a3] → v = none ∧ Q g a0 a1 a2 a3 m n m' n') (fun (g : hG) (av : List Value) (m : yM) (n : Nat) (b : Nat) (m' : yM) (n' : Nat) => ∃ (a0 : Nat) (a1 : Nat) (a2 : Int32) (a3 : Nat), av = [.ref a0, .ref a1, .int a2, .ref a3] ∧ X g a0 a1 a2 a3 m n b m' n')
def yox_LLILrV (g : hG) (mc ms mc' ms' : Nat) (P : hG → Nat → Nat → Int32 → Nat → yM → Nat → Prop) (Q : hG → Nat → Nat → Int32 → Nat → yM → Nat → yM → Nat → Prop) (X : hG → Nat → Nat → Int32 → Nat → yM → Nat → Nat → yM → Nat → Prop) : se_Op yW := fun st w K Y => match st with
  | .ref a3 :: .int a2 :: .ref a1 :: .ref a0 :: r => se_c8 8 r ∧ P g a0 a1 a2 a3 w.1 w.2.1 ∧ w.2.2.1 + mc' ≤ mc ∧ w.2.2.2 + ms' ≤ ms ∧ (∀ m' n', Q g a0 a1 a2 a3 w.1 w.2.1 m' n' → yIn g m' n' → w.2.1 ≤ n' → K r (m', n', w.2.2.1 + mc', w.2.2.2 + ms')) ∧ ∀ b m' n', X g a0 a1 a2 a3 w.1 w.2.1 b m' n' → yIn g m' n' → w.2.1 ≤ n' → Y b (m', n', w.2.2.1 + mc', w.2.2.2 + ms')
  | _ => False
theorem yox_LLILrV_r {g : hG} {mc ms mc' ms' : Nat} {P : hG → Nat → Nat → Int32 → Nat → yM → Nat → Prop} {Q : hG → Nat → Nat → Int32 → Nat → yM → Nat → yM → Nat → Prop} {X : hG → Nat → Nat → Int32 → Nat → yM → Nat → Nat → yM → Nat → Prop} {a0 : Nat} {a1 : Nat} {a2 : Int32} {a3 : Nat} {r : List Value} {w : yW} {K : List Value → yW → Prop} {Y : Nat → yW → Prop} : yox_LLILrV g mc ms mc' ms' P Q X (.ref a3 :: .int a2 :: .ref a1 :: .ref a0 :: r) w K Y = (se_c8 8 r ∧ P g a0 a1 a2 a3 w.1 w.2.1 ∧ w.2.2.1 + mc' ≤ mc ∧ w.2.2.2 + ms' ≤ ms ∧ (∀ m' n', Q g a0 a1 a2 a3 w.1 w.2.1 m' n' → yIn g m' n' → w.2.1 ≤ n' → K r (m', n', w.2.2.1 + mc', w.2.2.2 + ms')) ∧ ∀ b m' n', X g a0 a1 a2 a3 w.1 w.2.1 b m' n' → yIn g m' n' → w.2.1 ≤ n' → Y b (m', n', w.2.2.1 + mc', w.2.2.2 + ms')) := rfl
theorem yox_LLILrV_ok {g : hG} {mc ms mc' ms' : Nat} {P : hG → Nat → Nat → Int32 → Nat → yM → Nat → Prop} {Q : hG → Nat → Nat → Int32 → Nat → yM → Nat → yM → Nat → Prop} {X : hG → Nat → Nat → Int32 → Nat → yM → Nat → Nat → yM → Nat → Prop} {p : Program} {l : Launch} {e : Env} {R : Room} {s : State} {m : MethodId} {args : Array Value} {below : List Frame} {meth : Method} {c : Code} {nL : Nat} {cc : ByteArray} {Q0 : State → Prop} {H0 : Heap} {ins : Instr} {len : Nat} (hS : se_Snd p l e R s m args below meth c Q0 nL (fun a => a) (yRM g H0) cc ins len (yCS g 4 mc ms mc' ms' (fun (g : hG) (av : List Value) (m : yM) (n : Nat) => ∃ (a0 : Nat) (a1 : Nat) (a2 : Int32) (a3 : Nat), av = [.ref a0, .ref a1, .int a2, .ref a3] ∧ P g a0 a1 a2 a3 m n) (fun (g : hG) (av : List Value) (m : yM) (n : Nat) (v : Option Value) (m' : yM) (n' : Nat) => ∀ (a0 : Nat) (a1 : Nat) (a2 : Int32) (a3 : Nat), av = [.ref a0, .ref a1, .int a2, .ref a3] → v = none ∧ Q g a0 a1 a2 a3 m n m' n') (fun (g : hG) (av : List Value) (m : yM) (n : Nat) (b : Nat) (m' : yM) (n' : Nat) => ∃ (a0 : Nat) (a1 : Nat) (a2 : Int32) (a3 : Nat), av = [.ref a0, .ref a1, .int a2, .ref a3] ∧ X g a0 a1 a2 a3 m n b m' n'))) : se_Snd p l e R s m args below meth c Q0 nL (fun a => a) (yRM g H0) cc ins len (yox_LLILrV g mc ms mc' ms' P Q X) :=
  hS.mono fun st w K Y h => by
    unfold yox_LLILrV at h
    split at h
    · rename_i a3 a2 a1 a0 r
      obtain ⟨h8, hP, r1, r2, hq⟩ := h
      exact (⟨h8, ⟨a0, a1, a2, a3, rfl, hP⟩, r1, r2, fun v m' n' hp hi hn => by
              obtain ⟨rfl, hx⟩ := hp a0 a1 a2 a3 rfl
              exact hq.1 m' n' hx hi hn, fun b m' n' hp hi hn => by
              obtain ⟨z0, z1, z2, z3, e, hx⟩ := hp
              cases e
              exact hq.2 b m' n' hx hi hn⟩ : yGo g mc ms mc' ms' ((fun (g : hG) (av : List Value) (m : yM) (n : Nat) => ∃ (a0 : Nat) (a1 : Nat) (a2 : Int32) (a3 : Nat), av = [.ref a0, .ref a1, .int a2, .ref a3] ∧ P g a0 a1 a2 a3 m n) g) ((fun (g : hG) (av : List Value) (m : yM) (n : Nat) (v : Option Value) (m' : yM) (n' : Nat) => ∀ (a0 : Nat) (a1 : Nat) (a2 : Int32) (a3 : Nat), av = [.ref a0, .ref a1, .int a2, .ref a3] → v = none ∧ Q g a0 a1 a2 a3 m n m' n') g) ((fun (g : hG) (av : List Value) (m : yM) (n : Nat) (b : Nat) (m' : yM) (n' : Nat) => ∃ (a0 : Nat) (a1 : Nat) (a2 : Int32) (a3 : Nat), av = [.ref a0, .ref a1, .int a2, .ref a3] ∧ X g a0 a1 a2 a3 m n b m' n') g) [.ref a0, .ref a1, .int a2, .ref a3] r w K Y)
    · exact h.elim
def yf_LLILrV (g : hG) (mc ms : Nat) (P : hG → Nat → Nat → Int32 → Nat → yM → Nat → Prop) (F : hG → Nat → Nat → Int32 → Nat → yM → Nat → yM) : se_Op yW := fun st w K Y => match st with
  | .ref a3 :: .int a2 :: .ref a1 :: .ref a0 :: r => se_c8 8 r ∧ P g a0 a1 a2 a3 w.1 w.2.1 ∧ w.2.2.1 ≤ mc ∧ w.2.2.2 ≤ ms ∧ K (r) (F g a0 a1 a2 a3 w.1 w.2.1, w.2)
  | _ => False
theorem yf_LLILrV_r {g : hG} {mc ms : Nat} {P : hG → Nat → Nat → Int32 → Nat → yM → Nat → Prop} {F : hG → Nat → Nat → Int32 → Nat → yM → Nat → yM} {a0 : Nat} {a1 : Nat} {a2 : Int32} {a3 : Nat} {r : List Value} {w : yW} {K : List Value → yW → Prop} {Y : Nat → yW → Prop} : yf_LLILrV g mc ms P F (.ref a3 :: .int a2 :: .ref a1 :: .ref a0 :: r) w K Y = (se_c8 8 r ∧ P g a0 a1 a2 a3 w.1 w.2.1 ∧ w.2.2.1 ≤ mc ∧ w.2.2.2 ≤ ms ∧ K (r) (F g a0 a1 a2 a3 w.1 w.2.1, w.2)) := rfl
theorem yf_LLILrV_ok {g : hG} {mc ms : Nat} {P : hG → Nat → Nat → Int32 → Nat → yM → Nat → Prop} {F : hG → Nat → Nat → Int32 → Nat → yM → Nat → yM} {p : Program} {l : Launch} {e : Env} {R : Room} {s : State} {m : MethodId} {args : Array Value} {below : List Frame} {meth : Method} {c : Code} {nL : Nat} {cc : ByteArray} {Q0 : State → Prop} {H0 : Heap} {ins : Instr} {len : Nat} (hS : se_Snd p l e R s m args below meth c Q0 nL (fun a => a) (yRM g H0) cc ins len (yo_LLILrV g mc ms 0 0 P (fun g a0 a1 a2 a3 m n m' n' => m' = F g a0 a1 a2 a3 m n ∧ n' = n))) : se_Snd p l e R s m args below meth c Q0 nL (fun a => a) (yRM g H0) cc ins len (yf_LLILrV g mc ms P F) :=
  hS.mono fun st w K Y h => by
    unfold yf_LLILrV at h
    split at h
    · rename_i a3 a2 a1 a0 r
      obtain ⟨h8, hP, r1, r2, hq⟩ := h
      exact ⟨h8, hP, r1, r2, fun m' n' e _ _ => by
              obtain ⟨rfl, rfl⟩ := e
              exact hq⟩
    · exact h.elim
def yt_LLILrV (mc ms : Nat) (Q : hG → Nat → Nat → Int32 → Nat → yM → Nat → yM → Nat → Prop) (g : hG) (a0 : Nat) (a1 : Nat) (a2 : Int32) (a3 : Nat) (m : yM) (n : Nat) : Option Value → yW → Prop := yRt none mc ms ((fun (g : hG) (av : List Value) (m : yM) (n : Nat) (v : Option Value) (m' : yM) (n' : Nat) => ∀ (a0 : Nat) (a1 : Nat) (a2 : Int32) (a3 : Nat), av = [.ref a0, .ref a1, .int a2, .ref a3] → v = none ∧ Q g a0 a1 a2 a3 m n m' n') g [.ref a0, .ref a1, .int a2, .ref a3] m n)
theorem yt_LLILrV_e {mc ms : Nat} {Q : hG → Nat → Nat → Int32 → Nat → yM → Nat → yM → Nat → Prop} {g : hG} {a0 : Nat} {a1 : Nat} {a2 : Int32} {a3 : Nat} {m : yM} {n : Nat} {w : yW} : yt_LLILrV mc ms Q g a0 a1 a2 a3 m n none w = (w.2.2.1 ≤ mc ∧ w.2.2.2 ≤ ms ∧ Q g a0 a1 a2 a3 m n w.1 w.2.1) := by
  apply propext
  exact ⟨fun h => ⟨h.2.1, h.2.2.1, (h.2.2.2 _ _ _ _ rfl).2⟩, fun h => ⟨rfl, h.1, h.2.1, fun _ _ _ _ e => by
    cases e
    exact ⟨rfl, h.2.2⟩⟩⟩
theorem ym_LLILrV_of {l : Launch} {y : MethodName} {own : String} {cc : ByteArray} {maxL fr lo mc ms : Nat} {P : hG → Nat → Nat → Int32 → Nat → yM → Nat → Prop} {Q : hG → Nat → Nat → Int32 → Nat → yM → Nat → yM → Nat → Prop} {T : hG → Nat → Nat → se_Op yW} (hy : plainName y.cls = true) (hyc : y.cls = own) (hT : yTS l own y.name cc maxL none fr lo mc ms T) (hL : 4 ≤ maxL)
    (body : ∀ (g : hG) (a0 : Nat) (a1 : Nat) (a2 : Int32) (a3 : Nat) (m : yM) (n : Nat), hVg g → yIn g m n → P g a0 a1 a2 a3 m n → ∀ G : Nat → se_L → List Value → yW → Prop, (∀ (stops : List Nat) (f pc : Nat) (L : se_L) (st : List Value) (w : yW), wpN True (T g) cc stops G (yXt mc ms (yNoX g [.ref a0, .ref a1, .int a2, .ref a3] m n)) (yt_LLILrV mc ms Q g a0 a1 a2 a3 m n) f pc L st w → G pc L st w) → G 0 (se_ent [.ref a0, .ref a1, .int a2, .ref a3] maxL) [] (m, n, 0, 0)) : ym_LLILrV l y (ws_ y cc maxL none) fr lo mc ms P Q :=
  yOf hy hyc hT (fun g av m n h => by
    obtain ⟨a0, a1, a2, a3, rfl, _⟩ := h
    exact hL) (fun g av m n h1 h2 hp G hG => by
    obtain ⟨a0, a1, a2, a3, rfl, hp⟩ := hp
    exact body g a0 a1 a2 a3 m n h1 h2 hp G hG)
theorem ymx_LLILrV_of {l : Launch} {y : MethodName} {own : String} {cc : ByteArray} {maxL fr lo mc ms : Nat} {P : hG → Nat → Nat → Int32 → Nat → yM → Nat → Prop} {Q : hG → Nat → Nat → Int32 → Nat → yM → Nat → yM → Nat → Prop} {X : hG → Nat → Nat → Int32 → Nat → yM → Nat → Nat → yM → Nat → Prop} {T : hG → Nat → Nat → se_Op yW} (hy : plainName y.cls = true) (hyc : y.cls = own) (hT : yTS l own y.name cc maxL none fr lo mc ms T) (hL : 4 ≤ maxL)
    (body : ∀ (g : hG) (a0 : Nat) (a1 : Nat) (a2 : Int32) (a3 : Nat) (m : yM) (n : Nat), hVg g → yIn g m n → P g a0 a1 a2 a3 m n → ∀ G : Nat → se_L → List Value → yW → Prop, (∀ (stops : List Nat) (f pc : Nat) (L : se_L) (st : List Value) (w : yW), wpN True (T g) cc stops G (yXt mc ms ((fun (g : hG) (av : List Value) (m : yM) (n : Nat) (b : Nat) (m' : yM) (n' : Nat) => ∃ (a0 : Nat) (a1 : Nat) (a2 : Int32) (a3 : Nat), av = [.ref a0, .ref a1, .int a2, .ref a3] ∧ X g a0 a1 a2 a3 m n b m' n') g [.ref a0, .ref a1, .int a2, .ref a3] m n)) (yt_LLILrV mc ms Q g a0 a1 a2 a3 m n) f pc L st w → G pc L st w) → G 0 (se_ent [.ref a0, .ref a1, .int a2, .ref a3] maxL) [] (m, n, 0, 0)) : ymx_LLILrV l y (ws_ y cc maxL none) fr lo mc ms P Q X :=
  yOf hy hyc hT (fun g av m n h => by
    obtain ⟨a0, a1, a2, a3, rfl, _⟩ := h
    exact hL) (fun g av m n h1 h2 hp G hG => by
    obtain ⟨a0, a1, a2, a3, rfl, hp⟩ := hp
    exact body g a0 a1 a2 a3 m n h1 h2 hp G hG)
abbrev ym_LLIrV (l : Launch) (y : MethodName) (ws : List Cond) (fr lo mc ms : Nat) (P : hG → Nat → Nat → Int32 → yM → Nat → Prop) (Q : hG → Nat → Nat → Int32 → yM → Nat → yM → Nat → Prop) : Prop := yCon l y ws fr lo mc ms (fun (g : hG) (av : List Value) (m : yM) (n : Nat) => ∃ (a0 : Nat) (a1 : Nat) (a2 : Int32), av = [.ref a0, .ref a1, .int a2] ∧ P g a0 a1 a2 m n) (fun (g : hG) (av : List Value) (m : yM) (n : Nat) (v : Option Value) (m' : yM) (n' : Nat) => ∀ (a0 : Nat) (a1 : Nat) (a2 : Int32), av = [.ref a0, .ref a1, .int a2] → v = none ∧ Q g a0 a1 a2 m n m' n') yNoX
def yo_LLIrV (g : hG) (mc ms mc' ms' : Nat) (P : hG → Nat → Nat → Int32 → yM → Nat → Prop) (Q : hG → Nat → Nat → Int32 → yM → Nat → yM → Nat → Prop) : se_Op yW := fun st w K Y => match st with
  | .int a2 :: .ref a1 :: .ref a0 :: r => se_c8 8 r ∧ P g a0 a1 a2 w.1 w.2.1 ∧ w.2.2.1 + mc' ≤ mc ∧ w.2.2.2 + ms' ≤ ms ∧ ∀ m' n', Q g a0 a1 a2 w.1 w.2.1 m' n' → yIn g m' n' → w.2.1 ≤ n' → K r (m', n', w.2.2.1 + mc', w.2.2.2 + ms')
  | _ => False
theorem yo_LLIrV_r {g : hG} {mc ms mc' ms' : Nat} {P : hG → Nat → Nat → Int32 → yM → Nat → Prop} {Q : hG → Nat → Nat → Int32 → yM → Nat → yM → Nat → Prop} {a0 : Nat} {a1 : Nat} {a2 : Int32} {r : List Value} {w : yW} {K : List Value → yW → Prop} {Y : Nat → yW → Prop} : yo_LLIrV g mc ms mc' ms' P Q (.int a2 :: .ref a1 :: .ref a0 :: r) w K Y = (se_c8 8 r ∧ P g a0 a1 a2 w.1 w.2.1 ∧ w.2.2.1 + mc' ≤ mc ∧ w.2.2.2 + ms' ≤ ms ∧ ∀ m' n', Q g a0 a1 a2 w.1 w.2.1 m' n' → yIn g m' n' → w.2.1 ≤ n' → K r (m', n', w.2.2.1 + mc', w.2.2.2 + ms')) := rfl
theorem yo_LLIrV_ok {g : hG} {mc ms mc' ms' : Nat} {P : hG → Nat → Nat → Int32 → yM → Nat → Prop} {Q : hG → Nat → Nat → Int32 → yM → Nat → yM → Nat → Prop} {p : Program} {l : Launch} {e : Env} {R : Room} {s : State} {m : MethodId} {args : Array Value} {below : List Frame} {meth : Method} {c : Code} {nL : Nat} {cc : ByteArray} {Q0 : State → Prop} {H0 : Heap} {ins : Instr} {len : Nat} (hS : se_Snd p l e R s m args below meth c Q0 nL (fun a => a) (yRM g H0) cc ins len (yCS g 3 mc ms mc' ms' (fun (g : hG) (av : List Value) (m : yM) (n : Nat) => ∃ (a0 : Nat) (a1 : Nat) (a2 : Int32), av = [.ref a0, .ref a1, .int a2] ∧ P g a0 a1 a2 m n) (fun (g : hG) (av : List Value) (m : yM) (n : Nat) (v : Option Value) (m' : yM) (n' : Nat) => ∀ (a0 : Nat) (a1 : Nat) (a2 : Int32), av = [.ref a0, .ref a1, .int a2] → v = none ∧ Q g a0 a1 a2 m n m' n') yNoX)) : se_Snd p l e R s m args below meth c Q0 nL (fun a => a) (yRM g H0) cc ins len (yo_LLIrV g mc ms mc' ms' P Q) :=
  hS.mono fun st w K Y h => by
    unfold yo_LLIrV at h
    split at h
    · rename_i a2 a1 a0 r
      obtain ⟨h8, hP, r1, r2, hq⟩ := h
      exact (⟨h8, ⟨a0, a1, a2, rfl, hP⟩, r1, r2, fun v m' n' hp hi hn => by
              obtain ⟨rfl, hx⟩ := hp a0 a1 a2 rfl
              exact hq m' n' hx hi hn, fun b m' n' hp => hp.elim⟩ : yGo g mc ms mc' ms' ((fun (g : hG) (av : List Value) (m : yM) (n : Nat) => ∃ (a0 : Nat) (a1 : Nat) (a2 : Int32), av = [.ref a0, .ref a1, .int a2] ∧ P g a0 a1 a2 m n) g) ((fun (g : hG) (av : List Value) (m : yM) (n : Nat) (v : Option Value) (m' : yM) (n' : Nat) => ∀ (a0 : Nat) (a1 : Nat) (a2 : Int32), av = [.ref a0, .ref a1, .int a2] → v = none ∧ Q g a0 a1 a2 m n m' n') g) (yNoX g) [.ref a0, .ref a1, .int a2] r w K Y)
    · exact h.elim
abbrev ymx_LLIrV (l : Launch) (y : MethodName) (ws : List Cond) (fr lo mc ms : Nat) (P : hG → Nat → Nat → Int32 → yM → Nat → Prop) (Q : hG → Nat → Nat → Int32 → yM → Nat → yM → Nat → Prop) (X : hG → Nat → Nat → Int32 → yM → Nat → Nat → yM → Nat → Prop) : Prop := yCon l y ws fr lo mc ms (fun (g : hG) (av : List Value) (m : yM) (n : Nat) => ∃ (a0 : Nat) (a1 : Nat) (a2 : Int32), av = [.ref a0, .ref a1, .int a2] ∧ P g a0 a1 a2 m n) (fun (g : hG) (av : List Value) (m : yM) (n : Nat) (v : Option Value) (m' : yM) (n' : Nat) => ∀ (a0 : Nat) (a1 : Nat) (a2 : Int32), av = [.ref a0, .ref a1, .int a2] → v = none ∧ Q g a0 a1 a2 m n m' n') (fun (g : hG) (av : List Value) (m : yM) (n : Nat) (b : Nat) (m' : yM) (n' : Nat) => ∃ (a0 : Nat) (a1 : Nat) (a2 : Int32), av = [.ref a0, .ref a1, .int a2] ∧ X g a0 a1 a2 m n b m' n')
def yox_LLIrV (g : hG) (mc ms mc' ms' : Nat) (P : hG → Nat → Nat → Int32 → yM → Nat → Prop) (Q : hG → Nat → Nat → Int32 → yM → Nat → yM → Nat → Prop) (X : hG → Nat → Nat → Int32 → yM → Nat → Nat → yM → Nat → Prop) : se_Op yW := fun st w K Y => match st with
  | .int a2 :: .ref a1 :: .ref a0 :: r => se_c8 8 r ∧ P g a0 a1 a2 w.1 w.2.1 ∧ w.2.2.1 + mc' ≤ mc ∧ w.2.2.2 + ms' ≤ ms ∧ (∀ m' n', Q g a0 a1 a2 w.1 w.2.1 m' n' → yIn g m' n' → w.2.1 ≤ n' → K r (m', n', w.2.2.1 + mc', w.2.2.2 + ms')) ∧ ∀ b m' n', X g a0 a1 a2 w.1 w.2.1 b m' n' → yIn g m' n' → w.2.1 ≤ n' → Y b (m', n', w.2.2.1 + mc', w.2.2.2 + ms')
  | _ => False
theorem yox_LLIrV_r {g : hG} {mc ms mc' ms' : Nat} {P : hG → Nat → Nat → Int32 → yM → Nat → Prop} {Q : hG → Nat → Nat → Int32 → yM → Nat → yM → Nat → Prop} {X : hG → Nat → Nat → Int32 → yM → Nat → Nat → yM → Nat → Prop} {a0 : Nat} {a1 : Nat} {a2 : Int32} {r : List Value} {w : yW} {K : List Value → yW → Prop} {Y : Nat → yW → Prop} : yox_LLIrV g mc ms mc' ms' P Q X (.int a2 :: .ref a1 :: .ref a0 :: r) w K Y = (se_c8 8 r ∧ P g a0 a1 a2 w.1 w.2.1 ∧ w.2.2.1 + mc' ≤ mc ∧ w.2.2.2 + ms' ≤ ms ∧ (∀ m' n', Q g a0 a1 a2 w.1 w.2.1 m' n' → yIn g m' n' → w.2.1 ≤ n' → K r (m', n', w.2.2.1 + mc', w.2.2.2 + ms')) ∧ ∀ b m' n', X g a0 a1 a2 w.1 w.2.1 b m' n' → yIn g m' n' → w.2.1 ≤ n' → Y b (m', n', w.2.2.1 + mc', w.2.2.2 + ms')) := rfl
theorem yox_LLIrV_ok {g : hG} {mc ms mc' ms' : Nat} {P : hG → Nat → Nat → Int32 → yM → Nat → Prop} {Q : hG → Nat → Nat → Int32 → yM → Nat → yM → Nat → Prop} {X : hG → Nat → Nat → Int32 → yM → Nat → Nat → yM → Nat → Prop} {p : Program} {l : Launch} {e : Env} {R : Room} {s : State} {m : MethodId} {args : Array Value} {below : List Frame} {meth : Method} {c : Code} {nL : Nat} {cc : ByteArray} {Q0 : State → Prop} {H0 : Heap} {ins : Instr} {len : Nat} (hS : se_Snd p l e R s m args below meth c Q0 nL (fun a => a) (yRM g H0) cc ins len (yCS g 3 mc ms mc' ms' (fun (g : hG) (av : List Value) (m : yM) (n : Nat) => ∃ (a0 : Nat) (a1 : Nat) (a2 : Int32), av = [.ref a0, .ref a1, .int a2] ∧ P g a0 a1 a2 m n) (fun (g : hG) (av : List Value) (m : yM) (n : Nat) (v : Option Value) (m' : yM) (n' : Nat) => ∀ (a0 : Nat) (a1 : Nat) (a2 : Int32), av = [.ref a0, .ref a1, .int a2] → v = none ∧ Q g a0 a1 a2 m n m' n') (fun (g : hG) (av : List Value) (m : yM) (n : Nat) (b : Nat) (m' : yM) (n' : Nat) => ∃ (a0 : Nat) (a1 : Nat) (a2 : Int32), av = [.ref a0, .ref a1, .int a2] ∧ X g a0 a1 a2 m n b m' n'))) : se_Snd p l e R s m args below meth c Q0 nL (fun a => a) (yRM g H0) cc ins len (yox_LLIrV g mc ms mc' ms' P Q X) :=
  hS.mono fun st w K Y h => by
    unfold yox_LLIrV at h
    split at h
    · rename_i a2 a1 a0 r
      obtain ⟨h8, hP, r1, r2, hq⟩ := h
      exact (⟨h8, ⟨a0, a1, a2, rfl, hP⟩, r1, r2, fun v m' n' hp hi hn => by
              obtain ⟨rfl, hx⟩ := hp a0 a1 a2 rfl
              exact hq.1 m' n' hx hi hn, fun b m' n' hp hi hn => by
              obtain ⟨z0, z1, z2, e, hx⟩ := hp
              cases e
              exact hq.2 b m' n' hx hi hn⟩ : yGo g mc ms mc' ms' ((fun (g : hG) (av : List Value) (m : yM) (n : Nat) => ∃ (a0 : Nat) (a1 : Nat) (a2 : Int32), av = [.ref a0, .ref a1, .int a2] ∧ P g a0 a1 a2 m n) g) ((fun (g : hG) (av : List Value) (m : yM) (n : Nat) (v : Option Value) (m' : yM) (n' : Nat) => ∀ (a0 : Nat) (a1 : Nat) (a2 : Int32), av = [.ref a0, .ref a1, .int a2] → v = none ∧ Q g a0 a1 a2 m n m' n') g) ((fun (g : hG) (av : List Value) (m : yM) (n : Nat) (b : Nat) (m' : yM) (n' : Nat) => ∃ (a0 : Nat) (a1 : Nat) (a2 : Int32), av = [.ref a0, .ref a1, .int a2] ∧ X g a0 a1 a2 m n b m' n') g) [.ref a0, .ref a1, .int a2] r w K Y)
    · exact h.elim
def yf_LLIrV (g : hG) (mc ms : Nat) (P : hG → Nat → Nat → Int32 → yM → Nat → Prop) (F : hG → Nat → Nat → Int32 → yM → Nat → yM) : se_Op yW := fun st w K Y => match st with
  | .int a2 :: .ref a1 :: .ref a0 :: r => se_c8 8 r ∧ P g a0 a1 a2 w.1 w.2.1 ∧ w.2.2.1 ≤ mc ∧ w.2.2.2 ≤ ms ∧ K (r) (F g a0 a1 a2 w.1 w.2.1, w.2)
  | _ => False
theorem yf_LLIrV_r {g : hG} {mc ms : Nat} {P : hG → Nat → Nat → Int32 → yM → Nat → Prop} {F : hG → Nat → Nat → Int32 → yM → Nat → yM} {a0 : Nat} {a1 : Nat} {a2 : Int32} {r : List Value} {w : yW} {K : List Value → yW → Prop} {Y : Nat → yW → Prop} : yf_LLIrV g mc ms P F (.int a2 :: .ref a1 :: .ref a0 :: r) w K Y = (se_c8 8 r ∧ P g a0 a1 a2 w.1 w.2.1 ∧ w.2.2.1 ≤ mc ∧ w.2.2.2 ≤ ms ∧ K (r) (F g a0 a1 a2 w.1 w.2.1, w.2)) := rfl
theorem yf_LLIrV_ok {g : hG} {mc ms : Nat} {P : hG → Nat → Nat → Int32 → yM → Nat → Prop} {F : hG → Nat → Nat → Int32 → yM → Nat → yM} {p : Program} {l : Launch} {e : Env} {R : Room} {s : State} {m : MethodId} {args : Array Value} {below : List Frame} {meth : Method} {c : Code} {nL : Nat} {cc : ByteArray} {Q0 : State → Prop} {H0 : Heap} {ins : Instr} {len : Nat} (hS : se_Snd p l e R s m args below meth c Q0 nL (fun a => a) (yRM g H0) cc ins len (yo_LLIrV g mc ms 0 0 P (fun g a0 a1 a2 m n m' n' => m' = F g a0 a1 a2 m n ∧ n' = n))) : se_Snd p l e R s m args below meth c Q0 nL (fun a => a) (yRM g H0) cc ins len (yf_LLIrV g mc ms P F) :=
  hS.mono fun st w K Y h => by
    unfold yf_LLIrV at h
    split at h
    · rename_i a2 a1 a0 r
      obtain ⟨h8, hP, r1, r2, hq⟩ := h
      exact ⟨h8, hP, r1, r2, fun m' n' e _ _ => by
              obtain ⟨rfl, rfl⟩ := e
              exact hq⟩
    · exact h.elim
def yt_LLIrV (mc ms : Nat) (Q : hG → Nat → Nat → Int32 → yM → Nat → yM → Nat → Prop) (g : hG) (a0 : Nat) (a1 : Nat) (a2 : Int32) (m : yM) (n : Nat) : Option Value → yW → Prop := yRt none mc ms ((fun (g : hG) (av : List Value) (m : yM) (n : Nat) (v : Option Value) (m' : yM) (n' : Nat) => ∀ (a0 : Nat) (a1 : Nat) (a2 : Int32), av = [.ref a0, .ref a1, .int a2] → v = none ∧ Q g a0 a1 a2 m n m' n') g [.ref a0, .ref a1, .int a2] m n)
theorem yt_LLIrV_e {mc ms : Nat} {Q : hG → Nat → Nat → Int32 → yM → Nat → yM → Nat → Prop} {g : hG} {a0 : Nat} {a1 : Nat} {a2 : Int32} {m : yM} {n : Nat} {w : yW} : yt_LLIrV mc ms Q g a0 a1 a2 m n none w = (w.2.2.1 ≤ mc ∧ w.2.2.2 ≤ ms ∧ Q g a0 a1 a2 m n w.1 w.2.1) := by
  apply propext
  exact ⟨fun h => ⟨h.2.1, h.2.2.1, (h.2.2.2 _ _ _ rfl).2⟩, fun h => ⟨rfl, h.1, h.2.1, fun _ _ _ e => by
    cases e
    exact ⟨rfl, h.2.2⟩⟩⟩
theorem ym_LLIrV_of {l : Launch} {y : MethodName} {own : String} {cc : ByteArray} {maxL fr lo mc ms : Nat} {P : hG → Nat → Nat → Int32 → yM → Nat → Prop} {Q : hG → Nat → Nat → Int32 → yM → Nat → yM → Nat → Prop} {T : hG → Nat → Nat → se_Op yW} (hy : plainName y.cls = true) (hyc : y.cls = own) (hT : yTS l own y.name cc maxL none fr lo mc ms T) (hL : 3 ≤ maxL)
    (body : ∀ (g : hG) (a0 : Nat) (a1 : Nat) (a2 : Int32) (m : yM) (n : Nat), hVg g → yIn g m n → P g a0 a1 a2 m n → ∀ G : Nat → se_L → List Value → yW → Prop, (∀ (stops : List Nat) (f pc : Nat) (L : se_L) (st : List Value) (w : yW), wpN True (T g) cc stops G (yXt mc ms (yNoX g [.ref a0, .ref a1, .int a2] m n)) (yt_LLIrV mc ms Q g a0 a1 a2 m n) f pc L st w → G pc L st w) → G 0 (se_ent [.ref a0, .ref a1, .int a2] maxL) [] (m, n, 0, 0)) : ym_LLIrV l y (ws_ y cc maxL none) fr lo mc ms P Q :=
  yOf hy hyc hT (fun g av m n h => by
    obtain ⟨a0, a1, a2, rfl, _⟩ := h
    exact hL) (fun g av m n h1 h2 hp G hG => by
    obtain ⟨a0, a1, a2, rfl, hp⟩ := hp
    exact body g a0 a1 a2 m n h1 h2 hp G hG)
theorem ymx_LLIrV_of {l : Launch} {y : MethodName} {own : String} {cc : ByteArray} {maxL fr lo mc ms : Nat} {P : hG → Nat → Nat → Int32 → yM → Nat → Prop} {Q : hG → Nat → Nat → Int32 → yM → Nat → yM → Nat → Prop} {X : hG → Nat → Nat → Int32 → yM → Nat → Nat → yM → Nat → Prop} {T : hG → Nat → Nat → se_Op yW} (hy : plainName y.cls = true) (hyc : y.cls = own) (hT : yTS l own y.name cc maxL none fr lo mc ms T) (hL : 3 ≤ maxL)
    (body : ∀ (g : hG) (a0 : Nat) (a1 : Nat) (a2 : Int32) (m : yM) (n : Nat), hVg g → yIn g m n → P g a0 a1 a2 m n → ∀ G : Nat → se_L → List Value → yW → Prop, (∀ (stops : List Nat) (f pc : Nat) (L : se_L) (st : List Value) (w : yW), wpN True (T g) cc stops G (yXt mc ms ((fun (g : hG) (av : List Value) (m : yM) (n : Nat) (b : Nat) (m' : yM) (n' : Nat) => ∃ (a0 : Nat) (a1 : Nat) (a2 : Int32), av = [.ref a0, .ref a1, .int a2] ∧ X g a0 a1 a2 m n b m' n') g [.ref a0, .ref a1, .int a2] m n)) (yt_LLIrV mc ms Q g a0 a1 a2 m n) f pc L st w → G pc L st w) → G 0 (se_ent [.ref a0, .ref a1, .int a2] maxL) [] (m, n, 0, 0)) : ymx_LLIrV l y (ws_ y cc maxL none) fr lo mc ms P Q X :=
  yOf hy hyc hT (fun g av m n h => by
    obtain ⟨a0, a1, a2, rfl, _⟩ := h
    exact hL) (fun g av m n h1 h2 hp G hG => by
    obtain ⟨a0, a1, a2, rfl, hp⟩ := hp
    exact body g a0 a1 a2 m n h1 h2 hp G hG)
abbrev ym_LLIrZ (l : Launch) (y : MethodName) (ws : List Cond) (fr lo mc ms : Nat) (P : hG → Nat → Nat → Int32 → yM → Nat → Prop) (Q : hG → Nat → Nat → Int32 → yM → Nat → Bool → yM → Nat → Prop) : Prop := yCon l y ws fr lo mc ms (fun (g : hG) (av : List Value) (m : yM) (n : Nat) => ∃ (a0 : Nat) (a1 : Nat) (a2 : Int32), av = [.ref a0, .ref a1, .int a2] ∧ P g a0 a1 a2 m n) (fun (g : hG) (av : List Value) (m : yM) (n : Nat) (v : Option Value) (m' : yM) (n' : Nat) => ∀ (a0 : Nat) (a1 : Nat) (a2 : Int32), av = [.ref a0, .ref a1, .int a2] → ∃ x, v = some (.int (bI x)) ∧ Q g a0 a1 a2 m n x m' n') yNoX
def yo_LLIrZ (g : hG) (mc ms mc' ms' : Nat) (P : hG → Nat → Nat → Int32 → yM → Nat → Prop) (Q : hG → Nat → Nat → Int32 → yM → Nat → Bool → yM → Nat → Prop) : se_Op yW := fun st w K Y => match st with
  | .int a2 :: .ref a1 :: .ref a0 :: r => se_c8 8 r ∧ P g a0 a1 a2 w.1 w.2.1 ∧ w.2.2.1 + mc' ≤ mc ∧ w.2.2.2 + ms' ≤ ms ∧ ∀ x m' n', Q g a0 a1 a2 w.1 w.2.1 x m' n' → yIn g m' n' → w.2.1 ≤ n' → K (.int (bI x) :: r) (m', n', w.2.2.1 + mc', w.2.2.2 + ms')
  | _ => False
theorem yo_LLIrZ_r {g : hG} {mc ms mc' ms' : Nat} {P : hG → Nat → Nat → Int32 → yM → Nat → Prop} {Q : hG → Nat → Nat → Int32 → yM → Nat → Bool → yM → Nat → Prop} {a0 : Nat} {a1 : Nat} {a2 : Int32} {r : List Value} {w : yW} {K : List Value → yW → Prop} {Y : Nat → yW → Prop} : yo_LLIrZ g mc ms mc' ms' P Q (.int a2 :: .ref a1 :: .ref a0 :: r) w K Y = (se_c8 8 r ∧ P g a0 a1 a2 w.1 w.2.1 ∧ w.2.2.1 + mc' ≤ mc ∧ w.2.2.2 + ms' ≤ ms ∧ ∀ x m' n', Q g a0 a1 a2 w.1 w.2.1 x m' n' → yIn g m' n' → w.2.1 ≤ n' → K (.int (bI x) :: r) (m', n', w.2.2.1 + mc', w.2.2.2 + ms')) := rfl
theorem yo_LLIrZ_ok {g : hG} {mc ms mc' ms' : Nat} {P : hG → Nat → Nat → Int32 → yM → Nat → Prop} {Q : hG → Nat → Nat → Int32 → yM → Nat → Bool → yM → Nat → Prop} {p : Program} {l : Launch} {e : Env} {R : Room} {s : State} {m : MethodId} {args : Array Value} {below : List Frame} {meth : Method} {c : Code} {nL : Nat} {cc : ByteArray} {Q0 : State → Prop} {H0 : Heap} {ins : Instr} {len : Nat} (hS : se_Snd p l e R s m args below meth c Q0 nL (fun a => a) (yRM g H0) cc ins len (yCS g 3 mc ms mc' ms' (fun (g : hG) (av : List Value) (m : yM) (n : Nat) => ∃ (a0 : Nat) (a1 : Nat) (a2 : Int32), av = [.ref a0, .ref a1, .int a2] ∧ P g a0 a1 a2 m n) (fun (g : hG) (av : List Value) (m : yM) (n : Nat) (v : Option Value) (m' : yM) (n' : Nat) => ∀ (a0 : Nat) (a1 : Nat) (a2 : Int32), av = [.ref a0, .ref a1, .int a2] → ∃ x, v = some (.int (bI x)) ∧ Q g a0 a1 a2 m n x m' n') yNoX)) : se_Snd p l e R s m args below meth c Q0 nL (fun a => a) (yRM g H0) cc ins len (yo_LLIrZ g mc ms mc' ms' P Q) :=
  hS.mono fun st w K Y h => by
    unfold yo_LLIrZ at h
    split at h
    · rename_i a2 a1 a0 r
      obtain ⟨h8, hP, r1, r2, hq⟩ := h
      exact (⟨h8, ⟨a0, a1, a2, rfl, hP⟩, r1, r2, fun v m' n' hp hi hn => by
              obtain ⟨x, rfl, hx⟩ := hp a0 a1 a2 rfl
              exact hq x m' n' hx hi hn, fun b m' n' hp => hp.elim⟩ : yGo g mc ms mc' ms' ((fun (g : hG) (av : List Value) (m : yM) (n : Nat) => ∃ (a0 : Nat) (a1 : Nat) (a2 : Int32), av = [.ref a0, .ref a1, .int a2] ∧ P g a0 a1 a2 m n) g) ((fun (g : hG) (av : List Value) (m : yM) (n : Nat) (v : Option Value) (m' : yM) (n' : Nat) => ∀ (a0 : Nat) (a1 : Nat) (a2 : Int32), av = [.ref a0, .ref a1, .int a2] → ∃ x, v = some (.int (bI x)) ∧ Q g a0 a1 a2 m n x m' n') g) (yNoX g) [.ref a0, .ref a1, .int a2] r w K Y)
    · exact h.elim
def yov_LLIrZ (g : hG) (mc ms mc' ms' : Nat) (cs : List Nat) (P : hG → Nat → Nat → Int32 → yM → Nat → Prop) (Q : hG → Nat → Nat → Int32 → yM → Nat → Bool → yM → Nat → Prop) : se_Op yW := fun st w K Y => match st with
  | .int a2 :: .ref a1 :: .ref a0 :: r => yc w.1 a0 ∈ cs ∧ se_c8 8 r ∧ P g a0 a1 a2 w.1 w.2.1 ∧ w.2.2.1 + mc' ≤ mc ∧ w.2.2.2 + ms' ≤ ms ∧ ∀ x m' n', Q g a0 a1 a2 w.1 w.2.1 x m' n' → yIn g m' n' → w.2.1 ≤ n' → K (.int (bI x) :: r) (m', n', w.2.2.1 + mc', w.2.2.2 + ms')
  | _ => False
theorem yov_LLIrZ_r {g : hG} {mc ms mc' ms' : Nat} {cs : List Nat} {P : hG → Nat → Nat → Int32 → yM → Nat → Prop} {Q : hG → Nat → Nat → Int32 → yM → Nat → Bool → yM → Nat → Prop} {a0 : Nat} {a1 : Nat} {a2 : Int32} {r : List Value} {w : yW} {K : List Value → yW → Prop} {Y : Nat → yW → Prop} : yov_LLIrZ g mc ms mc' ms' cs P Q (.int a2 :: .ref a1 :: .ref a0 :: r) w K Y = (yc w.1 a0 ∈ cs ∧ se_c8 8 r ∧ P g a0 a1 a2 w.1 w.2.1 ∧ w.2.2.1 + mc' ≤ mc ∧ w.2.2.2 + ms' ≤ ms ∧ ∀ x m' n', Q g a0 a1 a2 w.1 w.2.1 x m' n' → yIn g m' n' → w.2.1 ≤ n' → K (.int (bI x) :: r) (m', n', w.2.2.1 + mc', w.2.2.2 + ms')) := rfl
theorem yov_LLIrZ_ok {g : hG} {mc ms mc' ms' : Nat} {cs : List Nat} {P : hG → Nat → Nat → Int32 → yM → Nat → Prop} {Q : hG → Nat → Nat → Int32 → yM → Nat → Bool → yM → Nat → Prop} {p : Program} {l : Launch} {e : Env} {R : Room} {s : State} {m : MethodId} {args : Array Value} {below : List Frame} {meth : Method} {c : Code} {nL : Nat} {cc : ByteArray} {Q0 : State → Prop} {H0 : Heap} {ins : Instr} {len : Nat} (hS : se_Snd p l e R s m args below meth c Q0 nL (fun a => a) (yRM g H0) cc ins len (yCV g 2 mc ms mc' ms' cs (fun (g : hG) (av : List Value) (m : yM) (n : Nat) => ∃ (a0 : Nat) (a1 : Nat) (a2 : Int32), av = [.ref a0, .ref a1, .int a2] ∧ P g a0 a1 a2 m n) (fun (g : hG) (av : List Value) (m : yM) (n : Nat) (v : Option Value) (m' : yM) (n' : Nat) => ∀ (a0 : Nat) (a1 : Nat) (a2 : Int32), av = [.ref a0, .ref a1, .int a2] → ∃ x, v = some (.int (bI x)) ∧ Q g a0 a1 a2 m n x m' n') yNoX)) : se_Snd p l e R s m args below meth c Q0 nL (fun a => a) (yRM g H0) cc ins len (yov_LLIrZ g mc ms mc' ms' cs P Q) :=
  hS.mono fun st w K Y h => by
    unfold yov_LLIrZ at h
    split at h
    · rename_i a2 a1 a0 r
      obtain ⟨hc, h8, hP, r1, r2, hq⟩ := h
      exact (⟨hc, h8, ⟨a0, a1, a2, rfl, hP⟩, r1, r2, fun v m' n' hp hi hn => by
              obtain ⟨x, rfl, hx⟩ := hp a0 a1 a2 rfl
              exact hq x m' n' hx hi hn, fun b m' n' hp => hp.elim⟩ : (yRcv cs w.1 [.ref a0, .ref a1, .int a2] ∧ yGo g mc ms mc' ms' ((fun (g : hG) (av : List Value) (m : yM) (n : Nat) => ∃ (a0 : Nat) (a1 : Nat) (a2 : Int32), av = [.ref a0, .ref a1, .int a2] ∧ P g a0 a1 a2 m n) g) ((fun (g : hG) (av : List Value) (m : yM) (n : Nat) (v : Option Value) (m' : yM) (n' : Nat) => ∀ (a0 : Nat) (a1 : Nat) (a2 : Int32), av = [.ref a0, .ref a1, .int a2] → ∃ x, v = some (.int (bI x)) ∧ Q g a0 a1 a2 m n x m' n') g) (yNoX g) [.ref a0, .ref a1, .int a2] r w K Y))
    · exact h.elim
def yp_LLIrZ (g : hG) (mc ms : Nat) (P : hG → Nat → Nat → Int32 → yM → Nat → Prop) (R0 : hG → Nat → Nat → Int32 → yM → Nat → Bool) : se_Op yW := fun st w K Y => match st with
  | .int a2 :: .ref a1 :: .ref a0 :: r => se_c8 8 r ∧ P g a0 a1 a2 w.1 w.2.1 ∧ w.2.2.1 ≤ mc ∧ w.2.2.2 ≤ ms ∧ K (.int (bI (R0 g a0 a1 a2 w.1 w.2.1)) :: r) w
  | _ => False
theorem yp_LLIrZ_r {g : hG} {mc ms : Nat} {P : hG → Nat → Nat → Int32 → yM → Nat → Prop} {R0 : hG → Nat → Nat → Int32 → yM → Nat → Bool} {a0 : Nat} {a1 : Nat} {a2 : Int32} {r : List Value} {w : yW} {K : List Value → yW → Prop} {Y : Nat → yW → Prop} : yp_LLIrZ g mc ms P R0 (.int a2 :: .ref a1 :: .ref a0 :: r) w K Y = (se_c8 8 r ∧ P g a0 a1 a2 w.1 w.2.1 ∧ w.2.2.1 ≤ mc ∧ w.2.2.2 ≤ ms ∧ K (.int (bI (R0 g a0 a1 a2 w.1 w.2.1)) :: r) w) := rfl
theorem yp_LLIrZ_ok {g : hG} {mc ms : Nat} {P : hG → Nat → Nat → Int32 → yM → Nat → Prop} {R0 : hG → Nat → Nat → Int32 → yM → Nat → Bool} {p : Program} {l : Launch} {e : Env} {R : Room} {s : State} {m : MethodId} {args : Array Value} {below : List Frame} {meth : Method} {c : Code} {nL : Nat} {cc : ByteArray} {Q0 : State → Prop} {H0 : Heap} {ins : Instr} {len : Nat} (hS : se_Snd p l e R s m args below meth c Q0 nL (fun a => a) (yRM g H0) cc ins len (yo_LLIrZ g mc ms 0 0 P (fun g a0 a1 a2 m n x m' n' => x = R0 g a0 a1 a2 m n ∧ m' = m ∧ n' = n))) : se_Snd p l e R s m args below meth c Q0 nL (fun a => a) (yRM g H0) cc ins len (yp_LLIrZ g mc ms P R0) :=
  hS.mono fun st w K Y h => by
    unfold yp_LLIrZ at h
    split at h
    · rename_i a2 a1 a0 r
      obtain ⟨h8, hP, r1, r2, hq⟩ := h
      exact ⟨h8, hP, r1, r2, fun x m' n' e _ _ => by
              obtain ⟨rfl, rfl, rfl⟩ := e
              exact hq⟩
    · exact h.elim
def ypv_LLIrZ (g : hG) (mc ms : Nat) (cs : List Nat) (P : hG → Nat → Nat → Int32 → yM → Nat → Prop) (R0 : hG → Nat → Nat → Int32 → yM → Nat → Bool) : se_Op yW := fun st w K Y => match st with
  | .int a2 :: .ref a1 :: .ref a0 :: r => yc w.1 a0 ∈ cs ∧ se_c8 8 r ∧ P g a0 a1 a2 w.1 w.2.1 ∧ w.2.2.1 ≤ mc ∧ w.2.2.2 ≤ ms ∧ K (.int (bI (R0 g a0 a1 a2 w.1 w.2.1)) :: r) w
  | _ => False
theorem ypv_LLIrZ_r {g : hG} {mc ms : Nat} {cs : List Nat} {P : hG → Nat → Nat → Int32 → yM → Nat → Prop} {R0 : hG → Nat → Nat → Int32 → yM → Nat → Bool} {a0 : Nat} {a1 : Nat} {a2 : Int32} {r : List Value} {w : yW} {K : List Value → yW → Prop} {Y : Nat → yW → Prop} : ypv_LLIrZ g mc ms cs P R0 (.int a2 :: .ref a1 :: .ref a0 :: r) w K Y = (yc w.1 a0 ∈ cs ∧ se_c8 8 r ∧ P g a0 a1 a2 w.1 w.2.1 ∧ w.2.2.1 ≤ mc ∧ w.2.2.2 ≤ ms ∧ K (.int (bI (R0 g a0 a1 a2 w.1 w.2.1)) :: r) w) := rfl
theorem ypv_LLIrZ_ok {g : hG} {mc ms : Nat} {cs : List Nat} {P : hG → Nat → Nat → Int32 → yM → Nat → Prop} {R0 : hG → Nat → Nat → Int32 → yM → Nat → Bool} {p : Program} {l : Launch} {e : Env} {R : Room} {s : State} {m : MethodId} {args : Array Value} {below : List Frame} {meth : Method} {c : Code} {nL : Nat} {cc : ByteArray} {Q0 : State → Prop} {H0 : Heap} {ins : Instr} {len : Nat} (hS : se_Snd p l e R s m args below meth c Q0 nL (fun a => a) (yRM g H0) cc ins len (yov_LLIrZ g mc ms 0 0 cs P (fun g a0 a1 a2 m n x m' n' => x = R0 g a0 a1 a2 m n ∧ m' = m ∧ n' = n))) : se_Snd p l e R s m args below meth c Q0 nL (fun a => a) (yRM g H0) cc ins len (ypv_LLIrZ g mc ms cs P R0) :=
  hS.mono fun st w K Y h => by
    unfold ypv_LLIrZ at h
    split at h
    · rename_i a2 a1 a0 r
      obtain ⟨hc, h8, hP, r1, r2, hq⟩ := h
      exact ⟨hc, h8, hP, r1, r2, fun x m' n' e _ _ => by
              obtain ⟨rfl, rfl, rfl⟩ := e
              exact hq⟩
    · exact h.elim
def yf_LLIrZ (g : hG) (mc ms : Nat) (P : hG → Nat → Nat → Int32 → yM → Nat → Prop) (R0 : hG → Nat → Nat → Int32 → yM → Nat → Bool) (F : hG → Nat → Nat → Int32 → yM → Nat → yM) : se_Op yW := fun st w K Y => match st with
  | .int a2 :: .ref a1 :: .ref a0 :: r => se_c8 8 r ∧ P g a0 a1 a2 w.1 w.2.1 ∧ w.2.2.1 ≤ mc ∧ w.2.2.2 ≤ ms ∧ K (.int (bI (R0 g a0 a1 a2 w.1 w.2.1)) :: r) (F g a0 a1 a2 w.1 w.2.1, w.2)
  | _ => False
theorem yf_LLIrZ_r {g : hG} {mc ms : Nat} {P : hG → Nat → Nat → Int32 → yM → Nat → Prop} {R0 : hG → Nat → Nat → Int32 → yM → Nat → Bool} {F : hG → Nat → Nat → Int32 → yM → Nat → yM} {a0 : Nat} {a1 : Nat} {a2 : Int32} {r : List Value} {w : yW} {K : List Value → yW → Prop} {Y : Nat → yW → Prop} : yf_LLIrZ g mc ms P R0 F (.int a2 :: .ref a1 :: .ref a0 :: r) w K Y = (se_c8 8 r ∧ P g a0 a1 a2 w.1 w.2.1 ∧ w.2.2.1 ≤ mc ∧ w.2.2.2 ≤ ms ∧ K (.int (bI (R0 g a0 a1 a2 w.1 w.2.1)) :: r) (F g a0 a1 a2 w.1 w.2.1, w.2)) := rfl
theorem yf_LLIrZ_ok {g : hG} {mc ms : Nat} {P : hG → Nat → Nat → Int32 → yM → Nat → Prop} {R0 : hG → Nat → Nat → Int32 → yM → Nat → Bool} {F : hG → Nat → Nat → Int32 → yM → Nat → yM} {p : Program} {l : Launch} {e : Env} {R : Room} {s : State} {m : MethodId} {args : Array Value} {below : List Frame} {meth : Method} {c : Code} {nL : Nat} {cc : ByteArray} {Q0 : State → Prop} {H0 : Heap} {ins : Instr} {len : Nat} (hS : se_Snd p l e R s m args below meth c Q0 nL (fun a => a) (yRM g H0) cc ins len (yo_LLIrZ g mc ms 0 0 P (fun g a0 a1 a2 m n x m' n' => x = R0 g a0 a1 a2 m n ∧ m' = F g a0 a1 a2 m n ∧ n' = n))) : se_Snd p l e R s m args below meth c Q0 nL (fun a => a) (yRM g H0) cc ins len (yf_LLIrZ g mc ms P R0 F) :=
  hS.mono fun st w K Y h => by
    unfold yf_LLIrZ at h
    split at h
    · rename_i a2 a1 a0 r
      obtain ⟨h8, hP, r1, r2, hq⟩ := h
      exact ⟨h8, hP, r1, r2, fun x m' n' e _ _ => by
              obtain ⟨rfl, rfl, rfl⟩ := e
              exact hq⟩
    · exact h.elim
def yfv_LLIrZ (g : hG) (mc ms : Nat) (cs : List Nat) (P : hG → Nat → Nat → Int32 → yM → Nat → Prop) (R0 : hG → Nat → Nat → Int32 → yM → Nat → Bool) (F : hG → Nat → Nat → Int32 → yM → Nat → yM) : se_Op yW := fun st w K Y => match st with
  | .int a2 :: .ref a1 :: .ref a0 :: r => yc w.1 a0 ∈ cs ∧ se_c8 8 r ∧ P g a0 a1 a2 w.1 w.2.1 ∧ w.2.2.1 ≤ mc ∧ w.2.2.2 ≤ ms ∧ K (.int (bI (R0 g a0 a1 a2 w.1 w.2.1)) :: r) (F g a0 a1 a2 w.1 w.2.1, w.2)
  | _ => False
theorem yfv_LLIrZ_r {g : hG} {mc ms : Nat} {cs : List Nat} {P : hG → Nat → Nat → Int32 → yM → Nat → Prop} {R0 : hG → Nat → Nat → Int32 → yM → Nat → Bool} {F : hG → Nat → Nat → Int32 → yM → Nat → yM} {a0 : Nat} {a1 : Nat} {a2 : Int32} {r : List Value} {w : yW} {K : List Value → yW → Prop} {Y : Nat → yW → Prop} : yfv_LLIrZ g mc ms cs P R0 F (.int a2 :: .ref a1 :: .ref a0 :: r) w K Y = (yc w.1 a0 ∈ cs ∧ se_c8 8 r ∧ P g a0 a1 a2 w.1 w.2.1 ∧ w.2.2.1 ≤ mc ∧ w.2.2.2 ≤ ms ∧ K (.int (bI (R0 g a0 a1 a2 w.1 w.2.1)) :: r) (F g a0 a1 a2 w.1 w.2.1, w.2)) := rfl
theorem yfv_LLIrZ_ok {g : hG} {mc ms : Nat} {cs : List Nat} {P : hG → Nat → Nat → Int32 → yM → Nat → Prop} {R0 : hG → Nat → Nat → Int32 → yM → Nat → Bool} {F : hG → Nat → Nat → Int32 → yM → Nat → yM} {p : Program} {l : Launch} {e : Env} {R : Room} {s : State} {m : MethodId} {args : Array Value} {below : List Frame} {meth : Method} {c : Code} {nL : Nat} {cc : ByteArray} {Q0 : State → Prop} {H0 : Heap} {ins : Instr} {len : Nat} (hS : se_Snd p l e R s m args below meth c Q0 nL (fun a => a) (yRM g H0) cc ins len (yov_LLIrZ g mc ms 0 0 cs P (fun g a0 a1 a2 m n x m' n' => x = R0 g a0 a1 a2 m n ∧ m' = F g a0 a1 a2 m n ∧ n' = n))) : se_Snd p l e R s m args below meth c Q0 nL (fun a => a) (yRM g H0) cc ins len (yfv_LLIrZ g mc ms cs P R0 F) :=
  hS.mono fun st w K Y h => by
    unfold yfv_LLIrZ at h
    split at h
    · rename_i a2 a1 a0 r
      obtain ⟨hc, h8, hP, r1, r2, hq⟩ := h
      exact ⟨hc, h8, hP, r1, r2, fun x m' n' e _ _ => by
              obtain ⟨rfl, rfl, rfl⟩ := e
              exact hq⟩
    · exact h.elim
def yt_LLIrZ (mc ms : Nat) (Q : hG → Nat → Nat → Int32 → yM → Nat → Bool → yM → Nat → Prop) (g : hG) (a0 : Nat) (a1 : Nat) (a2 : Int32) (m : yM) (n : Nat) : Option Value → yW → Prop := yRt (some .boolean) mc ms ((fun (g : hG) (av : List Value) (m : yM) (n : Nat) (v : Option Value) (m' : yM) (n' : Nat) => ∀ (a0 : Nat) (a1 : Nat) (a2 : Int32), av = [.ref a0, .ref a1, .int a2] → ∃ x, v = some (.int (bI x)) ∧ Q g a0 a1 a2 m n x m' n') g [.ref a0, .ref a1, .int a2] m n)
theorem yt_LLIrZ_e {mc ms : Nat} {Q : hG → Nat → Nat → Int32 → yM → Nat → Bool → yM → Nat → Prop} {g : hG} {a0 : Nat} {a1 : Nat} {a2 : Int32} {m : yM} {n : Nat} {w : yW} {z : Int32} : yt_LLIrZ mc ms Q g a0 a1 a2 m n (some (.int z)) w = (w.2.2.1 ≤ mc ∧ w.2.2.2 ≤ ms ∧ rz z fun x => Q g a0 a1 a2 m n x w.1 w.2.1) := by
  apply propext
  constructor
  · intro h
    obtain ⟨x, e, hq⟩ := h.2.2.2 _ _ _ rfl
    cases e
    exact ⟨h.2.1, h.2.2.1, ⟨x, rfl, hq⟩⟩
  · intro h
    obtain ⟨h1, h2, h3⟩ := h
    obtain ⟨x, rfl, h3⟩ := h3
    exact ⟨⟨_, rfl, bI_nar x⟩, h1, h2, fun _ _ _ e => by
      cases e
      exact ⟨x, rfl, h3⟩⟩
theorem ym_LLIrZ_of {l : Launch} {y : MethodName} {own : String} {cc : ByteArray} {maxL fr lo mc ms : Nat} {P : hG → Nat → Nat → Int32 → yM → Nat → Prop} {Q : hG → Nat → Nat → Int32 → yM → Nat → Bool → yM → Nat → Prop} {T : hG → Nat → Nat → se_Op yW} (hy : plainName y.cls = true) (hyc : y.cls = own) (hT : yTS l own y.name cc maxL (some .boolean) fr lo mc ms T) (hL : 3 ≤ maxL)
    (body : ∀ (g : hG) (a0 : Nat) (a1 : Nat) (a2 : Int32) (m : yM) (n : Nat), hVg g → yIn g m n → P g a0 a1 a2 m n → ∀ G : Nat → se_L → List Value → yW → Prop, (∀ (stops : List Nat) (f pc : Nat) (L : se_L) (st : List Value) (w : yW), wpN True (T g) cc stops G (yXt mc ms (yNoX g [.ref a0, .ref a1, .int a2] m n)) (yt_LLIrZ mc ms Q g a0 a1 a2 m n) f pc L st w → G pc L st w) → G 0 (se_ent [.ref a0, .ref a1, .int a2] maxL) [] (m, n, 0, 0)) : ym_LLIrZ l y (ws_ y cc maxL (some .boolean)) fr lo mc ms P Q :=
  yOf hy hyc hT (fun g av m n h => by
    obtain ⟨a0, a1, a2, rfl, _⟩ := h
    exact hL) (fun g av m n h1 h2 hp G hG => by
    obtain ⟨a0, a1, a2, rfl, hp⟩ := hp
    exact body g a0 a1 a2 m n h1 h2 hp G hG)
abbrev ym_LLLIrV (l : Launch) (y : MethodName) (ws : List Cond) (fr lo mc ms : Nat) (P : hG → Nat → Nat → Nat → Int32 → yM → Nat → Prop) (Q : hG → Nat → Nat → Nat → Int32 → yM → Nat → yM → Nat → Prop) : Prop := yCon l y ws fr lo mc ms (fun (g : hG) (av : List Value) (m : yM) (n : Nat) => ∃ (a0 : Nat) (a1 : Nat) (a2 : Nat) (a3 : Int32), av = [.ref a0, .ref a1, .ref a2, .int a3] ∧ P g a0 a1 a2 a3 m n) (fun (g : hG) (av : List Value) (m : yM) (n : Nat) (v : Option Value) (m' : yM) (n' : Nat) => ∀ (a0 : Nat) (a1 : Nat) (a2 : Nat) (a3 : Int32), av = [.ref a0, .ref a1, .ref a2, .int a3] → v = none ∧ Q g a0 a1 a2 a3 m n m' n') yNoX
def yo_LLLIrV (g : hG) (mc ms mc' ms' : Nat) (P : hG → Nat → Nat → Nat → Int32 → yM → Nat → Prop) (Q : hG → Nat → Nat → Nat → Int32 → yM → Nat → yM → Nat → Prop) : se_Op yW := fun st w K Y => match st with
  | .int a3 :: .ref a2 :: .ref a1 :: .ref a0 :: r => se_c8 8 r ∧ P g a0 a1 a2 a3 w.1 w.2.1 ∧ w.2.2.1 + mc' ≤ mc ∧ w.2.2.2 + ms' ≤ ms ∧ ∀ m' n', Q g a0 a1 a2 a3 w.1 w.2.1 m' n' → yIn g m' n' → w.2.1 ≤ n' → K r (m', n', w.2.2.1 + mc', w.2.2.2 + ms')
  | _ => False
theorem yo_LLLIrV_r {g : hG} {mc ms mc' ms' : Nat} {P : hG → Nat → Nat → Nat → Int32 → yM → Nat → Prop} {Q : hG → Nat → Nat → Nat → Int32 → yM → Nat → yM → Nat → Prop} {a0 : Nat} {a1 : Nat} {a2 : Nat} {a3 : Int32} {r : List Value} {w : yW} {K : List Value → yW → Prop} {Y : Nat → yW → Prop} : yo_LLLIrV g mc ms mc' ms' P Q (.int a3 :: .ref a2 :: .ref a1 :: .ref a0 :: r) w K Y = (se_c8 8 r ∧ P g a0 a1 a2 a3 w.1 w.2.1 ∧ w.2.2.1 + mc' ≤ mc ∧ w.2.2.2 + ms' ≤ ms ∧ ∀ m' n', Q g a0 a1 a2 a3 w.1 w.2.1 m' n' → yIn g m' n' → w.2.1 ≤ n' → K r (m', n', w.2.2.1 + mc', w.2.2.2 + ms')) := rfl
theorem yo_LLLIrV_ok {g : hG} {mc ms mc' ms' : Nat} {P : hG → Nat → Nat → Nat → Int32 → yM → Nat → Prop} {Q : hG → Nat → Nat → Nat → Int32 → yM → Nat → yM → Nat → Prop} {p : Program} {l : Launch} {e : Env} {R : Room} {s : State} {m : MethodId} {args : Array Value} {below : List Frame} {meth : Method} {c : Code} {nL : Nat} {cc : ByteArray} {Q0 : State → Prop} {H0 : Heap} {ins : Instr} {len : Nat} (hS : se_Snd p l e R s m args below meth c Q0 nL (fun a => a) (yRM g H0) cc ins len (yCS g 4 mc ms mc' ms' (fun (g : hG) (av : List Value) (m : yM) (n : Nat) => ∃ (a0 : Nat) (a1 : Nat) (a2 : Nat) (a3 : Int32), av = [.ref a0, .ref a1, .ref a2, .int a3] ∧ P g a0 a1 a2 a3 m n) (fun (g : hG) (av : List Value) (m : yM) (n : Nat) (v : Option Value) (m' : yM) (n' : Nat) => ∀ (a0 : Nat) (a1 : Nat) (a2 : Nat) (a3 : Int32), av = [.ref a0, .ref a1, .ref a2, .int a3] → v = none ∧ Q g a0 a1 a2 a3 m n m' n') yNoX)) : se_Snd p l e R s m args below meth c Q0 nL (fun a => a) (yRM g H0) cc ins len (yo_LLLIrV g mc ms mc' ms' P Q) :=
  hS.mono fun st w K Y h => by
    unfold yo_LLLIrV at h
    split at h
    · rename_i a3 a2 a1 a0 r
      obtain ⟨h8, hP, r1, r2, hq⟩ := h
      exact (⟨h8, ⟨a0, a1, a2, a3, rfl, hP⟩, r1, r2, fun v m' n' hp hi hn => by
              obtain ⟨rfl, hx⟩ := hp a0 a1 a2 a3 rfl
              exact hq m' n' hx hi hn, fun b m' n' hp => hp.elim⟩ : yGo g mc ms mc' ms' ((fun (g : hG) (av : List Value) (m : yM) (n : Nat) => ∃ (a0 : Nat) (a1 : Nat) (a2 : Nat) (a3 : Int32), av = [.ref a0, .ref a1, .ref a2, .int a3] ∧ P g a0 a1 a2 a3 m n) g) ((fun (g : hG) (av : List Value) (m : yM) (n : Nat) (v : Option Value) (m' : yM) (n' : Nat) => ∀ (a0 : Nat) (a1 : Nat) (a2 : Nat) (a3 : Int32), av = [.ref a0, .ref a1, .ref a2, .int a3] → v = none ∧ Q g a0 a1 a2 a3 m n m' n') g) (yNoX g) [.ref a0, .ref a1, .ref a2, .int a3] r w K Y)
    · exact h.elim
def yf_LLLIrV (g : hG) (mc ms : Nat) (P : hG → Nat → Nat → Nat → Int32 → yM → Nat → Prop) (F : hG → Nat → Nat → Nat → Int32 → yM → Nat → yM) : se_Op yW := fun st w K Y => match st with
  | .int a3 :: .ref a2 :: .ref a1 :: .ref a0 :: r => se_c8 8 r ∧ P g a0 a1 a2 a3 w.1 w.2.1 ∧ w.2.2.1 ≤ mc ∧ w.2.2.2 ≤ ms ∧ K (r) (F g a0 a1 a2 a3 w.1 w.2.1, w.2)
  | _ => False
theorem yf_LLLIrV_r {g : hG} {mc ms : Nat} {P : hG → Nat → Nat → Nat → Int32 → yM → Nat → Prop} {F : hG → Nat → Nat → Nat → Int32 → yM → Nat → yM} {a0 : Nat} {a1 : Nat} {a2 : Nat} {a3 : Int32} {r : List Value} {w : yW} {K : List Value → yW → Prop} {Y : Nat → yW → Prop} : yf_LLLIrV g mc ms P F (.int a3 :: .ref a2 :: .ref a1 :: .ref a0 :: r) w K Y = (se_c8 8 r ∧ P g a0 a1 a2 a3 w.1 w.2.1 ∧ w.2.2.1 ≤ mc ∧ w.2.2.2 ≤ ms ∧ K (r) (F g a0 a1 a2 a3 w.1 w.2.1, w.2)) := rfl
theorem yf_LLLIrV_ok {g : hG} {mc ms : Nat} {P : hG → Nat → Nat → Nat → Int32 → yM → Nat → Prop} {F : hG → Nat → Nat → Nat → Int32 → yM → Nat → yM} {p : Program} {l : Launch} {e : Env} {R : Room} {s : State} {m : MethodId} {args : Array Value} {below : List Frame} {meth : Method} {c : Code} {nL : Nat} {cc : ByteArray} {Q0 : State → Prop} {H0 : Heap} {ins : Instr} {len : Nat} (hS : se_Snd p l e R s m args below meth c Q0 nL (fun a => a) (yRM g H0) cc ins len (yo_LLLIrV g mc ms 0 0 P (fun g a0 a1 a2 a3 m n m' n' => m' = F g a0 a1 a2 a3 m n ∧ n' = n))) : se_Snd p l e R s m args below meth c Q0 nL (fun a => a) (yRM g H0) cc ins len (yf_LLLIrV g mc ms P F) :=
  hS.mono fun st w K Y h => by
    unfold yf_LLLIrV at h
    split at h
    · rename_i a3 a2 a1 a0 r
      obtain ⟨h8, hP, r1, r2, hq⟩ := h
      exact ⟨h8, hP, r1, r2, fun m' n' e _ _ => by
              obtain ⟨rfl, rfl⟩ := e
              exact hq⟩
    · exact h.elim
def yt_LLLIrV (mc ms : Nat) (Q : hG → Nat → Nat → Nat → Int32 → yM → Nat → yM → Nat → Prop) (g : hG) (a0 : Nat) (a1 : Nat) (a2 : Nat) (a3 : Int32) (m : yM) (n : Nat) : Option Value → yW → Prop := yRt none mc ms ((fun (g : hG) (av : List Value) (m : yM) (n : Nat) (v : Option Value) (m' : yM) (n' : Nat) => ∀ (a0 : Nat) (a1 : Nat) (a2 : Nat) (a3 : Int32), av = [.ref a0, .ref a1, .ref a2, .int a3] → v = none ∧ Q g a0 a1 a2 a3 m n m' n') g [.ref a0, .ref a1, .ref a2, .int a3] m n)
theorem yt_LLLIrV_e {mc ms : Nat} {Q : hG → Nat → Nat → Nat → Int32 → yM → Nat → yM → Nat → Prop} {g : hG} {a0 : Nat} {a1 : Nat} {a2 : Nat} {a3 : Int32} {m : yM} {n : Nat} {w : yW} : yt_LLLIrV mc ms Q g a0 a1 a2 a3 m n none w = (w.2.2.1 ≤ mc ∧ w.2.2.2 ≤ ms ∧ Q g a0 a1 a2 a3 m n w.1 w.2.1) := by
  apply propext
  exact ⟨fun h => ⟨h.2.1, h.2.2.1, (h.2.2.2 _ _ _ _ rfl).2⟩, fun h => ⟨rfl, h.1, h.2.1, fun _ _ _ _ e => by
    cases e
    exact ⟨rfl, h.2.2⟩⟩⟩
theorem ym_LLLIrV_of {l : Launch} {y : MethodName} {own : String} {cc : ByteArray} {maxL fr lo mc ms : Nat} {P : hG → Nat → Nat → Nat → Int32 → yM → Nat → Prop} {Q : hG → Nat → Nat → Nat → Int32 → yM → Nat → yM → Nat → Prop} {T : hG → Nat → Nat → se_Op yW} (hy : plainName y.cls = true) (hyc : y.cls = own) (hT : yTS l own y.name cc maxL none fr lo mc ms T) (hL : 4 ≤ maxL)
    (body : ∀ (g : hG) (a0 : Nat) (a1 : Nat) (a2 : Nat) (a3 : Int32) (m : yM) (n : Nat), hVg g → yIn g m n → P g a0 a1 a2 a3 m n → ∀ G : Nat → se_L → List Value → yW → Prop, (∀ (stops : List Nat) (f pc : Nat) (L : se_L) (st : List Value) (w : yW), wpN True (T g) cc stops G (yXt mc ms (yNoX g [.ref a0, .ref a1, .ref a2, .int a3] m n)) (yt_LLLIrV mc ms Q g a0 a1 a2 a3 m n) f pc L st w → G pc L st w) → G 0 (se_ent [.ref a0, .ref a1, .ref a2, .int a3] maxL) [] (m, n, 0, 0)) : ym_LLLIrV l y (ws_ y cc maxL none) fr lo mc ms P Q :=
  yOf hy hyc hT (fun g av m n h => by
    obtain ⟨a0, a1, a2, a3, rfl, _⟩ := h
    exact hL) (fun g av m n h1 h2 hp G hG => by
    obtain ⟨a0, a1, a2, a3, rfl, hp⟩ := hp
    exact body g a0 a1 a2 a3 m n h1 h2 hp G hG)
abbrev ym_LLLLrV (l : Launch) (y : MethodName) (ws : List Cond) (fr lo mc ms : Nat) (P : hG → Nat → Nat → Nat → Nat → yM → Nat → Prop) (Q : hG → Nat → Nat → Nat → Nat → yM → Nat → yM → Nat → Prop) : Prop := yCon l y ws fr lo mc ms (fun (g : hG) (av : List Value) (m : yM) (n : Nat) => ∃ (a0 : Nat) (a1 : Nat) (a2 : Nat) (a3 : Nat), av = [.ref a0, .ref a1, .ref a2, .ref a3] ∧ P g a0 a1 a2 a3 m n) (fun (g : hG) (av : List Value) (m : yM) (n : Nat) (v : Option Value) (m' : yM) (n' : Nat) => ∀ (a0 : Nat) (a1 : Nat) (a2 : Nat) (a3 : Nat), av = [.ref a0, .ref a1, .ref a2, .ref a3] → v = none ∧ Q g a0 a1 a2 a3 m n m' n') yNoX
def yo_LLLLrV (g : hG) (mc ms mc' ms' : Nat) (P : hG → Nat → Nat → Nat → Nat → yM → Nat → Prop) (Q : hG → Nat → Nat → Nat → Nat → yM → Nat → yM → Nat → Prop) : se_Op yW := fun st w K Y => match st with
  | .ref a3 :: .ref a2 :: .ref a1 :: .ref a0 :: r => se_c8 8 r ∧ P g a0 a1 a2 a3 w.1 w.2.1 ∧ w.2.2.1 + mc' ≤ mc ∧ w.2.2.2 + ms' ≤ ms ∧ ∀ m' n', Q g a0 a1 a2 a3 w.1 w.2.1 m' n' → yIn g m' n' → w.2.1 ≤ n' → K r (m', n', w.2.2.1 + mc', w.2.2.2 + ms')
  | _ => False
theorem yo_LLLLrV_r {g : hG} {mc ms mc' ms' : Nat} {P : hG → Nat → Nat → Nat → Nat → yM → Nat → Prop} {Q : hG → Nat → Nat → Nat → Nat → yM → Nat → yM → Nat → Prop} {a0 : Nat} {a1 : Nat} {a2 : Nat} {a3 : Nat} {r : List Value} {w : yW} {K : List Value → yW → Prop} {Y : Nat → yW → Prop} : yo_LLLLrV g mc ms mc' ms' P Q (.ref a3 :: .ref a2 :: .ref a1 :: .ref a0 :: r) w K Y = (se_c8 8 r ∧ P g a0 a1 a2 a3 w.1 w.2.1 ∧ w.2.2.1 + mc' ≤ mc ∧ w.2.2.2 + ms' ≤ ms ∧ ∀ m' n', Q g a0 a1 a2 a3 w.1 w.2.1 m' n' → yIn g m' n' → w.2.1 ≤ n' → K r (m', n', w.2.2.1 + mc', w.2.2.2 + ms')) := rfl
theorem yo_LLLLrV_ok {g : hG} {mc ms mc' ms' : Nat} {P : hG → Nat → Nat → Nat → Nat → yM → Nat → Prop} {Q : hG → Nat → Nat → Nat → Nat → yM → Nat → yM → Nat → Prop} {p : Program} {l : Launch} {e : Env} {R : Room} {s : State} {m : MethodId} {args : Array Value} {below : List Frame} {meth : Method} {c : Code} {nL : Nat} {cc : ByteArray} {Q0 : State → Prop} {H0 : Heap} {ins : Instr} {len : Nat} (hS : se_Snd p l e R s m args below meth c Q0 nL (fun a => a) (yRM g H0) cc ins len (yCS g 4 mc ms mc' ms' (fun (g : hG) (av : List Value) (m : yM) (n : Nat) => ∃ (a0 : Nat) (a1 : Nat) (a2 : Nat) (a3 : Nat), av = [.ref a0, .ref a1, .ref a2, .ref a3] ∧ P g a0 a1 a2 a3 m n) (fun (g : hG) (av : List Value) (m : yM) (n : Nat) (v : Option Value) (m' : yM) (n' : Nat) => ∀ (a0 : Nat) (a1 : Nat) (a2 : Nat) (a3 : Nat), av = [.ref a0, .ref a1, .ref a2, .ref a3] → v = none ∧ Q g a0 a1 a2 a3 m n m' n') yNoX)) : se_Snd p l e R s m args below meth c Q0 nL (fun a => a) (yRM g H0) cc ins len (yo_LLLLrV g mc ms mc' ms' P Q) :=
  hS.mono fun st w K Y h => by
    unfold yo_LLLLrV at h
    split at h
    · rename_i a3 a2 a1 a0 r
      obtain ⟨h8, hP, r1, r2, hq⟩ := h
      exact (⟨h8, ⟨a0, a1, a2, a3, rfl, hP⟩, r1, r2, fun v m' n' hp hi hn => by
              obtain ⟨rfl, hx⟩ := hp a0 a1 a2 a3 rfl
              exact hq m' n' hx hi hn, fun b m' n' hp => hp.elim⟩ : yGo g mc ms mc' ms' ((fun (g : hG) (av : List Value) (m : yM) (n : Nat) => ∃ (a0 : Nat) (a1 : Nat) (a2 : Nat) (a3 : Nat), av = [.ref a0, .ref a1, .ref a2, .ref a3] ∧ P g a0 a1 a2 a3 m n) g) ((fun (g : hG) (av : List Value) (m : yM) (n : Nat) (v : Option Value) (m' : yM) (n' : Nat) => ∀ (a0 : Nat) (a1 : Nat) (a2 : Nat) (a3 : Nat), av = [.ref a0, .ref a1, .ref a2, .ref a3] → v = none ∧ Q g a0 a1 a2 a3 m n m' n') g) (yNoX g) [.ref a0, .ref a1, .ref a2, .ref a3] r w K Y)
    · exact h.elim
def yf_LLLLrV (g : hG) (mc ms : Nat) (P : hG → Nat → Nat → Nat → Nat → yM → Nat → Prop) (F : hG → Nat → Nat → Nat → Nat → yM → Nat → yM) : se_Op yW := fun st w K Y => match st with
  | .ref a3 :: .ref a2 :: .ref a1 :: .ref a0 :: r => se_c8 8 r ∧ P g a0 a1 a2 a3 w.1 w.2.1 ∧ w.2.2.1 ≤ mc ∧ w.2.2.2 ≤ ms ∧ K (r) (F g a0 a1 a2 a3 w.1 w.2.1, w.2)
  | _ => False
theorem yf_LLLLrV_r {g : hG} {mc ms : Nat} {P : hG → Nat → Nat → Nat → Nat → yM → Nat → Prop} {F : hG → Nat → Nat → Nat → Nat → yM → Nat → yM} {a0 : Nat} {a1 : Nat} {a2 : Nat} {a3 : Nat} {r : List Value} {w : yW} {K : List Value → yW → Prop} {Y : Nat → yW → Prop} : yf_LLLLrV g mc ms P F (.ref a3 :: .ref a2 :: .ref a1 :: .ref a0 :: r) w K Y = (se_c8 8 r ∧ P g a0 a1 a2 a3 w.1 w.2.1 ∧ w.2.2.1 ≤ mc ∧ w.2.2.2 ≤ ms ∧ K (r) (F g a0 a1 a2 a3 w.1 w.2.1, w.2)) := rfl
theorem yf_LLLLrV_ok {g : hG} {mc ms : Nat} {P : hG → Nat → Nat → Nat → Nat → yM → Nat → Prop} {F : hG → Nat → Nat → Nat → Nat → yM → Nat → yM} {p : Program} {l : Launch} {e : Env} {R : Room} {s : State} {m : MethodId} {args : Array Value} {below : List Frame} {meth : Method} {c : Code} {nL : Nat} {cc : ByteArray} {Q0 : State → Prop} {H0 : Heap} {ins : Instr} {len : Nat} (hS : se_Snd p l e R s m args below meth c Q0 nL (fun a => a) (yRM g H0) cc ins len (yo_LLLLrV g mc ms 0 0 P (fun g a0 a1 a2 a3 m n m' n' => m' = F g a0 a1 a2 a3 m n ∧ n' = n))) : se_Snd p l e R s m args below meth c Q0 nL (fun a => a) (yRM g H0) cc ins len (yf_LLLLrV g mc ms P F) :=
  hS.mono fun st w K Y h => by
    unfold yf_LLLLrV at h
    split at h
    · rename_i a3 a2 a1 a0 r
      obtain ⟨h8, hP, r1, r2, hq⟩ := h
      exact ⟨h8, hP, r1, r2, fun m' n' e _ _ => by
              obtain ⟨rfl, rfl⟩ := e
              exact hq⟩
    · exact h.elim
def yt_LLLLrV (mc ms : Nat) (Q : hG → Nat → Nat → Nat → Nat → yM → Nat → yM → Nat → Prop) (g : hG) (a0 : Nat) (a1 : Nat) (a2 : Nat) (a3 : Nat) (m : yM) (n : Nat) : Option Value → yW → Prop := yRt none mc ms ((fun (g : hG) (av : List Value) (m : yM) (n : Nat) (v : Option Value) (m' : yM) (n' : Nat) => ∀ (a0 : Nat) (a1 : Nat) (a2 : Nat) (a3 : Nat), av = [.ref a0, .ref a1, .ref a2, .ref a3] → v = none ∧ Q g a0 a1 a2 a3 m n m' n') g [.ref a0, .ref a1, .ref a2, .ref a3] m n)
theorem yt_LLLLrV_e {mc ms : Nat} {Q : hG → Nat → Nat → Nat → Nat → yM → Nat → yM → Nat → Prop} {g : hG} {a0 : Nat} {a1 : Nat} {a2 : Nat} {a3 : Nat} {m : yM} {n : Nat} {w : yW} : yt_LLLLrV mc ms Q g a0 a1 a2 a3 m n none w = (w.2.2.1 ≤ mc ∧ w.2.2.2 ≤ ms ∧ Q g a0 a1 a2 a3 m n w.1 w.2.1) := by
  apply propext
  exact ⟨fun h => ⟨h.2.1, h.2.2.1, (h.2.2.2 _ _ _ _ rfl).2⟩, fun h => ⟨rfl, h.1, h.2.1, fun _ _ _ _ e => by
    cases e
    exact ⟨rfl, h.2.2⟩⟩⟩
theorem ym_LLLLrV_of {l : Launch} {y : MethodName} {own : String} {cc : ByteArray} {maxL fr lo mc ms : Nat} {P : hG → Nat → Nat → Nat → Nat → yM → Nat → Prop} {Q : hG → Nat → Nat → Nat → Nat → yM → Nat → yM → Nat → Prop} {T : hG → Nat → Nat → se_Op yW} (hy : plainName y.cls = true) (hyc : y.cls = own) (hT : yTS l own y.name cc maxL none fr lo mc ms T) (hL : 4 ≤ maxL)
    (body : ∀ (g : hG) (a0 : Nat) (a1 : Nat) (a2 : Nat) (a3 : Nat) (m : yM) (n : Nat), hVg g → yIn g m n → P g a0 a1 a2 a3 m n → ∀ G : Nat → se_L → List Value → yW → Prop, (∀ (stops : List Nat) (f pc : Nat) (L : se_L) (st : List Value) (w : yW), wpN True (T g) cc stops G (yXt mc ms (yNoX g [.ref a0, .ref a1, .ref a2, .ref a3] m n)) (yt_LLLLrV mc ms Q g a0 a1 a2 a3 m n) f pc L st w → G pc L st w) → G 0 (se_ent [.ref a0, .ref a1, .ref a2, .ref a3] maxL) [] (m, n, 0, 0)) : ym_LLLLrV l y (ws_ y cc maxL none) fr lo mc ms P Q :=
  yOf hy hyc hT (fun g av m n h => by
    obtain ⟨a0, a1, a2, a3, rfl, _⟩ := h
    exact hL) (fun g av m n h1 h2 hp G hG => by
    obtain ⟨a0, a1, a2, a3, rfl, hp⟩ := hp
    exact body g a0 a1 a2 a3 m n h1 h2 hp G hG)
abbrev ym_LLLrI (l : Launch) (y : MethodName) (ws : List Cond) (fr lo mc ms : Nat) (P : hG → Nat → Nat → Nat → yM → Nat → Prop) (Q : hG → Nat → Nat → Nat → yM → Nat → Int32 → yM → Nat → Prop) : Prop := yCon l y ws fr lo mc ms (fun (g : hG) (av : List Value) (m : yM) (n : Nat) => ∃ (a0 : Nat) (a1 : Nat) (a2 : Nat), av = [.ref a0, .ref a1, .ref a2] ∧ P g a0 a1 a2 m n) (fun (g : hG) (av : List Value) (m : yM) (n : Nat) (v : Option Value) (m' : yM) (n' : Nat) => ∀ (a0 : Nat) (a1 : Nat) (a2 : Nat), av = [.ref a0, .ref a1, .ref a2] → ∃ x, v = some (.int x) ∧ Q g a0 a1 a2 m n x m' n') yNoX
def yo_LLLrI (g : hG) (mc ms mc' ms' : Nat) (P : hG → Nat → Nat → Nat → yM → Nat → Prop) (Q : hG → Nat → Nat → Nat → yM → Nat → Int32 → yM → Nat → Prop) : se_Op yW := fun st w K Y => match st with
  | .ref a2 :: .ref a1 :: .ref a0 :: r => se_c8 8 r ∧ P g a0 a1 a2 w.1 w.2.1 ∧ w.2.2.1 + mc' ≤ mc ∧ w.2.2.2 + ms' ≤ ms ∧ ∀ x m' n', Q g a0 a1 a2 w.1 w.2.1 x m' n' → yIn g m' n' → w.2.1 ≤ n' → K (.int x :: r) (m', n', w.2.2.1 + mc', w.2.2.2 + ms')
  | _ => False
theorem yo_LLLrI_r {g : hG} {mc ms mc' ms' : Nat} {P : hG → Nat → Nat → Nat → yM → Nat → Prop} {Q : hG → Nat → Nat → Nat → yM → Nat → Int32 → yM → Nat → Prop} {a0 : Nat} {a1 : Nat} {a2 : Nat} {r : List Value} {w : yW} {K : List Value → yW → Prop} {Y : Nat → yW → Prop} : yo_LLLrI g mc ms mc' ms' P Q (.ref a2 :: .ref a1 :: .ref a0 :: r) w K Y = (se_c8 8 r ∧ P g a0 a1 a2 w.1 w.2.1 ∧ w.2.2.1 + mc' ≤ mc ∧ w.2.2.2 + ms' ≤ ms ∧ ∀ x m' n', Q g a0 a1 a2 w.1 w.2.1 x m' n' → yIn g m' n' → w.2.1 ≤ n' → K (.int x :: r) (m', n', w.2.2.1 + mc', w.2.2.2 + ms')) := rfl
theorem yo_LLLrI_ok {g : hG} {mc ms mc' ms' : Nat} {P : hG → Nat → Nat → Nat → yM → Nat → Prop} {Q : hG → Nat → Nat → Nat → yM → Nat → Int32 → yM → Nat → Prop} {p : Program} {l : Launch} {e : Env} {R : Room} {s : State} {m : MethodId} {args : Array Value} {below : List Frame} {meth : Method} {c : Code} {nL : Nat} {cc : ByteArray} {Q0 : State → Prop} {H0 : Heap} {ins : Instr} {len : Nat} (hS : se_Snd p l e R s m args below meth c Q0 nL (fun a => a) (yRM g H0) cc ins len (yCS g 3 mc ms mc' ms' (fun (g : hG) (av : List Value) (m : yM) (n : Nat) => ∃ (a0 : Nat) (a1 : Nat) (a2 : Nat), av = [.ref a0, .ref a1, .ref a2] ∧ P g a0 a1 a2 m n) (fun (g : hG) (av : List Value) (m : yM) (n : Nat) (v : Option Value) (m' : yM) (n' : Nat) => ∀ (a0 : Nat) (a1 : Nat) (a2 : Nat), av = [.ref a0, .ref a1, .ref a2] → ∃ x, v = some (.int x) ∧ Q g a0 a1 a2 m n x m' n') yNoX)) : se_Snd p l e R s m args below meth c Q0 nL (fun a => a) (yRM g H0) cc ins len (yo_LLLrI g mc ms mc' ms' P Q) :=
  hS.mono fun st w K Y h => by
    unfold yo_LLLrI at h
    split at h
    · rename_i a2 a1 a0 r
      obtain ⟨h8, hP, r1, r2, hq⟩ := h
      exact (⟨h8, ⟨a0, a1, a2, rfl, hP⟩, r1, r2, fun v m' n' hp hi hn => by
              obtain ⟨x, rfl, hx⟩ := hp a0 a1 a2 rfl
              exact hq x m' n' hx hi hn, fun b m' n' hp => hp.elim⟩ : yGo g mc ms mc' ms' ((fun (g : hG) (av : List Value) (m : yM) (n : Nat) => ∃ (a0 : Nat) (a1 : Nat) (a2 : Nat), av = [.ref a0, .ref a1, .ref a2] ∧ P g a0 a1 a2 m n) g) ((fun (g : hG) (av : List Value) (m : yM) (n : Nat) (v : Option Value) (m' : yM) (n' : Nat) => ∀ (a0 : Nat) (a1 : Nat) (a2 : Nat), av = [.ref a0, .ref a1, .ref a2] → ∃ x, v = some (.int x) ∧ Q g a0 a1 a2 m n x m' n') g) (yNoX g) [.ref a0, .ref a1, .ref a2] r w K Y)
    · exact h.elim
def yp_LLLrI (g : hG) (mc ms : Nat) (P : hG → Nat → Nat → Nat → yM → Nat → Prop) (R0 : hG → Nat → Nat → Nat → yM → Nat → Int32) : se_Op yW := fun st w K Y => match st with
  | .ref a2 :: .ref a1 :: .ref a0 :: r => se_c8 8 r ∧ P g a0 a1 a2 w.1 w.2.1 ∧ w.2.2.1 ≤ mc ∧ w.2.2.2 ≤ ms ∧ K (.int (R0 g a0 a1 a2 w.1 w.2.1) :: r) w
  | _ => False
theorem yp_LLLrI_r {g : hG} {mc ms : Nat} {P : hG → Nat → Nat → Nat → yM → Nat → Prop} {R0 : hG → Nat → Nat → Nat → yM → Nat → Int32} {a0 : Nat} {a1 : Nat} {a2 : Nat} {r : List Value} {w : yW} {K : List Value → yW → Prop} {Y : Nat → yW → Prop} : yp_LLLrI g mc ms P R0 (.ref a2 :: .ref a1 :: .ref a0 :: r) w K Y = (se_c8 8 r ∧ P g a0 a1 a2 w.1 w.2.1 ∧ w.2.2.1 ≤ mc ∧ w.2.2.2 ≤ ms ∧ K (.int (R0 g a0 a1 a2 w.1 w.2.1) :: r) w) := rfl
theorem yp_LLLrI_ok {g : hG} {mc ms : Nat} {P : hG → Nat → Nat → Nat → yM → Nat → Prop} {R0 : hG → Nat → Nat → Nat → yM → Nat → Int32} {p : Program} {l : Launch} {e : Env} {R : Room} {s : State} {m : MethodId} {args : Array Value} {below : List Frame} {meth : Method} {c : Code} {nL : Nat} {cc : ByteArray} {Q0 : State → Prop} {H0 : Heap} {ins : Instr} {len : Nat} (hS : se_Snd p l e R s m args below meth c Q0 nL (fun a => a) (yRM g H0) cc ins len (yo_LLLrI g mc ms 0 0 P (fun g a0 a1 a2 m n x m' n' => x = R0 g a0 a1 a2 m n ∧ m' = m ∧ n' = n))) : se_Snd p l e R s m args below meth c Q0 nL (fun a => a) (yRM g H0) cc ins len (yp_LLLrI g mc ms P R0) :=
  hS.mono fun st w K Y h => by
    unfold yp_LLLrI at h
    split at h
    · rename_i a2 a1 a0 r
      obtain ⟨h8, hP, r1, r2, hq⟩ := h
      exact ⟨h8, hP, r1, r2, fun x m' n' e _ _ => by
              obtain ⟨rfl, rfl, rfl⟩ := e
              exact hq⟩
    · exact h.elim
def yf_LLLrI (g : hG) (mc ms : Nat) (P : hG → Nat → Nat → Nat → yM → Nat → Prop) (R0 : hG → Nat → Nat → Nat → yM → Nat → Int32) (F : hG → Nat → Nat → Nat → yM → Nat → yM) : se_Op yW := fun st w K Y => match st with
  | .ref a2 :: .ref a1 :: .ref a0 :: r => se_c8 8 r ∧ P g a0 a1 a2 w.1 w.2.1 ∧ w.2.2.1 ≤ mc ∧ w.2.2.2 ≤ ms ∧ K (.int (R0 g a0 a1 a2 w.1 w.2.1) :: r) (F g a0 a1 a2 w.1 w.2.1, w.2)
  | _ => False
theorem yf_LLLrI_r {g : hG} {mc ms : Nat} {P : hG → Nat → Nat → Nat → yM → Nat → Prop} {R0 : hG → Nat → Nat → Nat → yM → Nat → Int32} {F : hG → Nat → Nat → Nat → yM → Nat → yM} {a0 : Nat} {a1 : Nat} {a2 : Nat} {r : List Value} {w : yW} {K : List Value → yW → Prop} {Y : Nat → yW → Prop} : yf_LLLrI g mc ms P R0 F (.ref a2 :: .ref a1 :: .ref a0 :: r) w K Y = (se_c8 8 r ∧ P g a0 a1 a2 w.1 w.2.1 ∧ w.2.2.1 ≤ mc ∧ w.2.2.2 ≤ ms ∧ K (.int (R0 g a0 a1 a2 w.1 w.2.1) :: r) (F g a0 a1 a2 w.1 w.2.1, w.2)) := rfl
theorem yf_LLLrI_ok {g : hG} {mc ms : Nat} {P : hG → Nat → Nat → Nat → yM → Nat → Prop} {R0 : hG → Nat → Nat → Nat → yM → Nat → Int32} {F : hG → Nat → Nat → Nat → yM → Nat → yM} {p : Program} {l : Launch} {e : Env} {R : Room} {s : State} {m : MethodId} {args : Array Value} {below : List Frame} {meth : Method} {c : Code} {nL : Nat} {cc : ByteArray} {Q0 : State → Prop} {H0 : Heap} {ins : Instr} {len : Nat} (hS : se_Snd p l e R s m args below meth c Q0 nL (fun a => a) (yRM g H0) cc ins len (yo_LLLrI g mc ms 0 0 P (fun g a0 a1 a2 m n x m' n' => x = R0 g a0 a1 a2 m n ∧ m' = F g a0 a1 a2 m n ∧ n' = n))) : se_Snd p l e R s m args below meth c Q0 nL (fun a => a) (yRM g H0) cc ins len (yf_LLLrI g mc ms P R0 F) :=
  hS.mono fun st w K Y h => by
    unfold yf_LLLrI at h
    split at h
    · rename_i a2 a1 a0 r
      obtain ⟨h8, hP, r1, r2, hq⟩ := h
      exact ⟨h8, hP, r1, r2, fun x m' n' e _ _ => by
              obtain ⟨rfl, rfl, rfl⟩ := e
              exact hq⟩
    · exact h.elim
def yt_LLLrI (mc ms : Nat) (Q : hG → Nat → Nat → Nat → yM → Nat → Int32 → yM → Nat → Prop) (g : hG) (a0 : Nat) (a1 : Nat) (a2 : Nat) (m : yM) (n : Nat) : Option Value → yW → Prop := yRt (some .int) mc ms ((fun (g : hG) (av : List Value) (m : yM) (n : Nat) (v : Option Value) (m' : yM) (n' : Nat) => ∀ (a0 : Nat) (a1 : Nat) (a2 : Nat), av = [.ref a0, .ref a1, .ref a2] → ∃ x, v = some (.int x) ∧ Q g a0 a1 a2 m n x m' n') g [.ref a0, .ref a1, .ref a2] m n)
theorem yt_LLLrI_e {mc ms : Nat} {Q : hG → Nat → Nat → Nat → yM → Nat → Int32 → yM → Nat → Prop} {g : hG} {a0 : Nat} {a1 : Nat} {a2 : Nat} {m : yM} {n : Nat} {w : yW} {z : Int32} : yt_LLLrI mc ms Q g a0 a1 a2 m n (some (.int z)) w = (w.2.2.1 ≤ mc ∧ w.2.2.2 ≤ ms ∧ Q g a0 a1 a2 m n z w.1 w.2.1) := by
  apply propext
  constructor
  · intro h
    obtain ⟨x, e, hq⟩ := h.2.2.2 _ _ _ rfl
    cases e
    exact ⟨h.2.1, h.2.2.1, hq⟩
  · intro h
    obtain ⟨h1, h2, h3⟩ := h
    exact ⟨⟨_, rfl, rfl⟩, h1, h2, fun _ _ _ e => by
      cases e
      exact ⟨z, rfl, h3⟩⟩
theorem ym_LLLrI_of {l : Launch} {y : MethodName} {own : String} {cc : ByteArray} {maxL fr lo mc ms : Nat} {P : hG → Nat → Nat → Nat → yM → Nat → Prop} {Q : hG → Nat → Nat → Nat → yM → Nat → Int32 → yM → Nat → Prop} {T : hG → Nat → Nat → se_Op yW} (hy : plainName y.cls = true) (hyc : y.cls = own) (hT : yTS l own y.name cc maxL (some .int) fr lo mc ms T) (hL : 3 ≤ maxL)
    (body : ∀ (g : hG) (a0 : Nat) (a1 : Nat) (a2 : Nat) (m : yM) (n : Nat), hVg g → yIn g m n → P g a0 a1 a2 m n → ∀ G : Nat → se_L → List Value → yW → Prop, (∀ (stops : List Nat) (f pc : Nat) (L : se_L) (st : List Value) (w : yW), wpN True (T g) cc stops G (yXt mc ms (yNoX g [.ref a0, .ref a1, .ref a2] m n)) (yt_LLLrI mc ms Q g a0 a1 a2 m n) f pc L st w → G pc L st w) → G 0 (se_ent [.ref a0, .ref a1, .ref a2] maxL) [] (m, n, 0, 0)) : ym_LLLrI l y (ws_ y cc maxL (some .int)) fr lo mc ms P Q :=
  yOf hy hyc hT (fun g av m n h => by
    obtain ⟨a0, a1, a2, rfl, _⟩ := h
    exact hL) (fun g av m n h1 h2 hp G hG => by
    obtain ⟨a0, a1, a2, rfl, hp⟩ := hp
    exact body g a0 a1 a2 m n h1 h2 hp G hG)
abbrev ym_LLLrV (l : Launch) (y : MethodName) (ws : List Cond) (fr lo mc ms : Nat) (P : hG → Nat → Nat → Nat → yM → Nat → Prop) (Q : hG → Nat → Nat → Nat → yM → Nat → yM → Nat → Prop) : Prop := yCon l y ws fr lo mc ms (fun (g : hG) (av : List Value) (m : yM) (n : Nat) => ∃ (a0 : Nat) (a1 : Nat) (a2 : Nat), av = [.ref a0, .ref a1, .ref a2] ∧ P g a0 a1 a2 m n) (fun (g : hG) (av : List Value) (m : yM) (n : Nat) (v : Option Value) (m' : yM) (n' : Nat) => ∀ (a0 : Nat) (a1 : Nat) (a2 : Nat), av = [.ref a0, .ref a1, .ref a2] → v = none ∧ Q g a0 a1 a2 m n m' n') yNoX
def yo_LLLrV (g : hG) (mc ms mc' ms' : Nat) (P : hG → Nat → Nat → Nat → yM → Nat → Prop) (Q : hG → Nat → Nat → Nat → yM → Nat → yM → Nat → Prop) : se_Op yW := fun st w K Y => match st with
  | .ref a2 :: .ref a1 :: .ref a0 :: r => se_c8 8 r ∧ P g a0 a1 a2 w.1 w.2.1 ∧ w.2.2.1 + mc' ≤ mc ∧ w.2.2.2 + ms' ≤ ms ∧ ∀ m' n', Q g a0 a1 a2 w.1 w.2.1 m' n' → yIn g m' n' → w.2.1 ≤ n' → K r (m', n', w.2.2.1 + mc', w.2.2.2 + ms')
  | _ => False
theorem yo_LLLrV_r {g : hG} {mc ms mc' ms' : Nat} {P : hG → Nat → Nat → Nat → yM → Nat → Prop} {Q : hG → Nat → Nat → Nat → yM → Nat → yM → Nat → Prop} {a0 : Nat} {a1 : Nat} {a2 : Nat} {r : List Value} {w : yW} {K : List Value → yW → Prop} {Y : Nat → yW → Prop} : yo_LLLrV g mc ms mc' ms' P Q (.ref a2 :: .ref a1 :: .ref a0 :: r) w K Y = (se_c8 8 r ∧ P g a0 a1 a2 w.1 w.2.1 ∧ w.2.2.1 + mc' ≤ mc ∧ w.2.2.2 + ms' ≤ ms ∧ ∀ m' n', Q g a0 a1 a2 w.1 w.2.1 m' n' → yIn g m' n' → w.2.1 ≤ n' → K r (m', n', w.2.2.1 + mc', w.2.2.2 + ms')) := rfl
theorem yo_LLLrV_ok {g : hG} {mc ms mc' ms' : Nat} {P : hG → Nat → Nat → Nat → yM → Nat → Prop} {Q : hG → Nat → Nat → Nat → yM → Nat → yM → Nat → Prop} {p : Program} {l : Launch} {e : Env} {R : Room} {s : State} {m : MethodId} {args : Array Value} {below : List Frame} {meth : Method} {c : Code} {nL : Nat} {cc : ByteArray} {Q0 : State → Prop} {H0 : Heap} {ins : Instr} {len : Nat} (hS : se_Snd p l e R s m args below meth c Q0 nL (fun a => a) (yRM g H0) cc ins len (yCS g 3 mc ms mc' ms' (fun (g : hG) (av : List Value) (m : yM) (n : Nat) => ∃ (a0 : Nat) (a1 : Nat) (a2 : Nat), av = [.ref a0, .ref a1, .ref a2] ∧ P g a0 a1 a2 m n) (fun (g : hG) (av : List Value) (m : yM) (n : Nat) (v : Option Value) (m' : yM) (n' : Nat) => ∀ (a0 : Nat) (a1 : Nat) (a2 : Nat), av = [.ref a0, .ref a1, .ref a2] → v = none ∧ Q g a0 a1 a2 m n m' n') yNoX)) : se_Snd p l e R s m args below meth c Q0 nL (fun a => a) (yRM g H0) cc ins len (yo_LLLrV g mc ms mc' ms' P Q) :=
  hS.mono fun st w K Y h => by
    unfold yo_LLLrV at h
    split at h
    · rename_i a2 a1 a0 r
      obtain ⟨h8, hP, r1, r2, hq⟩ := h
      exact (⟨h8, ⟨a0, a1, a2, rfl, hP⟩, r1, r2, fun v m' n' hp hi hn => by
              obtain ⟨rfl, hx⟩ := hp a0 a1 a2 rfl
              exact hq m' n' hx hi hn, fun b m' n' hp => hp.elim⟩ : yGo g mc ms mc' ms' ((fun (g : hG) (av : List Value) (m : yM) (n : Nat) => ∃ (a0 : Nat) (a1 : Nat) (a2 : Nat), av = [.ref a0, .ref a1, .ref a2] ∧ P g a0 a1 a2 m n) g) ((fun (g : hG) (av : List Value) (m : yM) (n : Nat) (v : Option Value) (m' : yM) (n' : Nat) => ∀ (a0 : Nat) (a1 : Nat) (a2 : Nat), av = [.ref a0, .ref a1, .ref a2] → v = none ∧ Q g a0 a1 a2 m n m' n') g) (yNoX g) [.ref a0, .ref a1, .ref a2] r w K Y)
    · exact h.elim
def yov_LLLrV (g : hG) (mc ms mc' ms' : Nat) (cs : List Nat) (P : hG → Nat → Nat → Nat → yM → Nat → Prop) (Q : hG → Nat → Nat → Nat → yM → Nat → yM → Nat → Prop) : se_Op yW := fun st w K Y => match st with
  | .ref a2 :: .ref a1 :: .ref a0 :: r => yc w.1 a0 ∈ cs ∧ se_c8 8 r ∧ P g a0 a1 a2 w.1 w.2.1 ∧ w.2.2.1 + mc' ≤ mc ∧ w.2.2.2 + ms' ≤ ms ∧ ∀ m' n', Q g a0 a1 a2 w.1 w.2.1 m' n' → yIn g m' n' → w.2.1 ≤ n' → K r (m', n', w.2.2.1 + mc', w.2.2.2 + ms')
  | _ => False
theorem yov_LLLrV_r {g : hG} {mc ms mc' ms' : Nat} {cs : List Nat} {P : hG → Nat → Nat → Nat → yM → Nat → Prop} {Q : hG → Nat → Nat → Nat → yM → Nat → yM → Nat → Prop} {a0 : Nat} {a1 : Nat} {a2 : Nat} {r : List Value} {w : yW} {K : List Value → yW → Prop} {Y : Nat → yW → Prop} : yov_LLLrV g mc ms mc' ms' cs P Q (.ref a2 :: .ref a1 :: .ref a0 :: r) w K Y = (yc w.1 a0 ∈ cs ∧ se_c8 8 r ∧ P g a0 a1 a2 w.1 w.2.1 ∧ w.2.2.1 + mc' ≤ mc ∧ w.2.2.2 + ms' ≤ ms ∧ ∀ m' n', Q g a0 a1 a2 w.1 w.2.1 m' n' → yIn g m' n' → w.2.1 ≤ n' → K r (m', n', w.2.2.1 + mc', w.2.2.2 + ms')) := rfl
theorem yov_LLLrV_ok {g : hG} {mc ms mc' ms' : Nat} {cs : List Nat} {P : hG → Nat → Nat → Nat → yM → Nat → Prop} {Q : hG → Nat → Nat → Nat → yM → Nat → yM → Nat → Prop} {p : Program} {l : Launch} {e : Env} {R : Room} {s : State} {m : MethodId} {args : Array Value} {below : List Frame} {meth : Method} {c : Code} {nL : Nat} {cc : ByteArray} {Q0 : State → Prop} {H0 : Heap} {ins : Instr} {len : Nat} (hS : se_Snd p l e R s m args below meth c Q0 nL (fun a => a) (yRM g H0) cc ins len (yCV g 2 mc ms mc' ms' cs (fun (g : hG) (av : List Value) (m : yM) (n : Nat) => ∃ (a0 : Nat) (a1 : Nat) (a2 : Nat), av = [.ref a0, .ref a1, .ref a2] ∧ P g a0 a1 a2 m n) (fun (g : hG) (av : List Value) (m : yM) (n : Nat) (v : Option Value) (m' : yM) (n' : Nat) => ∀ (a0 : Nat) (a1 : Nat) (a2 : Nat), av = [.ref a0, .ref a1, .ref a2] → v = none ∧ Q g a0 a1 a2 m n m' n') yNoX)) : se_Snd p l e R s m args below meth c Q0 nL (fun a => a) (yRM g H0) cc ins len (yov_LLLrV g mc ms mc' ms' cs P Q) :=
  hS.mono fun st w K Y h => by
    unfold yov_LLLrV at h
    split at h
    · rename_i a2 a1 a0 r
      obtain ⟨hc, h8, hP, r1, r2, hq⟩ := h
      exact (⟨hc, h8, ⟨a0, a1, a2, rfl, hP⟩, r1, r2, fun v m' n' hp hi hn => by
              obtain ⟨rfl, hx⟩ := hp a0 a1 a2 rfl
              exact hq m' n' hx hi hn, fun b m' n' hp => hp.elim⟩ : (yRcv cs w.1 [.ref a0, .ref a1, .ref a2] ∧ yGo g mc ms mc' ms' ((fun (g : hG) (av : List Value) (m : yM) (n : Nat) => ∃ (a0 : Nat) (a1 : Nat) (a2 : Nat), av = [.ref a0, .ref a1, .ref a2] ∧ P g a0 a1 a2 m n) g) ((fun (g : hG) (av : List Value) (m : yM) (n : Nat) (v : Option Value) (m' : yM) (n' : Nat) => ∀ (a0 : Nat) (a1 : Nat) (a2 : Nat), av = [.ref a0, .ref a1, .ref a2] → v = none ∧ Q g a0 a1 a2 m n m' n') g) (yNoX g) [.ref a0, .ref a1, .ref a2] r w K Y))
    · exact h.elim
def yf_LLLrV (g : hG) (mc ms : Nat) (P : hG → Nat → Nat → Nat → yM → Nat → Prop) (F : hG → Nat → Nat → Nat → yM → Nat → yM) : se_Op yW := fun st w K Y => match st with
  | .ref a2 :: .ref a1 :: .ref a0 :: r => se_c8 8 r ∧ P g a0 a1 a2 w.1 w.2.1 ∧ w.2.2.1 ≤ mc ∧ w.2.2.2 ≤ ms ∧ K (r) (F g a0 a1 a2 w.1 w.2.1, w.2)
  | _ => False
theorem yf_LLLrV_r {g : hG} {mc ms : Nat} {P : hG → Nat → Nat → Nat → yM → Nat → Prop} {F : hG → Nat → Nat → Nat → yM → Nat → yM} {a0 : Nat} {a1 : Nat} {a2 : Nat} {r : List Value} {w : yW} {K : List Value → yW → Prop} {Y : Nat → yW → Prop} : yf_LLLrV g mc ms P F (.ref a2 :: .ref a1 :: .ref a0 :: r) w K Y = (se_c8 8 r ∧ P g a0 a1 a2 w.1 w.2.1 ∧ w.2.2.1 ≤ mc ∧ w.2.2.2 ≤ ms ∧ K (r) (F g a0 a1 a2 w.1 w.2.1, w.2)) := rfl
theorem yf_LLLrV_ok {g : hG} {mc ms : Nat} {P : hG → Nat → Nat → Nat → yM → Nat → Prop} {F : hG → Nat → Nat → Nat → yM → Nat → yM} {p : Program} {l : Launch} {e : Env} {R : Room} {s : State} {m : MethodId} {args : Array Value} {below : List Frame} {meth : Method} {c : Code} {nL : Nat} {cc : ByteArray} {Q0 : State → Prop} {H0 : Heap} {ins : Instr} {len : Nat} (hS : se_Snd p l e R s m args below meth c Q0 nL (fun a => a) (yRM g H0) cc ins len (yo_LLLrV g mc ms 0 0 P (fun g a0 a1 a2 m n m' n' => m' = F g a0 a1 a2 m n ∧ n' = n))) : se_Snd p l e R s m args below meth c Q0 nL (fun a => a) (yRM g H0) cc ins len (yf_LLLrV g mc ms P F) :=
  hS.mono fun st w K Y h => by
    unfold yf_LLLrV at h
    split at h
    · rename_i a2 a1 a0 r
      obtain ⟨h8, hP, r1, r2, hq⟩ := h
      exact ⟨h8, hP, r1, r2, fun m' n' e _ _ => by
              obtain ⟨rfl, rfl⟩ := e
              exact hq⟩
    · exact h.elim
def yfv_LLLrV (g : hG) (mc ms : Nat) (cs : List Nat) (P : hG → Nat → Nat → Nat → yM → Nat → Prop) (F : hG → Nat → Nat → Nat → yM → Nat → yM) : se_Op yW := fun st w K Y => match st with
  | .ref a2 :: .ref a1 :: .ref a0 :: r => yc w.1 a0 ∈ cs ∧ se_c8 8 r ∧ P g a0 a1 a2 w.1 w.2.1 ∧ w.2.2.1 ≤ mc ∧ w.2.2.2 ≤ ms ∧ K (r) (F g a0 a1 a2 w.1 w.2.1, w.2)
  | _ => False
theorem yfv_LLLrV_r {g : hG} {mc ms : Nat} {cs : List Nat} {P : hG → Nat → Nat → Nat → yM → Nat → Prop} {F : hG → Nat → Nat → Nat → yM → Nat → yM} {a0 : Nat} {a1 : Nat} {a2 : Nat} {r : List Value} {w : yW} {K : List Value → yW → Prop} {Y : Nat → yW → Prop} : yfv_LLLrV g mc ms cs P F (.ref a2 :: .ref a1 :: .ref a0 :: r) w K Y = (yc w.1 a0 ∈ cs ∧ se_c8 8 r ∧ P g a0 a1 a2 w.1 w.2.1 ∧ w.2.2.1 ≤ mc ∧ w.2.2.2 ≤ ms ∧ K (r) (F g a0 a1 a2 w.1 w.2.1, w.2)) := rfl
theorem yfv_LLLrV_ok {g : hG} {mc ms : Nat} {cs : List Nat} {P : hG → Nat → Nat → Nat → yM → Nat → Prop} {F : hG → Nat → Nat → Nat → yM → Nat → yM} {p : Program} {l : Launch} {e : Env} {R : Room} {s : State} {m : MethodId} {args : Array Value} {below : List Frame} {meth : Method} {c : Code} {nL : Nat} {cc : ByteArray} {Q0 : State → Prop} {H0 : Heap} {ins : Instr} {len : Nat} (hS : se_Snd p l e R s m args below meth c Q0 nL (fun a => a) (yRM g H0) cc ins len (yov_LLLrV g mc ms 0 0 cs P (fun g a0 a1 a2 m n m' n' => m' = F g a0 a1 a2 m n ∧ n' = n))) : se_Snd p l e R s m args below meth c Q0 nL (fun a => a) (yRM g H0) cc ins len (yfv_LLLrV g mc ms cs P F) :=
  hS.mono fun st w K Y h => by
    unfold yfv_LLLrV at h
    split at h
    · rename_i a2 a1 a0 r
      obtain ⟨hc, h8, hP, r1, r2, hq⟩ := h
      exact ⟨hc, h8, hP, r1, r2, fun m' n' e _ _ => by
              obtain ⟨rfl, rfl⟩ := e
              exact hq⟩
    · exact h.elim
def yt_LLLrV (mc ms : Nat) (Q : hG → Nat → Nat → Nat → yM → Nat → yM → Nat → Prop) (g : hG) (a0 : Nat) (a1 : Nat) (a2 : Nat) (m : yM) (n : Nat) : Option Value → yW → Prop := yRt none mc ms ((fun (g : hG) (av : List Value) (m : yM) (n : Nat) (v : Option Value) (m' : yM) (n' : Nat) => ∀ (a0 : Nat) (a1 : Nat) (a2 : Nat), av = [.ref a0, .ref a1, .ref a2] → v = none ∧ Q g a0 a1 a2 m n m' n') g [.ref a0, .ref a1, .ref a2] m n)
theorem yt_LLLrV_e {mc ms : Nat} {Q : hG → Nat → Nat → Nat → yM → Nat → yM → Nat → Prop} {g : hG} {a0 : Nat} {a1 : Nat} {a2 : Nat} {m : yM} {n : Nat} {w : yW} : yt_LLLrV mc ms Q g a0 a1 a2 m n none w = (w.2.2.1 ≤ mc ∧ w.2.2.2 ≤ ms ∧ Q g a0 a1 a2 m n w.1 w.2.1) := by
  apply propext
  exact ⟨fun h => ⟨h.2.1, h.2.2.1, (h.2.2.2 _ _ _ rfl).2⟩, fun h => ⟨rfl, h.1, h.2.1, fun _ _ _ e => by
    cases e
    exact ⟨rfl, h.2.2⟩⟩⟩
theorem ym_LLLrV_of {l : Launch} {y : MethodName} {own : String} {cc : ByteArray} {maxL fr lo mc ms : Nat} {P : hG → Nat → Nat → Nat → yM → Nat → Prop} {Q : hG → Nat → Nat → Nat → yM → Nat → yM → Nat → Prop} {T : hG → Nat → Nat → se_Op yW} (hy : plainName y.cls = true) (hyc : y.cls = own) (hT : yTS l own y.name cc maxL none fr lo mc ms T) (hL : 3 ≤ maxL)
    (body : ∀ (g : hG) (a0 : Nat) (a1 : Nat) (a2 : Nat) (m : yM) (n : Nat), hVg g → yIn g m n → P g a0 a1 a2 m n → ∀ G : Nat → se_L → List Value → yW → Prop, (∀ (stops : List Nat) (f pc : Nat) (L : se_L) (st : List Value) (w : yW), wpN True (T g) cc stops G (yXt mc ms (yNoX g [.ref a0, .ref a1, .ref a2] m n)) (yt_LLLrV mc ms Q g a0 a1 a2 m n) f pc L st w → G pc L st w) → G 0 (se_ent [.ref a0, .ref a1, .ref a2] maxL) [] (m, n, 0, 0)) : ym_LLLrV l y (ws_ y cc maxL none) fr lo mc ms P Q :=
  yOf hy hyc hT (fun g av m n h => by
    obtain ⟨a0, a1, a2, rfl, _⟩ := h
    exact hL) (fun g av m n h1 h2 hp G hG => by
    obtain ⟨a0, a1, a2, rfl, hp⟩ := hp
    exact body g a0 a1 a2 m n h1 h2 hp G hG)
abbrev ym_LLrI (l : Launch) (y : MethodName) (ws : List Cond) (fr lo mc ms : Nat) (P : hG → Nat → Nat → yM → Nat → Prop) (Q : hG → Nat → Nat → yM → Nat → Int32 → yM → Nat → Prop) : Prop := yCon l y ws fr lo mc ms (fun (g : hG) (av : List Value) (m : yM) (n : Nat) => ∃ (a0 : Nat) (a1 : Nat), av = [.ref a0, .ref a1] ∧ P g a0 a1 m n) (fun (g : hG) (av : List Value) (m : yM) (n : Nat) (v : Option Value) (m' : yM) (n' : Nat) => ∀ (a0 : Nat) (a1 : Nat), av = [.ref a0, .ref a1] → ∃ x, v = some (.int x) ∧ Q g a0 a1 m n x m' n') yNoX
def yov_LLrI (g : hG) (mc ms mc' ms' : Nat) (cs : List Nat) (P : hG → Nat → Nat → yM → Nat → Prop) (Q : hG → Nat → Nat → yM → Nat → Int32 → yM → Nat → Prop) : se_Op yW := fun st w K Y => match st with
  | .ref a1 :: .ref a0 :: r => yc w.1 a0 ∈ cs ∧ se_c8 8 r ∧ P g a0 a1 w.1 w.2.1 ∧ w.2.2.1 + mc' ≤ mc ∧ w.2.2.2 + ms' ≤ ms ∧ ∀ x m' n', Q g a0 a1 w.1 w.2.1 x m' n' → yIn g m' n' → w.2.1 ≤ n' → K (.int x :: r) (m', n', w.2.2.1 + mc', w.2.2.2 + ms')
  | _ => False
theorem yov_LLrI_r {g : hG} {mc ms mc' ms' : Nat} {cs : List Nat} {P : hG → Nat → Nat → yM → Nat → Prop} {Q : hG → Nat → Nat → yM → Nat → Int32 → yM → Nat → Prop} {a0 : Nat} {a1 : Nat} {r : List Value} {w : yW} {K : List Value → yW → Prop} {Y : Nat → yW → Prop} : yov_LLrI g mc ms mc' ms' cs P Q (.ref a1 :: .ref a0 :: r) w K Y = (yc w.1 a0 ∈ cs ∧ se_c8 8 r ∧ P g a0 a1 w.1 w.2.1 ∧ w.2.2.1 + mc' ≤ mc ∧ w.2.2.2 + ms' ≤ ms ∧ ∀ x m' n', Q g a0 a1 w.1 w.2.1 x m' n' → yIn g m' n' → w.2.1 ≤ n' → K (.int x :: r) (m', n', w.2.2.1 + mc', w.2.2.2 + ms')) := rfl
theorem yov_LLrI_ok {g : hG} {mc ms mc' ms' : Nat} {cs : List Nat} {P : hG → Nat → Nat → yM → Nat → Prop} {Q : hG → Nat → Nat → yM → Nat → Int32 → yM → Nat → Prop} {p : Program} {l : Launch} {e : Env} {R : Room} {s : State} {m : MethodId} {args : Array Value} {below : List Frame} {meth : Method} {c : Code} {nL : Nat} {cc : ByteArray} {Q0 : State → Prop} {H0 : Heap} {ins : Instr} {len : Nat} (hS : se_Snd p l e R s m args below meth c Q0 nL (fun a => a) (yRM g H0) cc ins len (yCV g 1 mc ms mc' ms' cs (fun (g : hG) (av : List Value) (m : yM) (n : Nat) => ∃ (a0 : Nat) (a1 : Nat), av = [.ref a0, .ref a1] ∧ P g a0 a1 m n) (fun (g : hG) (av : List Value) (m : yM) (n : Nat) (v : Option Value) (m' : yM) (n' : Nat) => ∀ (a0 : Nat) (a1 : Nat), av = [.ref a0, .ref a1] → ∃ x, v = some (.int x) ∧ Q g a0 a1 m n x m' n') yNoX)) : se_Snd p l e R s m args below meth c Q0 nL (fun a => a) (yRM g H0) cc ins len (yov_LLrI g mc ms mc' ms' cs P Q) :=
  hS.mono fun st w K Y h => by
    unfold yov_LLrI at h
    split at h
    · rename_i a1 a0 r
      obtain ⟨hc, h8, hP, r1, r2, hq⟩ := h
      exact (⟨hc, h8, ⟨a0, a1, rfl, hP⟩, r1, r2, fun v m' n' hp hi hn => by
              obtain ⟨x, rfl, hx⟩ := hp a0 a1 rfl
              exact hq x m' n' hx hi hn, fun b m' n' hp => hp.elim⟩ : (yRcv cs w.1 [.ref a0, .ref a1] ∧ yGo g mc ms mc' ms' ((fun (g : hG) (av : List Value) (m : yM) (n : Nat) => ∃ (a0 : Nat) (a1 : Nat), av = [.ref a0, .ref a1] ∧ P g a0 a1 m n) g) ((fun (g : hG) (av : List Value) (m : yM) (n : Nat) (v : Option Value) (m' : yM) (n' : Nat) => ∀ (a0 : Nat) (a1 : Nat), av = [.ref a0, .ref a1] → ∃ x, v = some (.int x) ∧ Q g a0 a1 m n x m' n') g) (yNoX g) [.ref a0, .ref a1] r w K Y))
    · exact h.elim
def ypv_LLrI (g : hG) (mc ms : Nat) (cs : List Nat) (P : hG → Nat → Nat → yM → Nat → Prop) (R0 : hG → Nat → Nat → yM → Nat → Int32) : se_Op yW := fun st w K Y => match st with
  | .ref a1 :: .ref a0 :: r => yc w.1 a0 ∈ cs ∧ se_c8 8 r ∧ P g a0 a1 w.1 w.2.1 ∧ w.2.2.1 ≤ mc ∧ w.2.2.2 ≤ ms ∧ K (.int (R0 g a0 a1 w.1 w.2.1) :: r) w
  | _ => False
theorem ypv_LLrI_r {g : hG} {mc ms : Nat} {cs : List Nat} {P : hG → Nat → Nat → yM → Nat → Prop} {R0 : hG → Nat → Nat → yM → Nat → Int32} {a0 : Nat} {a1 : Nat} {r : List Value} {w : yW} {K : List Value → yW → Prop} {Y : Nat → yW → Prop} : ypv_LLrI g mc ms cs P R0 (.ref a1 :: .ref a0 :: r) w K Y = (yc w.1 a0 ∈ cs ∧ se_c8 8 r ∧ P g a0 a1 w.1 w.2.1 ∧ w.2.2.1 ≤ mc ∧ w.2.2.2 ≤ ms ∧ K (.int (R0 g a0 a1 w.1 w.2.1) :: r) w) := rfl
theorem ypv_LLrI_ok {g : hG} {mc ms : Nat} {cs : List Nat} {P : hG → Nat → Nat → yM → Nat → Prop} {R0 : hG → Nat → Nat → yM → Nat → Int32} {p : Program} {l : Launch} {e : Env} {R : Room} {s : State} {m : MethodId} {args : Array Value} {below : List Frame} {meth : Method} {c : Code} {nL : Nat} {cc : ByteArray} {Q0 : State → Prop} {H0 : Heap} {ins : Instr} {len : Nat} (hS : se_Snd p l e R s m args below meth c Q0 nL (fun a => a) (yRM g H0) cc ins len (yov_LLrI g mc ms 0 0 cs P (fun g a0 a1 m n x m' n' => x = R0 g a0 a1 m n ∧ m' = m ∧ n' = n))) : se_Snd p l e R s m args below meth c Q0 nL (fun a => a) (yRM g H0) cc ins len (ypv_LLrI g mc ms cs P R0) :=
  hS.mono fun st w K Y h => by
    unfold ypv_LLrI at h
    split at h
    · rename_i a1 a0 r
      obtain ⟨hc, h8, hP, r1, r2, hq⟩ := h
      exact ⟨hc, h8, hP, r1, r2, fun x m' n' e _ _ => by
              obtain ⟨rfl, rfl, rfl⟩ := e
              exact hq⟩
    · exact h.elim
def yfv_LLrI (g : hG) (mc ms : Nat) (cs : List Nat) (P : hG → Nat → Nat → yM → Nat → Prop) (R0 : hG → Nat → Nat → yM → Nat → Int32) (F : hG → Nat → Nat → yM → Nat → yM) : se_Op yW := fun st w K Y => match st with
  | .ref a1 :: .ref a0 :: r => yc w.1 a0 ∈ cs ∧ se_c8 8 r ∧ P g a0 a1 w.1 w.2.1 ∧ w.2.2.1 ≤ mc ∧ w.2.2.2 ≤ ms ∧ K (.int (R0 g a0 a1 w.1 w.2.1) :: r) (F g a0 a1 w.1 w.2.1, w.2)
  | _ => False
theorem yfv_LLrI_r {g : hG} {mc ms : Nat} {cs : List Nat} {P : hG → Nat → Nat → yM → Nat → Prop} {R0 : hG → Nat → Nat → yM → Nat → Int32} {F : hG → Nat → Nat → yM → Nat → yM} {a0 : Nat} {a1 : Nat} {r : List Value} {w : yW} {K : List Value → yW → Prop} {Y : Nat → yW → Prop} : yfv_LLrI g mc ms cs P R0 F (.ref a1 :: .ref a0 :: r) w K Y = (yc w.1 a0 ∈ cs ∧ se_c8 8 r ∧ P g a0 a1 w.1 w.2.1 ∧ w.2.2.1 ≤ mc ∧ w.2.2.2 ≤ ms ∧ K (.int (R0 g a0 a1 w.1 w.2.1) :: r) (F g a0 a1 w.1 w.2.1, w.2)) := rfl
theorem yfv_LLrI_ok {g : hG} {mc ms : Nat} {cs : List Nat} {P : hG → Nat → Nat → yM → Nat → Prop} {R0 : hG → Nat → Nat → yM → Nat → Int32} {F : hG → Nat → Nat → yM → Nat → yM} {p : Program} {l : Launch} {e : Env} {R : Room} {s : State} {m : MethodId} {args : Array Value} {below : List Frame} {meth : Method} {c : Code} {nL : Nat} {cc : ByteArray} {Q0 : State → Prop} {H0 : Heap} {ins : Instr} {len : Nat} (hS : se_Snd p l e R s m args below meth c Q0 nL (fun a => a) (yRM g H0) cc ins len (yov_LLrI g mc ms 0 0 cs P (fun g a0 a1 m n x m' n' => x = R0 g a0 a1 m n ∧ m' = F g a0 a1 m n ∧ n' = n))) : se_Snd p l e R s m args below meth c Q0 nL (fun a => a) (yRM g H0) cc ins len (yfv_LLrI g mc ms cs P R0 F) :=
  hS.mono fun st w K Y h => by
    unfold yfv_LLrI at h
    split at h
    · rename_i a1 a0 r
      obtain ⟨hc, h8, hP, r1, r2, hq⟩ := h
      exact ⟨hc, h8, hP, r1, r2, fun x m' n' e _ _ => by
              obtain ⟨rfl, rfl, rfl⟩ := e
              exact hq⟩
    · exact h.elim
def yt_LLrI (mc ms : Nat) (Q : hG → Nat → Nat → yM → Nat → Int32 → yM → Nat → Prop) (g : hG) (a0 : Nat) (a1 : Nat) (m : yM) (n : Nat) : Option Value → yW → Prop := yRt (some .int) mc ms ((fun (g : hG) (av : List Value) (m : yM) (n : Nat) (v : Option Value) (m' : yM) (n' : Nat) => ∀ (a0 : Nat) (a1 : Nat), av = [.ref a0, .ref a1] → ∃ x, v = some (.int x) ∧ Q g a0 a1 m n x m' n') g [.ref a0, .ref a1] m n)
theorem yt_LLrI_e {mc ms : Nat} {Q : hG → Nat → Nat → yM → Nat → Int32 → yM → Nat → Prop} {g : hG} {a0 : Nat} {a1 : Nat} {m : yM} {n : Nat} {w : yW} {z : Int32} : yt_LLrI mc ms Q g a0 a1 m n (some (.int z)) w = (w.2.2.1 ≤ mc ∧ w.2.2.2 ≤ ms ∧ Q g a0 a1 m n z w.1 w.2.1) := by
  apply propext
  constructor
  · intro h
    obtain ⟨x, e, hq⟩ := h.2.2.2 _ _ rfl
    cases e
    exact ⟨h.2.1, h.2.2.1, hq⟩
  · intro h
    obtain ⟨h1, h2, h3⟩ := h
    exact ⟨⟨_, rfl, rfl⟩, h1, h2, fun _ _ e => by
      cases e
      exact ⟨z, rfl, h3⟩⟩
theorem ym_LLrI_of {l : Launch} {y : MethodName} {own : String} {cc : ByteArray} {maxL fr lo mc ms : Nat} {P : hG → Nat → Nat → yM → Nat → Prop} {Q : hG → Nat → Nat → yM → Nat → Int32 → yM → Nat → Prop} {T : hG → Nat → Nat → se_Op yW} (hy : plainName y.cls = true) (hyc : y.cls = own) (hT : yTS l own y.name cc maxL (some .int) fr lo mc ms T) (hL : 2 ≤ maxL)
    (body : ∀ (g : hG) (a0 : Nat) (a1 : Nat) (m : yM) (n : Nat), hVg g → yIn g m n → P g a0 a1 m n → ∀ G : Nat → se_L → List Value → yW → Prop, (∀ (stops : List Nat) (f pc : Nat) (L : se_L) (st : List Value) (w : yW), wpN True (T g) cc stops G (yXt mc ms (yNoX g [.ref a0, .ref a1] m n)) (yt_LLrI mc ms Q g a0 a1 m n) f pc L st w → G pc L st w) → G 0 (se_ent [.ref a0, .ref a1] maxL) [] (m, n, 0, 0)) : ym_LLrI l y (ws_ y cc maxL (some .int)) fr lo mc ms P Q :=
  yOf hy hyc hT (fun g av m n h => by
    obtain ⟨a0, a1, rfl, _⟩ := h
    exact hL) (fun g av m n h1 h2 hp G hG => by
    obtain ⟨a0, a1, rfl, hp⟩ := hp
    exact body g a0 a1 m n h1 h2 hp G hG)
abbrev ym_LLrJ (l : Launch) (y : MethodName) (ws : List Cond) (fr lo mc ms : Nat) (P : hG → Nat → Nat → yM → Nat → Prop) (Q : hG → Nat → Nat → yM → Nat → Int64 → yM → Nat → Prop) : Prop := yCon l y ws fr lo mc ms (fun (g : hG) (av : List Value) (m : yM) (n : Nat) => ∃ (a0 : Nat) (a1 : Nat), av = [.ref a0, .ref a1] ∧ P g a0 a1 m n) (fun (g : hG) (av : List Value) (m : yM) (n : Nat) (v : Option Value) (m' : yM) (n' : Nat) => ∀ (a0 : Nat) (a1 : Nat), av = [.ref a0, .ref a1] → ∃ x, v = some (.long x) ∧ Q g a0 a1 m n x m' n') yNoX
def yov_LLrJ (g : hG) (mc ms mc' ms' : Nat) (cs : List Nat) (P : hG → Nat → Nat → yM → Nat → Prop) (Q : hG → Nat → Nat → yM → Nat → Int64 → yM → Nat → Prop) : se_Op yW := fun st w K Y => match st with
  | .ref a1 :: .ref a0 :: r => yc w.1 a0 ∈ cs ∧ se_c8 8 r ∧ P g a0 a1 w.1 w.2.1 ∧ w.2.2.1 + mc' ≤ mc ∧ w.2.2.2 + ms' ≤ ms ∧ ∀ x m' n', Q g a0 a1 w.1 w.2.1 x m' n' → yIn g m' n' → w.2.1 ≤ n' → K (.long x :: r) (m', n', w.2.2.1 + mc', w.2.2.2 + ms')
  | _ => False
theorem yov_LLrJ_r {g : hG} {mc ms mc' ms' : Nat} {cs : List Nat} {P : hG → Nat → Nat → yM → Nat → Prop} {Q : hG → Nat → Nat → yM → Nat → Int64 → yM → Nat → Prop} {a0 : Nat} {a1 : Nat} {r : List Value} {w : yW} {K : List Value → yW → Prop} {Y : Nat → yW → Prop} : yov_LLrJ g mc ms mc' ms' cs P Q (.ref a1 :: .ref a0 :: r) w K Y = (yc w.1 a0 ∈ cs ∧ se_c8 8 r ∧ P g a0 a1 w.1 w.2.1 ∧ w.2.2.1 + mc' ≤ mc ∧ w.2.2.2 + ms' ≤ ms ∧ ∀ x m' n', Q g a0 a1 w.1 w.2.1 x m' n' → yIn g m' n' → w.2.1 ≤ n' → K (.long x :: r) (m', n', w.2.2.1 + mc', w.2.2.2 + ms')) := rfl
theorem yov_LLrJ_ok {g : hG} {mc ms mc' ms' : Nat} {cs : List Nat} {P : hG → Nat → Nat → yM → Nat → Prop} {Q : hG → Nat → Nat → yM → Nat → Int64 → yM → Nat → Prop} {p : Program} {l : Launch} {e : Env} {R : Room} {s : State} {m : MethodId} {args : Array Value} {below : List Frame} {meth : Method} {c : Code} {nL : Nat} {cc : ByteArray} {Q0 : State → Prop} {H0 : Heap} {ins : Instr} {len : Nat} (hS : se_Snd p l e R s m args below meth c Q0 nL (fun a => a) (yRM g H0) cc ins len (yCV g 1 mc ms mc' ms' cs (fun (g : hG) (av : List Value) (m : yM) (n : Nat) => ∃ (a0 : Nat) (a1 : Nat), av = [.ref a0, .ref a1] ∧ P g a0 a1 m n) (fun (g : hG) (av : List Value) (m : yM) (n : Nat) (v : Option Value) (m' : yM) (n' : Nat) => ∀ (a0 : Nat) (a1 : Nat), av = [.ref a0, .ref a1] → ∃ x, v = some (.long x) ∧ Q g a0 a1 m n x m' n') yNoX)) : se_Snd p l e R s m args below meth c Q0 nL (fun a => a) (yRM g H0) cc ins len (yov_LLrJ g mc ms mc' ms' cs P Q) :=
  hS.mono fun st w K Y h => by
    unfold yov_LLrJ at h
    split at h
    · rename_i a1 a0 r
      obtain ⟨hc, h8, hP, r1, r2, hq⟩ := h
      exact (⟨hc, h8, ⟨a0, a1, rfl, hP⟩, r1, r2, fun v m' n' hp hi hn => by
              obtain ⟨x, rfl, hx⟩ := hp a0 a1 rfl
              exact hq x m' n' hx hi hn, fun b m' n' hp => hp.elim⟩ : (yRcv cs w.1 [.ref a0, .ref a1] ∧ yGo g mc ms mc' ms' ((fun (g : hG) (av : List Value) (m : yM) (n : Nat) => ∃ (a0 : Nat) (a1 : Nat), av = [.ref a0, .ref a1] ∧ P g a0 a1 m n) g) ((fun (g : hG) (av : List Value) (m : yM) (n : Nat) (v : Option Value) (m' : yM) (n' : Nat) => ∀ (a0 : Nat) (a1 : Nat), av = [.ref a0, .ref a1] → ∃ x, v = some (.long x) ∧ Q g a0 a1 m n x m' n') g) (yNoX g) [.ref a0, .ref a1] r w K Y))
    · exact h.elim
def ypv_LLrJ (g : hG) (mc ms : Nat) (cs : List Nat) (P : hG → Nat → Nat → yM → Nat → Prop) (R0 : hG → Nat → Nat → yM → Nat → Int64) : se_Op yW := fun st w K Y => match st with
  | .ref a1 :: .ref a0 :: r => yc w.1 a0 ∈ cs ∧ se_c8 8 r ∧ P g a0 a1 w.1 w.2.1 ∧ w.2.2.1 ≤ mc ∧ w.2.2.2 ≤ ms ∧ K (.long (R0 g a0 a1 w.1 w.2.1) :: r) w
  | _ => False
theorem ypv_LLrJ_r {g : hG} {mc ms : Nat} {cs : List Nat} {P : hG → Nat → Nat → yM → Nat → Prop} {R0 : hG → Nat → Nat → yM → Nat → Int64} {a0 : Nat} {a1 : Nat} {r : List Value} {w : yW} {K : List Value → yW → Prop} {Y : Nat → yW → Prop} : ypv_LLrJ g mc ms cs P R0 (.ref a1 :: .ref a0 :: r) w K Y = (yc w.1 a0 ∈ cs ∧ se_c8 8 r ∧ P g a0 a1 w.1 w.2.1 ∧ w.2.2.1 ≤ mc ∧ w.2.2.2 ≤ ms ∧ K (.long (R0 g a0 a1 w.1 w.2.1) :: r) w) := rfl
theorem ypv_LLrJ_ok {g : hG} {mc ms : Nat} {cs : List Nat} {P : hG → Nat → Nat → yM → Nat → Prop} {R0 : hG → Nat → Nat → yM → Nat → Int64} {p : Program} {l : Launch} {e : Env} {R : Room} {s : State} {m : MethodId} {args : Array Value} {below : List Frame} {meth : Method} {c : Code} {nL : Nat} {cc : ByteArray} {Q0 : State → Prop} {H0 : Heap} {ins : Instr} {len : Nat} (hS : se_Snd p l e R s m args below meth c Q0 nL (fun a => a) (yRM g H0) cc ins len (yov_LLrJ g mc ms 0 0 cs P (fun g a0 a1 m n x m' n' => x = R0 g a0 a1 m n ∧ m' = m ∧ n' = n))) : se_Snd p l e R s m args below meth c Q0 nL (fun a => a) (yRM g H0) cc ins len (ypv_LLrJ g mc ms cs P R0) :=
  hS.mono fun st w K Y h => by
    unfold ypv_LLrJ at h
    split at h
    · rename_i a1 a0 r
      obtain ⟨hc, h8, hP, r1, r2, hq⟩ := h
      exact ⟨hc, h8, hP, r1, r2, fun x m' n' e _ _ => by
              obtain ⟨rfl, rfl, rfl⟩ := e
              exact hq⟩
    · exact h.elim
def yfv_LLrJ (g : hG) (mc ms : Nat) (cs : List Nat) (P : hG → Nat → Nat → yM → Nat → Prop) (R0 : hG → Nat → Nat → yM → Nat → Int64) (F : hG → Nat → Nat → yM → Nat → yM) : se_Op yW := fun st w K Y => match st with
  | .ref a1 :: .ref a0 :: r => yc w.1 a0 ∈ cs ∧ se_c8 8 r ∧ P g a0 a1 w.1 w.2.1 ∧ w.2.2.1 ≤ mc ∧ w.2.2.2 ≤ ms ∧ K (.long (R0 g a0 a1 w.1 w.2.1) :: r) (F g a0 a1 w.1 w.2.1, w.2)
  | _ => False
theorem yfv_LLrJ_r {g : hG} {mc ms : Nat} {cs : List Nat} {P : hG → Nat → Nat → yM → Nat → Prop} {R0 : hG → Nat → Nat → yM → Nat → Int64} {F : hG → Nat → Nat → yM → Nat → yM} {a0 : Nat} {a1 : Nat} {r : List Value} {w : yW} {K : List Value → yW → Prop} {Y : Nat → yW → Prop} : yfv_LLrJ g mc ms cs P R0 F (.ref a1 :: .ref a0 :: r) w K Y = (yc w.1 a0 ∈ cs ∧ se_c8 8 r ∧ P g a0 a1 w.1 w.2.1 ∧ w.2.2.1 ≤ mc ∧ w.2.2.2 ≤ ms ∧ K (.long (R0 g a0 a1 w.1 w.2.1) :: r) (F g a0 a1 w.1 w.2.1, w.2)) := rfl
theorem yfv_LLrJ_ok {g : hG} {mc ms : Nat} {cs : List Nat} {P : hG → Nat → Nat → yM → Nat → Prop} {R0 : hG → Nat → Nat → yM → Nat → Int64} {F : hG → Nat → Nat → yM → Nat → yM} {p : Program} {l : Launch} {e : Env} {R : Room} {s : State} {m : MethodId} {args : Array Value} {below : List Frame} {meth : Method} {c : Code} {nL : Nat} {cc : ByteArray} {Q0 : State → Prop} {H0 : Heap} {ins : Instr} {len : Nat} (hS : se_Snd p l e R s m args below meth c Q0 nL (fun a => a) (yRM g H0) cc ins len (yov_LLrJ g mc ms 0 0 cs P (fun g a0 a1 m n x m' n' => x = R0 g a0 a1 m n ∧ m' = F g a0 a1 m n ∧ n' = n))) : se_Snd p l e R s m args below meth c Q0 nL (fun a => a) (yRM g H0) cc ins len (yfv_LLrJ g mc ms cs P R0 F) :=
  hS.mono fun st w K Y h => by
    unfold yfv_LLrJ at h
    split at h
    · rename_i a1 a0 r
      obtain ⟨hc, h8, hP, r1, r2, hq⟩ := h
      exact ⟨hc, h8, hP, r1, r2, fun x m' n' e _ _ => by
              obtain ⟨rfl, rfl, rfl⟩ := e
              exact hq⟩
    · exact h.elim
def yt_LLrJ (mc ms : Nat) (Q : hG → Nat → Nat → yM → Nat → Int64 → yM → Nat → Prop) (g : hG) (a0 : Nat) (a1 : Nat) (m : yM) (n : Nat) : Option Value → yW → Prop := yRt (some .long) mc ms ((fun (g : hG) (av : List Value) (m : yM) (n : Nat) (v : Option Value) (m' : yM) (n' : Nat) => ∀ (a0 : Nat) (a1 : Nat), av = [.ref a0, .ref a1] → ∃ x, v = some (.long x) ∧ Q g a0 a1 m n x m' n') g [.ref a0, .ref a1] m n)
theorem yt_LLrJ_e {mc ms : Nat} {Q : hG → Nat → Nat → yM → Nat → Int64 → yM → Nat → Prop} {g : hG} {a0 : Nat} {a1 : Nat} {m : yM} {n : Nat} {w : yW} {z : Int64} : yt_LLrJ mc ms Q g a0 a1 m n (some (.long z)) w = (w.2.2.1 ≤ mc ∧ w.2.2.2 ≤ ms ∧ Q g a0 a1 m n z w.1 w.2.1) := by
  apply propext
  constructor
  · intro h
    obtain ⟨x, e, hq⟩ := h.2.2.2 _ _ rfl
    cases e
    exact ⟨h.2.1, h.2.2.1, hq⟩
  · intro h
    obtain ⟨h1, h2, h3⟩ := h
    exact ⟨rfl, h1, h2, fun _ _ e => by
      cases e
      exact ⟨z, rfl, h3⟩⟩
theorem ym_LLrJ_of {l : Launch} {y : MethodName} {own : String} {cc : ByteArray} {maxL fr lo mc ms : Nat} {P : hG → Nat → Nat → yM → Nat → Prop} {Q : hG → Nat → Nat → yM → Nat → Int64 → yM → Nat → Prop} {T : hG → Nat → Nat → se_Op yW} (hy : plainName y.cls = true) (hyc : y.cls = own) (hT : yTS l own y.name cc maxL (some .long) fr lo mc ms T) (hL : 2 ≤ maxL)
    (body : ∀ (g : hG) (a0 : Nat) (a1 : Nat) (m : yM) (n : Nat), hVg g → yIn g m n → P g a0 a1 m n → ∀ G : Nat → se_L → List Value → yW → Prop, (∀ (stops : List Nat) (f pc : Nat) (L : se_L) (st : List Value) (w : yW), wpN True (T g) cc stops G (yXt mc ms (yNoX g [.ref a0, .ref a1] m n)) (yt_LLrJ mc ms Q g a0 a1 m n) f pc L st w → G pc L st w) → G 0 (se_ent [.ref a0, .ref a1] maxL) [] (m, n, 0, 0)) : ym_LLrJ l y (ws_ y cc maxL (some .long)) fr lo mc ms P Q :=
  yOf hy hyc hT (fun g av m n h => by
    obtain ⟨a0, a1, rfl, _⟩ := h
    exact hL) (fun g av m n h1 h2 hp G hG => by
    obtain ⟨a0, a1, rfl, hp⟩ := hp
    exact body g a0 a1 m n h1 h2 hp G hG)
abbrev ym_LLrV (l : Launch) (y : MethodName) (ws : List Cond) (fr lo mc ms : Nat) (P : hG → Nat → Nat → yM → Nat → Prop) (Q : hG → Nat → Nat → yM → Nat → yM → Nat → Prop) : Prop := yCon l y ws fr lo mc ms (fun (g : hG) (av : List Value) (m : yM) (n : Nat) => ∃ (a0 : Nat) (a1 : Nat), av = [.ref a0, .ref a1] ∧ P g a0 a1 m n) (fun (g : hG) (av : List Value) (m : yM) (n : Nat) (v : Option Value) (m' : yM) (n' : Nat) => ∀ (a0 : Nat) (a1 : Nat), av = [.ref a0, .ref a1] → v = none ∧ Q g a0 a1 m n m' n') yNoX
def yo_LLrV (g : hG) (mc ms mc' ms' : Nat) (P : hG → Nat → Nat → yM → Nat → Prop) (Q : hG → Nat → Nat → yM → Nat → yM → Nat → Prop) : se_Op yW := fun st w K Y => match st with
  | .ref a1 :: .ref a0 :: r => se_c8 8 r ∧ P g a0 a1 w.1 w.2.1 ∧ w.2.2.1 + mc' ≤ mc ∧ w.2.2.2 + ms' ≤ ms ∧ ∀ m' n', Q g a0 a1 w.1 w.2.1 m' n' → yIn g m' n' → w.2.1 ≤ n' → K r (m', n', w.2.2.1 + mc', w.2.2.2 + ms')
  | _ => False
theorem yo_LLrV_r {g : hG} {mc ms mc' ms' : Nat} {P : hG → Nat → Nat → yM → Nat → Prop} {Q : hG → Nat → Nat → yM → Nat → yM → Nat → Prop} {a0 : Nat} {a1 : Nat} {r : List Value} {w : yW} {K : List Value → yW → Prop} {Y : Nat → yW → Prop} : yo_LLrV g mc ms mc' ms' P Q (.ref a1 :: .ref a0 :: r) w K Y = (se_c8 8 r ∧ P g a0 a1 w.1 w.2.1 ∧ w.2.2.1 + mc' ≤ mc ∧ w.2.2.2 + ms' ≤ ms ∧ ∀ m' n', Q g a0 a1 w.1 w.2.1 m' n' → yIn g m' n' → w.2.1 ≤ n' → K r (m', n', w.2.2.1 + mc', w.2.2.2 + ms')) := rfl
theorem yo_LLrV_ok {g : hG} {mc ms mc' ms' : Nat} {P : hG → Nat → Nat → yM → Nat → Prop} {Q : hG → Nat → Nat → yM → Nat → yM → Nat → Prop} {p : Program} {l : Launch} {e : Env} {R : Room} {s : State} {m : MethodId} {args : Array Value} {below : List Frame} {meth : Method} {c : Code} {nL : Nat} {cc : ByteArray} {Q0 : State → Prop} {H0 : Heap} {ins : Instr} {len : Nat} (hS : se_Snd p l e R s m args below meth c Q0 nL (fun a => a) (yRM g H0) cc ins len (yCS g 2 mc ms mc' ms' (fun (g : hG) (av : List Value) (m : yM) (n : Nat) => ∃ (a0 : Nat) (a1 : Nat), av = [.ref a0, .ref a1] ∧ P g a0 a1 m n) (fun (g : hG) (av : List Value) (m : yM) (n : Nat) (v : Option Value) (m' : yM) (n' : Nat) => ∀ (a0 : Nat) (a1 : Nat), av = [.ref a0, .ref a1] → v = none ∧ Q g a0 a1 m n m' n') yNoX)) : se_Snd p l e R s m args below meth c Q0 nL (fun a => a) (yRM g H0) cc ins len (yo_LLrV g mc ms mc' ms' P Q) :=
  hS.mono fun st w K Y h => by
    unfold yo_LLrV at h
    split at h
    · rename_i a1 a0 r
      obtain ⟨h8, hP, r1, r2, hq⟩ := h
      exact (⟨h8, ⟨a0, a1, rfl, hP⟩, r1, r2, fun v m' n' hp hi hn => by
              obtain ⟨rfl, hx⟩ := hp a0 a1 rfl
              exact hq m' n' hx hi hn, fun b m' n' hp => hp.elim⟩ : yGo g mc ms mc' ms' ((fun (g : hG) (av : List Value) (m : yM) (n : Nat) => ∃ (a0 : Nat) (a1 : Nat), av = [.ref a0, .ref a1] ∧ P g a0 a1 m n) g) ((fun (g : hG) (av : List Value) (m : yM) (n : Nat) (v : Option Value) (m' : yM) (n' : Nat) => ∀ (a0 : Nat) (a1 : Nat), av = [.ref a0, .ref a1] → v = none ∧ Q g a0 a1 m n m' n') g) (yNoX g) [.ref a0, .ref a1] r w K Y)
    · exact h.elim
def yov_LLrV (g : hG) (mc ms mc' ms' : Nat) (cs : List Nat) (P : hG → Nat → Nat → yM → Nat → Prop) (Q : hG → Nat → Nat → yM → Nat → yM → Nat → Prop) : se_Op yW := fun st w K Y => match st with
  | .ref a1 :: .ref a0 :: r => yc w.1 a0 ∈ cs ∧ se_c8 8 r ∧ P g a0 a1 w.1 w.2.1 ∧ w.2.2.1 + mc' ≤ mc ∧ w.2.2.2 + ms' ≤ ms ∧ ∀ m' n', Q g a0 a1 w.1 w.2.1 m' n' → yIn g m' n' → w.2.1 ≤ n' → K r (m', n', w.2.2.1 + mc', w.2.2.2 + ms')
  | _ => False
theorem yov_LLrV_r {g : hG} {mc ms mc' ms' : Nat} {cs : List Nat} {P : hG → Nat → Nat → yM → Nat → Prop} {Q : hG → Nat → Nat → yM → Nat → yM → Nat → Prop} {a0 : Nat} {a1 : Nat} {r : List Value} {w : yW} {K : List Value → yW → Prop} {Y : Nat → yW → Prop} : yov_LLrV g mc ms mc' ms' cs P Q (.ref a1 :: .ref a0 :: r) w K Y = (yc w.1 a0 ∈ cs ∧ se_c8 8 r ∧ P g a0 a1 w.1 w.2.1 ∧ w.2.2.1 + mc' ≤ mc ∧ w.2.2.2 + ms' ≤ ms ∧ ∀ m' n', Q g a0 a1 w.1 w.2.1 m' n' → yIn g m' n' → w.2.1 ≤ n' → K r (m', n', w.2.2.1 + mc', w.2.2.2 + ms')) := rfl
theorem yov_LLrV_ok {g : hG} {mc ms mc' ms' : Nat} {cs : List Nat} {P : hG → Nat → Nat → yM → Nat → Prop} {Q : hG → Nat → Nat → yM → Nat → yM → Nat → Prop} {p : Program} {l : Launch} {e : Env} {R : Room} {s : State} {m : MethodId} {args : Array Value} {below : List Frame} {meth : Method} {c : Code} {nL : Nat} {cc : ByteArray} {Q0 : State → Prop} {H0 : Heap} {ins : Instr} {len : Nat} (hS : se_Snd p l e R s m args below meth c Q0 nL (fun a => a) (yRM g H0) cc ins len (yCV g 1 mc ms mc' ms' cs (fun (g : hG) (av : List Value) (m : yM) (n : Nat) => ∃ (a0 : Nat) (a1 : Nat), av = [.ref a0, .ref a1] ∧ P g a0 a1 m n) (fun (g : hG) (av : List Value) (m : yM) (n : Nat) (v : Option Value) (m' : yM) (n' : Nat) => ∀ (a0 : Nat) (a1 : Nat), av = [.ref a0, .ref a1] → v = none ∧ Q g a0 a1 m n m' n') yNoX)) : se_Snd p l e R s m args below meth c Q0 nL (fun a => a) (yRM g H0) cc ins len (yov_LLrV g mc ms mc' ms' cs P Q) :=
  hS.mono fun st w K Y h => by
    unfold yov_LLrV at h
    split at h
    · rename_i a1 a0 r
      obtain ⟨hc, h8, hP, r1, r2, hq⟩ := h
      exact (⟨hc, h8, ⟨a0, a1, rfl, hP⟩, r1, r2, fun v m' n' hp hi hn => by
              obtain ⟨rfl, hx⟩ := hp a0 a1 rfl
              exact hq m' n' hx hi hn, fun b m' n' hp => hp.elim⟩ : (yRcv cs w.1 [.ref a0, .ref a1] ∧ yGo g mc ms mc' ms' ((fun (g : hG) (av : List Value) (m : yM) (n : Nat) => ∃ (a0 : Nat) (a1 : Nat), av = [.ref a0, .ref a1] ∧ P g a0 a1 m n) g) ((fun (g : hG) (av : List Value) (m : yM) (n : Nat) (v : Option Value) (m' : yM) (n' : Nat) => ∀ (a0 : Nat) (a1 : Nat), av = [.ref a0, .ref a1] → v = none ∧ Q g a0 a1 m n m' n') g) (yNoX g) [.ref a0, .ref a1] r w K Y))
    · exact h.elim
def yf_LLrV (g : hG) (mc ms : Nat) (P : hG → Nat → Nat → yM → Nat → Prop) (F : hG → Nat → Nat → yM → Nat → yM) : se_Op yW := fun st w K Y => match st with
  | .ref a1 :: .ref a0 :: r => se_c8 8 r ∧ P g a0 a1 w.1 w.2.1 ∧ w.2.2.1 ≤ mc ∧ w.2.2.2 ≤ ms ∧ K (r) (F g a0 a1 w.1 w.2.1, w.2)
  | _ => False
theorem yf_LLrV_r {g : hG} {mc ms : Nat} {P : hG → Nat → Nat → yM → Nat → Prop} {F : hG → Nat → Nat → yM → Nat → yM} {a0 : Nat} {a1 : Nat} {r : List Value} {w : yW} {K : List Value → yW → Prop} {Y : Nat → yW → Prop} : yf_LLrV g mc ms P F (.ref a1 :: .ref a0 :: r) w K Y = (se_c8 8 r ∧ P g a0 a1 w.1 w.2.1 ∧ w.2.2.1 ≤ mc ∧ w.2.2.2 ≤ ms ∧ K (r) (F g a0 a1 w.1 w.2.1, w.2)) := rfl
theorem yf_LLrV_ok {g : hG} {mc ms : Nat} {P : hG → Nat → Nat → yM → Nat → Prop} {F : hG → Nat → Nat → yM → Nat → yM} {p : Program} {l : Launch} {e : Env} {R : Room} {s : State} {m : MethodId} {args : Array Value} {below : List Frame} {meth : Method} {c : Code} {nL : Nat} {cc : ByteArray} {Q0 : State → Prop} {H0 : Heap} {ins : Instr} {len : Nat} (hS : se_Snd p l e R s m args below meth c Q0 nL (fun a => a) (yRM g H0) cc ins len (yo_LLrV g mc ms 0 0 P (fun g a0 a1 m n m' n' => m' = F g a0 a1 m n ∧ n' = n))) : se_Snd p l e R s m args below meth c Q0 nL (fun a => a) (yRM g H0) cc ins len (yf_LLrV g mc ms P F) :=
  hS.mono fun st w K Y h => by
    unfold yf_LLrV at h
    split at h
    · rename_i a1 a0 r
      obtain ⟨h8, hP, r1, r2, hq⟩ := h
      exact ⟨h8, hP, r1, r2, fun m' n' e _ _ => by
              obtain ⟨rfl, rfl⟩ := e
              exact hq⟩
    · exact h.elim
def yfv_LLrV (g : hG) (mc ms : Nat) (cs : List Nat) (P : hG → Nat → Nat → yM → Nat → Prop) (F : hG → Nat → Nat → yM → Nat → yM) : se_Op yW := fun st w K Y => match st with
  | .ref a1 :: .ref a0 :: r => yc w.1 a0 ∈ cs ∧ se_c8 8 r ∧ P g a0 a1 w.1 w.2.1 ∧ w.2.2.1 ≤ mc ∧ w.2.2.2 ≤ ms ∧ K (r) (F g a0 a1 w.1 w.2.1, w.2)
  | _ => False
theorem yfv_LLrV_r {g : hG} {mc ms : Nat} {cs : List Nat} {P : hG → Nat → Nat → yM → Nat → Prop} {F : hG → Nat → Nat → yM → Nat → yM} {a0 : Nat} {a1 : Nat} {r : List Value} {w : yW} {K : List Value → yW → Prop} {Y : Nat → yW → Prop} : yfv_LLrV g mc ms cs P F (.ref a1 :: .ref a0 :: r) w K Y = (yc w.1 a0 ∈ cs ∧ se_c8 8 r ∧ P g a0 a1 w.1 w.2.1 ∧ w.2.2.1 ≤ mc ∧ w.2.2.2 ≤ ms ∧ K (r) (F g a0 a1 w.1 w.2.1, w.2)) := rfl
theorem yfv_LLrV_ok {g : hG} {mc ms : Nat} {cs : List Nat} {P : hG → Nat → Nat → yM → Nat → Prop} {F : hG → Nat → Nat → yM → Nat → yM} {p : Program} {l : Launch} {e : Env} {R : Room} {s : State} {m : MethodId} {args : Array Value} {below : List Frame} {meth : Method} {c : Code} {nL : Nat} {cc : ByteArray} {Q0 : State → Prop} {H0 : Heap} {ins : Instr} {len : Nat} (hS : se_Snd p l e R s m args below meth c Q0 nL (fun a => a) (yRM g H0) cc ins len (yov_LLrV g mc ms 0 0 cs P (fun g a0 a1 m n m' n' => m' = F g a0 a1 m n ∧ n' = n))) : se_Snd p l e R s m args below meth c Q0 nL (fun a => a) (yRM g H0) cc ins len (yfv_LLrV g mc ms cs P F) :=
  hS.mono fun st w K Y h => by
    unfold yfv_LLrV at h
    split at h
    · rename_i a1 a0 r
      obtain ⟨hc, h8, hP, r1, r2, hq⟩ := h
      exact ⟨hc, h8, hP, r1, r2, fun m' n' e _ _ => by
              obtain ⟨rfl, rfl⟩ := e
              exact hq⟩
    · exact h.elim
def yt_LLrV (mc ms : Nat) (Q : hG → Nat → Nat → yM → Nat → yM → Nat → Prop) (g : hG) (a0 : Nat) (a1 : Nat) (m : yM) (n : Nat) : Option Value → yW → Prop := yRt none mc ms ((fun (g : hG) (av : List Value) (m : yM) (n : Nat) (v : Option Value) (m' : yM) (n' : Nat) => ∀ (a0 : Nat) (a1 : Nat), av = [.ref a0, .ref a1] → v = none ∧ Q g a0 a1 m n m' n') g [.ref a0, .ref a1] m n)
theorem yt_LLrV_e {mc ms : Nat} {Q : hG → Nat → Nat → yM → Nat → yM → Nat → Prop} {g : hG} {a0 : Nat} {a1 : Nat} {m : yM} {n : Nat} {w : yW} : yt_LLrV mc ms Q g a0 a1 m n none w = (w.2.2.1 ≤ mc ∧ w.2.2.2 ≤ ms ∧ Q g a0 a1 m n w.1 w.2.1) := by
  apply propext
  exact ⟨fun h => ⟨h.2.1, h.2.2.1, (h.2.2.2 _ _ rfl).2⟩, fun h => ⟨rfl, h.1, h.2.1, fun _ _ e => by
    cases e
    exact ⟨rfl, h.2.2⟩⟩⟩
theorem ym_LLrV_of {l : Launch} {y : MethodName} {own : String} {cc : ByteArray} {maxL fr lo mc ms : Nat} {P : hG → Nat → Nat → yM → Nat → Prop} {Q : hG → Nat → Nat → yM → Nat → yM → Nat → Prop} {T : hG → Nat → Nat → se_Op yW} (hy : plainName y.cls = true) (hyc : y.cls = own) (hT : yTS l own y.name cc maxL none fr lo mc ms T) (hL : 2 ≤ maxL)
    (body : ∀ (g : hG) (a0 : Nat) (a1 : Nat) (m : yM) (n : Nat), hVg g → yIn g m n → P g a0 a1 m n → ∀ G : Nat → se_L → List Value → yW → Prop, (∀ (stops : List Nat) (f pc : Nat) (L : se_L) (st : List Value) (w : yW), wpN True (T g) cc stops G (yXt mc ms (yNoX g [.ref a0, .ref a1] m n)) (yt_LLrV mc ms Q g a0 a1 m n) f pc L st w → G pc L st w) → G 0 (se_ent [.ref a0, .ref a1] maxL) [] (m, n, 0, 0)) : ym_LLrV l y (ws_ y cc maxL none) fr lo mc ms P Q :=
  yOf hy hyc hT (fun g av m n h => by
    obtain ⟨a0, a1, rfl, _⟩ := h
    exact hL) (fun g av m n h1 h2 hp G hG => by
    obtain ⟨a0, a1, rfl, hp⟩ := hp
    exact body g a0 a1 m n h1 h2 hp G hG)
abbrev ym_LLrZ (l : Launch) (y : MethodName) (ws : List Cond) (fr lo mc ms : Nat) (P : hG → Nat → Nat → yM → Nat → Prop) (Q : hG → Nat → Nat → yM → Nat → Bool → yM → Nat → Prop) : Prop := yCon l y ws fr lo mc ms (fun (g : hG) (av : List Value) (m : yM) (n : Nat) => ∃ (a0 : Nat) (a1 : Nat), av = [.ref a0, .ref a1] ∧ P g a0 a1 m n) (fun (g : hG) (av : List Value) (m : yM) (n : Nat) (v : Option Value) (m' : yM) (n' : Nat) => ∀ (a0 : Nat) (a1 : Nat), av = [.ref a0, .ref a1] → ∃ x, v = some (.int (bI x)) ∧ Q g a0 a1 m n x m' n') yNoX
def yo_LLrZ (g : hG) (mc ms mc' ms' : Nat) (P : hG → Nat → Nat → yM → Nat → Prop) (Q : hG → Nat → Nat → yM → Nat → Bool → yM → Nat → Prop) : se_Op yW := fun st w K Y => match st with
  | .ref a1 :: .ref a0 :: r => se_c8 8 r ∧ P g a0 a1 w.1 w.2.1 ∧ w.2.2.1 + mc' ≤ mc ∧ w.2.2.2 + ms' ≤ ms ∧ ∀ x m' n', Q g a0 a1 w.1 w.2.1 x m' n' → yIn g m' n' → w.2.1 ≤ n' → K (.int (bI x) :: r) (m', n', w.2.2.1 + mc', w.2.2.2 + ms')
  | _ => False
theorem yo_LLrZ_r {g : hG} {mc ms mc' ms' : Nat} {P : hG → Nat → Nat → yM → Nat → Prop} {Q : hG → Nat → Nat → yM → Nat → Bool → yM → Nat → Prop} {a0 : Nat} {a1 : Nat} {r : List Value} {w : yW} {K : List Value → yW → Prop} {Y : Nat → yW → Prop} : yo_LLrZ g mc ms mc' ms' P Q (.ref a1 :: .ref a0 :: r) w K Y = (se_c8 8 r ∧ P g a0 a1 w.1 w.2.1 ∧ w.2.2.1 + mc' ≤ mc ∧ w.2.2.2 + ms' ≤ ms ∧ ∀ x m' n', Q g a0 a1 w.1 w.2.1 x m' n' → yIn g m' n' → w.2.1 ≤ n' → K (.int (bI x) :: r) (m', n', w.2.2.1 + mc', w.2.2.2 + ms')) := rfl
theorem yo_LLrZ_ok {g : hG} {mc ms mc' ms' : Nat} {P : hG → Nat → Nat → yM → Nat → Prop} {Q : hG → Nat → Nat → yM → Nat → Bool → yM → Nat → Prop} {p : Program} {l : Launch} {e : Env} {R : Room} {s : State} {m : MethodId} {args : Array Value} {below : List Frame} {meth : Method} {c : Code} {nL : Nat} {cc : ByteArray} {Q0 : State → Prop} {H0 : Heap} {ins : Instr} {len : Nat} (hS : se_Snd p l e R s m args below meth c Q0 nL (fun a => a) (yRM g H0) cc ins len (yCS g 2 mc ms mc' ms' (fun (g : hG) (av : List Value) (m : yM) (n : Nat) => ∃ (a0 : Nat) (a1 : Nat), av = [.ref a0, .ref a1] ∧ P g a0 a1 m n) (fun (g : hG) (av : List Value) (m : yM) (n : Nat) (v : Option Value) (m' : yM) (n' : Nat) => ∀ (a0 : Nat) (a1 : Nat), av = [.ref a0, .ref a1] → ∃ x, v = some (.int (bI x)) ∧ Q g a0 a1 m n x m' n') yNoX)) : se_Snd p l e R s m args below meth c Q0 nL (fun a => a) (yRM g H0) cc ins len (yo_LLrZ g mc ms mc' ms' P Q) :=
  hS.mono fun st w K Y h => by
    unfold yo_LLrZ at h
    split at h
    · rename_i a1 a0 r
      obtain ⟨h8, hP, r1, r2, hq⟩ := h
      exact (⟨h8, ⟨a0, a1, rfl, hP⟩, r1, r2, fun v m' n' hp hi hn => by
              obtain ⟨x, rfl, hx⟩ := hp a0 a1 rfl
              exact hq x m' n' hx hi hn, fun b m' n' hp => hp.elim⟩ : yGo g mc ms mc' ms' ((fun (g : hG) (av : List Value) (m : yM) (n : Nat) => ∃ (a0 : Nat) (a1 : Nat), av = [.ref a0, .ref a1] ∧ P g a0 a1 m n) g) ((fun (g : hG) (av : List Value) (m : yM) (n : Nat) (v : Option Value) (m' : yM) (n' : Nat) => ∀ (a0 : Nat) (a1 : Nat), av = [.ref a0, .ref a1] → ∃ x, v = some (.int (bI x)) ∧ Q g a0 a1 m n x m' n') g) (yNoX g) [.ref a0, .ref a1] r w K Y)
    · exact h.elim
def yov_LLrZ (g : hG) (mc ms mc' ms' : Nat) (cs : List Nat) (P : hG → Nat → Nat → yM → Nat → Prop) (Q : hG → Nat → Nat → yM → Nat → Bool → yM → Nat → Prop) : se_Op yW := fun st w K Y => match st with
  | .ref a1 :: .ref a0 :: r => yc w.1 a0 ∈ cs ∧ se_c8 8 r ∧ P g a0 a1 w.1 w.2.1 ∧ w.2.2.1 + mc' ≤ mc ∧ w.2.2.2 + ms' ≤ ms ∧ ∀ x m' n', Q g a0 a1 w.1 w.2.1 x m' n' → yIn g m' n' → w.2.1 ≤ n' → K (.int (bI x) :: r) (m', n', w.2.2.1 + mc', w.2.2.2 + ms')
  | _ => False
theorem yov_LLrZ_r {g : hG} {mc ms mc' ms' : Nat} {cs : List Nat} {P : hG → Nat → Nat → yM → Nat → Prop} {Q : hG → Nat → Nat → yM → Nat → Bool → yM → Nat → Prop} {a0 : Nat} {a1 : Nat} {r : List Value} {w : yW} {K : List Value → yW → Prop} {Y : Nat → yW → Prop} : yov_LLrZ g mc ms mc' ms' cs P Q (.ref a1 :: .ref a0 :: r) w K Y = (yc w.1 a0 ∈ cs ∧ se_c8 8 r ∧ P g a0 a1 w.1 w.2.1 ∧ w.2.2.1 + mc' ≤ mc ∧ w.2.2.2 + ms' ≤ ms ∧ ∀ x m' n', Q g a0 a1 w.1 w.2.1 x m' n' → yIn g m' n' → w.2.1 ≤ n' → K (.int (bI x) :: r) (m', n', w.2.2.1 + mc', w.2.2.2 + ms')) := rfl
theorem yov_LLrZ_ok {g : hG} {mc ms mc' ms' : Nat} {cs : List Nat} {P : hG → Nat → Nat → yM → Nat → Prop} {Q : hG → Nat → Nat → yM → Nat → Bool → yM → Nat → Prop} {p : Program} {l : Launch} {e : Env} {R : Room} {s : State} {m : MethodId} {args : Array Value} {below : List Frame} {meth : Method} {c : Code} {nL : Nat} {cc : ByteArray} {Q0 : State → Prop} {H0 : Heap} {ins : Instr} {len : Nat} (hS : se_Snd p l e R s m args below meth c Q0 nL (fun a => a) (yRM g H0) cc ins len (yCV g 1 mc ms mc' ms' cs (fun (g : hG) (av : List Value) (m : yM) (n : Nat) => ∃ (a0 : Nat) (a1 : Nat), av = [.ref a0, .ref a1] ∧ P g a0 a1 m n) (fun (g : hG) (av : List Value) (m : yM) (n : Nat) (v : Option Value) (m' : yM) (n' : Nat) => ∀ (a0 : Nat) (a1 : Nat), av = [.ref a0, .ref a1] → ∃ x, v = some (.int (bI x)) ∧ Q g a0 a1 m n x m' n') yNoX)) : se_Snd p l e R s m args below meth c Q0 nL (fun a => a) (yRM g H0) cc ins len (yov_LLrZ g mc ms mc' ms' cs P Q) :=
  hS.mono fun st w K Y h => by
    unfold yov_LLrZ at h
    split at h
    · rename_i a1 a0 r
      obtain ⟨hc, h8, hP, r1, r2, hq⟩ := h
      exact (⟨hc, h8, ⟨a0, a1, rfl, hP⟩, r1, r2, fun v m' n' hp hi hn => by
              obtain ⟨x, rfl, hx⟩ := hp a0 a1 rfl
              exact hq x m' n' hx hi hn, fun b m' n' hp => hp.elim⟩ : (yRcv cs w.1 [.ref a0, .ref a1] ∧ yGo g mc ms mc' ms' ((fun (g : hG) (av : List Value) (m : yM) (n : Nat) => ∃ (a0 : Nat) (a1 : Nat), av = [.ref a0, .ref a1] ∧ P g a0 a1 m n) g) ((fun (g : hG) (av : List Value) (m : yM) (n : Nat) (v : Option Value) (m' : yM) (n' : Nat) => ∀ (a0 : Nat) (a1 : Nat), av = [.ref a0, .ref a1] → ∃ x, v = some (.int (bI x)) ∧ Q g a0 a1 m n x m' n') g) (yNoX g) [.ref a0, .ref a1] r w K Y))
    · exact h.elim
abbrev ymx_LLrZ (l : Launch) (y : MethodName) (ws : List Cond) (fr lo mc ms : Nat) (P : hG → Nat → Nat → yM → Nat → Prop) (Q : hG → Nat → Nat → yM → Nat → Bool → yM → Nat → Prop) (X : hG → Nat → Nat → yM → Nat → Nat → yM → Nat → Prop) : Prop := yCon l y ws fr lo mc ms (fun (g : hG) (av : List Value) (m : yM) (n : Nat) => ∃ (a0 : Nat) (a1 : Nat), av = [.ref a0, .ref a1] ∧ P g a0 a1 m n) (fun (g : hG) (av : List Value) (m : yM) (n : Nat) (v : Option Value) (m' : yM) (n' : Nat) => ∀ (a0 : Nat) (a1 : Nat), av = [.ref a0, .ref a1] → ∃ x, v = some (.int (bI x)) ∧ Q g a0 a1 m n x m' n') (fun (g : hG) (av : List Value) (m : yM) (n : Nat) (b : Nat) (m' : yM) (n' : Nat) => ∃ (a0 : Nat) (a1 : Nat), av = [.ref a0, .ref a1] ∧ X g a0 a1 m n b m' n')
def yox_LLrZ (g : hG) (mc ms mc' ms' : Nat) (P : hG → Nat → Nat → yM → Nat → Prop) (Q : hG → Nat → Nat → yM → Nat → Bool → yM → Nat → Prop) (X : hG → Nat → Nat → yM → Nat → Nat → yM → Nat → Prop) : se_Op yW := fun st w K Y => match st with
  | .ref a1 :: .ref a0 :: r => se_c8 8 r ∧ P g a0 a1 w.1 w.2.1 ∧ w.2.2.1 + mc' ≤ mc ∧ w.2.2.2 + ms' ≤ ms ∧ (∀ x m' n', Q g a0 a1 w.1 w.2.1 x m' n' → yIn g m' n' → w.2.1 ≤ n' → K (.int (bI x) :: r) (m', n', w.2.2.1 + mc', w.2.2.2 + ms')) ∧ ∀ b m' n', X g a0 a1 w.1 w.2.1 b m' n' → yIn g m' n' → w.2.1 ≤ n' → Y b (m', n', w.2.2.1 + mc', w.2.2.2 + ms')
  | _ => False
theorem yox_LLrZ_r {g : hG} {mc ms mc' ms' : Nat} {P : hG → Nat → Nat → yM → Nat → Prop} {Q : hG → Nat → Nat → yM → Nat → Bool → yM → Nat → Prop} {X : hG → Nat → Nat → yM → Nat → Nat → yM → Nat → Prop} {a0 : Nat} {a1 : Nat} {r : List Value} {w : yW} {K : List Value → yW → Prop} {Y : Nat → yW → Prop} : yox_LLrZ g mc ms mc' ms' P Q X (.ref a1 :: .ref a0 :: r) w K Y = (se_c8 8 r ∧ P g a0 a1 w.1 w.2.1 ∧ w.2.2.1 + mc' ≤ mc ∧ w.2.2.2 + ms' ≤ ms ∧ (∀ x m' n', Q g a0 a1 w.1 w.2.1 x m' n' → yIn g m' n' → w.2.1 ≤ n' → K (.int (bI x) :: r) (m', n', w.2.2.1 + mc', w.2.2.2 + ms')) ∧ ∀ b m' n', X g a0 a1 w.1 w.2.1 b m' n' → yIn g m' n' → w.2.1 ≤ n' → Y b (m', n', w.2.2.1 + mc', w.2.2.2 + ms')) := rfl
theorem yox_LLrZ_ok {g : hG} {mc ms mc' ms' : Nat} {P : hG → Nat → Nat → yM → Nat → Prop} {Q : hG → Nat → Nat → yM → Nat → Bool → yM → Nat → Prop} {X : hG → Nat → Nat → yM → Nat → Nat → yM → Nat → Prop} {p : Program} {l : Launch} {e : Env} {R : Room} {s : State} {m : MethodId} {args : Array Value} {below : List Frame} {meth : Method} {c : Code} {nL : Nat} {cc : ByteArray} {Q0 : State → Prop} {H0 : Heap} {ins : Instr} {len : Nat} (hS : se_Snd p l e R s m args below meth c Q0 nL (fun a => a) (yRM g H0) cc ins len (yCS g 2 mc ms mc' ms' (fun (g : hG) (av : List Value) (m : yM) (n : Nat) => ∃ (a0 : Nat) (a1 : Nat), av = [.ref a0, .ref a1] ∧ P g a0 a1 m n) (fun (g : hG) (av : List Value) (m : yM) (n : Nat) (v : Option Value) (m' : yM) (n' : Nat) => ∀ (a0 : Nat) (a1 : Nat), av = [.ref a0, .ref a1] → ∃ x, v = some (.int (bI x)) ∧ Q g a0 a1 m n x m' n') (fun (g : hG) (av : List Value) (m : yM) (n : Nat) (b : Nat) (m' : yM) (n' : Nat) => ∃ (a0 : Nat) (a1 : Nat), av = [.ref a0, .ref a1] ∧ X g a0 a1 m n b m' n'))) : se_Snd p l e R s m args below meth c Q0 nL (fun a => a) (yRM g H0) cc ins len (yox_LLrZ g mc ms mc' ms' P Q X) :=
  hS.mono fun st w K Y h => by
    unfold yox_LLrZ at h
    split at h
    · rename_i a1 a0 r
      obtain ⟨h8, hP, r1, r2, hq⟩ := h
      exact (⟨h8, ⟨a0, a1, rfl, hP⟩, r1, r2, fun v m' n' hp hi hn => by
              obtain ⟨x, rfl, hx⟩ := hp a0 a1 rfl
              exact hq.1 x m' n' hx hi hn, fun b m' n' hp hi hn => by
              obtain ⟨z0, z1, e, hx⟩ := hp
              cases e
              exact hq.2 b m' n' hx hi hn⟩ : yGo g mc ms mc' ms' ((fun (g : hG) (av : List Value) (m : yM) (n : Nat) => ∃ (a0 : Nat) (a1 : Nat), av = [.ref a0, .ref a1] ∧ P g a0 a1 m n) g) ((fun (g : hG) (av : List Value) (m : yM) (n : Nat) (v : Option Value) (m' : yM) (n' : Nat) => ∀ (a0 : Nat) (a1 : Nat), av = [.ref a0, .ref a1] → ∃ x, v = some (.int (bI x)) ∧ Q g a0 a1 m n x m' n') g) ((fun (g : hG) (av : List Value) (m : yM) (n : Nat) (b : Nat) (m' : yM) (n' : Nat) => ∃ (a0 : Nat) (a1 : Nat), av = [.ref a0, .ref a1] ∧ X g a0 a1 m n b m' n') g) [.ref a0, .ref a1] r w K Y)
    · exact h.elim
def yovx_LLrZ (g : hG) (mc ms mc' ms' : Nat) (cs : List Nat) (P : hG → Nat → Nat → yM → Nat → Prop) (Q : hG → Nat → Nat → yM → Nat → Bool → yM → Nat → Prop) (X : hG → Nat → Nat → yM → Nat → Nat → yM → Nat → Prop) : se_Op yW := fun st w K Y => match st with
  | .ref a1 :: .ref a0 :: r => yc w.1 a0 ∈ cs ∧ se_c8 8 r ∧ P g a0 a1 w.1 w.2.1 ∧ w.2.2.1 + mc' ≤ mc ∧ w.2.2.2 + ms' ≤ ms ∧ (∀ x m' n', Q g a0 a1 w.1 w.2.1 x m' n' → yIn g m' n' → w.2.1 ≤ n' → K (.int (bI x) :: r) (m', n', w.2.2.1 + mc', w.2.2.2 + ms')) ∧ ∀ b m' n', X g a0 a1 w.1 w.2.1 b m' n' → yIn g m' n' → w.2.1 ≤ n' → Y b (m', n', w.2.2.1 + mc', w.2.2.2 + ms')
  | _ => False
theorem yovx_LLrZ_r {g : hG} {mc ms mc' ms' : Nat} {cs : List Nat} {P : hG → Nat → Nat → yM → Nat → Prop} {Q : hG → Nat → Nat → yM → Nat → Bool → yM → Nat → Prop} {X : hG → Nat → Nat → yM → Nat → Nat → yM → Nat → Prop} {a0 : Nat} {a1 : Nat} {r : List Value} {w : yW} {K : List Value → yW → Prop} {Y : Nat → yW → Prop} : yovx_LLrZ g mc ms mc' ms' cs P Q X (.ref a1 :: .ref a0 :: r) w K Y = (yc w.1 a0 ∈ cs ∧ se_c8 8 r ∧ P g a0 a1 w.1 w.2.1 ∧ w.2.2.1 + mc' ≤ mc ∧ w.2.2.2 + ms' ≤ ms ∧ (∀ x m' n', Q g a0 a1 w.1 w.2.1 x m' n' → yIn g m' n' → w.2.1 ≤ n' → K (.int (bI x) :: r) (m', n', w.2.2.1 + mc', w.2.2.2 + ms')) ∧ ∀ b m' n', X g a0 a1 w.1 w.2.1 b m' n' → yIn g m' n' → w.2.1 ≤ n' → Y b (m', n', w.2.2.1 + mc', w.2.2.2 + ms')) := rfl
theorem yovx_LLrZ_ok {g : hG} {mc ms mc' ms' : Nat} {cs : List Nat} {P : hG → Nat → Nat → yM → Nat → Prop} {Q : hG → Nat → Nat → yM → Nat → Bool → yM → Nat → Prop} {X : hG → Nat → Nat → yM → Nat → Nat → yM → Nat → Prop} {p : Program} {l : Launch} {e : Env} {R : Room} {s : State} {m : MethodId} {args : Array Value} {below : List Frame} {meth : Method} {c : Code} {nL : Nat} {cc : ByteArray} {Q0 : State → Prop} {H0 : Heap} {ins : Instr} {len : Nat} (hS : se_Snd p l e R s m args below meth c Q0 nL (fun a => a) (yRM g H0) cc ins len (yCV g 1 mc ms mc' ms' cs (fun (g : hG) (av : List Value) (m : yM) (n : Nat) => ∃ (a0 : Nat) (a1 : Nat), av = [.ref a0, .ref a1] ∧ P g a0 a1 m n) (fun (g : hG) (av : List Value) (m : yM) (n : Nat) (v : Option Value) (m' : yM) (n' : Nat) => ∀ (a0 : Nat) (a1 : Nat), av = [.ref a0, .ref a1] → ∃ x, v = some (.int (bI x)) ∧ Q g a0 a1 m n x m' n') (fun (g : hG) (av : List Value) (m : yM) (n : Nat) (b : Nat) (m' : yM) (n' : Nat) => ∃ (a0 : Nat) (a1 : Nat), av = [.ref a0, .ref a1] ∧ X g a0 a1 m n b m' n'))) : se_Snd p l e R s m args below meth c Q0 nL (fun a => a) (yRM g H0) cc ins len (yovx_LLrZ g mc ms mc' ms' cs P Q X) :=
  hS.mono fun st w K Y h => by
    unfold yovx_LLrZ at h
    split at h
    · rename_i a1 a0 r
      obtain ⟨hc, h8, hP, r1, r2, hq⟩ := h
      exact (⟨hc, h8, ⟨a0, a1, rfl, hP⟩, r1, r2, fun v m' n' hp hi hn => by
              obtain ⟨x, rfl, hx⟩ := hp a0 a1 rfl
              exact hq.1 x m' n' hx hi hn, fun b m' n' hp hi hn => by
              obtain ⟨z0, z1, e, hx⟩ := hp
              cases e
              exact hq.2 b m' n' hx hi hn⟩ : (yRcv cs w.1 [.ref a0, .ref a1] ∧ yGo g mc ms mc' ms' ((fun (g : hG) (av : List Value) (m : yM) (n : Nat) => ∃ (a0 : Nat) (a1 : Nat), av = [.ref a0, .ref a1] ∧ P g a0 a1 m n) g) ((fun (g : hG) (av : List Value) (m : yM) (n : Nat) (v : Option Value) (m' : yM) (n' : Nat) => ∀ (a0 : Nat) (a1 : Nat), av = [.ref a0, .ref a1] → ∃ x, v = some (.int (bI x)) ∧ Q g a0 a1 m n x m' n') g) ((fun (g : hG) (av : List Value) (m : yM) (n : Nat) (b : Nat) (m' : yM) (n' : Nat) => ∃ (a0 : Nat) (a1 : Nat), av = [.ref a0, .ref a1] ∧ X g a0 a1 m n b m' n') g) [.ref a0, .ref a1] r w K Y))
    · exact h.elim
def yp_LLrZ (g : hG) (mc ms : Nat) (P : hG → Nat → Nat → yM → Nat → Prop) (R0 : hG → Nat → Nat → yM → Nat → Bool) : se_Op yW := fun st w K Y => match st with
  | .ref a1 :: .ref a0 :: r => se_c8 8 r ∧ P g a0 a1 w.1 w.2.1 ∧ w.2.2.1 ≤ mc ∧ w.2.2.2 ≤ ms ∧ K (.int (bI (R0 g a0 a1 w.1 w.2.1)) :: r) w
  | _ => False
theorem yp_LLrZ_r {g : hG} {mc ms : Nat} {P : hG → Nat → Nat → yM → Nat → Prop} {R0 : hG → Nat → Nat → yM → Nat → Bool} {a0 : Nat} {a1 : Nat} {r : List Value} {w : yW} {K : List Value → yW → Prop} {Y : Nat → yW → Prop} : yp_LLrZ g mc ms P R0 (.ref a1 :: .ref a0 :: r) w K Y = (se_c8 8 r ∧ P g a0 a1 w.1 w.2.1 ∧ w.2.2.1 ≤ mc ∧ w.2.2.2 ≤ ms ∧ K (.int (bI (R0 g a0 a1 w.1 w.2.1)) :: r) w) := rfl
theorem yp_LLrZ_ok {g : hG} {mc ms : Nat} {P : hG → Nat → Nat → yM → Nat → Prop} {R0 : hG → Nat → Nat → yM → Nat → Bool} {p : Program} {l : Launch} {e : Env} {R : Room} {s : State} {m : MethodId} {args : Array Value} {below : List Frame} {meth : Method} {c : Code} {nL : Nat} {cc : ByteArray} {Q0 : State → Prop} {H0 : Heap} {ins : Instr} {len : Nat} (hS : se_Snd p l e R s m args below meth c Q0 nL (fun a => a) (yRM g H0) cc ins len (yo_LLrZ g mc ms 0 0 P (fun g a0 a1 m n x m' n' => x = R0 g a0 a1 m n ∧ m' = m ∧ n' = n))) : se_Snd p l e R s m args below meth c Q0 nL (fun a => a) (yRM g H0) cc ins len (yp_LLrZ g mc ms P R0) :=
  hS.mono fun st w K Y h => by
    unfold yp_LLrZ at h
    split at h
    · rename_i a1 a0 r
      obtain ⟨h8, hP, r1, r2, hq⟩ := h
      exact ⟨h8, hP, r1, r2, fun x m' n' e _ _ => by
              obtain ⟨rfl, rfl, rfl⟩ := e
              exact hq⟩
    · exact h.elim
def ypv_LLrZ (g : hG) (mc ms : Nat) (cs : List Nat) (P : hG → Nat → Nat → yM → Nat → Prop) (R0 : hG → Nat → Nat → yM → Nat → Bool) : se_Op yW := fun st w K Y => match st with
  | .ref a1 :: .ref a0 :: r => yc w.1 a0 ∈ cs ∧ se_c8 8 r ∧ P g a0 a1 w.1 w.2.1 ∧ w.2.2.1 ≤ mc ∧ w.2.2.2 ≤ ms ∧ K (.int (bI (R0 g a0 a1 w.1 w.2.1)) :: r) w
  | _ => False
theorem ypv_LLrZ_r {g : hG} {mc ms : Nat} {cs : List Nat} {P : hG → Nat → Nat → yM → Nat → Prop} {R0 : hG → Nat → Nat → yM → Nat → Bool} {a0 : Nat} {a1 : Nat} {r : List Value} {w : yW} {K : List Value → yW → Prop} {Y : Nat → yW → Prop} : ypv_LLrZ g mc ms cs P R0 (.ref a1 :: .ref a0 :: r) w K Y = (yc w.1 a0 ∈ cs ∧ se_c8 8 r ∧ P g a0 a1 w.1 w.2.1 ∧ w.2.2.1 ≤ mc ∧ w.2.2.2 ≤ ms ∧ K (.int (bI (R0 g a0 a1 w.1 w.2.1)) :: r) w) := rfl
theorem ypv_LLrZ_ok {g : hG} {mc ms : Nat} {cs : List Nat} {P : hG → Nat → Nat → yM → Nat → Prop} {R0 : hG → Nat → Nat → yM → Nat → Bool} {p : Program} {l : Launch} {e : Env} {R : Room} {s : State} {m : MethodId} {args : Array Value} {below : List Frame} {meth : Method} {c : Code} {nL : Nat} {cc : ByteArray} {Q0 : State → Prop} {H0 : Heap} {ins : Instr} {len : Nat} (hS : se_Snd p l e R s m args below meth c Q0 nL (fun a => a) (yRM g H0) cc ins len (yov_LLrZ g mc ms 0 0 cs P (fun g a0 a1 m n x m' n' => x = R0 g a0 a1 m n ∧ m' = m ∧ n' = n))) : se_Snd p l e R s m args below meth c Q0 nL (fun a => a) (yRM g H0) cc ins len (ypv_LLrZ g mc ms cs P R0) :=
  hS.mono fun st w K Y h => by
    unfold ypv_LLrZ at h
    split at h
    · rename_i a1 a0 r
      obtain ⟨hc, h8, hP, r1, r2, hq⟩ := h
      exact ⟨hc, h8, hP, r1, r2, fun x m' n' e _ _ => by
              obtain ⟨rfl, rfl, rfl⟩ := e
              exact hq⟩
    · exact h.elim
def yf_LLrZ (g : hG) (mc ms : Nat) (P : hG → Nat → Nat → yM → Nat → Prop) (R0 : hG → Nat → Nat → yM → Nat → Bool) (F : hG → Nat → Nat → yM → Nat → yM) : se_Op yW := fun st w K Y => match st with
  | .ref a1 :: .ref a0 :: r => se_c8 8 r ∧ P g a0 a1 w.1 w.2.1 ∧ w.2.2.1 ≤ mc ∧ w.2.2.2 ≤ ms ∧ K (.int (bI (R0 g a0 a1 w.1 w.2.1)) :: r) (F g a0 a1 w.1 w.2.1, w.2)
  | _ => False
theorem yf_LLrZ_r {g : hG} {mc ms : Nat} {P : hG → Nat → Nat → yM → Nat → Prop} {R0 : hG → Nat → Nat → yM → Nat → Bool} {F : hG → Nat → Nat → yM → Nat → yM} {a0 : Nat} {a1 : Nat} {r : List Value} {w : yW} {K : List Value → yW → Prop} {Y : Nat → yW → Prop} : yf_LLrZ g mc ms P R0 F (.ref a1 :: .ref a0 :: r) w K Y = (se_c8 8 r ∧ P g a0 a1 w.1 w.2.1 ∧ w.2.2.1 ≤ mc ∧ w.2.2.2 ≤ ms ∧ K (.int (bI (R0 g a0 a1 w.1 w.2.1)) :: r) (F g a0 a1 w.1 w.2.1, w.2)) := rfl
theorem yf_LLrZ_ok {g : hG} {mc ms : Nat} {P : hG → Nat → Nat → yM → Nat → Prop} {R0 : hG → Nat → Nat → yM → Nat → Bool} {F : hG → Nat → Nat → yM → Nat → yM} {p : Program} {l : Launch} {e : Env} {R : Room} {s : State} {m : MethodId} {args : Array Value} {below : List Frame} {meth : Method} {c : Code} {nL : Nat} {cc : ByteArray} {Q0 : State → Prop} {H0 : Heap} {ins : Instr} {len : Nat} (hS : se_Snd p l e R s m args below meth c Q0 nL (fun a => a) (yRM g H0) cc ins len (yo_LLrZ g mc ms 0 0 P (fun g a0 a1 m n x m' n' => x = R0 g a0 a1 m n ∧ m' = F g a0 a1 m n ∧ n' = n))) : se_Snd p l e R s m args below meth c Q0 nL (fun a => a) (yRM g H0) cc ins len (yf_LLrZ g mc ms P R0 F) :=
  hS.mono fun st w K Y h => by
    unfold yf_LLrZ at h
    split at h
    · rename_i a1 a0 r
      obtain ⟨h8, hP, r1, r2, hq⟩ := h
      exact ⟨h8, hP, r1, r2, fun x m' n' e _ _ => by
              obtain ⟨rfl, rfl, rfl⟩ := e
              exact hq⟩
    · exact h.elim
def yfv_LLrZ (g : hG) (mc ms : Nat) (cs : List Nat) (P : hG → Nat → Nat → yM → Nat → Prop) (R0 : hG → Nat → Nat → yM → Nat → Bool) (F : hG → Nat → Nat → yM → Nat → yM) : se_Op yW := fun st w K Y => match st with
  | .ref a1 :: .ref a0 :: r => yc w.1 a0 ∈ cs ∧ se_c8 8 r ∧ P g a0 a1 w.1 w.2.1 ∧ w.2.2.1 ≤ mc ∧ w.2.2.2 ≤ ms ∧ K (.int (bI (R0 g a0 a1 w.1 w.2.1)) :: r) (F g a0 a1 w.1 w.2.1, w.2)
  | _ => False
theorem yfv_LLrZ_r {g : hG} {mc ms : Nat} {cs : List Nat} {P : hG → Nat → Nat → yM → Nat → Prop} {R0 : hG → Nat → Nat → yM → Nat → Bool} {F : hG → Nat → Nat → yM → Nat → yM} {a0 : Nat} {a1 : Nat} {r : List Value} {w : yW} {K : List Value → yW → Prop} {Y : Nat → yW → Prop} : yfv_LLrZ g mc ms cs P R0 F (.ref a1 :: .ref a0 :: r) w K Y = (yc w.1 a0 ∈ cs ∧ se_c8 8 r ∧ P g a0 a1 w.1 w.2.1 ∧ w.2.2.1 ≤ mc ∧ w.2.2.2 ≤ ms ∧ K (.int (bI (R0 g a0 a1 w.1 w.2.1)) :: r) (F g a0 a1 w.1 w.2.1, w.2)) := rfl
theorem yfv_LLrZ_ok {g : hG} {mc ms : Nat} {cs : List Nat} {P : hG → Nat → Nat → yM → Nat → Prop} {R0 : hG → Nat → Nat → yM → Nat → Bool} {F : hG → Nat → Nat → yM → Nat → yM} {p : Program} {l : Launch} {e : Env} {R : Room} {s : State} {m : MethodId} {args : Array Value} {below : List Frame} {meth : Method} {c : Code} {nL : Nat} {cc : ByteArray} {Q0 : State → Prop} {H0 : Heap} {ins : Instr} {len : Nat} (hS : se_Snd p l e R s m args below meth c Q0 nL (fun a => a) (yRM g H0) cc ins len (yov_LLrZ g mc ms 0 0 cs P (fun g a0 a1 m n x m' n' => x = R0 g a0 a1 m n ∧ m' = F g a0 a1 m n ∧ n' = n))) : se_Snd p l e R s m args below meth c Q0 nL (fun a => a) (yRM g H0) cc ins len (yfv_LLrZ g mc ms cs P R0 F) :=
  hS.mono fun st w K Y h => by
    unfold yfv_LLrZ at h
    split at h
    · rename_i a1 a0 r
      obtain ⟨hc, h8, hP, r1, r2, hq⟩ := h
      exact ⟨hc, h8, hP, r1, r2, fun x m' n' e _ _ => by
              obtain ⟨rfl, rfl, rfl⟩ := e
              exact hq⟩
    · exact h.elim
def yt_LLrZ (mc ms : Nat) (Q : hG → Nat → Nat → yM → Nat → Bool → yM → Nat → Prop) (g : hG) (a0 : Nat) (a1 : Nat) (m : yM) (n : Nat) : Option Value → yW → Prop := yRt (some .boolean) mc ms ((fun (g : hG) (av : List Value) (m : yM) (n : Nat) (v : Option Value) (m' : yM) (n' : Nat) => ∀ (a0 : Nat) (a1 : Nat), av = [.ref a0, .ref a1] → ∃ x, v = some (.int (bI x)) ∧ Q g a0 a1 m n x m' n') g [.ref a0, .ref a1] m n)
theorem yt_LLrZ_e {mc ms : Nat} {Q : hG → Nat → Nat → yM → Nat → Bool → yM → Nat → Prop} {g : hG} {a0 : Nat} {a1 : Nat} {m : yM} {n : Nat} {w : yW} {z : Int32} : yt_LLrZ mc ms Q g a0 a1 m n (some (.int z)) w = (w.2.2.1 ≤ mc ∧ w.2.2.2 ≤ ms ∧ rz z fun x => Q g a0 a1 m n x w.1 w.2.1) := by
  apply propext
  constructor
  · intro h
    obtain ⟨x, e, hq⟩ := h.2.2.2 _ _ rfl
    cases e
    exact ⟨h.2.1, h.2.2.1, ⟨x, rfl, hq⟩⟩
  · intro h
    obtain ⟨h1, h2, h3⟩ := h
    obtain ⟨x, rfl, h3⟩ := h3
    exact ⟨⟨_, rfl, bI_nar x⟩, h1, h2, fun _ _ e => by
      cases e
      exact ⟨x, rfl, h3⟩⟩
theorem ym_LLrZ_of {l : Launch} {y : MethodName} {own : String} {cc : ByteArray} {maxL fr lo mc ms : Nat} {P : hG → Nat → Nat → yM → Nat → Prop} {Q : hG → Nat → Nat → yM → Nat → Bool → yM → Nat → Prop} {T : hG → Nat → Nat → se_Op yW} (hy : plainName y.cls = true) (hyc : y.cls = own) (hT : yTS l own y.name cc maxL (some .boolean) fr lo mc ms T) (hL : 2 ≤ maxL)
    (body : ∀ (g : hG) (a0 : Nat) (a1 : Nat) (m : yM) (n : Nat), hVg g → yIn g m n → P g a0 a1 m n → ∀ G : Nat → se_L → List Value → yW → Prop, (∀ (stops : List Nat) (f pc : Nat) (L : se_L) (st : List Value) (w : yW), wpN True (T g) cc stops G (yXt mc ms (yNoX g [.ref a0, .ref a1] m n)) (yt_LLrZ mc ms Q g a0 a1 m n) f pc L st w → G pc L st w) → G 0 (se_ent [.ref a0, .ref a1] maxL) [] (m, n, 0, 0)) : ym_LLrZ l y (ws_ y cc maxL (some .boolean)) fr lo mc ms P Q :=
  yOf hy hyc hT (fun g av m n h => by
    obtain ⟨a0, a1, rfl, _⟩ := h
    exact hL) (fun g av m n h1 h2 hp G hG => by
    obtain ⟨a0, a1, rfl, hp⟩ := hp
    exact body g a0 a1 m n h1 h2 hp G hG)
theorem ymx_LLrZ_of {l : Launch} {y : MethodName} {own : String} {cc : ByteArray} {maxL fr lo mc ms : Nat} {P : hG → Nat → Nat → yM → Nat → Prop} {Q : hG → Nat → Nat → yM → Nat → Bool → yM → Nat → Prop} {X : hG → Nat → Nat → yM → Nat → Nat → yM → Nat → Prop} {T : hG → Nat → Nat → se_Op yW} (hy : plainName y.cls = true) (hyc : y.cls = own) (hT : yTS l own y.name cc maxL (some .boolean) fr lo mc ms T) (hL : 2 ≤ maxL)
    (body : ∀ (g : hG) (a0 : Nat) (a1 : Nat) (m : yM) (n : Nat), hVg g → yIn g m n → P g a0 a1 m n → ∀ G : Nat → se_L → List Value → yW → Prop, (∀ (stops : List Nat) (f pc : Nat) (L : se_L) (st : List Value) (w : yW), wpN True (T g) cc stops G (yXt mc ms ((fun (g : hG) (av : List Value) (m : yM) (n : Nat) (b : Nat) (m' : yM) (n' : Nat) => ∃ (a0 : Nat) (a1 : Nat), av = [.ref a0, .ref a1] ∧ X g a0 a1 m n b m' n') g [.ref a0, .ref a1] m n)) (yt_LLrZ mc ms Q g a0 a1 m n) f pc L st w → G pc L st w) → G 0 (se_ent [.ref a0, .ref a1] maxL) [] (m, n, 0, 0)) : ymx_LLrZ l y (ws_ y cc maxL (some .boolean)) fr lo mc ms P Q X :=
  yOf hy hyc hT (fun g av m n h => by
    obtain ⟨a0, a1, rfl, _⟩ := h
    exact hL) (fun g av m n h1 h2 hp G hG => by
    obtain ⟨a0, a1, rfl, hp⟩ := hp
    exact body g a0 a1 m n h1 h2 hp G hG)
abbrev ym_LNNIIrL (l : Launch) (y : MethodName) (ws : List Cond) (fr lo mc ms : Nat) (P : hG → Nat → Option Nat → Option Nat → Int32 → Int32 → yM → Nat → Prop) (Q : hG → Nat → Option Nat → Option Nat → Int32 → Int32 → yM → Nat → Option Nat → yM → Nat → Prop) : Prop := yCon l y ws fr lo mc ms (fun (g : hG) (av : List Value) (m : yM) (n : Nat) => ∃ (a0 : Nat) (a1 : Option Nat) (a2 : Option Nat) (a3 : Int32) (a4 : Int32), av = [.ref a0, va_rf a1, va_rf a2, .int a3, .int a4] ∧ P g a0 a1 a2 a3 a4 m n) (fun (g : hG) (av : List Value) (m : yM) (n : Nat) (v : Option Value) (m' : yM) (n' : Nat) => ∀ (a0 : Nat) (a1 : Option Nat) (a2 : Option Nat) (a3 : Int32) (a4 : Int32), av = [.ref a0, va_rf a1, va_rf a2, .int a3, .int a4] → ∃ x, v = some (va_rf x) ∧ Q g a0 a1 a2 a3 a4 m n x m' n') yNoX
def yov_LNNIIrL (g : hG) (mc ms mc' ms' : Nat) (cs : List Nat) (P : hG → Nat → Option Nat → Option Nat → Int32 → Int32 → yM → Nat → Prop) (Q : hG → Nat → Option Nat → Option Nat → Int32 → Int32 → yM → Nat → Option Nat → yM → Nat → Prop) : se_Op yW := fun st w K Y => match st with
  | .int a4 :: .int a3 :: v2 :: v1 :: .ref a0 :: r => (match va_un v1 with
    | some a1 => (match va_un v2 with
    | some a2 => yc w.1 a0 ∈ cs ∧ se_c8 8 r ∧ P g a0 a1 a2 a3 a4 w.1 w.2.1 ∧ w.2.2.1 + mc' ≤ mc ∧ w.2.2.2 + ms' ≤ ms ∧ ∀ x m' n', Q g a0 a1 a2 a3 a4 w.1 w.2.1 x m' n' → yIn g m' n' → w.2.1 ≤ n' → K (va_rf x :: r) (m', n', w.2.2.1 + mc', w.2.2.2 + ms')
    | none => False)
    | none => False)
  | _ => False
theorem yov_LNNIIrL_rr {g : hG} {mc ms mc' ms' : Nat} {cs : List Nat} {P : hG → Nat → Option Nat → Option Nat → Int32 → Int32 → yM → Nat → Prop} {Q : hG → Nat → Option Nat → Option Nat → Int32 → Int32 → yM → Nat → Option Nat → yM → Nat → Prop} {a0 : Nat} {a1 : Nat} {a2 : Nat} {a3 : Int32} {a4 : Int32} {r : List Value} {w : yW} {K : List Value → yW → Prop} {Y : Nat → yW → Prop} : yov_LNNIIrL g mc ms mc' ms' cs P Q (.int a4 :: .int a3 :: .ref a2 :: .ref a1 :: .ref a0 :: r) w K Y = (yc w.1 a0 ∈ cs ∧ se_c8 8 r ∧ P g a0 (some a1) (some a2) a3 a4 w.1 w.2.1 ∧ w.2.2.1 + mc' ≤ mc ∧ w.2.2.2 + ms' ≤ ms ∧ ∀ x m' n', Q g a0 (some a1) (some a2) a3 a4 w.1 w.2.1 x m' n' → yIn g m' n' → w.2.1 ≤ n' → K (va_rf x :: r) (m', n', w.2.2.1 + mc', w.2.2.2 + ms')) := rfl
theorem yov_LNNIIrL_rn {g : hG} {mc ms mc' ms' : Nat} {cs : List Nat} {P : hG → Nat → Option Nat → Option Nat → Int32 → Int32 → yM → Nat → Prop} {Q : hG → Nat → Option Nat → Option Nat → Int32 → Int32 → yM → Nat → Option Nat → yM → Nat → Prop} {a0 : Nat} {a1 : Nat}  {a3 : Int32} {a4 : Int32} {r : List Value} {w : yW} {K : List Value → yW → Prop} {Y : Nat → yW → Prop} : yov_LNNIIrL g mc ms mc' ms' cs P Q (.int a4 :: .int a3 :: .null :: .ref a1 :: .ref a0 :: r) w K Y = (yc w.1 a0 ∈ cs ∧ se_c8 8 r ∧ P g a0 (some a1) none a3 a4 w.1 w.2.1 ∧ w.2.2.1 + mc' ≤ mc ∧ w.2.2.2 + ms' ≤ ms ∧ ∀ x m' n', Q g a0 (some a1) none a3 a4 w.1 w.2.1 x m' n' → yIn g m' n' → w.2.1 ≤ n' → K (va_rf x :: r) (m', n', w.2.2.1 + mc', w.2.2.2 + ms')) := rfl
theorem yov_LNNIIrL_nr {g : hG} {mc ms mc' ms' : Nat} {cs : List Nat} {P : hG → Nat → Option Nat → Option Nat → Int32 → Int32 → yM → Nat → Prop} {Q : hG → Nat → Option Nat → Option Nat → Int32 → Int32 → yM → Nat → Option Nat → yM → Nat → Prop} {a0 : Nat}  {a2 : Nat} {a3 : Int32} {a4 : Int32} {r : List Value} {w : yW} {K : List Value → yW → Prop} {Y : Nat → yW → Prop} : yov_LNNIIrL g mc ms mc' ms' cs P Q (.int a4 :: .int a3 :: .ref a2 :: .null :: .ref a0 :: r) w K Y = (yc w.1 a0 ∈ cs ∧ se_c8 8 r ∧ P g a0 none (some a2) a3 a4 w.1 w.2.1 ∧ w.2.2.1 + mc' ≤ mc ∧ w.2.2.2 + ms' ≤ ms ∧ ∀ x m' n', Q g a0 none (some a2) a3 a4 w.1 w.2.1 x m' n' → yIn g m' n' → w.2.1 ≤ n' → K (va_rf x :: r) (m', n', w.2.2.1 + mc', w.2.2.2 + ms')) := rfl
theorem yov_LNNIIrL_nn {g : hG} {mc ms mc' ms' : Nat} {cs : List Nat} {P : hG → Nat → Option Nat → Option Nat → Int32 → Int32 → yM → Nat → Prop} {Q : hG → Nat → Option Nat → Option Nat → Int32 → Int32 → yM → Nat → Option Nat → yM → Nat → Prop} {a0 : Nat}   {a3 : Int32} {a4 : Int32} {r : List Value} {w : yW} {K : List Value → yW → Prop} {Y : Nat → yW → Prop} : yov_LNNIIrL g mc ms mc' ms' cs P Q (.int a4 :: .int a3 :: .null :: .null :: .ref a0 :: r) w K Y = (yc w.1 a0 ∈ cs ∧ se_c8 8 r ∧ P g a0 none none a3 a4 w.1 w.2.1 ∧ w.2.2.1 + mc' ≤ mc ∧ w.2.2.2 + ms' ≤ ms ∧ ∀ x m' n', Q g a0 none none a3 a4 w.1 w.2.1 x m' n' → yIn g m' n' → w.2.1 ≤ n' → K (va_rf x :: r) (m', n', w.2.2.1 + mc', w.2.2.2 + ms')) := rfl
theorem yov_LNNIIrL_ok {g : hG} {mc ms mc' ms' : Nat} {cs : List Nat} {P : hG → Nat → Option Nat → Option Nat → Int32 → Int32 → yM → Nat → Prop} {Q : hG → Nat → Option Nat → Option Nat → Int32 → Int32 → yM → Nat → Option Nat → yM → Nat → Prop} {p : Program} {l : Launch} {e : Env} {R : Room} {s : State} {m : MethodId} {args : Array Value} {below : List Frame} {meth : Method} {c : Code} {nL : Nat} {cc : ByteArray} {Q0 : State → Prop} {H0 : Heap} {ins : Instr} {len : Nat} (hS : se_Snd p l e R s m args below meth c Q0 nL (fun a => a) (yRM g H0) cc ins len (yCV g 4 mc ms mc' ms' cs (fun (g : hG) (av : List Value) (m : yM) (n : Nat) => ∃ (a0 : Nat) (a1 : Option Nat) (a2 : Option Nat) (a3 : Int32) (a4 : Int32), av = [.ref a0, va_rf a1, va_rf a2, .int a3, .int a4] ∧ P g a0 a1 a2 a3 a4 m n) (fun (g : hG) (av : List Value) (m : yM) (n : Nat) (v : Option Value) (m' : yM) (n' : Nat) => ∀ (a0 : Nat) (a1 : Option Nat) (a2 : Option Nat) (a3 : Int32) (a4 : Int32), av = [.ref a0, va_rf a1, va_rf a2, .int a3, .int a4] → ∃ x, v = some (va_rf x) ∧ Q g a0 a1 a2 a3 a4 m n x m' n') yNoX)) : se_Snd p l e R s m args below meth c Q0 nL (fun a => a) (yRM g H0) cc ins len (yov_LNNIIrL g mc ms mc' ms' cs P Q) :=
  hS.mono fun st w K Y h => by
    unfold yov_LNNIIrL at h
    split at h
    · rename_i a4 a3 v2 v1 a0 r
      split at h
      · rename_i a1 e1
        obtain rfl := va_un_e e1
        split at h
        · rename_i a2 e2
          obtain rfl := va_un_e e2
          obtain ⟨hc, h8, hP, r1, r2, hq⟩ := h
          exact (⟨hc, h8, ⟨a0, a1, a2, a3, a4, rfl, hP⟩, r1, r2, fun v m' n' hp hi hn => by
              obtain ⟨x, rfl, hx⟩ := hp a0 a1 a2 a3 a4 rfl
              exact hq x m' n' hx hi hn, fun b m' n' hp => hp.elim⟩ : (yRcv cs w.1 [.ref a0, va_rf a1, va_rf a2, .int a3, .int a4] ∧ yGo g mc ms mc' ms' ((fun (g : hG) (av : List Value) (m : yM) (n : Nat) => ∃ (a0 : Nat) (a1 : Option Nat) (a2 : Option Nat) (a3 : Int32) (a4 : Int32), av = [.ref a0, va_rf a1, va_rf a2, .int a3, .int a4] ∧ P g a0 a1 a2 a3 a4 m n) g) ((fun (g : hG) (av : List Value) (m : yM) (n : Nat) (v : Option Value) (m' : yM) (n' : Nat) => ∀ (a0 : Nat) (a1 : Option Nat) (a2 : Option Nat) (a3 : Int32) (a4 : Int32), av = [.ref a0, va_rf a1, va_rf a2, .int a3, .int a4] → ∃ x, v = some (va_rf x) ∧ Q g a0 a1 a2 a3 a4 m n x m' n') g) (yNoX g) [.ref a0, va_rf a1, va_rf a2, .int a3, .int a4] r w K Y))
        · exact h.elim
      · exact h.elim
    · exact h.elim
def ypv_LNNIIrL (g : hG) (mc ms : Nat) (cs : List Nat) (P : hG → Nat → Option Nat → Option Nat → Int32 → Int32 → yM → Nat → Prop) (R0 : hG → Nat → Option Nat → Option Nat → Int32 → Int32 → yM → Nat → Option Nat) : se_Op yW := fun st w K Y => match st with
  | .int a4 :: .int a3 :: v2 :: v1 :: .ref a0 :: r => (match va_un v1 with
    | some a1 => (match va_un v2 with
    | some a2 => yc w.1 a0 ∈ cs ∧ se_c8 8 r ∧ P g a0 a1 a2 a3 a4 w.1 w.2.1 ∧ w.2.2.1 ≤ mc ∧ w.2.2.2 ≤ ms ∧ K (va_rf (R0 g a0 a1 a2 a3 a4 w.1 w.2.1) :: r) w
    | none => False)
    | none => False)
  | _ => False
theorem ypv_LNNIIrL_rr {g : hG} {mc ms : Nat} {cs : List Nat} {P : hG → Nat → Option Nat → Option Nat → Int32 → Int32 → yM → Nat → Prop} {R0 : hG → Nat → Option Nat → Option Nat → Int32 → Int32 → yM → Nat → Option Nat} {a0 : Nat} {a1 : Nat} {a2 : Nat} {a3 : Int32} {a4 : Int32} {r : List Value} {w : yW} {K : List Value → yW → Prop} {Y : Nat → yW → Prop} : ypv_LNNIIrL g mc ms cs P R0 (.int a4 :: .int a3 :: .ref a2 :: .ref a1 :: .ref a0 :: r) w K Y = (yc w.1 a0 ∈ cs ∧ se_c8 8 r ∧ P g a0 (some a1) (some a2) a3 a4 w.1 w.2.1 ∧ w.2.2.1 ≤ mc ∧ w.2.2.2 ≤ ms ∧ K (va_rf (R0 g a0 (some a1) (some a2) a3 a4 w.1 w.2.1) :: r) w) := rfl
theorem ypv_LNNIIrL_rn {g : hG} {mc ms : Nat} {cs : List Nat} {P : hG → Nat → Option Nat → Option Nat → Int32 → Int32 → yM → Nat → Prop} {R0 : hG → Nat → Option Nat → Option Nat → Int32 → Int32 → yM → Nat → Option Nat} {a0 : Nat} {a1 : Nat}  {a3 : Int32} {a4 : Int32} {r : List Value} {w : yW} {K : List Value → yW → Prop} {Y : Nat → yW → Prop} : ypv_LNNIIrL g mc ms cs P R0 (.int a4 :: .int a3 :: .null :: .ref a1 :: .ref a0 :: r) w K Y = (yc w.1 a0 ∈ cs ∧ se_c8 8 r ∧ P g a0 (some a1) none a3 a4 w.1 w.2.1 ∧ w.2.2.1 ≤ mc ∧ w.2.2.2 ≤ ms ∧ K (va_rf (R0 g a0 (some a1) none a3 a4 w.1 w.2.1) :: r) w) := rfl
theorem ypv_LNNIIrL_nr {g : hG} {mc ms : Nat} {cs : List Nat} {P : hG → Nat → Option Nat → Option Nat → Int32 → Int32 → yM → Nat → Prop} {R0 : hG → Nat → Option Nat → Option Nat → Int32 → Int32 → yM → Nat → Option Nat} {a0 : Nat}  {a2 : Nat} {a3 : Int32} {a4 : Int32} {r : List Value} {w : yW} {K : List Value → yW → Prop} {Y : Nat → yW → Prop} : ypv_LNNIIrL g mc ms cs P R0 (.int a4 :: .int a3 :: .ref a2 :: .null :: .ref a0 :: r) w K Y = (yc w.1 a0 ∈ cs ∧ se_c8 8 r ∧ P g a0 none (some a2) a3 a4 w.1 w.2.1 ∧ w.2.2.1 ≤ mc ∧ w.2.2.2 ≤ ms ∧ K (va_rf (R0 g a0 none (some a2) a3 a4 w.1 w.2.1) :: r) w) := rfl
theorem ypv_LNNIIrL_nn {g : hG} {mc ms : Nat} {cs : List Nat} {P : hG → Nat → Option Nat → Option Nat → Int32 → Int32 → yM → Nat → Prop} {R0 : hG → Nat → Option Nat → Option Nat → Int32 → Int32 → yM → Nat → Option Nat} {a0 : Nat}   {a3 : Int32} {a4 : Int32} {r : List Value} {w : yW} {K : List Value → yW → Prop} {Y : Nat → yW → Prop} : ypv_LNNIIrL g mc ms cs P R0 (.int a4 :: .int a3 :: .null :: .null :: .ref a0 :: r) w K Y = (yc w.1 a0 ∈ cs ∧ se_c8 8 r ∧ P g a0 none none a3 a4 w.1 w.2.1 ∧ w.2.2.1 ≤ mc ∧ w.2.2.2 ≤ ms ∧ K (va_rf (R0 g a0 none none a3 a4 w.1 w.2.1) :: r) w) := rfl
theorem ypv_LNNIIrL_ok {g : hG} {mc ms : Nat} {cs : List Nat} {P : hG → Nat → Option Nat → Option Nat → Int32 → Int32 → yM → Nat → Prop} {R0 : hG → Nat → Option Nat → Option Nat → Int32 → Int32 → yM → Nat → Option Nat} {p : Program} {l : Launch} {e : Env} {R : Room} {s : State} {m : MethodId} {args : Array Value} {below : List Frame} {meth : Method} {c : Code} {nL : Nat} {cc : ByteArray} {Q0 : State → Prop} {H0 : Heap} {ins : Instr} {len : Nat} (hS : se_Snd p l e R s m args below meth c Q0 nL (fun a => a) (yRM g H0) cc ins len (yov_LNNIIrL g mc ms 0 0 cs P (fun g a0 a1 a2 a3 a4 m n x m' n' => x = R0 g a0 a1 a2 a3 a4 m n ∧ m' = m ∧ n' = n))) : se_Snd p l e R s m args below meth c Q0 nL (fun a => a) (yRM g H0) cc ins len (ypv_LNNIIrL g mc ms cs P R0) :=
  hS.mono fun st w K Y h => by
    unfold ypv_LNNIIrL at h
    split at h
    · rename_i a4 a3 v2 v1 a0 r
      split at h
      · rename_i a1 e1
        obtain rfl := va_un_e e1
        split at h
        · rename_i a2 e2
          obtain rfl := va_un_e e2
          obtain ⟨hc, h8, hP, r1, r2, hq⟩ := h
          simp only [yov_LNNIIrL, va_un_rf]
          exact ⟨hc, h8, hP, r1, r2, fun x m' n' e _ _ => by
              obtain ⟨rfl, rfl, rfl⟩ := e
              exact hq⟩
        · exact h.elim
      · exact h.elim
    · exact h.elim
def yfv_LNNIIrL (g : hG) (mc ms : Nat) (cs : List Nat) (P : hG → Nat → Option Nat → Option Nat → Int32 → Int32 → yM → Nat → Prop) (R0 : hG → Nat → Option Nat → Option Nat → Int32 → Int32 → yM → Nat → Option Nat) (F : hG → Nat → Option Nat → Option Nat → Int32 → Int32 → yM → Nat → yM) : se_Op yW := fun st w K Y => match st with
  | .int a4 :: .int a3 :: v2 :: v1 :: .ref a0 :: r => (match va_un v1 with
    | some a1 => (match va_un v2 with
    | some a2 => yc w.1 a0 ∈ cs ∧ se_c8 8 r ∧ P g a0 a1 a2 a3 a4 w.1 w.2.1 ∧ w.2.2.1 ≤ mc ∧ w.2.2.2 ≤ ms ∧ K (va_rf (R0 g a0 a1 a2 a3 a4 w.1 w.2.1) :: r) (F g a0 a1 a2 a3 a4 w.1 w.2.1, w.2)
    | none => False)
    | none => False)
  | _ => False
theorem yfv_LNNIIrL_rr {g : hG} {mc ms : Nat} {cs : List Nat} {P : hG → Nat → Option Nat → Option Nat → Int32 → Int32 → yM → Nat → Prop} {R0 : hG → Nat → Option Nat → Option Nat → Int32 → Int32 → yM → Nat → Option Nat} {F : hG → Nat → Option Nat → Option Nat → Int32 → Int32 → yM → Nat → yM} {a0 : Nat} {a1 : Nat} {a2 : Nat} {a3 : Int32} {a4 : Int32} {r : List Value} {w : yW} {K : List Value → yW → Prop} {Y : Nat → yW → Prop} : yfv_LNNIIrL g mc ms cs P R0 F (.int a4 :: .int a3 :: .ref a2 :: .ref a1 :: .ref a0 :: r) w K Y = (yc w.1 a0 ∈ cs ∧ se_c8 8 r ∧ P g a0 (some a1) (some a2) a3 a4 w.1 w.2.1 ∧ w.2.2.1 ≤ mc ∧ w.2.2.2 ≤ ms ∧ K (va_rf (R0 g a0 (some a1) (some a2) a3 a4 w.1 w.2.1) :: r) (F g a0 (some a1) (some a2) a3 a4 w.1 w.2.1, w.2)) := rfl
theorem yfv_LNNIIrL_rn {g : hG} {mc ms : Nat} {cs : List Nat} {P : hG → Nat → Option Nat → Option Nat → Int32 → Int32 → yM → Nat → Prop} {R0 : hG → Nat → Option Nat → Option Nat → Int32 → Int32 → yM → Nat → Option Nat} {F : hG → Nat → Option Nat → Option Nat → Int32 → Int32 → yM → Nat → yM} {a0 : Nat} {a1 : Nat}  {a3 : Int32} {a4 : Int32} {r : List Value} {w : yW} {K : List Value → yW → Prop} {Y : Nat → yW → Prop} : yfv_LNNIIrL g mc ms cs P R0 F (.int a4 :: .int a3 :: .null :: .ref a1 :: .ref a0 :: r) w K Y = (yc w.1 a0 ∈ cs ∧ se_c8 8 r ∧ P g a0 (some a1) none a3 a4 w.1 w.2.1 ∧ w.2.2.1 ≤ mc ∧ w.2.2.2 ≤ ms ∧ K (va_rf (R0 g a0 (some a1) none a3 a4 w.1 w.2.1) :: r) (F g a0 (some a1) none a3 a4 w.1 w.2.1, w.2)) := rfl
theorem yfv_LNNIIrL_nr {g : hG} {mc ms : Nat} {cs : List Nat} {P : hG → Nat → Option Nat → Option Nat → Int32 → Int32 → yM → Nat → Prop} {R0 : hG → Nat → Option Nat → Option Nat → Int32 → Int32 → yM → Nat → Option Nat} {F : hG → Nat → Option Nat → Option Nat → Int32 → Int32 → yM → Nat → yM} {a0 : Nat}  {a2 : Nat} {a3 : Int32} {a4 : Int32} {r : List Value} {w : yW} {K : List Value → yW → Prop} {Y : Nat → yW → Prop} : yfv_LNNIIrL g mc ms cs P R0 F (.int a4 :: .int a3 :: .ref a2 :: .null :: .ref a0 :: r) w K Y = (yc w.1 a0 ∈ cs ∧ se_c8 8 r ∧ P g a0 none (some a2) a3 a4 w.1 w.2.1 ∧ w.2.2.1 ≤ mc ∧ w.2.2.2 ≤ ms ∧ K (va_rf (R0 g a0 none (some a2) a3 a4 w.1 w.2.1) :: r) (F g a0 none (some a2) a3 a4 w.1 w.2.1, w.2)) := rfl
theorem yfv_LNNIIrL_nn {g : hG} {mc ms : Nat} {cs : List Nat} {P : hG → Nat → Option Nat → Option Nat → Int32 → Int32 → yM → Nat → Prop} {R0 : hG → Nat → Option Nat → Option Nat → Int32 → Int32 → yM → Nat → Option Nat} {F : hG → Nat → Option Nat → Option Nat → Int32 → Int32 → yM → Nat → yM} {a0 : Nat}   {a3 : Int32} {a4 : Int32} {r : List Value} {w : yW} {K : List Value → yW → Prop} {Y : Nat → yW → Prop} : yfv_LNNIIrL g mc ms cs P R0 F (.int a4 :: .int a3 :: .null :: .null :: .ref a0 :: r) w K Y = (yc w.1 a0 ∈ cs ∧ se_c8 8 r ∧ P g a0 none none a3 a4 w.1 w.2.1 ∧ w.2.2.1 ≤ mc ∧ w.2.2.2 ≤ ms ∧ K (va_rf (R0 g a0 none none a3 a4 w.1 w.2.1) :: r) (F g a0 none none a3 a4 w.1 w.2.1, w.2)) := rfl
theorem yfv_LNNIIrL_ok {g : hG} {mc ms : Nat} {cs : List Nat} {P : hG → Nat → Option Nat → Option Nat → Int32 → Int32 → yM → Nat → Prop} {R0 : hG → Nat → Option Nat → Option Nat → Int32 → Int32 → yM → Nat → Option Nat} {F : hG → Nat → Option Nat → Option Nat → Int32 → Int32 → yM → Nat → yM} {p : Program} {l : Launch} {e : Env} {R : Room} {s : State} {m : MethodId} {args : Array Value} {below : List Frame} {meth : Method} {c : Code} {nL : Nat} {cc : ByteArray} {Q0 : State → Prop} {H0 : Heap} {ins : Instr} {len : Nat} (hS : se_Snd p l e R s m args below meth c Q0 nL (fun a => a) (yRM g H0) cc ins len (yov_LNNIIrL g mc ms 0 0 cs P (fun g a0 a1 a2 a3 a4 m n x m' n' => x = R0 g a0 a1 a2 a3 a4 m n ∧ m' = F g a0 a1 a2 a3 a4 m n ∧ n' = n))) : se_Snd p l e R s m args below meth c Q0 nL (fun a => a) (yRM g H0) cc ins len (yfv_LNNIIrL g mc ms cs P R0 F) :=
  hS.mono fun st w K Y h => by
    unfold yfv_LNNIIrL at h
    split at h
    · rename_i a4 a3 v2 v1 a0 r
      split at h
      · rename_i a1 e1
        obtain rfl := va_un_e e1
        split at h
        · rename_i a2 e2
          obtain rfl := va_un_e e2
          obtain ⟨hc, h8, hP, r1, r2, hq⟩ := h
          simp only [yov_LNNIIrL, va_un_rf]
          exact ⟨hc, h8, hP, r1, r2, fun x m' n' e _ _ => by
              obtain ⟨rfl, rfl, rfl⟩ := e
              exact hq⟩
        · exact h.elim
      · exact h.elim
    · exact h.elim
def yt_LNNIIrL (rty : FieldType) (mc ms : Nat) (Q : hG → Nat → Option Nat → Option Nat → Int32 → Int32 → yM → Nat → Option Nat → yM → Nat → Prop) (g : hG) (a0 : Nat) (a1 : Option Nat) (a2 : Option Nat) (a3 : Int32) (a4 : Int32) (m : yM) (n : Nat) : Option Value → yW → Prop := yRt (some rty) mc ms ((fun (g : hG) (av : List Value) (m : yM) (n : Nat) (v : Option Value) (m' : yM) (n' : Nat) => ∀ (a0 : Nat) (a1 : Option Nat) (a2 : Option Nat) (a3 : Int32) (a4 : Int32), av = [.ref a0, va_rf a1, va_rf a2, .int a3, .int a4] → ∃ x, v = some (va_rf x) ∧ Q g a0 a1 a2 a3 a4 m n x m' n') g [.ref a0, va_rf a1, va_rf a2, .int a3, .int a4] m n)
theorem yt_LNNIIrL_e {rty : FieldType} {mc ms : Nat} {Q : hG → Nat → Option Nat → Option Nat → Int32 → Int32 → yM → Nat → Option Nat → yM → Nat → Prop} {g : hG} {a0 : Nat} {a1 : Option Nat} {a2 : Option Nat} {a3 : Int32} {a4 : Int32} {m : yM} {n : Nat} {w : yW} {z : Nat} (hr : (∃ n, rty = .object n) ∨ ∃ t, rty = .array t) : yt_LNNIIrL rty mc ms Q g a0 a1 a2 a3 a4 m n (some (.ref z)) w = (w.2.2.1 ≤ mc ∧ w.2.2.2 ≤ ms ∧ Q g a0 a1 a2 a3 a4 m n (some z) w.1 w.2.1) := by
  apply propext
  constructor
  · intro h
    obtain ⟨x, e, hq⟩ := h.2.2.2 _ _ _ _ _ rfl
    cases x with
    | none => cases e
    | some x => cases e; exact ⟨h.2.1, h.2.2.1, hq⟩
  · intro h
    obtain ⟨h1, h2, h3⟩ := h
    exact ⟨⟨_, rfl, hr⟩, h1, h2, fun _ _ _ _ _ e => by
      simp only [List.cons.injEq, Value.int.injEq, Value.ref.injEq, Value.long.injEq, va_rf_inj, and_true] at e
      obtain ⟨rfl, rfl, rfl, rfl, rfl⟩ := e
      exact ⟨some z, rfl, h3⟩⟩
theorem yt_LNNIIrL_n {rty : FieldType} {mc ms : Nat} {Q : hG → Nat → Option Nat → Option Nat → Int32 → Int32 → yM → Nat → Option Nat → yM → Nat → Prop} {g : hG} {a0 : Nat} {a1 : Option Nat} {a2 : Option Nat} {a3 : Int32} {a4 : Int32} {m : yM} {n : Nat} {w : yW} (hr : (∃ n, rty = .object n) ∨ ∃ t, rty = .array t) : yt_LNNIIrL rty mc ms Q g a0 a1 a2 a3 a4 m n (some .null) w = (w.2.2.1 ≤ mc ∧ w.2.2.2 ≤ ms ∧ Q g a0 a1 a2 a3 a4 m n none w.1 w.2.1) := by
  apply propext
  constructor
  · intro h
    obtain ⟨x, e, hq⟩ := h.2.2.2 _ _ _ _ _ rfl
    cases x with
    | none => exact ⟨h.2.1, h.2.2.1, hq⟩
    | some x => cases e
  · intro h
    obtain ⟨h1, h2, h3⟩ := h
    exact ⟨⟨_, rfl, hr⟩, h1, h2, fun _ _ _ _ _ e => by
      simp only [List.cons.injEq, Value.int.injEq, Value.ref.injEq, Value.long.injEq, va_rf_inj, and_true] at e
      obtain ⟨rfl, rfl, rfl, rfl, rfl⟩ := e
      exact ⟨none, rfl, h3⟩⟩
theorem ym_LNNIIrL_of {l : Launch} {y : MethodName} {own : String} {cc : ByteArray} {maxL fr lo mc ms : Nat} {rty : FieldType} {P : hG → Nat → Option Nat → Option Nat → Int32 → Int32 → yM → Nat → Prop} {Q : hG → Nat → Option Nat → Option Nat → Int32 → Int32 → yM → Nat → Option Nat → yM → Nat → Prop} {T : hG → Nat → Nat → se_Op yW} (hy : plainName y.cls = true) (hyc : y.cls = own) (hT : yTS l own y.name cc maxL (some rty) fr lo mc ms T) (hL : 5 ≤ maxL)
    (body : ∀ (g : hG) (a0 : Nat) (a1 : Option Nat) (a2 : Option Nat) (a3 : Int32) (a4 : Int32) (m : yM) (n : Nat), hVg g → yIn g m n → P g a0 a1 a2 a3 a4 m n → ∀ G : Nat → se_L → List Value → yW → Prop, (∀ (stops : List Nat) (f pc : Nat) (L : se_L) (st : List Value) (w : yW), wpN True (T g) cc stops G (yXt mc ms (yNoX g [.ref a0, va_rf a1, va_rf a2, .int a3, .int a4] m n)) (yt_LNNIIrL rty mc ms Q g a0 a1 a2 a3 a4 m n) f pc L st w → G pc L st w) → G 0 (se_ent [.ref a0, va_rf a1, va_rf a2, .int a3, .int a4] maxL) [] (m, n, 0, 0)) : ym_LNNIIrL l y (ws_ y cc maxL (some rty)) fr lo mc ms P Q :=
  yOf hy hyc hT (fun g av m n h => by
    obtain ⟨a0, a1, a2, a3, a4, rfl, _⟩ := h
    cases a1 <;> cases a2 <;> exact hL) (fun g av m n h1 h2 hp G hG => by
    obtain ⟨a0, a1, a2, a3, a4, rfl, hp⟩ := hp
    exact body g a0 a1 a2 a3 a4 m n h1 h2 hp G hG)
abbrev ym_LZrV (l : Launch) (y : MethodName) (ws : List Cond) (fr lo mc ms : Nat) (P : hG → Nat → Int32 → yM → Nat → Prop) (Q : hG → Nat → Int32 → yM → Nat → yM → Nat → Prop) : Prop := yCon l y ws fr lo mc ms (fun (g : hG) (av : List Value) (m : yM) (n : Nat) => ∃ (a0 : Nat) (a1 : Int32), av = [.ref a0, .int a1] ∧ P g a0 a1 m n) (fun (g : hG) (av : List Value) (m : yM) (n : Nat) (v : Option Value) (m' : yM) (n' : Nat) => ∀ (a0 : Nat) (a1 : Int32), av = [.ref a0, .int a1] → v = none ∧ Q g a0 a1 m n m' n') yNoX
def yov_LZrV (g : hG) (mc ms mc' ms' : Nat) (cs : List Nat) (P : hG → Nat → Int32 → yM → Nat → Prop) (Q : hG → Nat → Int32 → yM → Nat → yM → Nat → Prop) : se_Op yW := fun st w K Y => match st with
  | .int a1 :: .ref a0 :: r => yc w.1 a0 ∈ cs ∧ se_c8 8 r ∧ P g a0 a1 w.1 w.2.1 ∧ w.2.2.1 + mc' ≤ mc ∧ w.2.2.2 + ms' ≤ ms ∧ ∀ m' n', Q g a0 a1 w.1 w.2.1 m' n' → yIn g m' n' → w.2.1 ≤ n' → K r (m', n', w.2.2.1 + mc', w.2.2.2 + ms')
  | _ => False
theorem yov_LZrV_r {g : hG} {mc ms mc' ms' : Nat} {cs : List Nat} {P : hG → Nat → Int32 → yM → Nat → Prop} {Q : hG → Nat → Int32 → yM → Nat → yM → Nat → Prop} {a0 : Nat} {a1 : Int32} {r : List Value} {w : yW} {K : List Value → yW → Prop} {Y : Nat → yW → Prop} : yov_LZrV g mc ms mc' ms' cs P Q (.int a1 :: .ref a0 :: r) w K Y = (yc w.1 a0 ∈ cs ∧ se_c8 8 r ∧ P g a0 a1 w.1 w.2.1 ∧ w.2.2.1 + mc' ≤ mc ∧ w.2.2.2 + ms' ≤ ms ∧ ∀ m' n', Q g a0 a1 w.1 w.2.1 m' n' → yIn g m' n' → w.2.1 ≤ n' → K r (m', n', w.2.2.1 + mc', w.2.2.2 + ms')) := rfl
theorem yov_LZrV_ok {g : hG} {mc ms mc' ms' : Nat} {cs : List Nat} {P : hG → Nat → Int32 → yM → Nat → Prop} {Q : hG → Nat → Int32 → yM → Nat → yM → Nat → Prop} {p : Program} {l : Launch} {e : Env} {R : Room} {s : State} {m : MethodId} {args : Array Value} {below : List Frame} {meth : Method} {c : Code} {nL : Nat} {cc : ByteArray} {Q0 : State → Prop} {H0 : Heap} {ins : Instr} {len : Nat} (hS : se_Snd p l e R s m args below meth c Q0 nL (fun a => a) (yRM g H0) cc ins len (yCV g 1 mc ms mc' ms' cs (fun (g : hG) (av : List Value) (m : yM) (n : Nat) => ∃ (a0 : Nat) (a1 : Int32), av = [.ref a0, .int a1] ∧ P g a0 a1 m n) (fun (g : hG) (av : List Value) (m : yM) (n : Nat) (v : Option Value) (m' : yM) (n' : Nat) => ∀ (a0 : Nat) (a1 : Int32), av = [.ref a0, .int a1] → v = none ∧ Q g a0 a1 m n m' n') yNoX)) : se_Snd p l e R s m args below meth c Q0 nL (fun a => a) (yRM g H0) cc ins len (yov_LZrV g mc ms mc' ms' cs P Q) :=
  hS.mono fun st w K Y h => by
    unfold yov_LZrV at h
    split at h
    · rename_i a1 a0 r
      obtain ⟨hc, h8, hP, r1, r2, hq⟩ := h
      exact (⟨hc, h8, ⟨a0, a1, rfl, hP⟩, r1, r2, fun v m' n' hp hi hn => by
              obtain ⟨rfl, hx⟩ := hp a0 a1 rfl
              exact hq m' n' hx hi hn, fun b m' n' hp => hp.elim⟩ : (yRcv cs w.1 [.ref a0, .int a1] ∧ yGo g mc ms mc' ms' ((fun (g : hG) (av : List Value) (m : yM) (n : Nat) => ∃ (a0 : Nat) (a1 : Int32), av = [.ref a0, .int a1] ∧ P g a0 a1 m n) g) ((fun (g : hG) (av : List Value) (m : yM) (n : Nat) (v : Option Value) (m' : yM) (n' : Nat) => ∀ (a0 : Nat) (a1 : Int32), av = [.ref a0, .int a1] → v = none ∧ Q g a0 a1 m n m' n') g) (yNoX g) [.ref a0, .int a1] r w K Y))
    · exact h.elim
abbrev ymx_LZrV (l : Launch) (y : MethodName) (ws : List Cond) (fr lo mc ms : Nat) (P : hG → Nat → Int32 → yM → Nat → Prop) (Q : hG → Nat → Int32 → yM → Nat → yM → Nat → Prop) (X : hG → Nat → Int32 → yM → Nat → Nat → yM → Nat → Prop) : Prop := yCon l y ws fr lo mc ms (fun (g : hG) (av : List Value) (m : yM) (n : Nat) => ∃ (a0 : Nat) (a1 : Int32), av = [.ref a0, .int a1] ∧ P g a0 a1 m n) (fun (g : hG) (av : List Value) (m : yM) (n : Nat) (v : Option Value) (m' : yM) (n' : Nat) => ∀ (a0 : Nat) (a1 : Int32), av = [.ref a0, .int a1] → v = none ∧ Q g a0 a1 m n m' n') (fun (g : hG) (av : List Value) (m : yM) (n : Nat) (b : Nat) (m' : yM) (n' : Nat) => ∃ (a0 : Nat) (a1 : Int32), av = [.ref a0, .int a1] ∧ X g a0 a1 m n b m' n')
def yovx_LZrV (g : hG) (mc ms mc' ms' : Nat) (cs : List Nat) (P : hG → Nat → Int32 → yM → Nat → Prop) (Q : hG → Nat → Int32 → yM → Nat → yM → Nat → Prop) (X : hG → Nat → Int32 → yM → Nat → Nat → yM → Nat → Prop) : se_Op yW := fun st w K Y => match st with
  | .int a1 :: .ref a0 :: r => yc w.1 a0 ∈ cs ∧ se_c8 8 r ∧ P g a0 a1 w.1 w.2.1 ∧ w.2.2.1 + mc' ≤ mc ∧ w.2.2.2 + ms' ≤ ms ∧ (∀ m' n', Q g a0 a1 w.1 w.2.1 m' n' → yIn g m' n' → w.2.1 ≤ n' → K r (m', n', w.2.2.1 + mc', w.2.2.2 + ms')) ∧ ∀ b m' n', X g a0 a1 w.1 w.2.1 b m' n' → yIn g m' n' → w.2.1 ≤ n' → Y b (m', n', w.2.2.1 + mc', w.2.2.2 + ms')
  | _ => False
theorem yovx_LZrV_r {g : hG} {mc ms mc' ms' : Nat} {cs : List Nat} {P : hG → Nat → Int32 → yM → Nat → Prop} {Q : hG → Nat → Int32 → yM → Nat → yM → Nat → Prop} {X : hG → Nat → Int32 → yM → Nat → Nat → yM → Nat → Prop} {a0 : Nat} {a1 : Int32} {r : List Value} {w : yW} {K : List Value → yW → Prop} {Y : Nat → yW → Prop} : yovx_LZrV g mc ms mc' ms' cs P Q X (.int a1 :: .ref a0 :: r) w K Y = (yc w.1 a0 ∈ cs ∧ se_c8 8 r ∧ P g a0 a1 w.1 w.2.1 ∧ w.2.2.1 + mc' ≤ mc ∧ w.2.2.2 + ms' ≤ ms ∧ (∀ m' n', Q g a0 a1 w.1 w.2.1 m' n' → yIn g m' n' → w.2.1 ≤ n' → K r (m', n', w.2.2.1 + mc', w.2.2.2 + ms')) ∧ ∀ b m' n', X g a0 a1 w.1 w.2.1 b m' n' → yIn g m' n' → w.2.1 ≤ n' → Y b (m', n', w.2.2.1 + mc', w.2.2.2 + ms')) := rfl
theorem yovx_LZrV_ok {g : hG} {mc ms mc' ms' : Nat} {cs : List Nat} {P : hG → Nat → Int32 → yM → Nat → Prop} {Q : hG → Nat → Int32 → yM → Nat → yM → Nat → Prop} {X : hG → Nat → Int32 → yM → Nat → Nat → yM → Nat → Prop} {p : Program} {l : Launch} {e : Env} {R : Room} {s : State} {m : MethodId} {args : Array Value} {below : List Frame} {meth : Method} {c : Code} {nL : Nat} {cc : ByteArray} {Q0 : State → Prop} {H0 : Heap} {ins : Instr} {len : Nat} (hS : se_Snd p l e R s m args below meth c Q0 nL (fun a => a) (yRM g H0) cc ins len (yCV g 1 mc ms mc' ms' cs (fun (g : hG) (av : List Value) (m : yM) (n : Nat) => ∃ (a0 : Nat) (a1 : Int32), av = [.ref a0, .int a1] ∧ P g a0 a1 m n) (fun (g : hG) (av : List Value) (m : yM) (n : Nat) (v : Option Value) (m' : yM) (n' : Nat) => ∀ (a0 : Nat) (a1 : Int32), av = [.ref a0, .int a1] → v = none ∧ Q g a0 a1 m n m' n') (fun (g : hG) (av : List Value) (m : yM) (n : Nat) (b : Nat) (m' : yM) (n' : Nat) => ∃ (a0 : Nat) (a1 : Int32), av = [.ref a0, .int a1] ∧ X g a0 a1 m n b m' n'))) : se_Snd p l e R s m args below meth c Q0 nL (fun a => a) (yRM g H0) cc ins len (yovx_LZrV g mc ms mc' ms' cs P Q X) :=
  hS.mono fun st w K Y h => by
    unfold yovx_LZrV at h
    split at h
    · rename_i a1 a0 r
      obtain ⟨hc, h8, hP, r1, r2, hq⟩ := h
      exact (⟨hc, h8, ⟨a0, a1, rfl, hP⟩, r1, r2, fun v m' n' hp hi hn => by
              obtain ⟨rfl, hx⟩ := hp a0 a1 rfl
              exact hq.1 m' n' hx hi hn, fun b m' n' hp hi hn => by
              obtain ⟨z0, z1, e, hx⟩ := hp
              cases e
              exact hq.2 b m' n' hx hi hn⟩ : (yRcv cs w.1 [.ref a0, .int a1] ∧ yGo g mc ms mc' ms' ((fun (g : hG) (av : List Value) (m : yM) (n : Nat) => ∃ (a0 : Nat) (a1 : Int32), av = [.ref a0, .int a1] ∧ P g a0 a1 m n) g) ((fun (g : hG) (av : List Value) (m : yM) (n : Nat) (v : Option Value) (m' : yM) (n' : Nat) => ∀ (a0 : Nat) (a1 : Int32), av = [.ref a0, .int a1] → v = none ∧ Q g a0 a1 m n m' n') g) ((fun (g : hG) (av : List Value) (m : yM) (n : Nat) (b : Nat) (m' : yM) (n' : Nat) => ∃ (a0 : Nat) (a1 : Int32), av = [.ref a0, .int a1] ∧ X g a0 a1 m n b m' n') g) [.ref a0, .int a1] r w K Y))
    · exact h.elim
def yfv_LZrV (g : hG) (mc ms : Nat) (cs : List Nat) (P : hG → Nat → Int32 → yM → Nat → Prop) (F : hG → Nat → Int32 → yM → Nat → yM) : se_Op yW := fun st w K Y => match st with
  | .int a1 :: .ref a0 :: r => yc w.1 a0 ∈ cs ∧ se_c8 8 r ∧ P g a0 a1 w.1 w.2.1 ∧ w.2.2.1 ≤ mc ∧ w.2.2.2 ≤ ms ∧ K (r) (F g a0 a1 w.1 w.2.1, w.2)
  | _ => False
theorem yfv_LZrV_r {g : hG} {mc ms : Nat} {cs : List Nat} {P : hG → Nat → Int32 → yM → Nat → Prop} {F : hG → Nat → Int32 → yM → Nat → yM} {a0 : Nat} {a1 : Int32} {r : List Value} {w : yW} {K : List Value → yW → Prop} {Y : Nat → yW → Prop} : yfv_LZrV g mc ms cs P F (.int a1 :: .ref a0 :: r) w K Y = (yc w.1 a0 ∈ cs ∧ se_c8 8 r ∧ P g a0 a1 w.1 w.2.1 ∧ w.2.2.1 ≤ mc ∧ w.2.2.2 ≤ ms ∧ K (r) (F g a0 a1 w.1 w.2.1, w.2)) := rfl
theorem yfv_LZrV_ok {g : hG} {mc ms : Nat} {cs : List Nat} {P : hG → Nat → Int32 → yM → Nat → Prop} {F : hG → Nat → Int32 → yM → Nat → yM} {p : Program} {l : Launch} {e : Env} {R : Room} {s : State} {m : MethodId} {args : Array Value} {below : List Frame} {meth : Method} {c : Code} {nL : Nat} {cc : ByteArray} {Q0 : State → Prop} {H0 : Heap} {ins : Instr} {len : Nat} (hS : se_Snd p l e R s m args below meth c Q0 nL (fun a => a) (yRM g H0) cc ins len (yov_LZrV g mc ms 0 0 cs P (fun g a0 a1 m n m' n' => m' = F g a0 a1 m n ∧ n' = n))) : se_Snd p l e R s m args below meth c Q0 nL (fun a => a) (yRM g H0) cc ins len (yfv_LZrV g mc ms cs P F) :=
  hS.mono fun st w K Y h => by
    unfold yfv_LZrV at h
    split at h
    · rename_i a1 a0 r
      obtain ⟨hc, h8, hP, r1, r2, hq⟩ := h
      exact ⟨hc, h8, hP, r1, r2, fun m' n' e _ _ => by
              obtain ⟨rfl, rfl⟩ := e
              exact hq⟩
    · exact h.elim
def yt_LZrV (mc ms : Nat) (Q : hG → Nat → Int32 → yM → Nat → yM → Nat → Prop) (g : hG) (a0 : Nat) (a1 : Int32) (m : yM) (n : Nat) : Option Value → yW → Prop := yRt none mc ms ((fun (g : hG) (av : List Value) (m : yM) (n : Nat) (v : Option Value) (m' : yM) (n' : Nat) => ∀ (a0 : Nat) (a1 : Int32), av = [.ref a0, .int a1] → v = none ∧ Q g a0 a1 m n m' n') g [.ref a0, .int a1] m n)
theorem yt_LZrV_e {mc ms : Nat} {Q : hG → Nat → Int32 → yM → Nat → yM → Nat → Prop} {g : hG} {a0 : Nat} {a1 : Int32} {m : yM} {n : Nat} {w : yW} : yt_LZrV mc ms Q g a0 a1 m n none w = (w.2.2.1 ≤ mc ∧ w.2.2.2 ≤ ms ∧ Q g a0 a1 m n w.1 w.2.1) := by
  apply propext
  exact ⟨fun h => ⟨h.2.1, h.2.2.1, (h.2.2.2 _ _ rfl).2⟩, fun h => ⟨rfl, h.1, h.2.1, fun _ _ e => by
    cases e
    exact ⟨rfl, h.2.2⟩⟩⟩
theorem ym_LZrV_of {l : Launch} {y : MethodName} {own : String} {cc : ByteArray} {maxL fr lo mc ms : Nat} {P : hG → Nat → Int32 → yM → Nat → Prop} {Q : hG → Nat → Int32 → yM → Nat → yM → Nat → Prop} {T : hG → Nat → Nat → se_Op yW} (hy : plainName y.cls = true) (hyc : y.cls = own) (hT : yTS l own y.name cc maxL none fr lo mc ms T) (hL : 2 ≤ maxL)
    (body : ∀ (g : hG) (a0 : Nat) (a1 : Int32) (m : yM) (n : Nat), hVg g → yIn g m n → P g a0 a1 m n → ∀ G : Nat → se_L → List Value → yW → Prop, (∀ (stops : List Nat) (f pc : Nat) (L : se_L) (st : List Value) (w : yW), wpN True (T g) cc stops G (yXt mc ms (yNoX g [.ref a0, .int a1] m n)) (yt_LZrV mc ms Q g a0 a1 m n) f pc L st w → G pc L st w) → G 0 (se_ent [.ref a0, .int a1] maxL) [] (m, n, 0, 0)) : ym_LZrV l y (ws_ y cc maxL none) fr lo mc ms P Q :=
  yOf hy hyc hT (fun g av m n h => by
    obtain ⟨a0, a1, rfl, _⟩ := h
    exact hL) (fun g av m n h1 h2 hp G hG => by
    obtain ⟨a0, a1, rfl, hp⟩ := hp
    exact body g a0 a1 m n h1 h2 hp G hG)
theorem ymx_LZrV_of {l : Launch} {y : MethodName} {own : String} {cc : ByteArray} {maxL fr lo mc ms : Nat} {P : hG → Nat → Int32 → yM → Nat → Prop} {Q : hG → Nat → Int32 → yM → Nat → yM → Nat → Prop} {X : hG → Nat → Int32 → yM → Nat → Nat → yM → Nat → Prop} {T : hG → Nat → Nat → se_Op yW} (hy : plainName y.cls = true) (hyc : y.cls = own) (hT : yTS l own y.name cc maxL none fr lo mc ms T) (hL : 2 ≤ maxL)
    (body : ∀ (g : hG) (a0 : Nat) (a1 : Int32) (m : yM) (n : Nat), hVg g → yIn g m n → P g a0 a1 m n → ∀ G : Nat → se_L → List Value → yW → Prop, (∀ (stops : List Nat) (f pc : Nat) (L : se_L) (st : List Value) (w : yW), wpN True (T g) cc stops G (yXt mc ms ((fun (g : hG) (av : List Value) (m : yM) (n : Nat) (b : Nat) (m' : yM) (n' : Nat) => ∃ (a0 : Nat) (a1 : Int32), av = [.ref a0, .int a1] ∧ X g a0 a1 m n b m' n') g [.ref a0, .int a1] m n)) (yt_LZrV mc ms Q g a0 a1 m n) f pc L st w → G pc L st w) → G 0 (se_ent [.ref a0, .int a1] maxL) [] (m, n, 0, 0)) : ymx_LZrV l y (ws_ y cc maxL none) fr lo mc ms P Q X :=
  yOf hy hyc hT (fun g av m n h => by
    obtain ⟨a0, a1, rfl, _⟩ := h
    exact hL) (fun g av m n h1 h2 hp G hG => by
    obtain ⟨a0, a1, rfl, hp⟩ := hp
    exact body g a0 a1 m n h1 h2 hp G hG)
abbrev ym_LrI (l : Launch) (y : MethodName) (ws : List Cond) (fr lo mc ms : Nat) (P : hG → Nat → yM → Nat → Prop) (Q : hG → Nat → yM → Nat → Int32 → yM → Nat → Prop) : Prop := yCon l y ws fr lo mc ms (fun (g : hG) (av : List Value) (m : yM) (n : Nat) => ∃ (a0 : Nat), av = [.ref a0] ∧ P g a0 m n) (fun (g : hG) (av : List Value) (m : yM) (n : Nat) (v : Option Value) (m' : yM) (n' : Nat) => ∀ (a0 : Nat), av = [.ref a0] → ∃ x, v = some (.int x) ∧ Q g a0 m n x m' n') yNoX
def yov_LrI (g : hG) (mc ms mc' ms' : Nat) (cs : List Nat) (P : hG → Nat → yM → Nat → Prop) (Q : hG → Nat → yM → Nat → Int32 → yM → Nat → Prop) : se_Op yW := fun st w K Y => match st with
  | .ref a0 :: r => yc w.1 a0 ∈ cs ∧ se_c8 8 r ∧ P g a0 w.1 w.2.1 ∧ w.2.2.1 + mc' ≤ mc ∧ w.2.2.2 + ms' ≤ ms ∧ ∀ x m' n', Q g a0 w.1 w.2.1 x m' n' → yIn g m' n' → w.2.1 ≤ n' → K (.int x :: r) (m', n', w.2.2.1 + mc', w.2.2.2 + ms')
  | _ => False
theorem yov_LrI_r {g : hG} {mc ms mc' ms' : Nat} {cs : List Nat} {P : hG → Nat → yM → Nat → Prop} {Q : hG → Nat → yM → Nat → Int32 → yM → Nat → Prop} {a0 : Nat} {r : List Value} {w : yW} {K : List Value → yW → Prop} {Y : Nat → yW → Prop} : yov_LrI g mc ms mc' ms' cs P Q (.ref a0 :: r) w K Y = (yc w.1 a0 ∈ cs ∧ se_c8 8 r ∧ P g a0 w.1 w.2.1 ∧ w.2.2.1 + mc' ≤ mc ∧ w.2.2.2 + ms' ≤ ms ∧ ∀ x m' n', Q g a0 w.1 w.2.1 x m' n' → yIn g m' n' → w.2.1 ≤ n' → K (.int x :: r) (m', n', w.2.2.1 + mc', w.2.2.2 + ms')) := rfl
theorem yov_LrI_ok {g : hG} {mc ms mc' ms' : Nat} {cs : List Nat} {P : hG → Nat → yM → Nat → Prop} {Q : hG → Nat → yM → Nat → Int32 → yM → Nat → Prop} {p : Program} {l : Launch} {e : Env} {R : Room} {s : State} {m : MethodId} {args : Array Value} {below : List Frame} {meth : Method} {c : Code} {nL : Nat} {cc : ByteArray} {Q0 : State → Prop} {H0 : Heap} {ins : Instr} {len : Nat} (hS : se_Snd p l e R s m args below meth c Q0 nL (fun a => a) (yRM g H0) cc ins len (yCV g 0 mc ms mc' ms' cs (fun (g : hG) (av : List Value) (m : yM) (n : Nat) => ∃ (a0 : Nat), av = [.ref a0] ∧ P g a0 m n) (fun (g : hG) (av : List Value) (m : yM) (n : Nat) (v : Option Value) (m' : yM) (n' : Nat) => ∀ (a0 : Nat), av = [.ref a0] → ∃ x, v = some (.int x) ∧ Q g a0 m n x m' n') yNoX)) : se_Snd p l e R s m args below meth c Q0 nL (fun a => a) (yRM g H0) cc ins len (yov_LrI g mc ms mc' ms' cs P Q) :=
  hS.mono fun st w K Y h => by
    unfold yov_LrI at h
    split at h
    · rename_i a0 r
      obtain ⟨hc, h8, hP, r1, r2, hq⟩ := h
      exact (⟨hc, h8, ⟨a0, rfl, hP⟩, r1, r2, fun v m' n' hp hi hn => by
              obtain ⟨x, rfl, hx⟩ := hp a0 rfl
              exact hq x m' n' hx hi hn, fun b m' n' hp => hp.elim⟩ : (yRcv cs w.1 [.ref a0] ∧ yGo g mc ms mc' ms' ((fun (g : hG) (av : List Value) (m : yM) (n : Nat) => ∃ (a0 : Nat), av = [.ref a0] ∧ P g a0 m n) g) ((fun (g : hG) (av : List Value) (m : yM) (n : Nat) (v : Option Value) (m' : yM) (n' : Nat) => ∀ (a0 : Nat), av = [.ref a0] → ∃ x, v = some (.int x) ∧ Q g a0 m n x m' n') g) (yNoX g) [.ref a0] r w K Y))
    · exact h.elim
def ypv_LrI (g : hG) (mc ms : Nat) (cs : List Nat) (P : hG → Nat → yM → Nat → Prop) (R0 : hG → Nat → yM → Nat → Int32) : se_Op yW := fun st w K Y => match st with
  | .ref a0 :: r => yc w.1 a0 ∈ cs ∧ se_c8 8 r ∧ P g a0 w.1 w.2.1 ∧ w.2.2.1 ≤ mc ∧ w.2.2.2 ≤ ms ∧ K (.int (R0 g a0 w.1 w.2.1) :: r) w
  | _ => False
theorem ypv_LrI_r {g : hG} {mc ms : Nat} {cs : List Nat} {P : hG → Nat → yM → Nat → Prop} {R0 : hG → Nat → yM → Nat → Int32} {a0 : Nat} {r : List Value} {w : yW} {K : List Value → yW → Prop} {Y : Nat → yW → Prop} : ypv_LrI g mc ms cs P R0 (.ref a0 :: r) w K Y = (yc w.1 a0 ∈ cs ∧ se_c8 8 r ∧ P g a0 w.1 w.2.1 ∧ w.2.2.1 ≤ mc ∧ w.2.2.2 ≤ ms ∧ K (.int (R0 g a0 w.1 w.2.1) :: r) w) := rfl
theorem ypv_LrI_ok {g : hG} {mc ms : Nat} {cs : List Nat} {P : hG → Nat → yM → Nat → Prop} {R0 : hG → Nat → yM → Nat → Int32} {p : Program} {l : Launch} {e : Env} {R : Room} {s : State} {m : MethodId} {args : Array Value} {below : List Frame} {meth : Method} {c : Code} {nL : Nat} {cc : ByteArray} {Q0 : State → Prop} {H0 : Heap} {ins : Instr} {len : Nat} (hS : se_Snd p l e R s m args below meth c Q0 nL (fun a => a) (yRM g H0) cc ins len (yov_LrI g mc ms 0 0 cs P (fun g a0 m n x m' n' => x = R0 g a0 m n ∧ m' = m ∧ n' = n))) : se_Snd p l e R s m args below meth c Q0 nL (fun a => a) (yRM g H0) cc ins len (ypv_LrI g mc ms cs P R0) :=
  hS.mono fun st w K Y h => by
    unfold ypv_LrI at h
    split at h
    · rename_i a0 r
      obtain ⟨hc, h8, hP, r1, r2, hq⟩ := h
      exact ⟨hc, h8, hP, r1, r2, fun x m' n' e _ _ => by
              obtain ⟨rfl, rfl, rfl⟩ := e
              exact hq⟩
    · exact h.elim
def yfv_LrI (g : hG) (mc ms : Nat) (cs : List Nat) (P : hG → Nat → yM → Nat → Prop) (R0 : hG → Nat → yM → Nat → Int32) (F : hG → Nat → yM → Nat → yM) : se_Op yW := fun st w K Y => match st with
  | .ref a0 :: r => yc w.1 a0 ∈ cs ∧ se_c8 8 r ∧ P g a0 w.1 w.2.1 ∧ w.2.2.1 ≤ mc ∧ w.2.2.2 ≤ ms ∧ K (.int (R0 g a0 w.1 w.2.1) :: r) (F g a0 w.1 w.2.1, w.2)
  | _ => False
theorem yfv_LrI_r {g : hG} {mc ms : Nat} {cs : List Nat} {P : hG → Nat → yM → Nat → Prop} {R0 : hG → Nat → yM → Nat → Int32} {F : hG → Nat → yM → Nat → yM} {a0 : Nat} {r : List Value} {w : yW} {K : List Value → yW → Prop} {Y : Nat → yW → Prop} : yfv_LrI g mc ms cs P R0 F (.ref a0 :: r) w K Y = (yc w.1 a0 ∈ cs ∧ se_c8 8 r ∧ P g a0 w.1 w.2.1 ∧ w.2.2.1 ≤ mc ∧ w.2.2.2 ≤ ms ∧ K (.int (R0 g a0 w.1 w.2.1) :: r) (F g a0 w.1 w.2.1, w.2)) := rfl
theorem yfv_LrI_ok {g : hG} {mc ms : Nat} {cs : List Nat} {P : hG → Nat → yM → Nat → Prop} {R0 : hG → Nat → yM → Nat → Int32} {F : hG → Nat → yM → Nat → yM} {p : Program} {l : Launch} {e : Env} {R : Room} {s : State} {m : MethodId} {args : Array Value} {below : List Frame} {meth : Method} {c : Code} {nL : Nat} {cc : ByteArray} {Q0 : State → Prop} {H0 : Heap} {ins : Instr} {len : Nat} (hS : se_Snd p l e R s m args below meth c Q0 nL (fun a => a) (yRM g H0) cc ins len (yov_LrI g mc ms 0 0 cs P (fun g a0 m n x m' n' => x = R0 g a0 m n ∧ m' = F g a0 m n ∧ n' = n))) : se_Snd p l e R s m args below meth c Q0 nL (fun a => a) (yRM g H0) cc ins len (yfv_LrI g mc ms cs P R0 F) :=
  hS.mono fun st w K Y h => by
    unfold yfv_LrI at h
    split at h
    · rename_i a0 r
      obtain ⟨hc, h8, hP, r1, r2, hq⟩ := h
      exact ⟨hc, h8, hP, r1, r2, fun x m' n' e _ _ => by
              obtain ⟨rfl, rfl, rfl⟩ := e
              exact hq⟩
    · exact h.elim
def yt_LrI (mc ms : Nat) (Q : hG → Nat → yM → Nat → Int32 → yM → Nat → Prop) (g : hG) (a0 : Nat) (m : yM) (n : Nat) : Option Value → yW → Prop := yRt (some .int) mc ms ((fun (g : hG) (av : List Value) (m : yM) (n : Nat) (v : Option Value) (m' : yM) (n' : Nat) => ∀ (a0 : Nat), av = [.ref a0] → ∃ x, v = some (.int x) ∧ Q g a0 m n x m' n') g [.ref a0] m n)
theorem yt_LrI_e {mc ms : Nat} {Q : hG → Nat → yM → Nat → Int32 → yM → Nat → Prop} {g : hG} {a0 : Nat} {m : yM} {n : Nat} {w : yW} {z : Int32} : yt_LrI mc ms Q g a0 m n (some (.int z)) w = (w.2.2.1 ≤ mc ∧ w.2.2.2 ≤ ms ∧ Q g a0 m n z w.1 w.2.1) := by
  apply propext
  constructor
  · intro h
    obtain ⟨x, e, hq⟩ := h.2.2.2 _ rfl
    cases e
    exact ⟨h.2.1, h.2.2.1, hq⟩
  · intro h
    obtain ⟨h1, h2, h3⟩ := h
    exact ⟨⟨_, rfl, rfl⟩, h1, h2, fun _ e => by
      cases e
      exact ⟨z, rfl, h3⟩⟩
theorem ym_LrI_of {l : Launch} {y : MethodName} {own : String} {cc : ByteArray} {maxL fr lo mc ms : Nat} {P : hG → Nat → yM → Nat → Prop} {Q : hG → Nat → yM → Nat → Int32 → yM → Nat → Prop} {T : hG → Nat → Nat → se_Op yW} (hy : plainName y.cls = true) (hyc : y.cls = own) (hT : yTS l own y.name cc maxL (some .int) fr lo mc ms T) (hL : 1 ≤ maxL)
    (body : ∀ (g : hG) (a0 : Nat) (m : yM) (n : Nat), hVg g → yIn g m n → P g a0 m n → ∀ G : Nat → se_L → List Value → yW → Prop, (∀ (stops : List Nat) (f pc : Nat) (L : se_L) (st : List Value) (w : yW), wpN True (T g) cc stops G (yXt mc ms (yNoX g [.ref a0] m n)) (yt_LrI mc ms Q g a0 m n) f pc L st w → G pc L st w) → G 0 (se_ent [.ref a0] maxL) [] (m, n, 0, 0)) : ym_LrI l y (ws_ y cc maxL (some .int)) fr lo mc ms P Q :=
  yOf hy hyc hT (fun g av m n h => by
    obtain ⟨a0, rfl, _⟩ := h
    exact hL) (fun g av m n h1 h2 hp G hG => by
    obtain ⟨a0, rfl, hp⟩ := hp
    exact body g a0 m n h1 h2 hp G hG)
abbrev ym_LrJ (l : Launch) (y : MethodName) (ws : List Cond) (fr lo mc ms : Nat) (P : hG → Nat → yM → Nat → Prop) (Q : hG → Nat → yM → Nat → Int64 → yM → Nat → Prop) : Prop := yCon l y ws fr lo mc ms (fun (g : hG) (av : List Value) (m : yM) (n : Nat) => ∃ (a0 : Nat), av = [.ref a0] ∧ P g a0 m n) (fun (g : hG) (av : List Value) (m : yM) (n : Nat) (v : Option Value) (m' : yM) (n' : Nat) => ∀ (a0 : Nat), av = [.ref a0] → ∃ x, v = some (.long x) ∧ Q g a0 m n x m' n') yNoX
def yov_LrJ (g : hG) (mc ms mc' ms' : Nat) (cs : List Nat) (P : hG → Nat → yM → Nat → Prop) (Q : hG → Nat → yM → Nat → Int64 → yM → Nat → Prop) : se_Op yW := fun st w K Y => match st with
  | .ref a0 :: r => yc w.1 a0 ∈ cs ∧ se_c8 8 r ∧ P g a0 w.1 w.2.1 ∧ w.2.2.1 + mc' ≤ mc ∧ w.2.2.2 + ms' ≤ ms ∧ ∀ x m' n', Q g a0 w.1 w.2.1 x m' n' → yIn g m' n' → w.2.1 ≤ n' → K (.long x :: r) (m', n', w.2.2.1 + mc', w.2.2.2 + ms')
  | _ => False
theorem yov_LrJ_r {g : hG} {mc ms mc' ms' : Nat} {cs : List Nat} {P : hG → Nat → yM → Nat → Prop} {Q : hG → Nat → yM → Nat → Int64 → yM → Nat → Prop} {a0 : Nat} {r : List Value} {w : yW} {K : List Value → yW → Prop} {Y : Nat → yW → Prop} : yov_LrJ g mc ms mc' ms' cs P Q (.ref a0 :: r) w K Y = (yc w.1 a0 ∈ cs ∧ se_c8 8 r ∧ P g a0 w.1 w.2.1 ∧ w.2.2.1 + mc' ≤ mc ∧ w.2.2.2 + ms' ≤ ms ∧ ∀ x m' n', Q g a0 w.1 w.2.1 x m' n' → yIn g m' n' → w.2.1 ≤ n' → K (.long x :: r) (m', n', w.2.2.1 + mc', w.2.2.2 + ms')) := rfl
theorem yov_LrJ_ok {g : hG} {mc ms mc' ms' : Nat} {cs : List Nat} {P : hG → Nat → yM → Nat → Prop} {Q : hG → Nat → yM → Nat → Int64 → yM → Nat → Prop} {p : Program} {l : Launch} {e : Env} {R : Room} {s : State} {m : MethodId} {args : Array Value} {below : List Frame} {meth : Method} {c : Code} {nL : Nat} {cc : ByteArray} {Q0 : State → Prop} {H0 : Heap} {ins : Instr} {len : Nat} (hS : se_Snd p l e R s m args below meth c Q0 nL (fun a => a) (yRM g H0) cc ins len (yCV g 0 mc ms mc' ms' cs (fun (g : hG) (av : List Value) (m : yM) (n : Nat) => ∃ (a0 : Nat), av = [.ref a0] ∧ P g a0 m n) (fun (g : hG) (av : List Value) (m : yM) (n : Nat) (v : Option Value) (m' : yM) (n' : Nat) => ∀ (a0 : Nat), av = [.ref a0] → ∃ x, v = some (.long x) ∧ Q g a0 m n x m' n') yNoX)) : se_Snd p l e R s m args below meth c Q0 nL (fun a => a) (yRM g H0) cc ins len (yov_LrJ g mc ms mc' ms' cs P Q) :=
  hS.mono fun st w K Y h => by
    unfold yov_LrJ at h
    split at h
    · rename_i a0 r
      obtain ⟨hc, h8, hP, r1, r2, hq⟩ := h
      exact (⟨hc, h8, ⟨a0, rfl, hP⟩, r1, r2, fun v m' n' hp hi hn => by
              obtain ⟨x, rfl, hx⟩ := hp a0 rfl
              exact hq x m' n' hx hi hn, fun b m' n' hp => hp.elim⟩ : (yRcv cs w.1 [.ref a0] ∧ yGo g mc ms mc' ms' ((fun (g : hG) (av : List Value) (m : yM) (n : Nat) => ∃ (a0 : Nat), av = [.ref a0] ∧ P g a0 m n) g) ((fun (g : hG) (av : List Value) (m : yM) (n : Nat) (v : Option Value) (m' : yM) (n' : Nat) => ∀ (a0 : Nat), av = [.ref a0] → ∃ x, v = some (.long x) ∧ Q g a0 m n x m' n') g) (yNoX g) [.ref a0] r w K Y))
    · exact h.elim
def ypv_LrJ (g : hG) (mc ms : Nat) (cs : List Nat) (P : hG → Nat → yM → Nat → Prop) (R0 : hG → Nat → yM → Nat → Int64) : se_Op yW := fun st w K Y => match st with
  | .ref a0 :: r => yc w.1 a0 ∈ cs ∧ se_c8 8 r ∧ P g a0 w.1 w.2.1 ∧ w.2.2.1 ≤ mc ∧ w.2.2.2 ≤ ms ∧ K (.long (R0 g a0 w.1 w.2.1) :: r) w
  | _ => False
theorem ypv_LrJ_r {g : hG} {mc ms : Nat} {cs : List Nat} {P : hG → Nat → yM → Nat → Prop} {R0 : hG → Nat → yM → Nat → Int64} {a0 : Nat} {r : List Value} {w : yW} {K : List Value → yW → Prop} {Y : Nat → yW → Prop} : ypv_LrJ g mc ms cs P R0 (.ref a0 :: r) w K Y = (yc w.1 a0 ∈ cs ∧ se_c8 8 r ∧ P g a0 w.1 w.2.1 ∧ w.2.2.1 ≤ mc ∧ w.2.2.2 ≤ ms ∧ K (.long (R0 g a0 w.1 w.2.1) :: r) w) := rfl
theorem ypv_LrJ_ok {g : hG} {mc ms : Nat} {cs : List Nat} {P : hG → Nat → yM → Nat → Prop} {R0 : hG → Nat → yM → Nat → Int64} {p : Program} {l : Launch} {e : Env} {R : Room} {s : State} {m : MethodId} {args : Array Value} {below : List Frame} {meth : Method} {c : Code} {nL : Nat} {cc : ByteArray} {Q0 : State → Prop} {H0 : Heap} {ins : Instr} {len : Nat} (hS : se_Snd p l e R s m args below meth c Q0 nL (fun a => a) (yRM g H0) cc ins len (yov_LrJ g mc ms 0 0 cs P (fun g a0 m n x m' n' => x = R0 g a0 m n ∧ m' = m ∧ n' = n))) : se_Snd p l e R s m args below meth c Q0 nL (fun a => a) (yRM g H0) cc ins len (ypv_LrJ g mc ms cs P R0) :=
  hS.mono fun st w K Y h => by
    unfold ypv_LrJ at h
    split at h
    · rename_i a0 r
      obtain ⟨hc, h8, hP, r1, r2, hq⟩ := h
      exact ⟨hc, h8, hP, r1, r2, fun x m' n' e _ _ => by
              obtain ⟨rfl, rfl, rfl⟩ := e
              exact hq⟩
    · exact h.elim
def yfv_LrJ (g : hG) (mc ms : Nat) (cs : List Nat) (P : hG → Nat → yM → Nat → Prop) (R0 : hG → Nat → yM → Nat → Int64) (F : hG → Nat → yM → Nat → yM) : se_Op yW := fun st w K Y => match st with
  | .ref a0 :: r => yc w.1 a0 ∈ cs ∧ se_c8 8 r ∧ P g a0 w.1 w.2.1 ∧ w.2.2.1 ≤ mc ∧ w.2.2.2 ≤ ms ∧ K (.long (R0 g a0 w.1 w.2.1) :: r) (F g a0 w.1 w.2.1, w.2)
  | _ => False
theorem yfv_LrJ_r {g : hG} {mc ms : Nat} {cs : List Nat} {P : hG → Nat → yM → Nat → Prop} {R0 : hG → Nat → yM → Nat → Int64} {F : hG → Nat → yM → Nat → yM} {a0 : Nat} {r : List Value} {w : yW} {K : List Value → yW → Prop} {Y : Nat → yW → Prop} : yfv_LrJ g mc ms cs P R0 F (.ref a0 :: r) w K Y = (yc w.1 a0 ∈ cs ∧ se_c8 8 r ∧ P g a0 w.1 w.2.1 ∧ w.2.2.1 ≤ mc ∧ w.2.2.2 ≤ ms ∧ K (.long (R0 g a0 w.1 w.2.1) :: r) (F g a0 w.1 w.2.1, w.2)) := rfl
theorem yfv_LrJ_ok {g : hG} {mc ms : Nat} {cs : List Nat} {P : hG → Nat → yM → Nat → Prop} {R0 : hG → Nat → yM → Nat → Int64} {F : hG → Nat → yM → Nat → yM} {p : Program} {l : Launch} {e : Env} {R : Room} {s : State} {m : MethodId} {args : Array Value} {below : List Frame} {meth : Method} {c : Code} {nL : Nat} {cc : ByteArray} {Q0 : State → Prop} {H0 : Heap} {ins : Instr} {len : Nat} (hS : se_Snd p l e R s m args below meth c Q0 nL (fun a => a) (yRM g H0) cc ins len (yov_LrJ g mc ms 0 0 cs P (fun g a0 m n x m' n' => x = R0 g a0 m n ∧ m' = F g a0 m n ∧ n' = n))) : se_Snd p l e R s m args below meth c Q0 nL (fun a => a) (yRM g H0) cc ins len (yfv_LrJ g mc ms cs P R0 F) :=
  hS.mono fun st w K Y h => by
    unfold yfv_LrJ at h
    split at h
    · rename_i a0 r
      obtain ⟨hc, h8, hP, r1, r2, hq⟩ := h
      exact ⟨hc, h8, hP, r1, r2, fun x m' n' e _ _ => by
              obtain ⟨rfl, rfl, rfl⟩ := e
              exact hq⟩
    · exact h.elim
def yt_LrJ (mc ms : Nat) (Q : hG → Nat → yM → Nat → Int64 → yM → Nat → Prop) (g : hG) (a0 : Nat) (m : yM) (n : Nat) : Option Value → yW → Prop := yRt (some .long) mc ms ((fun (g : hG) (av : List Value) (m : yM) (n : Nat) (v : Option Value) (m' : yM) (n' : Nat) => ∀ (a0 : Nat), av = [.ref a0] → ∃ x, v = some (.long x) ∧ Q g a0 m n x m' n') g [.ref a0] m n)
theorem yt_LrJ_e {mc ms : Nat} {Q : hG → Nat → yM → Nat → Int64 → yM → Nat → Prop} {g : hG} {a0 : Nat} {m : yM} {n : Nat} {w : yW} {z : Int64} : yt_LrJ mc ms Q g a0 m n (some (.long z)) w = (w.2.2.1 ≤ mc ∧ w.2.2.2 ≤ ms ∧ Q g a0 m n z w.1 w.2.1) := by
  apply propext
  constructor
  · intro h
    obtain ⟨x, e, hq⟩ := h.2.2.2 _ rfl
    cases e
    exact ⟨h.2.1, h.2.2.1, hq⟩
  · intro h
    obtain ⟨h1, h2, h3⟩ := h
    exact ⟨rfl, h1, h2, fun _ e => by
      cases e
      exact ⟨z, rfl, h3⟩⟩
theorem ym_LrJ_of {l : Launch} {y : MethodName} {own : String} {cc : ByteArray} {maxL fr lo mc ms : Nat} {P : hG → Nat → yM → Nat → Prop} {Q : hG → Nat → yM → Nat → Int64 → yM → Nat → Prop} {T : hG → Nat → Nat → se_Op yW} (hy : plainName y.cls = true) (hyc : y.cls = own) (hT : yTS l own y.name cc maxL (some .long) fr lo mc ms T) (hL : 1 ≤ maxL)
    (body : ∀ (g : hG) (a0 : Nat) (m : yM) (n : Nat), hVg g → yIn g m n → P g a0 m n → ∀ G : Nat → se_L → List Value → yW → Prop, (∀ (stops : List Nat) (f pc : Nat) (L : se_L) (st : List Value) (w : yW), wpN True (T g) cc stops G (yXt mc ms (yNoX g [.ref a0] m n)) (yt_LrJ mc ms Q g a0 m n) f pc L st w → G pc L st w) → G 0 (se_ent [.ref a0] maxL) [] (m, n, 0, 0)) : ym_LrJ l y (ws_ y cc maxL (some .long)) fr lo mc ms P Q :=
  yOf hy hyc hT (fun g av m n h => by
    obtain ⟨a0, rfl, _⟩ := h
    exact hL) (fun g av m n h1 h2 hp G hG => by
    obtain ⟨a0, rfl, hp⟩ := hp
    exact body g a0 m n h1 h2 hp G hG)
abbrev ym_LrL (l : Launch) (y : MethodName) (ws : List Cond) (fr lo mc ms : Nat) (P : hG → Nat → yM → Nat → Prop) (Q : hG → Nat → yM → Nat → Option Nat → yM → Nat → Prop) : Prop := yCon l y ws fr lo mc ms (fun (g : hG) (av : List Value) (m : yM) (n : Nat) => ∃ (a0 : Nat), av = [.ref a0] ∧ P g a0 m n) (fun (g : hG) (av : List Value) (m : yM) (n : Nat) (v : Option Value) (m' : yM) (n' : Nat) => ∀ (a0 : Nat), av = [.ref a0] → ∃ x, v = some (va_rf x) ∧ Q g a0 m n x m' n') yNoX
def yov_LrL (g : hG) (mc ms mc' ms' : Nat) (cs : List Nat) (P : hG → Nat → yM → Nat → Prop) (Q : hG → Nat → yM → Nat → Option Nat → yM → Nat → Prop) : se_Op yW := fun st w K Y => match st with
  | .ref a0 :: r => yc w.1 a0 ∈ cs ∧ se_c8 8 r ∧ P g a0 w.1 w.2.1 ∧ w.2.2.1 + mc' ≤ mc ∧ w.2.2.2 + ms' ≤ ms ∧ ∀ x m' n', Q g a0 w.1 w.2.1 x m' n' → yIn g m' n' → w.2.1 ≤ n' → K (va_rf x :: r) (m', n', w.2.2.1 + mc', w.2.2.2 + ms')
  | _ => False
theorem yov_LrL_r {g : hG} {mc ms mc' ms' : Nat} {cs : List Nat} {P : hG → Nat → yM → Nat → Prop} {Q : hG → Nat → yM → Nat → Option Nat → yM → Nat → Prop} {a0 : Nat} {r : List Value} {w : yW} {K : List Value → yW → Prop} {Y : Nat → yW → Prop} : yov_LrL g mc ms mc' ms' cs P Q (.ref a0 :: r) w K Y = (yc w.1 a0 ∈ cs ∧ se_c8 8 r ∧ P g a0 w.1 w.2.1 ∧ w.2.2.1 + mc' ≤ mc ∧ w.2.2.2 + ms' ≤ ms ∧ ∀ x m' n', Q g a0 w.1 w.2.1 x m' n' → yIn g m' n' → w.2.1 ≤ n' → K (va_rf x :: r) (m', n', w.2.2.1 + mc', w.2.2.2 + ms')) := rfl
theorem yov_LrL_ok {g : hG} {mc ms mc' ms' : Nat} {cs : List Nat} {P : hG → Nat → yM → Nat → Prop} {Q : hG → Nat → yM → Nat → Option Nat → yM → Nat → Prop} {p : Program} {l : Launch} {e : Env} {R : Room} {s : State} {m : MethodId} {args : Array Value} {below : List Frame} {meth : Method} {c : Code} {nL : Nat} {cc : ByteArray} {Q0 : State → Prop} {H0 : Heap} {ins : Instr} {len : Nat} (hS : se_Snd p l e R s m args below meth c Q0 nL (fun a => a) (yRM g H0) cc ins len (yCV g 0 mc ms mc' ms' cs (fun (g : hG) (av : List Value) (m : yM) (n : Nat) => ∃ (a0 : Nat), av = [.ref a0] ∧ P g a0 m n) (fun (g : hG) (av : List Value) (m : yM) (n : Nat) (v : Option Value) (m' : yM) (n' : Nat) => ∀ (a0 : Nat), av = [.ref a0] → ∃ x, v = some (va_rf x) ∧ Q g a0 m n x m' n') yNoX)) : se_Snd p l e R s m args below meth c Q0 nL (fun a => a) (yRM g H0) cc ins len (yov_LrL g mc ms mc' ms' cs P Q) :=
  hS.mono fun st w K Y h => by
    unfold yov_LrL at h
    split at h
    · rename_i a0 r
      obtain ⟨hc, h8, hP, r1, r2, hq⟩ := h
      exact (⟨hc, h8, ⟨a0, rfl, hP⟩, r1, r2, fun v m' n' hp hi hn => by
              obtain ⟨x, rfl, hx⟩ := hp a0 rfl
              exact hq x m' n' hx hi hn, fun b m' n' hp => hp.elim⟩ : (yRcv cs w.1 [.ref a0] ∧ yGo g mc ms mc' ms' ((fun (g : hG) (av : List Value) (m : yM) (n : Nat) => ∃ (a0 : Nat), av = [.ref a0] ∧ P g a0 m n) g) ((fun (g : hG) (av : List Value) (m : yM) (n : Nat) (v : Option Value) (m' : yM) (n' : Nat) => ∀ (a0 : Nat), av = [.ref a0] → ∃ x, v = some (va_rf x) ∧ Q g a0 m n x m' n') g) (yNoX g) [.ref a0] r w K Y))
    · exact h.elim
abbrev ymx_LrL (l : Launch) (y : MethodName) (ws : List Cond) (fr lo mc ms : Nat) (P : hG → Nat → yM → Nat → Prop) (Q : hG → Nat → yM → Nat → Option Nat → yM → Nat → Prop) (X : hG → Nat → yM → Nat → Nat → yM → Nat → Prop) : Prop := yCon l y ws fr lo mc ms (fun (g : hG) (av : List Value) (m : yM) (n : Nat) => ∃ (a0 : Nat), av = [.ref a0] ∧ P g a0 m n) (fun (g : hG) (av : List Value) (m : yM) (n : Nat) (v : Option Value) (m' : yM) (n' : Nat) => ∀ (a0 : Nat), av = [.ref a0] → ∃ x, v = some (va_rf x) ∧ Q g a0 m n x m' n') (fun (g : hG) (av : List Value) (m : yM) (n : Nat) (b : Nat) (m' : yM) (n' : Nat) => ∃ (a0 : Nat), av = [.ref a0] ∧ X g a0 m n b m' n')
def yovx_LrL (g : hG) (mc ms mc' ms' : Nat) (cs : List Nat) (P : hG → Nat → yM → Nat → Prop) (Q : hG → Nat → yM → Nat → Option Nat → yM → Nat → Prop) (X : hG → Nat → yM → Nat → Nat → yM → Nat → Prop) : se_Op yW := fun st w K Y => match st with
  | .ref a0 :: r => yc w.1 a0 ∈ cs ∧ se_c8 8 r ∧ P g a0 w.1 w.2.1 ∧ w.2.2.1 + mc' ≤ mc ∧ w.2.2.2 + ms' ≤ ms ∧ (∀ x m' n', Q g a0 w.1 w.2.1 x m' n' → yIn g m' n' → w.2.1 ≤ n' → K (va_rf x :: r) (m', n', w.2.2.1 + mc', w.2.2.2 + ms')) ∧ ∀ b m' n', X g a0 w.1 w.2.1 b m' n' → yIn g m' n' → w.2.1 ≤ n' → Y b (m', n', w.2.2.1 + mc', w.2.2.2 + ms')
  | _ => False
theorem yovx_LrL_r {g : hG} {mc ms mc' ms' : Nat} {cs : List Nat} {P : hG → Nat → yM → Nat → Prop} {Q : hG → Nat → yM → Nat → Option Nat → yM → Nat → Prop} {X : hG → Nat → yM → Nat → Nat → yM → Nat → Prop} {a0 : Nat} {r : List Value} {w : yW} {K : List Value → yW → Prop} {Y : Nat → yW → Prop} : yovx_LrL g mc ms mc' ms' cs P Q X (.ref a0 :: r) w K Y = (yc w.1 a0 ∈ cs ∧ se_c8 8 r ∧ P g a0 w.1 w.2.1 ∧ w.2.2.1 + mc' ≤ mc ∧ w.2.2.2 + ms' ≤ ms ∧ (∀ x m' n', Q g a0 w.1 w.2.1 x m' n' → yIn g m' n' → w.2.1 ≤ n' → K (va_rf x :: r) (m', n', w.2.2.1 + mc', w.2.2.2 + ms')) ∧ ∀ b m' n', X g a0 w.1 w.2.1 b m' n' → yIn g m' n' → w.2.1 ≤ n' → Y b (m', n', w.2.2.1 + mc', w.2.2.2 + ms')) := rfl
theorem yovx_LrL_ok {g : hG} {mc ms mc' ms' : Nat} {cs : List Nat} {P : hG → Nat → yM → Nat → Prop} {Q : hG → Nat → yM → Nat → Option Nat → yM → Nat → Prop} {X : hG → Nat → yM → Nat → Nat → yM → Nat → Prop} {p : Program} {l : Launch} {e : Env} {R : Room} {s : State} {m : MethodId} {args : Array Value} {below : List Frame} {meth : Method} {c : Code} {nL : Nat} {cc : ByteArray} {Q0 : State → Prop} {H0 : Heap} {ins : Instr} {len : Nat} (hS : se_Snd p l e R s m args below meth c Q0 nL (fun a => a) (yRM g H0) cc ins len (yCV g 0 mc ms mc' ms' cs (fun (g : hG) (av : List Value) (m : yM) (n : Nat) => ∃ (a0 : Nat), av = [.ref a0] ∧ P g a0 m n) (fun (g : hG) (av : List Value) (m : yM) (n : Nat) (v : Option Value) (m' : yM) (n' : Nat) => ∀ (a0 : Nat), av = [.ref a0] → ∃ x, v = some (va_rf x) ∧ Q g a0 m n x m' n') (fun (g : hG) (av : List Value) (m : yM) (n : Nat) (b : Nat) (m' : yM) (n' : Nat) => ∃ (a0 : Nat), av = [.ref a0] ∧ X g a0 m n b m' n'))) : se_Snd p l e R s m args below meth c Q0 nL (fun a => a) (yRM g H0) cc ins len (yovx_LrL g mc ms mc' ms' cs P Q X) :=
  hS.mono fun st w K Y h => by
    unfold yovx_LrL at h
    split at h
    · rename_i a0 r
      obtain ⟨hc, h8, hP, r1, r2, hq⟩ := h
      exact (⟨hc, h8, ⟨a0, rfl, hP⟩, r1, r2, fun v m' n' hp hi hn => by
              obtain ⟨x, rfl, hx⟩ := hp a0 rfl
              exact hq.1 x m' n' hx hi hn, fun b m' n' hp hi hn => by
              obtain ⟨z0, e, hx⟩ := hp
              cases e
              exact hq.2 b m' n' hx hi hn⟩ : (yRcv cs w.1 [.ref a0] ∧ yGo g mc ms mc' ms' ((fun (g : hG) (av : List Value) (m : yM) (n : Nat) => ∃ (a0 : Nat), av = [.ref a0] ∧ P g a0 m n) g) ((fun (g : hG) (av : List Value) (m : yM) (n : Nat) (v : Option Value) (m' : yM) (n' : Nat) => ∀ (a0 : Nat), av = [.ref a0] → ∃ x, v = some (va_rf x) ∧ Q g a0 m n x m' n') g) ((fun (g : hG) (av : List Value) (m : yM) (n : Nat) (b : Nat) (m' : yM) (n' : Nat) => ∃ (a0 : Nat), av = [.ref a0] ∧ X g a0 m n b m' n') g) [.ref a0] r w K Y))
    · exact h.elim
def ypv_LrL (g : hG) (mc ms : Nat) (cs : List Nat) (P : hG → Nat → yM → Nat → Prop) (R0 : hG → Nat → yM → Nat → Option Nat) : se_Op yW := fun st w K Y => match st with
  | .ref a0 :: r => yc w.1 a0 ∈ cs ∧ se_c8 8 r ∧ P g a0 w.1 w.2.1 ∧ w.2.2.1 ≤ mc ∧ w.2.2.2 ≤ ms ∧ K (va_rf (R0 g a0 w.1 w.2.1) :: r) w
  | _ => False
theorem ypv_LrL_r {g : hG} {mc ms : Nat} {cs : List Nat} {P : hG → Nat → yM → Nat → Prop} {R0 : hG → Nat → yM → Nat → Option Nat} {a0 : Nat} {r : List Value} {w : yW} {K : List Value → yW → Prop} {Y : Nat → yW → Prop} : ypv_LrL g mc ms cs P R0 (.ref a0 :: r) w K Y = (yc w.1 a0 ∈ cs ∧ se_c8 8 r ∧ P g a0 w.1 w.2.1 ∧ w.2.2.1 ≤ mc ∧ w.2.2.2 ≤ ms ∧ K (va_rf (R0 g a0 w.1 w.2.1) :: r) w) := rfl
theorem ypv_LrL_ok {g : hG} {mc ms : Nat} {cs : List Nat} {P : hG → Nat → yM → Nat → Prop} {R0 : hG → Nat → yM → Nat → Option Nat} {p : Program} {l : Launch} {e : Env} {R : Room} {s : State} {m : MethodId} {args : Array Value} {below : List Frame} {meth : Method} {c : Code} {nL : Nat} {cc : ByteArray} {Q0 : State → Prop} {H0 : Heap} {ins : Instr} {len : Nat} (hS : se_Snd p l e R s m args below meth c Q0 nL (fun a => a) (yRM g H0) cc ins len (yov_LrL g mc ms 0 0 cs P (fun g a0 m n x m' n' => x = R0 g a0 m n ∧ m' = m ∧ n' = n))) : se_Snd p l e R s m args below meth c Q0 nL (fun a => a) (yRM g H0) cc ins len (ypv_LrL g mc ms cs P R0) :=
  hS.mono fun st w K Y h => by
    unfold ypv_LrL at h
    split at h
    · rename_i a0 r
      obtain ⟨hc, h8, hP, r1, r2, hq⟩ := h
      exact ⟨hc, h8, hP, r1, r2, fun x m' n' e _ _ => by
              obtain ⟨rfl, rfl, rfl⟩ := e
              exact hq⟩
    · exact h.elim
def yfv_LrL (g : hG) (mc ms : Nat) (cs : List Nat) (P : hG → Nat → yM → Nat → Prop) (R0 : hG → Nat → yM → Nat → Option Nat) (F : hG → Nat → yM → Nat → yM) : se_Op yW := fun st w K Y => match st with
  | .ref a0 :: r => yc w.1 a0 ∈ cs ∧ se_c8 8 r ∧ P g a0 w.1 w.2.1 ∧ w.2.2.1 ≤ mc ∧ w.2.2.2 ≤ ms ∧ K (va_rf (R0 g a0 w.1 w.2.1) :: r) (F g a0 w.1 w.2.1, w.2)
  | _ => False
theorem yfv_LrL_r {g : hG} {mc ms : Nat} {cs : List Nat} {P : hG → Nat → yM → Nat → Prop} {R0 : hG → Nat → yM → Nat → Option Nat} {F : hG → Nat → yM → Nat → yM} {a0 : Nat} {r : List Value} {w : yW} {K : List Value → yW → Prop} {Y : Nat → yW → Prop} : yfv_LrL g mc ms cs P R0 F (.ref a0 :: r) w K Y = (yc w.1 a0 ∈ cs ∧ se_c8 8 r ∧ P g a0 w.1 w.2.1 ∧ w.2.2.1 ≤ mc ∧ w.2.2.2 ≤ ms ∧ K (va_rf (R0 g a0 w.1 w.2.1) :: r) (F g a0 w.1 w.2.1, w.2)) := rfl
theorem yfv_LrL_ok {g : hG} {mc ms : Nat} {cs : List Nat} {P : hG → Nat → yM → Nat → Prop} {R0 : hG → Nat → yM → Nat → Option Nat} {F : hG → Nat → yM → Nat → yM} {p : Program} {l : Launch} {e : Env} {R : Room} {s : State} {m : MethodId} {args : Array Value} {below : List Frame} {meth : Method} {c : Code} {nL : Nat} {cc : ByteArray} {Q0 : State → Prop} {H0 : Heap} {ins : Instr} {len : Nat} (hS : se_Snd p l e R s m args below meth c Q0 nL (fun a => a) (yRM g H0) cc ins len (yov_LrL g mc ms 0 0 cs P (fun g a0 m n x m' n' => x = R0 g a0 m n ∧ m' = F g a0 m n ∧ n' = n))) : se_Snd p l e R s m args below meth c Q0 nL (fun a => a) (yRM g H0) cc ins len (yfv_LrL g mc ms cs P R0 F) :=
  hS.mono fun st w K Y h => by
    unfold yfv_LrL at h
    split at h
    · rename_i a0 r
      obtain ⟨hc, h8, hP, r1, r2, hq⟩ := h
      exact ⟨hc, h8, hP, r1, r2, fun x m' n' e _ _ => by
              obtain ⟨rfl, rfl, rfl⟩ := e
              exact hq⟩
    · exact h.elim
def yt_LrL (rty : FieldType) (mc ms : Nat) (Q : hG → Nat → yM → Nat → Option Nat → yM → Nat → Prop) (g : hG) (a0 : Nat) (m : yM) (n : Nat) : Option Value → yW → Prop := yRt (some rty) mc ms ((fun (g : hG) (av : List Value) (m : yM) (n : Nat) (v : Option Value) (m' : yM) (n' : Nat) => ∀ (a0 : Nat), av = [.ref a0] → ∃ x, v = some (va_rf x) ∧ Q g a0 m n x m' n') g [.ref a0] m n)
theorem yt_LrL_e {rty : FieldType} {mc ms : Nat} {Q : hG → Nat → yM → Nat → Option Nat → yM → Nat → Prop} {g : hG} {a0 : Nat} {m : yM} {n : Nat} {w : yW} {z : Nat} (hr : (∃ n, rty = .object n) ∨ ∃ t, rty = .array t) : yt_LrL rty mc ms Q g a0 m n (some (.ref z)) w = (w.2.2.1 ≤ mc ∧ w.2.2.2 ≤ ms ∧ Q g a0 m n (some z) w.1 w.2.1) := by
  apply propext
  constructor
  · intro h
    obtain ⟨x, e, hq⟩ := h.2.2.2 _ rfl
    cases x with
    | none => cases e
    | some x => cases e; exact ⟨h.2.1, h.2.2.1, hq⟩
  · intro h
    obtain ⟨h1, h2, h3⟩ := h
    exact ⟨⟨_, rfl, hr⟩, h1, h2, fun _ e => by
      cases e
      exact ⟨some z, rfl, h3⟩⟩
theorem yt_LrL_n {rty : FieldType} {mc ms : Nat} {Q : hG → Nat → yM → Nat → Option Nat → yM → Nat → Prop} {g : hG} {a0 : Nat} {m : yM} {n : Nat} {w : yW} (hr : (∃ n, rty = .object n) ∨ ∃ t, rty = .array t) : yt_LrL rty mc ms Q g a0 m n (some .null) w = (w.2.2.1 ≤ mc ∧ w.2.2.2 ≤ ms ∧ Q g a0 m n none w.1 w.2.1) := by
  apply propext
  constructor
  · intro h
    obtain ⟨x, e, hq⟩ := h.2.2.2 _ rfl
    cases x with
    | none => exact ⟨h.2.1, h.2.2.1, hq⟩
    | some x => cases e
  · intro h
    obtain ⟨h1, h2, h3⟩ := h
    exact ⟨⟨_, rfl, hr⟩, h1, h2, fun _ e => by
      cases e
      exact ⟨none, rfl, h3⟩⟩
theorem ym_LrL_of {l : Launch} {y : MethodName} {own : String} {cc : ByteArray} {maxL fr lo mc ms : Nat} {rty : FieldType} {P : hG → Nat → yM → Nat → Prop} {Q : hG → Nat → yM → Nat → Option Nat → yM → Nat → Prop} {T : hG → Nat → Nat → se_Op yW} (hy : plainName y.cls = true) (hyc : y.cls = own) (hT : yTS l own y.name cc maxL (some rty) fr lo mc ms T) (hL : 1 ≤ maxL)
    (body : ∀ (g : hG) (a0 : Nat) (m : yM) (n : Nat), hVg g → yIn g m n → P g a0 m n → ∀ G : Nat → se_L → List Value → yW → Prop, (∀ (stops : List Nat) (f pc : Nat) (L : se_L) (st : List Value) (w : yW), wpN True (T g) cc stops G (yXt mc ms (yNoX g [.ref a0] m n)) (yt_LrL rty mc ms Q g a0 m n) f pc L st w → G pc L st w) → G 0 (se_ent [.ref a0] maxL) [] (m, n, 0, 0)) : ym_LrL l y (ws_ y cc maxL (some rty)) fr lo mc ms P Q :=
  yOf hy hyc hT (fun g av m n h => by
    obtain ⟨a0, rfl, _⟩ := h
    exact hL) (fun g av m n h1 h2 hp G hG => by
    obtain ⟨a0, rfl, hp⟩ := hp
    exact body g a0 m n h1 h2 hp G hG)
theorem ymx_LrL_of {l : Launch} {y : MethodName} {own : String} {cc : ByteArray} {maxL fr lo mc ms : Nat} {rty : FieldType} {P : hG → Nat → yM → Nat → Prop} {Q : hG → Nat → yM → Nat → Option Nat → yM → Nat → Prop} {X : hG → Nat → yM → Nat → Nat → yM → Nat → Prop} {T : hG → Nat → Nat → se_Op yW} (hy : plainName y.cls = true) (hyc : y.cls = own) (hT : yTS l own y.name cc maxL (some rty) fr lo mc ms T) (hL : 1 ≤ maxL)
    (body : ∀ (g : hG) (a0 : Nat) (m : yM) (n : Nat), hVg g → yIn g m n → P g a0 m n → ∀ G : Nat → se_L → List Value → yW → Prop, (∀ (stops : List Nat) (f pc : Nat) (L : se_L) (st : List Value) (w : yW), wpN True (T g) cc stops G (yXt mc ms ((fun (g : hG) (av : List Value) (m : yM) (n : Nat) (b : Nat) (m' : yM) (n' : Nat) => ∃ (a0 : Nat), av = [.ref a0] ∧ X g a0 m n b m' n') g [.ref a0] m n)) (yt_LrL rty mc ms Q g a0 m n) f pc L st w → G pc L st w) → G 0 (se_ent [.ref a0] maxL) [] (m, n, 0, 0)) : ymx_LrL l y (ws_ y cc maxL (some rty)) fr lo mc ms P Q X :=
  yOf hy hyc hT (fun g av m n h => by
    obtain ⟨a0, rfl, _⟩ := h
    exact hL) (fun g av m n h1 h2 hp G hG => by
    obtain ⟨a0, rfl, hp⟩ := hp
    exact body g a0 m n h1 h2 hp G hG)
abbrev ym_LrV (l : Launch) (y : MethodName) (ws : List Cond) (fr lo mc ms : Nat) (P : hG → Nat → yM → Nat → Prop) (Q : hG → Nat → yM → Nat → yM → Nat → Prop) : Prop := yCon l y ws fr lo mc ms (fun (g : hG) (av : List Value) (m : yM) (n : Nat) => ∃ (a0 : Nat), av = [.ref a0] ∧ P g a0 m n) (fun (g : hG) (av : List Value) (m : yM) (n : Nat) (v : Option Value) (m' : yM) (n' : Nat) => ∀ (a0 : Nat), av = [.ref a0] → v = none ∧ Q g a0 m n m' n') yNoX
def yo_LrV (g : hG) (mc ms mc' ms' : Nat) (P : hG → Nat → yM → Nat → Prop) (Q : hG → Nat → yM → Nat → yM → Nat → Prop) : se_Op yW := fun st w K Y => match st with
  | .ref a0 :: r => se_c8 8 r ∧ P g a0 w.1 w.2.1 ∧ w.2.2.1 + mc' ≤ mc ∧ w.2.2.2 + ms' ≤ ms ∧ ∀ m' n', Q g a0 w.1 w.2.1 m' n' → yIn g m' n' → w.2.1 ≤ n' → K r (m', n', w.2.2.1 + mc', w.2.2.2 + ms')
  | _ => False
theorem yo_LrV_r {g : hG} {mc ms mc' ms' : Nat} {P : hG → Nat → yM → Nat → Prop} {Q : hG → Nat → yM → Nat → yM → Nat → Prop} {a0 : Nat} {r : List Value} {w : yW} {K : List Value → yW → Prop} {Y : Nat → yW → Prop} : yo_LrV g mc ms mc' ms' P Q (.ref a0 :: r) w K Y = (se_c8 8 r ∧ P g a0 w.1 w.2.1 ∧ w.2.2.1 + mc' ≤ mc ∧ w.2.2.2 + ms' ≤ ms ∧ ∀ m' n', Q g a0 w.1 w.2.1 m' n' → yIn g m' n' → w.2.1 ≤ n' → K r (m', n', w.2.2.1 + mc', w.2.2.2 + ms')) := rfl
theorem yo_LrV_ok {g : hG} {mc ms mc' ms' : Nat} {P : hG → Nat → yM → Nat → Prop} {Q : hG → Nat → yM → Nat → yM → Nat → Prop} {p : Program} {l : Launch} {e : Env} {R : Room} {s : State} {m : MethodId} {args : Array Value} {below : List Frame} {meth : Method} {c : Code} {nL : Nat} {cc : ByteArray} {Q0 : State → Prop} {H0 : Heap} {ins : Instr} {len : Nat} (hS : se_Snd p l e R s m args below meth c Q0 nL (fun a => a) (yRM g H0) cc ins len (yCS g 1 mc ms mc' ms' (fun (g : hG) (av : List Value) (m : yM) (n : Nat) => ∃ (a0 : Nat), av = [.ref a0] ∧ P g a0 m n) (fun (g : hG) (av : List Value) (m : yM) (n : Nat) (v : Option Value) (m' : yM) (n' : Nat) => ∀ (a0 : Nat), av = [.ref a0] → v = none ∧ Q g a0 m n m' n') yNoX)) : se_Snd p l e R s m args below meth c Q0 nL (fun a => a) (yRM g H0) cc ins len (yo_LrV g mc ms mc' ms' P Q) :=
  hS.mono fun st w K Y h => by
    unfold yo_LrV at h
    split at h
    · rename_i a0 r
      obtain ⟨h8, hP, r1, r2, hq⟩ := h
      exact (⟨h8, ⟨a0, rfl, hP⟩, r1, r2, fun v m' n' hp hi hn => by
              obtain ⟨rfl, hx⟩ := hp a0 rfl
              exact hq m' n' hx hi hn, fun b m' n' hp => hp.elim⟩ : yGo g mc ms mc' ms' ((fun (g : hG) (av : List Value) (m : yM) (n : Nat) => ∃ (a0 : Nat), av = [.ref a0] ∧ P g a0 m n) g) ((fun (g : hG) (av : List Value) (m : yM) (n : Nat) (v : Option Value) (m' : yM) (n' : Nat) => ∀ (a0 : Nat), av = [.ref a0] → v = none ∧ Q g a0 m n m' n') g) (yNoX g) [.ref a0] r w K Y)
    · exact h.elim
def yov_LrV (g : hG) (mc ms mc' ms' : Nat) (cs : List Nat) (P : hG → Nat → yM → Nat → Prop) (Q : hG → Nat → yM → Nat → yM → Nat → Prop) : se_Op yW := fun st w K Y => match st with
  | .ref a0 :: r => yc w.1 a0 ∈ cs ∧ se_c8 8 r ∧ P g a0 w.1 w.2.1 ∧ w.2.2.1 + mc' ≤ mc ∧ w.2.2.2 + ms' ≤ ms ∧ ∀ m' n', Q g a0 w.1 w.2.1 m' n' → yIn g m' n' → w.2.1 ≤ n' → K r (m', n', w.2.2.1 + mc', w.2.2.2 + ms')
  | _ => False
theorem yov_LrV_r {g : hG} {mc ms mc' ms' : Nat} {cs : List Nat} {P : hG → Nat → yM → Nat → Prop} {Q : hG → Nat → yM → Nat → yM → Nat → Prop} {a0 : Nat} {r : List Value} {w : yW} {K : List Value → yW → Prop} {Y : Nat → yW → Prop} : yov_LrV g mc ms mc' ms' cs P Q (.ref a0 :: r) w K Y = (yc w.1 a0 ∈ cs ∧ se_c8 8 r ∧ P g a0 w.1 w.2.1 ∧ w.2.2.1 + mc' ≤ mc ∧ w.2.2.2 + ms' ≤ ms ∧ ∀ m' n', Q g a0 w.1 w.2.1 m' n' → yIn g m' n' → w.2.1 ≤ n' → K r (m', n', w.2.2.1 + mc', w.2.2.2 + ms')) := rfl
theorem yov_LrV_ok {g : hG} {mc ms mc' ms' : Nat} {cs : List Nat} {P : hG → Nat → yM → Nat → Prop} {Q : hG → Nat → yM → Nat → yM → Nat → Prop} {p : Program} {l : Launch} {e : Env} {R : Room} {s : State} {m : MethodId} {args : Array Value} {below : List Frame} {meth : Method} {c : Code} {nL : Nat} {cc : ByteArray} {Q0 : State → Prop} {H0 : Heap} {ins : Instr} {len : Nat} (hS : se_Snd p l e R s m args below meth c Q0 nL (fun a => a) (yRM g H0) cc ins len (yCV g 0 mc ms mc' ms' cs (fun (g : hG) (av : List Value) (m : yM) (n : Nat) => ∃ (a0 : Nat), av = [.ref a0] ∧ P g a0 m n) (fun (g : hG) (av : List Value) (m : yM) (n : Nat) (v : Option Value) (m' : yM) (n' : Nat) => ∀ (a0 : Nat), av = [.ref a0] → v = none ∧ Q g a0 m n m' n') yNoX)) : se_Snd p l e R s m args below meth c Q0 nL (fun a => a) (yRM g H0) cc ins len (yov_LrV g mc ms mc' ms' cs P Q) :=
  hS.mono fun st w K Y h => by
    unfold yov_LrV at h
    split at h
    · rename_i a0 r
      obtain ⟨hc, h8, hP, r1, r2, hq⟩ := h
      exact (⟨hc, h8, ⟨a0, rfl, hP⟩, r1, r2, fun v m' n' hp hi hn => by
              obtain ⟨rfl, hx⟩ := hp a0 rfl
              exact hq m' n' hx hi hn, fun b m' n' hp => hp.elim⟩ : (yRcv cs w.1 [.ref a0] ∧ yGo g mc ms mc' ms' ((fun (g : hG) (av : List Value) (m : yM) (n : Nat) => ∃ (a0 : Nat), av = [.ref a0] ∧ P g a0 m n) g) ((fun (g : hG) (av : List Value) (m : yM) (n : Nat) (v : Option Value) (m' : yM) (n' : Nat) => ∀ (a0 : Nat), av = [.ref a0] → v = none ∧ Q g a0 m n m' n') g) (yNoX g) [.ref a0] r w K Y))
    · exact h.elim
abbrev ymx_LrV (l : Launch) (y : MethodName) (ws : List Cond) (fr lo mc ms : Nat) (P : hG → Nat → yM → Nat → Prop) (Q : hG → Nat → yM → Nat → yM → Nat → Prop) (X : hG → Nat → yM → Nat → Nat → yM → Nat → Prop) : Prop := yCon l y ws fr lo mc ms (fun (g : hG) (av : List Value) (m : yM) (n : Nat) => ∃ (a0 : Nat), av = [.ref a0] ∧ P g a0 m n) (fun (g : hG) (av : List Value) (m : yM) (n : Nat) (v : Option Value) (m' : yM) (n' : Nat) => ∀ (a0 : Nat), av = [.ref a0] → v = none ∧ Q g a0 m n m' n') (fun (g : hG) (av : List Value) (m : yM) (n : Nat) (b : Nat) (m' : yM) (n' : Nat) => ∃ (a0 : Nat), av = [.ref a0] ∧ X g a0 m n b m' n')
def yox_LrV (g : hG) (mc ms mc' ms' : Nat) (P : hG → Nat → yM → Nat → Prop) (Q : hG → Nat → yM → Nat → yM → Nat → Prop) (X : hG → Nat → yM → Nat → Nat → yM → Nat → Prop) : se_Op yW := fun st w K Y => match st with
  | .ref a0 :: r => se_c8 8 r ∧ P g a0 w.1 w.2.1 ∧ w.2.2.1 + mc' ≤ mc ∧ w.2.2.2 + ms' ≤ ms ∧ (∀ m' n', Q g a0 w.1 w.2.1 m' n' → yIn g m' n' → w.2.1 ≤ n' → K r (m', n', w.2.2.1 + mc', w.2.2.2 + ms')) ∧ ∀ b m' n', X g a0 w.1 w.2.1 b m' n' → yIn g m' n' → w.2.1 ≤ n' → Y b (m', n', w.2.2.1 + mc', w.2.2.2 + ms')
  | _ => False
theorem yox_LrV_r {g : hG} {mc ms mc' ms' : Nat} {P : hG → Nat → yM → Nat → Prop} {Q : hG → Nat → yM → Nat → yM → Nat → Prop} {X : hG → Nat → yM → Nat → Nat → yM → Nat → Prop} {a0 : Nat} {r : List Value} {w : yW} {K : List Value → yW → Prop} {Y : Nat → yW → Prop} : yox_LrV g mc ms mc' ms' P Q X (.ref a0 :: r) w K Y = (se_c8 8 r ∧ P g a0 w.1 w.2.1 ∧ w.2.2.1 + mc' ≤ mc ∧ w.2.2.2 + ms' ≤ ms ∧ (∀ m' n', Q g a0 w.1 w.2.1 m' n' → yIn g m' n' → w.2.1 ≤ n' → K r (m', n', w.2.2.1 + mc', w.2.2.2 + ms')) ∧ ∀ b m' n', X g a0 w.1 w.2.1 b m' n' → yIn g m' n' → w.2.1 ≤ n' → Y b (m', n', w.2.2.1 + mc', w.2.2.2 + ms')) := rfl
theorem yox_LrV_ok {g : hG} {mc ms mc' ms' : Nat} {P : hG → Nat → yM → Nat → Prop} {Q : hG → Nat → yM → Nat → yM → Nat → Prop} {X : hG → Nat → yM → Nat → Nat → yM → Nat → Prop} {p : Program} {l : Launch} {e : Env} {R : Room} {s : State} {m : MethodId} {args : Array Value} {below : List Frame} {meth : Method} {c : Code} {nL : Nat} {cc : ByteArray} {Q0 : State → Prop} {H0 : Heap} {ins : Instr} {len : Nat} (hS : se_Snd p l e R s m args below meth c Q0 nL (fun a => a) (yRM g H0) cc ins len (yCS g 1 mc ms mc' ms' (fun (g : hG) (av : List Value) (m : yM) (n : Nat) => ∃ (a0 : Nat), av = [.ref a0] ∧ P g a0 m n) (fun (g : hG) (av : List Value) (m : yM) (n : Nat) (v : Option Value) (m' : yM) (n' : Nat) => ∀ (a0 : Nat), av = [.ref a0] → v = none ∧ Q g a0 m n m' n') (fun (g : hG) (av : List Value) (m : yM) (n : Nat) (b : Nat) (m' : yM) (n' : Nat) => ∃ (a0 : Nat), av = [.ref a0] ∧ X g a0 m n b m' n'))) : se_Snd p l e R s m args below meth c Q0 nL (fun a => a) (yRM g H0) cc ins len (yox_LrV g mc ms mc' ms' P Q X) :=
  hS.mono fun st w K Y h => by
    unfold yox_LrV at h
    split at h
    · rename_i a0 r
      obtain ⟨h8, hP, r1, r2, hq⟩ := h
      exact (⟨h8, ⟨a0, rfl, hP⟩, r1, r2, fun v m' n' hp hi hn => by
              obtain ⟨rfl, hx⟩ := hp a0 rfl
              exact hq.1 m' n' hx hi hn, fun b m' n' hp hi hn => by
              obtain ⟨z0, e, hx⟩ := hp
              cases e
              exact hq.2 b m' n' hx hi hn⟩ : yGo g mc ms mc' ms' ((fun (g : hG) (av : List Value) (m : yM) (n : Nat) => ∃ (a0 : Nat), av = [.ref a0] ∧ P g a0 m n) g) ((fun (g : hG) (av : List Value) (m : yM) (n : Nat) (v : Option Value) (m' : yM) (n' : Nat) => ∀ (a0 : Nat), av = [.ref a0] → v = none ∧ Q g a0 m n m' n') g) ((fun (g : hG) (av : List Value) (m : yM) (n : Nat) (b : Nat) (m' : yM) (n' : Nat) => ∃ (a0 : Nat), av = [.ref a0] ∧ X g a0 m n b m' n') g) [.ref a0] r w K Y)
    · exact h.elim
def yovx_LrV (g : hG) (mc ms mc' ms' : Nat) (cs : List Nat) (P : hG → Nat → yM → Nat → Prop) (Q : hG → Nat → yM → Nat → yM → Nat → Prop) (X : hG → Nat → yM → Nat → Nat → yM → Nat → Prop) : se_Op yW := fun st w K Y => match st with
  | .ref a0 :: r => yc w.1 a0 ∈ cs ∧ se_c8 8 r ∧ P g a0 w.1 w.2.1 ∧ w.2.2.1 + mc' ≤ mc ∧ w.2.2.2 + ms' ≤ ms ∧ (∀ m' n', Q g a0 w.1 w.2.1 m' n' → yIn g m' n' → w.2.1 ≤ n' → K r (m', n', w.2.2.1 + mc', w.2.2.2 + ms')) ∧ ∀ b m' n', X g a0 w.1 w.2.1 b m' n' → yIn g m' n' → w.2.1 ≤ n' → Y b (m', n', w.2.2.1 + mc', w.2.2.2 + ms')
  | _ => False
theorem yovx_LrV_r {g : hG} {mc ms mc' ms' : Nat} {cs : List Nat} {P : hG → Nat → yM → Nat → Prop} {Q : hG → Nat → yM → Nat → yM → Nat → Prop} {X : hG → Nat → yM → Nat → Nat → yM → Nat → Prop} {a0 : Nat} {r : List Value} {w : yW} {K : List Value → yW → Prop} {Y : Nat → yW → Prop} : yovx_LrV g mc ms mc' ms' cs P Q X (.ref a0 :: r) w K Y = (yc w.1 a0 ∈ cs ∧ se_c8 8 r ∧ P g a0 w.1 w.2.1 ∧ w.2.2.1 + mc' ≤ mc ∧ w.2.2.2 + ms' ≤ ms ∧ (∀ m' n', Q g a0 w.1 w.2.1 m' n' → yIn g m' n' → w.2.1 ≤ n' → K r (m', n', w.2.2.1 + mc', w.2.2.2 + ms')) ∧ ∀ b m' n', X g a0 w.1 w.2.1 b m' n' → yIn g m' n' → w.2.1 ≤ n' → Y b (m', n', w.2.2.1 + mc', w.2.2.2 + ms')) := rfl
theorem yovx_LrV_ok {g : hG} {mc ms mc' ms' : Nat} {cs : List Nat} {P : hG → Nat → yM → Nat → Prop} {Q : hG → Nat → yM → Nat → yM → Nat → Prop} {X : hG → Nat → yM → Nat → Nat → yM → Nat → Prop} {p : Program} {l : Launch} {e : Env} {R : Room} {s : State} {m : MethodId} {args : Array Value} {below : List Frame} {meth : Method} {c : Code} {nL : Nat} {cc : ByteArray} {Q0 : State → Prop} {H0 : Heap} {ins : Instr} {len : Nat} (hS : se_Snd p l e R s m args below meth c Q0 nL (fun a => a) (yRM g H0) cc ins len (yCV g 0 mc ms mc' ms' cs (fun (g : hG) (av : List Value) (m : yM) (n : Nat) => ∃ (a0 : Nat), av = [.ref a0] ∧ P g a0 m n) (fun (g : hG) (av : List Value) (m : yM) (n : Nat) (v : Option Value) (m' : yM) (n' : Nat) => ∀ (a0 : Nat), av = [.ref a0] → v = none ∧ Q g a0 m n m' n') (fun (g : hG) (av : List Value) (m : yM) (n : Nat) (b : Nat) (m' : yM) (n' : Nat) => ∃ (a0 : Nat), av = [.ref a0] ∧ X g a0 m n b m' n'))) : se_Snd p l e R s m args below meth c Q0 nL (fun a => a) (yRM g H0) cc ins len (yovx_LrV g mc ms mc' ms' cs P Q X) :=
  hS.mono fun st w K Y h => by
    unfold yovx_LrV at h
    split at h
    · rename_i a0 r
      obtain ⟨hc, h8, hP, r1, r2, hq⟩ := h
      exact (⟨hc, h8, ⟨a0, rfl, hP⟩, r1, r2, fun v m' n' hp hi hn => by
              obtain ⟨rfl, hx⟩ := hp a0 rfl
              exact hq.1 m' n' hx hi hn, fun b m' n' hp hi hn => by
              obtain ⟨z0, e, hx⟩ := hp
              cases e
              exact hq.2 b m' n' hx hi hn⟩ : (yRcv cs w.1 [.ref a0] ∧ yGo g mc ms mc' ms' ((fun (g : hG) (av : List Value) (m : yM) (n : Nat) => ∃ (a0 : Nat), av = [.ref a0] ∧ P g a0 m n) g) ((fun (g : hG) (av : List Value) (m : yM) (n : Nat) (v : Option Value) (m' : yM) (n' : Nat) => ∀ (a0 : Nat), av = [.ref a0] → v = none ∧ Q g a0 m n m' n') g) ((fun (g : hG) (av : List Value) (m : yM) (n : Nat) (b : Nat) (m' : yM) (n' : Nat) => ∃ (a0 : Nat), av = [.ref a0] ∧ X g a0 m n b m' n') g) [.ref a0] r w K Y))
    · exact h.elim
def yf_LrV (g : hG) (mc ms : Nat) (P : hG → Nat → yM → Nat → Prop) (F : hG → Nat → yM → Nat → yM) : se_Op yW := fun st w K Y => match st with
  | .ref a0 :: r => se_c8 8 r ∧ P g a0 w.1 w.2.1 ∧ w.2.2.1 ≤ mc ∧ w.2.2.2 ≤ ms ∧ K (r) (F g a0 w.1 w.2.1, w.2)
  | _ => False
theorem yf_LrV_r {g : hG} {mc ms : Nat} {P : hG → Nat → yM → Nat → Prop} {F : hG → Nat → yM → Nat → yM} {a0 : Nat} {r : List Value} {w : yW} {K : List Value → yW → Prop} {Y : Nat → yW → Prop} : yf_LrV g mc ms P F (.ref a0 :: r) w K Y = (se_c8 8 r ∧ P g a0 w.1 w.2.1 ∧ w.2.2.1 ≤ mc ∧ w.2.2.2 ≤ ms ∧ K (r) (F g a0 w.1 w.2.1, w.2)) := rfl
theorem yf_LrV_ok {g : hG} {mc ms : Nat} {P : hG → Nat → yM → Nat → Prop} {F : hG → Nat → yM → Nat → yM} {p : Program} {l : Launch} {e : Env} {R : Room} {s : State} {m : MethodId} {args : Array Value} {below : List Frame} {meth : Method} {c : Code} {nL : Nat} {cc : ByteArray} {Q0 : State → Prop} {H0 : Heap} {ins : Instr} {len : Nat} (hS : se_Snd p l e R s m args below meth c Q0 nL (fun a => a) (yRM g H0) cc ins len (yo_LrV g mc ms 0 0 P (fun g a0 m n m' n' => m' = F g a0 m n ∧ n' = n))) : se_Snd p l e R s m args below meth c Q0 nL (fun a => a) (yRM g H0) cc ins len (yf_LrV g mc ms P F) :=
  hS.mono fun st w K Y h => by
    unfold yf_LrV at h
    split at h
    · rename_i a0 r
      obtain ⟨h8, hP, r1, r2, hq⟩ := h
      exact ⟨h8, hP, r1, r2, fun m' n' e _ _ => by
              obtain ⟨rfl, rfl⟩ := e
              exact hq⟩
    · exact h.elim
def yfv_LrV (g : hG) (mc ms : Nat) (cs : List Nat) (P : hG → Nat → yM → Nat → Prop) (F : hG → Nat → yM → Nat → yM) : se_Op yW := fun st w K Y => match st with
  | .ref a0 :: r => yc w.1 a0 ∈ cs ∧ se_c8 8 r ∧ P g a0 w.1 w.2.1 ∧ w.2.2.1 ≤ mc ∧ w.2.2.2 ≤ ms ∧ K (r) (F g a0 w.1 w.2.1, w.2)
  | _ => False
theorem yfv_LrV_r {g : hG} {mc ms : Nat} {cs : List Nat} {P : hG → Nat → yM → Nat → Prop} {F : hG → Nat → yM → Nat → yM} {a0 : Nat} {r : List Value} {w : yW} {K : List Value → yW → Prop} {Y : Nat → yW → Prop} : yfv_LrV g mc ms cs P F (.ref a0 :: r) w K Y = (yc w.1 a0 ∈ cs ∧ se_c8 8 r ∧ P g a0 w.1 w.2.1 ∧ w.2.2.1 ≤ mc ∧ w.2.2.2 ≤ ms ∧ K (r) (F g a0 w.1 w.2.1, w.2)) := rfl
theorem yfv_LrV_ok {g : hG} {mc ms : Nat} {cs : List Nat} {P : hG → Nat → yM → Nat → Prop} {F : hG → Nat → yM → Nat → yM} {p : Program} {l : Launch} {e : Env} {R : Room} {s : State} {m : MethodId} {args : Array Value} {below : List Frame} {meth : Method} {c : Code} {nL : Nat} {cc : ByteArray} {Q0 : State → Prop} {H0 : Heap} {ins : Instr} {len : Nat} (hS : se_Snd p l e R s m args below meth c Q0 nL (fun a => a) (yRM g H0) cc ins len (yov_LrV g mc ms 0 0 cs P (fun g a0 m n m' n' => m' = F g a0 m n ∧ n' = n))) : se_Snd p l e R s m args below meth c Q0 nL (fun a => a) (yRM g H0) cc ins len (yfv_LrV g mc ms cs P F) :=
  hS.mono fun st w K Y h => by
    unfold yfv_LrV at h
    split at h
    · rename_i a0 r
      obtain ⟨hc, h8, hP, r1, r2, hq⟩ := h
      exact ⟨hc, h8, hP, r1, r2, fun m' n' e _ _ => by
              obtain ⟨rfl, rfl⟩ := e
              exact hq⟩
    · exact h.elim
def yt_LrV (mc ms : Nat) (Q : hG → Nat → yM → Nat → yM → Nat → Prop) (g : hG) (a0 : Nat) (m : yM) (n : Nat) : Option Value → yW → Prop := yRt none mc ms ((fun (g : hG) (av : List Value) (m : yM) (n : Nat) (v : Option Value) (m' : yM) (n' : Nat) => ∀ (a0 : Nat), av = [.ref a0] → v = none ∧ Q g a0 m n m' n') g [.ref a0] m n)
theorem yt_LrV_e {mc ms : Nat} {Q : hG → Nat → yM → Nat → yM → Nat → Prop} {g : hG} {a0 : Nat} {m : yM} {n : Nat} {w : yW} : yt_LrV mc ms Q g a0 m n none w = (w.2.2.1 ≤ mc ∧ w.2.2.2 ≤ ms ∧ Q g a0 m n w.1 w.2.1) := by
  apply propext
  exact ⟨fun h => ⟨h.2.1, h.2.2.1, (h.2.2.2 _ rfl).2⟩, fun h => ⟨rfl, h.1, h.2.1, fun _ e => by
    cases e
    exact ⟨rfl, h.2.2⟩⟩⟩
theorem ym_LrV_of {l : Launch} {y : MethodName} {own : String} {cc : ByteArray} {maxL fr lo mc ms : Nat} {P : hG → Nat → yM → Nat → Prop} {Q : hG → Nat → yM → Nat → yM → Nat → Prop} {T : hG → Nat → Nat → se_Op yW} (hy : plainName y.cls = true) (hyc : y.cls = own) (hT : yTS l own y.name cc maxL none fr lo mc ms T) (hL : 1 ≤ maxL)
    (body : ∀ (g : hG) (a0 : Nat) (m : yM) (n : Nat), hVg g → yIn g m n → P g a0 m n → ∀ G : Nat → se_L → List Value → yW → Prop, (∀ (stops : List Nat) (f pc : Nat) (L : se_L) (st : List Value) (w : yW), wpN True (T g) cc stops G (yXt mc ms (yNoX g [.ref a0] m n)) (yt_LrV mc ms Q g a0 m n) f pc L st w → G pc L st w) → G 0 (se_ent [.ref a0] maxL) [] (m, n, 0, 0)) : ym_LrV l y (ws_ y cc maxL none) fr lo mc ms P Q :=
  yOf hy hyc hT (fun g av m n h => by
    obtain ⟨a0, rfl, _⟩ := h
    exact hL) (fun g av m n h1 h2 hp G hG => by
    obtain ⟨a0, rfl, hp⟩ := hp
    exact body g a0 m n h1 h2 hp G hG)
theorem ymx_LrV_of {l : Launch} {y : MethodName} {own : String} {cc : ByteArray} {maxL fr lo mc ms : Nat} {P : hG → Nat → yM → Nat → Prop} {Q : hG → Nat → yM → Nat → yM → Nat → Prop} {X : hG → Nat → yM → Nat → Nat → yM → Nat → Prop} {T : hG → Nat → Nat → se_Op yW} (hy : plainName y.cls = true) (hyc : y.cls = own) (hT : yTS l own y.name cc maxL none fr lo mc ms T) (hL : 1 ≤ maxL)
    (body : ∀ (g : hG) (a0 : Nat) (m : yM) (n : Nat), hVg g → yIn g m n → P g a0 m n → ∀ G : Nat → se_L → List Value → yW → Prop, (∀ (stops : List Nat) (f pc : Nat) (L : se_L) (st : List Value) (w : yW), wpN True (T g) cc stops G (yXt mc ms ((fun (g : hG) (av : List Value) (m : yM) (n : Nat) (b : Nat) (m' : yM) (n' : Nat) => ∃ (a0 : Nat), av = [.ref a0] ∧ X g a0 m n b m' n') g [.ref a0] m n)) (yt_LrV mc ms Q g a0 m n) f pc L st w → G pc L st w) → G 0 (se_ent [.ref a0] maxL) [] (m, n, 0, 0)) : ymx_LrV l y (ws_ y cc maxL none) fr lo mc ms P Q X :=
  yOf hy hyc hT (fun g av m n h => by
    obtain ⟨a0, rfl, _⟩ := h
    exact hL) (fun g av m n h1 h2 hp G hG => by
    obtain ⟨a0, rfl, hp⟩ := hp
    exact body g a0 m n h1 h2 hp G hG)
abbrev ym_LrZ (l : Launch) (y : MethodName) (ws : List Cond) (fr lo mc ms : Nat) (P : hG → Nat → yM → Nat → Prop) (Q : hG → Nat → yM → Nat → Bool → yM → Nat → Prop) : Prop := yCon l y ws fr lo mc ms (fun (g : hG) (av : List Value) (m : yM) (n : Nat) => ∃ (a0 : Nat), av = [.ref a0] ∧ P g a0 m n) (fun (g : hG) (av : List Value) (m : yM) (n : Nat) (v : Option Value) (m' : yM) (n' : Nat) => ∀ (a0 : Nat), av = [.ref a0] → ∃ x, v = some (.int (bI x)) ∧ Q g a0 m n x m' n') yNoX
def yov_LrZ (g : hG) (mc ms mc' ms' : Nat) (cs : List Nat) (P : hG → Nat → yM → Nat → Prop) (Q : hG → Nat → yM → Nat → Bool → yM → Nat → Prop) : se_Op yW := fun st w K Y => match st with
  | .ref a0 :: r => yc w.1 a0 ∈ cs ∧ se_c8 8 r ∧ P g a0 w.1 w.2.1 ∧ w.2.2.1 + mc' ≤ mc ∧ w.2.2.2 + ms' ≤ ms ∧ ∀ x m' n', Q g a0 w.1 w.2.1 x m' n' → yIn g m' n' → w.2.1 ≤ n' → K (.int (bI x) :: r) (m', n', w.2.2.1 + mc', w.2.2.2 + ms')
  | _ => False
theorem yov_LrZ_r {g : hG} {mc ms mc' ms' : Nat} {cs : List Nat} {P : hG → Nat → yM → Nat → Prop} {Q : hG → Nat → yM → Nat → Bool → yM → Nat → Prop} {a0 : Nat} {r : List Value} {w : yW} {K : List Value → yW → Prop} {Y : Nat → yW → Prop} : yov_LrZ g mc ms mc' ms' cs P Q (.ref a0 :: r) w K Y = (yc w.1 a0 ∈ cs ∧ se_c8 8 r ∧ P g a0 w.1 w.2.1 ∧ w.2.2.1 + mc' ≤ mc ∧ w.2.2.2 + ms' ≤ ms ∧ ∀ x m' n', Q g a0 w.1 w.2.1 x m' n' → yIn g m' n' → w.2.1 ≤ n' → K (.int (bI x) :: r) (m', n', w.2.2.1 + mc', w.2.2.2 + ms')) := rfl
theorem yov_LrZ_ok {g : hG} {mc ms mc' ms' : Nat} {cs : List Nat} {P : hG → Nat → yM → Nat → Prop} {Q : hG → Nat → yM → Nat → Bool → yM → Nat → Prop} {p : Program} {l : Launch} {e : Env} {R : Room} {s : State} {m : MethodId} {args : Array Value} {below : List Frame} {meth : Method} {c : Code} {nL : Nat} {cc : ByteArray} {Q0 : State → Prop} {H0 : Heap} {ins : Instr} {len : Nat} (hS : se_Snd p l e R s m args below meth c Q0 nL (fun a => a) (yRM g H0) cc ins len (yCV g 0 mc ms mc' ms' cs (fun (g : hG) (av : List Value) (m : yM) (n : Nat) => ∃ (a0 : Nat), av = [.ref a0] ∧ P g a0 m n) (fun (g : hG) (av : List Value) (m : yM) (n : Nat) (v : Option Value) (m' : yM) (n' : Nat) => ∀ (a0 : Nat), av = [.ref a0] → ∃ x, v = some (.int (bI x)) ∧ Q g a0 m n x m' n') yNoX)) : se_Snd p l e R s m args below meth c Q0 nL (fun a => a) (yRM g H0) cc ins len (yov_LrZ g mc ms mc' ms' cs P Q) :=
  hS.mono fun st w K Y h => by
    unfold yov_LrZ at h
    split at h
    · rename_i a0 r
      obtain ⟨hc, h8, hP, r1, r2, hq⟩ := h
      exact (⟨hc, h8, ⟨a0, rfl, hP⟩, r1, r2, fun v m' n' hp hi hn => by
              obtain ⟨x, rfl, hx⟩ := hp a0 rfl
              exact hq x m' n' hx hi hn, fun b m' n' hp => hp.elim⟩ : (yRcv cs w.1 [.ref a0] ∧ yGo g mc ms mc' ms' ((fun (g : hG) (av : List Value) (m : yM) (n : Nat) => ∃ (a0 : Nat), av = [.ref a0] ∧ P g a0 m n) g) ((fun (g : hG) (av : List Value) (m : yM) (n : Nat) (v : Option Value) (m' : yM) (n' : Nat) => ∀ (a0 : Nat), av = [.ref a0] → ∃ x, v = some (.int (bI x)) ∧ Q g a0 m n x m' n') g) (yNoX g) [.ref a0] r w K Y))
    · exact h.elim
abbrev ymx_LrZ (l : Launch) (y : MethodName) (ws : List Cond) (fr lo mc ms : Nat) (P : hG → Nat → yM → Nat → Prop) (Q : hG → Nat → yM → Nat → Bool → yM → Nat → Prop) (X : hG → Nat → yM → Nat → Nat → yM → Nat → Prop) : Prop := yCon l y ws fr lo mc ms (fun (g : hG) (av : List Value) (m : yM) (n : Nat) => ∃ (a0 : Nat), av = [.ref a0] ∧ P g a0 m n) (fun (g : hG) (av : List Value) (m : yM) (n : Nat) (v : Option Value) (m' : yM) (n' : Nat) => ∀ (a0 : Nat), av = [.ref a0] → ∃ x, v = some (.int (bI x)) ∧ Q g a0 m n x m' n') (fun (g : hG) (av : List Value) (m : yM) (n : Nat) (b : Nat) (m' : yM) (n' : Nat) => ∃ (a0 : Nat), av = [.ref a0] ∧ X g a0 m n b m' n')
def yovx_LrZ (g : hG) (mc ms mc' ms' : Nat) (cs : List Nat) (P : hG → Nat → yM → Nat → Prop) (Q : hG → Nat → yM → Nat → Bool → yM → Nat → Prop) (X : hG → Nat → yM → Nat → Nat → yM → Nat → Prop) : se_Op yW := fun st w K Y => match st with
  | .ref a0 :: r => yc w.1 a0 ∈ cs ∧ se_c8 8 r ∧ P g a0 w.1 w.2.1 ∧ w.2.2.1 + mc' ≤ mc ∧ w.2.2.2 + ms' ≤ ms ∧ (∀ x m' n', Q g a0 w.1 w.2.1 x m' n' → yIn g m' n' → w.2.1 ≤ n' → K (.int (bI x) :: r) (m', n', w.2.2.1 + mc', w.2.2.2 + ms')) ∧ ∀ b m' n', X g a0 w.1 w.2.1 b m' n' → yIn g m' n' → w.2.1 ≤ n' → Y b (m', n', w.2.2.1 + mc', w.2.2.2 + ms')
  | _ => False
theorem yovx_LrZ_r {g : hG} {mc ms mc' ms' : Nat} {cs : List Nat} {P : hG → Nat → yM → Nat → Prop} {Q : hG → Nat → yM → Nat → Bool → yM → Nat → Prop} {X : hG → Nat → yM → Nat → Nat → yM → Nat → Prop} {a0 : Nat} {r : List Value} {w : yW} {K : List Value → yW → Prop} {Y : Nat → yW → Prop} : yovx_LrZ g mc ms mc' ms' cs P Q X (.ref a0 :: r) w K Y = (yc w.1 a0 ∈ cs ∧ se_c8 8 r ∧ P g a0 w.1 w.2.1 ∧ w.2.2.1 + mc' ≤ mc ∧ w.2.2.2 + ms' ≤ ms ∧ (∀ x m' n', Q g a0 w.1 w.2.1 x m' n' → yIn g m' n' → w.2.1 ≤ n' → K (.int (bI x) :: r) (m', n', w.2.2.1 + mc', w.2.2.2 + ms')) ∧ ∀ b m' n', X g a0 w.1 w.2.1 b m' n' → yIn g m' n' → w.2.1 ≤ n' → Y b (m', n', w.2.2.1 + mc', w.2.2.2 + ms')) := rfl
theorem yovx_LrZ_ok {g : hG} {mc ms mc' ms' : Nat} {cs : List Nat} {P : hG → Nat → yM → Nat → Prop} {Q : hG → Nat → yM → Nat → Bool → yM → Nat → Prop} {X : hG → Nat → yM → Nat → Nat → yM → Nat → Prop} {p : Program} {l : Launch} {e : Env} {R : Room} {s : State} {m : MethodId} {args : Array Value} {below : List Frame} {meth : Method} {c : Code} {nL : Nat} {cc : ByteArray} {Q0 : State → Prop} {H0 : Heap} {ins : Instr} {len : Nat} (hS : se_Snd p l e R s m args below meth c Q0 nL (fun a => a) (yRM g H0) cc ins len (yCV g 0 mc ms mc' ms' cs (fun (g : hG) (av : List Value) (m : yM) (n : Nat) => ∃ (a0 : Nat), av = [.ref a0] ∧ P g a0 m n) (fun (g : hG) (av : List Value) (m : yM) (n : Nat) (v : Option Value) (m' : yM) (n' : Nat) => ∀ (a0 : Nat), av = [.ref a0] → ∃ x, v = some (.int (bI x)) ∧ Q g a0 m n x m' n') (fun (g : hG) (av : List Value) (m : yM) (n : Nat) (b : Nat) (m' : yM) (n' : Nat) => ∃ (a0 : Nat), av = [.ref a0] ∧ X g a0 m n b m' n'))) : se_Snd p l e R s m args below meth c Q0 nL (fun a => a) (yRM g H0) cc ins len (yovx_LrZ g mc ms mc' ms' cs P Q X) :=
  hS.mono fun st w K Y h => by
    unfold yovx_LrZ at h
    split at h
    · rename_i a0 r
      obtain ⟨hc, h8, hP, r1, r2, hq⟩ := h
      exact (⟨hc, h8, ⟨a0, rfl, hP⟩, r1, r2, fun v m' n' hp hi hn => by
              obtain ⟨x, rfl, hx⟩ := hp a0 rfl
              exact hq.1 x m' n' hx hi hn, fun b m' n' hp hi hn => by
              obtain ⟨z0, e, hx⟩ := hp
              cases e
              exact hq.2 b m' n' hx hi hn⟩ : (yRcv cs w.1 [.ref a0] ∧ yGo g mc ms mc' ms' ((fun (g : hG) (av : List Value) (m : yM) (n : Nat) => ∃ (a0 : Nat), av = [.ref a0] ∧ P g a0 m n) g) ((fun (g : hG) (av : List Value) (m : yM) (n : Nat) (v : Option Value) (m' : yM) (n' : Nat) => ∀ (a0 : Nat), av = [.ref a0] → ∃ x, v = some (.int (bI x)) ∧ Q g a0 m n x m' n') g) ((fun (g : hG) (av : List Value) (m : yM) (n : Nat) (b : Nat) (m' : yM) (n' : Nat) => ∃ (a0 : Nat), av = [.ref a0] ∧ X g a0 m n b m' n') g) [.ref a0] r w K Y))
    · exact h.elim
def ypv_LrZ (g : hG) (mc ms : Nat) (cs : List Nat) (P : hG → Nat → yM → Nat → Prop) (R0 : hG → Nat → yM → Nat → Bool) : se_Op yW := fun st w K Y => match st with
  | .ref a0 :: r => yc w.1 a0 ∈ cs ∧ se_c8 8 r ∧ P g a0 w.1 w.2.1 ∧ w.2.2.1 ≤ mc ∧ w.2.2.2 ≤ ms ∧ K (.int (bI (R0 g a0 w.1 w.2.1)) :: r) w
  | _ => False
theorem ypv_LrZ_r {g : hG} {mc ms : Nat} {cs : List Nat} {P : hG → Nat → yM → Nat → Prop} {R0 : hG → Nat → yM → Nat → Bool} {a0 : Nat} {r : List Value} {w : yW} {K : List Value → yW → Prop} {Y : Nat → yW → Prop} : ypv_LrZ g mc ms cs P R0 (.ref a0 :: r) w K Y = (yc w.1 a0 ∈ cs ∧ se_c8 8 r ∧ P g a0 w.1 w.2.1 ∧ w.2.2.1 ≤ mc ∧ w.2.2.2 ≤ ms ∧ K (.int (bI (R0 g a0 w.1 w.2.1)) :: r) w) := rfl
theorem ypv_LrZ_ok {g : hG} {mc ms : Nat} {cs : List Nat} {P : hG → Nat → yM → Nat → Prop} {R0 : hG → Nat → yM → Nat → Bool} {p : Program} {l : Launch} {e : Env} {R : Room} {s : State} {m : MethodId} {args : Array Value} {below : List Frame} {meth : Method} {c : Code} {nL : Nat} {cc : ByteArray} {Q0 : State → Prop} {H0 : Heap} {ins : Instr} {len : Nat} (hS : se_Snd p l e R s m args below meth c Q0 nL (fun a => a) (yRM g H0) cc ins len (yov_LrZ g mc ms 0 0 cs P (fun g a0 m n x m' n' => x = R0 g a0 m n ∧ m' = m ∧ n' = n))) : se_Snd p l e R s m args below meth c Q0 nL (fun a => a) (yRM g H0) cc ins len (ypv_LrZ g mc ms cs P R0) :=
  hS.mono fun st w K Y h => by
    unfold ypv_LrZ at h
    split at h
    · rename_i a0 r
      obtain ⟨hc, h8, hP, r1, r2, hq⟩ := h
      exact ⟨hc, h8, hP, r1, r2, fun x m' n' e _ _ => by
              obtain ⟨rfl, rfl, rfl⟩ := e
              exact hq⟩
    · exact h.elim
def yfv_LrZ (g : hG) (mc ms : Nat) (cs : List Nat) (P : hG → Nat → yM → Nat → Prop) (R0 : hG → Nat → yM → Nat → Bool) (F : hG → Nat → yM → Nat → yM) : se_Op yW := fun st w K Y => match st with
  | .ref a0 :: r => yc w.1 a0 ∈ cs ∧ se_c8 8 r ∧ P g a0 w.1 w.2.1 ∧ w.2.2.1 ≤ mc ∧ w.2.2.2 ≤ ms ∧ K (.int (bI (R0 g a0 w.1 w.2.1)) :: r) (F g a0 w.1 w.2.1, w.2)
  | _ => False
theorem yfv_LrZ_r {g : hG} {mc ms : Nat} {cs : List Nat} {P : hG → Nat → yM → Nat → Prop} {R0 : hG → Nat → yM → Nat → Bool} {F : hG → Nat → yM → Nat → yM} {a0 : Nat} {r : List Value} {w : yW} {K : List Value → yW → Prop} {Y : Nat → yW → Prop} : yfv_LrZ g mc ms cs P R0 F (.ref a0 :: r) w K Y = (yc w.1 a0 ∈ cs ∧ se_c8 8 r ∧ P g a0 w.1 w.2.1 ∧ w.2.2.1 ≤ mc ∧ w.2.2.2 ≤ ms ∧ K (.int (bI (R0 g a0 w.1 w.2.1)) :: r) (F g a0 w.1 w.2.1, w.2)) := rfl
theorem yfv_LrZ_ok {g : hG} {mc ms : Nat} {cs : List Nat} {P : hG → Nat → yM → Nat → Prop} {R0 : hG → Nat → yM → Nat → Bool} {F : hG → Nat → yM → Nat → yM} {p : Program} {l : Launch} {e : Env} {R : Room} {s : State} {m : MethodId} {args : Array Value} {below : List Frame} {meth : Method} {c : Code} {nL : Nat} {cc : ByteArray} {Q0 : State → Prop} {H0 : Heap} {ins : Instr} {len : Nat} (hS : se_Snd p l e R s m args below meth c Q0 nL (fun a => a) (yRM g H0) cc ins len (yov_LrZ g mc ms 0 0 cs P (fun g a0 m n x m' n' => x = R0 g a0 m n ∧ m' = F g a0 m n ∧ n' = n))) : se_Snd p l e R s m args below meth c Q0 nL (fun a => a) (yRM g H0) cc ins len (yfv_LrZ g mc ms cs P R0 F) :=
  hS.mono fun st w K Y h => by
    unfold yfv_LrZ at h
    split at h
    · rename_i a0 r
      obtain ⟨hc, h8, hP, r1, r2, hq⟩ := h
      exact ⟨hc, h8, hP, r1, r2, fun x m' n' e _ _ => by
              obtain ⟨rfl, rfl, rfl⟩ := e
              exact hq⟩
    · exact h.elim
def yt_LrZ (mc ms : Nat) (Q : hG → Nat → yM → Nat → Bool → yM → Nat → Prop) (g : hG) (a0 : Nat) (m : yM) (n : Nat) : Option Value → yW → Prop := yRt (some .boolean) mc ms ((fun (g : hG) (av : List Value) (m : yM) (n : Nat) (v : Option Value) (m' : yM) (n' : Nat) => ∀ (a0 : Nat), av = [.ref a0] → ∃ x, v = some (.int (bI x)) ∧ Q g a0 m n x m' n') g [.ref a0] m n)
theorem yt_LrZ_e {mc ms : Nat} {Q : hG → Nat → yM → Nat → Bool → yM → Nat → Prop} {g : hG} {a0 : Nat} {m : yM} {n : Nat} {w : yW} {z : Int32} : yt_LrZ mc ms Q g a0 m n (some (.int z)) w = (w.2.2.1 ≤ mc ∧ w.2.2.2 ≤ ms ∧ rz z fun x => Q g a0 m n x w.1 w.2.1) := by
  apply propext
  constructor
  · intro h
    obtain ⟨x, e, hq⟩ := h.2.2.2 _ rfl
    cases e
    exact ⟨h.2.1, h.2.2.1, ⟨x, rfl, hq⟩⟩
  · intro h
    obtain ⟨h1, h2, h3⟩ := h
    obtain ⟨x, rfl, h3⟩ := h3
    exact ⟨⟨_, rfl, bI_nar x⟩, h1, h2, fun _ e => by
      cases e
      exact ⟨x, rfl, h3⟩⟩
theorem ym_LrZ_of {l : Launch} {y : MethodName} {own : String} {cc : ByteArray} {maxL fr lo mc ms : Nat} {P : hG → Nat → yM → Nat → Prop} {Q : hG → Nat → yM → Nat → Bool → yM → Nat → Prop} {T : hG → Nat → Nat → se_Op yW} (hy : plainName y.cls = true) (hyc : y.cls = own) (hT : yTS l own y.name cc maxL (some .boolean) fr lo mc ms T) (hL : 1 ≤ maxL)
    (body : ∀ (g : hG) (a0 : Nat) (m : yM) (n : Nat), hVg g → yIn g m n → P g a0 m n → ∀ G : Nat → se_L → List Value → yW → Prop, (∀ (stops : List Nat) (f pc : Nat) (L : se_L) (st : List Value) (w : yW), wpN True (T g) cc stops G (yXt mc ms (yNoX g [.ref a0] m n)) (yt_LrZ mc ms Q g a0 m n) f pc L st w → G pc L st w) → G 0 (se_ent [.ref a0] maxL) [] (m, n, 0, 0)) : ym_LrZ l y (ws_ y cc maxL (some .boolean)) fr lo mc ms P Q :=
  yOf hy hyc hT (fun g av m n h => by
    obtain ⟨a0, rfl, _⟩ := h
    exact hL) (fun g av m n h1 h2 hp G hG => by
    obtain ⟨a0, rfl, hp⟩ := hp
    exact body g a0 m n h1 h2 hp G hG)
theorem ymx_LrZ_of {l : Launch} {y : MethodName} {own : String} {cc : ByteArray} {maxL fr lo mc ms : Nat} {P : hG → Nat → yM → Nat → Prop} {Q : hG → Nat → yM → Nat → Bool → yM → Nat → Prop} {X : hG → Nat → yM → Nat → Nat → yM → Nat → Prop} {T : hG → Nat → Nat → se_Op yW} (hy : plainName y.cls = true) (hyc : y.cls = own) (hT : yTS l own y.name cc maxL (some .boolean) fr lo mc ms T) (hL : 1 ≤ maxL)
    (body : ∀ (g : hG) (a0 : Nat) (m : yM) (n : Nat), hVg g → yIn g m n → P g a0 m n → ∀ G : Nat → se_L → List Value → yW → Prop, (∀ (stops : List Nat) (f pc : Nat) (L : se_L) (st : List Value) (w : yW), wpN True (T g) cc stops G (yXt mc ms ((fun (g : hG) (av : List Value) (m : yM) (n : Nat) (b : Nat) (m' : yM) (n' : Nat) => ∃ (a0 : Nat), av = [.ref a0] ∧ X g a0 m n b m' n') g [.ref a0] m n)) (yt_LrZ mc ms Q g a0 m n) f pc L st w → G pc L st w) → G 0 (se_ent [.ref a0] maxL) [] (m, n, 0, 0)) : ymx_LrZ l y (ws_ y cc maxL (some .boolean)) fr lo mc ms P Q X :=
  yOf hy hyc hT (fun g av m n h => by
    obtain ⟨a0, rfl, _⟩ := h
    exact hL) (fun g av m n h1 h2 hp G hG => by
    obtain ⟨a0, rfl, hp⟩ := hp
    exact body g a0 m n h1 h2 hp G hG)
