/-! BOXES AND TEXTS over the typed memory -/
def yBxo (mc ms : Nat) (g : hG) : se_Op yW := fun st w K _ => match st with
  | .int x :: r => (∃ k, k < 128 ∧ x = nI k) ∧ se_c8 8 r ∧ w.2.2.1 ≤ mc ∧ w.2.2.2 ≤ ms ∧ K (.ref (gBx g (x.toNatClampNeg + 128)) :: r) w
  | _ => False
def yBxi (mc ms : Nat) : se_Op yW := fun st w K _ => match st with
  | .ref a :: r => yc w.1 a = 26 ∧ se_c8 8 r ∧ w.2.2.1 ≤ mc ∧ w.2.2.2 ≤ ms ∧ K (.int (yi w.1 a 0) :: r) w
  | _ => False
def yTln (mc ms : Nat) : se_Op yW := fun st w K _ => match st with
  | .ref a :: r => yc w.1 a = 25 ∧ se_c8 8 r ∧ w.2.2.1 ≤ mc ∧ w.2.2.2 ≤ ms ∧ K (.int (nI (yl w.1 a)) :: r) w
  | _ => False
def yTch (mc ms : Nat) : se_Op yW := fun st w K _ => match st with
  | .int j :: .ref a :: r => yc w.1 a = 25 ∧ se_c8 8 r ∧ w.2.2.1 ≤ mc ∧ w.2.2.2 ≤ ms ∧ vp_in j (yl w.1 a) ∧ K (.int (yi w.1 a j.toNatClampNeg) :: r) w
  | _ => False
/-- is the sign in the text: at least 0 -/
def yTix (mc ms : Nat) : se_Op yW := fun st w K _ => match st with
  | .int j :: .ref a :: r => yc w.1 a = 25 ∧ se_c8 8 r ∧ w.2.2.1 ≤ mc ∧ w.2.2.2 ≤ ms ∧ ¬ j < 0 ∧ ¬ 255 < j ∧ ∀ x : Int32, (x < 0 ↔ ∀ k, k < yl w.1 a → yi w.1 a k ≠ j) → K (.int x :: r) w
  | _ => False
section
variable {w : yW} {K : List Value → yW → Prop} {Y : Nat → yW → Prop} {r : List Value} {a mc ms : Nat} {x j : Int32} {g : hG}
theorem yBxo_r : yBxo mc ms g (.int x :: r) w K Y = ((∃ k, k < 128 ∧ x = nI k) ∧ se_c8 8 r ∧ w.2.2.1 ≤ mc ∧ w.2.2.2 ≤ ms ∧ K (.ref (gBx g (x.toNatClampNeg + 128)) :: r) w) := rfl
theorem yBxi_r : yBxi mc ms (.ref a :: r) w K Y = (yc w.1 a = 26 ∧ se_c8 8 r ∧ w.2.2.1 ≤ mc ∧ w.2.2.2 ≤ ms ∧ K (.int (yi w.1 a 0) :: r) w) := rfl
theorem yTln_r : yTln mc ms (.ref a :: r) w K Y = (yc w.1 a = 25 ∧ se_c8 8 r ∧ w.2.2.1 ≤ mc ∧ w.2.2.2 ≤ ms ∧ K (.int (nI (yl w.1 a)) :: r) w) := rfl
theorem yTch_r : yTch mc ms (.int j :: .ref a :: r) w K Y = (yc w.1 a = 25 ∧ se_c8 8 r ∧ w.2.2.1 ≤ mc ∧ w.2.2.2 ≤ ms ∧ vp_in j (yl w.1 a) ∧ K (.int (yi w.1 a j.toNatClampNeg) :: r) w) := rfl
theorem yTix_r : yTix mc ms (.int j :: .ref a :: r) w K Y = (yc w.1 a = 25 ∧ se_c8 8 r ∧ w.2.2.1 ≤ mc ∧ w.2.2.2 ≤ ms ∧ ¬ j < 0 ∧ ¬ 255 < j ∧ ∀ x : Int32, (x < 0 ↔ ∀ k, k < yl w.1 a → yi w.1 a k ≠ j) → K (.int x :: r) w) := rfl
end

set_option maxRecDepth 20000 in
theorem yBxo_ok {p : Program} {l : Launch} {e : Env} {s : State} {m : MethodId} {args : Array Value} {below : List Frame} {meth : Method} {c : Code} {nL : Nat} {cc : ByteArray} {ret : Option FieldType} {Q : State → Prop} {g : hG} {H0 : Heap} {idx fr lo mc ms : Nat} {own : String} (hl : l.stackTraces = false) (h1 : Cond.methodLink own idx ({ cls := "java/lang/Integer", name := "valueOf", desc := "(I)Ljava/lang/Integer;" } : Jvm.MethodName) ∈ lw_all) (hf : 2 ≤ fr) (hlo : 60 ≤ lo) (C : se_Cx p s m args meth c cc nL own ret) (hG : hGl g s) (hS : hSt g s) : se_Snd p l e (hRoom fr lo mc ms) s m args below meth c Q nL (fun a => a) (yRM g H0) cc (.invokestatic idx) 3 (yBxo mc ms g) :=
  yLift (ho_IrL_ok (hCS_ok (maxL' := 1) (fr' := 0) (lo' := 0) (yt_I_valueOf l hl) h1 q1263 q136 q1264 (by decide +kernel) ⟨by omega, by omega⟩ C hG hS)) fun st w K X hh hr hD h => by
    unfold yBxo at h
    split at h
    · rename_i x r
      obtain ⟨⟨k, hk, rfl⟩, h8, k1, k2, h⟩ := h
      rw [ho_IrL_r]
      refine ⟨h8, ⟨k, hk, rfl⟩, k1, k2, fun x m' n' hq hi hn => ?_⟩
      obtain ⟨rfl, rfl, k', hk', e, rfl⟩ := hq
      have e2 : (nI k).toNatClampNeg = k' := by rw [e]; exact nI_clamp (by omega)
      rw [e2] at h
      exact ⟨w.1, hr, h⟩
    · exact h.elim
set_option maxRecDepth 20000 in
theorem yBxi_ok {p : Program} {l : Launch} {e : Env} {s : State} {m : MethodId} {args : Array Value} {below : List Frame} {meth : Method} {c : Code} {nL : Nat} {cc : ByteArray} {ret : Option FieldType} {Q : State → Prop} {g : hG} {H0 : Heap} {idx fr lo mc ms : Nat} {own : String} (hl : l.stackTraces = false) (h1 : Cond.methodLink own idx ({ cls := "java/lang/Integer", name := "intValue", desc := "()I" } : Jvm.MethodName) ∈ lw_all) (hf : 1 ≤ fr) (hlo : 40 ≤ lo) (C : se_Cx p s m args meth c cc nL own ret) (hG : hGl g s) (hS : hSt g s) : se_Snd p l e (hRoom fr lo mc ms) s m args below meth c Q nL (fun a => a) (yRM g H0) cc (.invokevirtual idx) 3 (yBxi mc ms) :=
  yLift (ho_LrI_ok (hCVL_ok (maxL' := 1) (fr' := 0) (lo' := 0) (yt_I_intValue l hl) (fun g As h n hp => by obtain ⟨_, rfl, hp⟩ := hp; exact hLw_B hp) h1 q1328 q1329 q136 q1330 (by decide +kernel) ⟨by omega, by omega⟩ C hG hS)) fun st w K X hh hr hD h => by
    unfold yBxi at h
    split at h
    · rename_i a r
      obtain ⟨hc, h8, k1, k2, h⟩ := h
      obtain ⟨j, hj, rfl, hv⟩ := (hr.1 a).2.2.2.1 hc
      rw [ho_LrI_r]
      refine ⟨h8, ⟨⟨j, hj, rfl⟩, trivial⟩, k1, k2, fun x m' n' hq hi hn => ?_⟩
      obtain ⟨rfl, rfl, i, hi', e, rfl⟩ := hq
      have := (hr.2.1.1.2.1 i hi').2
      rw [← e] at this
      rw [this] at h
      exact ⟨w.1, hr, h⟩
    · exact h.elim
set_option maxRecDepth 20000 in
theorem yTln_ok {p : Program} {l : Launch} {e : Env} {s : State} {m : MethodId} {args : Array Value} {below : List Frame} {meth : Method} {c : Code} {nL : Nat} {cc : ByteArray} {ret : Option FieldType} {Q : State → Prop} {g : hG} {H0 : Heap} {idx fr lo mc ms : Nat} {own : String} (hl : l.stackTraces = false) (h1 : Cond.methodLink own idx ({ cls := "java/lang/String", name := "length", desc := "()I" } : Jvm.MethodName) ∈ lw_all) (hf : 3 ≤ fr) (hlo : 80 ≤ lo) (C : se_Cx p s m args meth c cc nL own ret) (hG : hGl g s) (hS : hSt g s) : se_Snd p l e (hRoom fr lo mc ms) s m args below meth c Q nL (fun a => a) (yRM g H0) cc (.invokevirtual idx) 3 (yTln mc ms) :=
  yLift (se_ex fun z : Nat => ho_LrI_ok (hCVL_ok (maxL' := 1) (fr' := 1) (lo' := 20) (yt_S_length l hl z) (fun g As h n hp => by obtain ⟨_, rfl, hp⟩ := hp; exact hLw_T hp) h1 q518 q519 q109 q520 (by decide +kernel) ⟨by omega, by omega⟩ C hG hS)) fun st w K X hh hr hD h => by
    unfold yTln at h
    split at h
    · rename_i a r
      obtain ⟨hc, h8, k1, k2, h⟩ := h
      obtain ⟨i, hi, rfl, hlen, hby⟩ := (hr.1 a).2.2.1 hc
      refine ⟨i, ?_⟩
      rw [ho_LrI_r]
      refine ⟨h8, ⟨⟨i, hi, rfl⟩, hi, rfl⟩, k1, k2, fun x m' n' hq hi' hn => ?_⟩
      obtain ⟨rfl, rfl, rfl⟩ := hq
      rw [hlen] at h
      exact ⟨w.1, hr, h⟩
    · exact h.elim
set_option maxRecDepth 20000 in
theorem yTch_ok {p : Program} {l : Launch} {e : Env} {s : State} {m : MethodId} {args : Array Value} {below : List Frame} {meth : Method} {c : Code} {nL : Nat} {cc : ByteArray} {ret : Option FieldType} {Q : State → Prop} {g : hG} {H0 : Heap} {idx fr lo mc ms : Nat} {own : String} (hl : l.stackTraces = false) (h1 : Cond.methodLink own idx ({ cls := "java/lang/String", name := "charAt", desc := "(I)C" } : Jvm.MethodName) ∈ lw_all) (hf : 6 ≤ fr) (hlo : 200 ≤ lo) (C : se_Cx p s m args meth c cc nL own ret) (hG : hGl g s) (hS : hSt g s) : se_Snd p l e (hRoom fr lo mc ms) s m args below meth c Q nL (fun a => a) (yRM g H0) cc (.invokevirtual idx) 3 (yTch mc ms) :=
  yLift (se_ex fun z : Nat => ho_LIrC_ok (hCVL_ok (maxL' := 2) (fr' := 3) (lo' := 64) (yt_S_charAt l hl z) (fun g As h n hp => by obtain ⟨_, _, rfl, hp⟩ := hp; exact hLw_T hp) h1 q603 q604 q109 q605 (by decide +kernel) ⟨by omega, by omega⟩ C hG hS)) fun st w K X hh hr hD h => by
    unfold yTch at h
    split at h
    · rename_i j a r
      obtain ⟨hc, h8, k1, k2, hin, h⟩ := h
      obtain ⟨i, hi, rfl, hlen, hby⟩ := (hr.1 a).2.2.1 hc
      refine ⟨i, ?_⟩
      rw [ho_LIrC_r]
      rw [hlen] at hin
      refine ⟨h8, ⟨⟨i, hi, rfl⟩, hi, rfl, hin⟩, k1, k2, fun x m' n' hq hi' hn => ?_⟩
      obtain ⟨rfl, rfl, rfl⟩ := hq
      rw [hby] at h
      exact ⟨w.1, hr, h⟩
    · exact h.elim
set_option maxRecDepth 20000 in
theorem yTix_ok {p : Program} {l : Launch} {e : Env} {s : State} {m : MethodId} {args : Array Value} {below : List Frame} {meth : Method} {c : Code} {nL : Nat} {cc : ByteArray} {ret : Option FieldType} {Q : State → Prop} {g : hG} {H0 : Heap} {idx fr lo mc ms : Nat} {own : String} (hl : l.stackTraces = false) (h1 : Cond.methodLink own idx ({ cls := "java/lang/String", name := "indexOf", desc := "(I)I" } : Jvm.MethodName) ∈ lw_all) (hf : 6 ≤ fr) (hlo : 200 ≤ lo) (C : se_Cx p s m args meth c cc nL own ret) (hG : hGl g s) (hS : hSt g s) : se_Snd p l e (hRoom fr lo mc ms) s m args below meth c Q nL (fun a => a) (yRM g H0) cc (.invokevirtual idx) 3 (yTix mc ms) :=
  yLift (se_ex fun z : Nat => ho_LIrI_ok (hCVL_ok (maxL' := 2) (fr' := 3) (lo' := 105) (yt_S_indexOf_I l hl z) (fun g As h n hp => by obtain ⟨_, _, rfl, hp⟩ := hp; exact hLw_T hp) h1 q504 q505 q109 q506 (by decide +kernel) ⟨by omega, by omega⟩ C hG hS)) fun st w K X hh hr hD h => by
    unfold yTix at h
    split at h
    · rename_i j a r
      obtain ⟨hc, h8, k1, k2, hj1, hj2, h⟩ := h
      obtain ⟨i, hi, rfl, hlen, hby⟩ := (hr.1 a).2.2.1 hc
      refine ⟨i, ?_⟩
      rw [ho_LIrI_r]
      refine ⟨h8, ⟨⟨i, hi, rfl⟩, hi, rfl, hj1, hj2⟩, k1, k2, fun x m' n' hq hi' hn => ?_⟩
      obtain ⟨rfl, rfl, hx⟩ := hq
      refine ⟨w.1, hr, h x ?_⟩
      rw [hx, hlen]
      simp only [hby]
    · exact h.elim
