/-! CASTS of boxes and arrays, CLONES of arrays -/
def hCsB (g : hG) : se_Op hW := fun st w K _ => match st with
  | .ref a :: r => ∃ j, j < 256 ∧ a = gBx g j ∧ K (.ref a :: r) w
  | _ => False
def hCsA (t : Nat) : se_Op hW := fun st w K _ => match st with
  | .ref a :: r => (match w.1 a with
    | some (.inr A) => A.1 = t ∧ K (.ref a :: r) w
    | _ => False)
  | _ => False
def yCsB : se_Op yW := fun st w K _ => match st with
  | .ref a :: r => yc w.1 a = 26 ∧ K (.ref a :: r) w
  | _ => False
def yCsA (t : Nat) : se_Op yW := fun st w K _ => match st with
  | .ref a :: r => yc w.1 a = 30 + t ∧ K (.ref a :: r) w
  | _ => False
/-- at b what is at a -/
def ycp (m : yM) (b a : Nat) : yM := (fun c => if c = b then yc m a else yc m c, fun c => if c = b then yl m a else yl m c, fun c => if c = b then yi m a else yi m c, fun c => if c = b then yj m a else yj m c, fun c => if c = b then yr m a else yr m c)
def yCln (mc ms t : Nat) : se_Op yW := fun st w K _ => match st with
  | .ref a :: r => yc w.1 a = 30 + t ∧ se_c8 8 r ∧ (t = 1 → ∀ i, i < yl w.1 a → yi w.1 a i = 0 ∨ yi w.1 a i = 1) ∧ w.2.2.1 + 1 ≤ mc ∧ w.2.2.2 + yl w.1 a ≤ ms ∧ K (.ref w.2.1 :: r) (ycp w.1 w.2.1 a, w.2.1 + 1, w.2.2.1 + 1, w.2.2.2 + yl w.1 a)
  | _ => False
section
variable {w : yW} {K : List Value → yW → Prop} {Y : Nat → yW → Prop} {r : List Value} {a b c t mc ms : Nat} {m : yM}
theorem yCsB_r : yCsB (.ref a :: r) w K Y = (yc w.1 a = 26 ∧ K (.ref a :: r) w) := rfl
theorem yCsA_r : yCsA t (.ref a :: r) w K Y = (yc w.1 a = 30 + t ∧ K (.ref a :: r) w) := rfl
theorem yCln_r : yCln mc ms t (.ref a :: r) w K Y = (yc w.1 a = 30 + t ∧ se_c8 8 r ∧ (t = 1 → ∀ i, i < yl w.1 a → yi w.1 a i = 0 ∨ yi w.1 a i = 1) ∧ w.2.2.1 + 1 ≤ mc ∧ w.2.2.2 + yl w.1 a ≤ ms ∧ K (.ref w.2.1 :: r) (ycp w.1 w.2.1 a, w.2.1 + 1, w.2.2.1 + 1, w.2.2.2 + yl w.1 a)) := rfl
theorem ycp_cs : yc (ycp m b a) b = yc m a := if_pos rfl
theorem ycp_ls : yl (ycp m b a) b = yl m a := if_pos rfl
theorem ycp_is : yi (ycp m b a) b = yi m a := if_pos rfl
theorem ycp_js : yj (ycp m b a) b = yj m a := if_pos rfl
theorem ycp_rs : yr (ycp m b a) b = yr m a := if_pos rfl
theorem ySm_cp (h : c ≠ b) : ySm m (ycp m b a) c := ⟨if_neg h, if_neg h, if_neg h, if_neg h, if_neg h⟩
end
section
variable {p : Program} {l : Launch} {e : Env} {R : Room} {s : State} {m : MethodId} {args : Array Value} {below : List Frame} {meth : Method} {c : Code} {nL : Nat} {cc : ByteArray} {ret : Option FieldType} {Q : State → Prop} {g : hG} {H0 : Heap} {idx mc ms fr lo : Nat} {own : String}
theorem hCsB_ok (h1 : Cond.classLink own idx "java/lang/Integer" ∈ lw_all) (C : se_Cx p s m args meth c cc nL own ret) (hG : hGl g s) (hS : hSt g s) : se_Snd p l e R s m args below meth c Q nL (fun a => a) (hRM g H0) cc (.checkcast idx) 3 (hCsB g) := by
  intro pc L st w K X hd hK hX h
  unfold hCsB at h
  split at h
  · rename_i a r
    obtain ⟨j, hj, rfl, h⟩ := h
    intro H locs k q ls hM hl'
    obtain ⟨⟨hx, hb, hml, hown, hts⟩, hlk, hrt⟩ := C
    obtain ⟨cell, z1, z2, z3, z4⟩ := (hS.2.2.2.2.2.2.2.1.1 j hj).kept (hLow hM)
    have kk := hK _ _ h H locs k q ls hM hl'
    rw [se_map_id] at kk ⊢
    exact va_castE hx hb hown (hts _ h1) ⟨cell, z1, z2, z3⟩ hd kk
  · exact h.elim
theorem hCsA_ok {t : Nat} {nm : String} (ht : (t = 0 ∧ nm = "[I") ∨ (t = 1 ∧ nm = "[Z")) (h1 : Cond.classLink own idx nm ∈ lw_all) (C : se_Cx p s m args meth c cc nL own ret) (hG : hGl g s) : se_Snd p l e R s m args below meth c Q nL (fun a => a) (hRM g H0) cc (.checkcast idx) 3 (hCsA t) := by
  intro pc L st w K X hd hK hX h
  unfold hCsA at h
  split at h
  · rename_i a r
    split at h
    · rename_i A ho
      obtain ⟨hA, h⟩ := h
      intro H locs k q ls hM hl'
      obtain ⟨⟨hx, hb, hml, hown, hts⟩, hlk, hrt⟩ := C
      have hc := ((hM.2.2.1.2.1 a _ ho).2).2
      have kk := hK _ _ h H locs k q ls hM hl'
      rw [se_map_id] at kk ⊢
      refine va_castE hx hb hown (hts _ h1) ⟨_, hc, ?_, ?_⟩ hd kk
      · rw [vq_cf.1]; rfl
      · rw [vq_cf.2.1, hA]
        rcases ht with ⟨rfl, rfl⟩ | ⟨rfl, rfl⟩
        · exact (hG.2.1 0 _ rfl).2
        · exact (hG.2.1 1 _ rfl).2
    · exact h.elim
  · exact h.elim
theorem yCsB_ok (h1 : Cond.classLink own idx "java/lang/Integer" ∈ lw_all) (C : se_Cx p s m args meth c cc nL own ret) (hG : hGl g s) (hS : hSt g s) : se_Snd p l e R s m args below meth c Q nL (fun a => a) (yRM g H0) cc (.checkcast idx) 3 yCsB :=
  yLift (hCsB_ok h1 C hG hS) fun st w K X hh hr hD h => by
    unfold yCsB at h
    split at h
    · rename_i a r
      obtain ⟨hc, h⟩ := h
      obtain ⟨j, hj, rfl, hv⟩ := (hr.1 a).2.2.2.1 hc
      exact ⟨j, hj, rfl, w.1, hr, h⟩
    · exact h.elim
theorem yCsA_ok {t : Nat} {nm : String} (ht : (t = 0 ∧ nm = "[I") ∨ (t = 1 ∧ nm = "[Z")) (h1 : Cond.classLink own idx nm ∈ lw_all) (C : se_Cx p s m args meth c cc nL own ret) (hG : hGl g s) : se_Snd p l e R s m args below meth c Q nL (fun a => a) (yRM g H0) cc (.checkcast idx) 3 (yCsA t) :=
  yLift (hCsA_ok ht h1 C hG) fun st w K X hh hr hD h => by
    unfold yCsA at h
    split at h
    · rename_i a r
      obtain ⟨hc, h⟩ := h
      obtain ⟨-, ha⟩ := (hr.1 a).2.2.2.2.1 (by omega) (by omega)
      simp only [hCsA, ha]
      exact ⟨by omega, w.1, hr, h⟩
    · exact h.elim
theorem yCln_okG {t : Nat} {at0 : FieldType} {ad : String} (ht : (t = 0 ∧ at0 = .int ∧ ad = "[I") ∨ (t = 1 ∧ at0 = .boolean ∧ ad = "[Z")) (h1 : Cond.methodLink own idx ⟨ad, "clone", "()Ljava/lang/Object;"⟩ ∈ lw_all) (h2 : Cond.sameMethod ad "java/lang/Object" "clone" "()Ljava/lang/Object;" ∈ lw_all) (h3 : Cond.selects ad ⟨ad, "clone", "()Ljava/lang/Object;"⟩ ⟨"java/lang/Object", "clone", "()Ljava/lang/Object;"⟩ ∈ lw_all) (h4 : Cond.castable ad "java/lang/Cloneable" ∈ lw_tbl)
    (hf : 1 ≤ fr) (hlo : 22 ≤ lo) (C : se_Cx p s m args meth c cc nL own ret) (hG : hGl g s) : se_Snd p l e (hRoom fr lo mc ms) s m args below meth c Q nL (fun a => a) (yRM g H0) cc (.invokevirtual idx) 3 (yCln mc ms t) :=
  yLift (hCln_ok (mc := mc) (ms := ms) ht h1 h2 h3 h4 hf hlo C hG) fun st w K X hh hr hD h => by
    unfold yCln at h
    split at h
    · rename_i a r
      obtain ⟨hc, h8, hfit, k1, k2, h⟩ := h
      obtain ⟨-, ha⟩ := (hr.1 a).2.2.2.2.1 (by omega) (by omega)
      have e2 : yc w.1 a - 30 = t := by omega
      rw [e2] at ha
      have eA : yA w.1 a t = (yl w.1 a, .inl (yi w.1 a)) := by rcases ht with ⟨rfl, -⟩ | ⟨rfl, -⟩ <;> rfl
      rw [eA] at ha
      have hn : hh w.2.1 = none := by
        cases e : hh w.2.1 with
        | none => rfl
        | some ob => exact absurd (hD _ ob e).1 (Nat.lt_irrefl _)
      have h50 : ¬ yc w.1 w.2.1 < 50 := fun e => Nat.lt_irrefl _ (hr.2.1.2 _ e)
      have hcn : yc (ycp w.1 w.2.1 a) w.2.1 = 30 + t := by rw [ycp_cs, hc]
      simp only [hCln, ha]
      refine ⟨trivial, h8, fun i hi => ?_, k1, k2, ycp w.1 w.2.1 a, ?_, h⟩
      · rcases ht with ⟨rfl, -⟩ | ⟨rfl, -⟩
        · rfl
        · have := hfit rfl i hi
          rcases this with q | q <;> rw [q] <;> decide
      · refine yRl_upd hr (Nat.le_succ _) (Nat.lt_succ_self _) (fun b hb => ySm_cp hb) (by omega) (by rw [hcn]; omega) (fun x e => by rw [hn] at e; cases e) (fun x e => ?_) ?_
        · have := congrArg Prod.fst (Sum.inr.inj e)
          simp only at this
          omega
        · unfold yOb
          rw [hcn, hU_s]
          refine ⟨fun e => ?_, fun e => ?_, fun e => ?_, fun e => ?_, fun _ _ => ⟨by omega, ?_⟩, fun e => ?_, fun e => ?_⟩
          · omega
          · omega
          · omega
          · omega
          · have e3 : 30 + t - 30 = t := by omega
            rw [e3]
            have : yA (ycp w.1 w.2.1 a) w.2.1 t = (yl w.1 a, .inl (yi w.1 a)) := by rcases ht with ⟨rfl, -⟩ | ⟨rfl, -⟩ <;> simp only [yA, ycp_ls, ycp_is]
            rw [this]
          · omega
          · omega
    · exact h.elim
theorem yCln_okI (hl : l.stackTraces = false) (h1 : Cond.methodLink own idx ⟨"[I", "clone", "()Ljava/lang/Object;"⟩ ∈ lw_all) (hf : 1 ≤ fr) (hlo : 22 ≤ lo) (C : se_Cx p s m args meth c cc nL own ret) (hG : hGl g s) (hS : hSt g s) : se_Snd p l e (hRoom fr lo mc ms) s m args below meth c Q nL (fun a => a) (yRM g H0) cc (.invokevirtual idx) 3 (yCln mc ms 0) :=
  yCln_okG (.inl ⟨rfl, rfl, rfl⟩) h1 q1395 q1398 q1399 hf hlo C hG
theorem yCln_okZ (hl : l.stackTraces = false) (h1 : Cond.methodLink own idx ⟨"[Z", "clone", "()Ljava/lang/Object;"⟩ ∈ lw_all) (hf : 1 ≤ fr) (hlo : 22 ≤ lo) (C : se_Cx p s m args meth c cc nL own ret) (hG : hGl g s) (hS : hSt g s) : se_Snd p l e (hRoom fr lo mc ms) s m args below meth c Q nL (fun a => a) (yRM g H0) cc (.invokevirtual idx) 3 (yCln mc ms 1) :=
  yCln_okG (.inr ⟨rfl, rfl, rfl⟩) h1 q1759 q1760 q1761 hf hlo C hG
end
