/-! LISTS over the typed memory -/
/-- a list's capacity; what may be an element -/
def lCp (m : yM) (a : Nat) : Nat := (yi m a 0).toNatClampNeg
def yAny (m : yM) (y : Nat) : Prop := yc m y < 23 ∨ yc m y = 26
def lIns (f : Nat → Option Nat) (i b : Nat) : Nat → Option Nat := fun j => if j < i then f j else if j = i then some b else f (j - 1)
def yLsz (mc ms : Nat) : se_Op yW := fun st w K _ => match st with
  | .ref a :: r => yc w.1 a = 23 ∧ se_c8 8 r ∧ w.2.2.1 ≤ mc ∧ w.2.2.2 ≤ ms ∧ K (.int (nI (yl w.1 a)) :: r) w
  | _ => False
def yLem (mc ms : Nat) : se_Op yW := fun st w K _ => match st with
  | .ref a :: r => yc w.1 a = 23 ∧ se_c8 8 r ∧ w.2.2.1 ≤ mc ∧ w.2.2.2 ≤ ms ∧ yl w.1 a < 65536 ∧ K (.int (bI (decide (yl w.1 a = 0))) :: r) w
  | _ => False
def yLgt (mc ms : Nat) : se_Op yW := fun st w K _ => match st with
  | .int i :: .ref a :: r => yc w.1 a = 23 ∧ se_c8 8 r ∧ w.2.2.1 ≤ mc ∧ w.2.2.2 ≤ ms ∧ vp_in i (yl w.1 a) ∧ K (va_rf (yr w.1 a i.toNatClampNeg) :: r) w
  | _ => False
def yLad (mc ms : Nat) : se_Op yW := fun st w K _ => match st with
  | .ref b :: .ref a :: r => yc w.1 a = 23 ∧ yAny w.1 b ∧ se_c8 8 r ∧ yl w.1 a < 40000 ∧ (∀ j, j < yl w.1 a → ∀ y, yr w.1 a j = some y → yAny w.1 y) ∧ w.2.2.1 + lG (yl w.1 a) (lCp w.1 a) ≤ mc ∧ w.2.2.2 + lS (yl w.1 a) (lCp w.1 a) ≤ ms ∧
      K (.int (bI true) :: r) (ywL w.1 a (yl w.1 a + 1) (nI (lNc (yl w.1 a) (lCp w.1 a))) (va_up (yr w.1 a) (yl w.1 a) (some b)), w.2.1 + lG (yl w.1 a) (lCp w.1 a), w.2.2.1 + lG (yl w.1 a) (lCp w.1 a), w.2.2.2 + lS (yl w.1 a) (lCp w.1 a))
  | _ => False
def yLin (mc ms : Nat) : se_Op yW := fun st w K _ => match st with
  | .ref b :: .int i :: .ref a :: r => yc w.1 a = 23 ∧ yAny w.1 b ∧ se_c8 8 r ∧ yl w.1 a < 40000 ∧ vp_in i (yl w.1 a + 1) ∧ (∀ j, j < yl w.1 a → ∀ y, yr w.1 a j = some y → yAny w.1 y) ∧ w.2.2.1 + lG (yl w.1 a) (lCp w.1 a) ≤ mc ∧ w.2.2.2 + lS (yl w.1 a) (lCp w.1 a) ≤ ms ∧
      K r (ywL w.1 a (yl w.1 a + 1) (nI (lNc (yl w.1 a) (lCp w.1 a))) (lIns (yr w.1 a) i.toNatClampNeg b), w.2.1 + lG (yl w.1 a) (lCp w.1 a), w.2.2.1 + lG (yl w.1 a) (lCp w.1 a), w.2.2.2 + lS (yl w.1 a) (lCp w.1 a))
  | _ => False
/-- the last one off -/
def yLrm (mc ms : Nat) : se_Op yW := fun st w K _ => match st with
  | .int i :: .ref a :: r => yc w.1 a = 23 ∧ se_c8 8 r ∧ w.2.2.1 ≤ mc ∧ w.2.2.2 ≤ ms ∧ (0 < yl w.1 a ∧ yl w.1 a ≤ 40000 ∧ i = nI (yl w.1 a - 1)) ∧ K (va_rf (yr w.1 a (yl w.1 a - 1)) :: r) (ywL w.1 a (yl w.1 a - 1) (yi w.1 a 0) (yr w.1 a), w.2)
  | _ => False
def yLni (mc ms : Nat) : se_Op yW := fun st w K _ => match st with
  | .ref a :: r => yc w.1 a = 29 ∧ se_c8 8 r ∧ w.2.2.1 ≤ mc ∧ w.2.2.2 ≤ ms ∧ K r (ywL w.1 a 0 0 (fun _ => none), w.2)
  | _ => False
section
variable {w : yW} {K : List Value → yW → Prop} {Y : Nat → yW → Prop} {r st : List Value} {a b : Nat} {i : Int32} {mc ms : Nat}
theorem yLsz_r : yLsz mc ms (.ref a :: r) w K Y = (yc w.1 a = 23 ∧ se_c8 8 r ∧ w.2.2.1 ≤ mc ∧ w.2.2.2 ≤ ms ∧ K (.int (nI (yl w.1 a)) :: r) w) := rfl
theorem yLem_r : yLem mc ms (.ref a :: r) w K Y = (yc w.1 a = 23 ∧ se_c8 8 r ∧ w.2.2.1 ≤ mc ∧ w.2.2.2 ≤ ms ∧ yl w.1 a < 65536 ∧ K (.int (bI (decide (yl w.1 a = 0))) :: r) w) := rfl
theorem yLgt_r : yLgt mc ms (.int i :: .ref a :: r) w K Y = (yc w.1 a = 23 ∧ se_c8 8 r ∧ w.2.2.1 ≤ mc ∧ w.2.2.2 ≤ ms ∧ vp_in i (yl w.1 a) ∧ K (va_rf (yr w.1 a i.toNatClampNeg) :: r) w) := rfl
theorem yLad_r : yLad mc ms (.ref b :: .ref a :: r) w K Y = (yc w.1 a = 23 ∧ yAny w.1 b ∧ se_c8 8 r ∧ yl w.1 a < 40000 ∧ (∀ j, j < yl w.1 a → ∀ y, yr w.1 a j = some y → yAny w.1 y) ∧ w.2.2.1 + lG (yl w.1 a) (lCp w.1 a) ≤ mc ∧ w.2.2.2 + lS (yl w.1 a) (lCp w.1 a) ≤ ms ∧
      K (.int (bI true) :: r) (ywL w.1 a (yl w.1 a + 1) (nI (lNc (yl w.1 a) (lCp w.1 a))) (va_up (yr w.1 a) (yl w.1 a) (some b)), w.2.1 + lG (yl w.1 a) (lCp w.1 a), w.2.2.1 + lG (yl w.1 a) (lCp w.1 a), w.2.2.2 + lS (yl w.1 a) (lCp w.1 a))) := rfl
theorem yLin_r : yLin mc ms (.ref b :: .int i :: .ref a :: r) w K Y = (yc w.1 a = 23 ∧ yAny w.1 b ∧ se_c8 8 r ∧ yl w.1 a < 40000 ∧ vp_in i (yl w.1 a + 1) ∧ (∀ j, j < yl w.1 a → ∀ y, yr w.1 a j = some y → yAny w.1 y) ∧ w.2.2.1 + lG (yl w.1 a) (lCp w.1 a) ≤ mc ∧ w.2.2.2 + lS (yl w.1 a) (lCp w.1 a) ≤ ms ∧
      K r (ywL w.1 a (yl w.1 a + 1) (nI (lNc (yl w.1 a) (lCp w.1 a))) (lIns (yr w.1 a) i.toNatClampNeg b), w.2.1 + lG (yl w.1 a) (lCp w.1 a), w.2.2.1 + lG (yl w.1 a) (lCp w.1 a), w.2.2.2 + lS (yl w.1 a) (lCp w.1 a))) := rfl
theorem yLrm_r : yLrm mc ms (.int i :: .ref a :: r) w K Y = (yc w.1 a = 23 ∧ se_c8 8 r ∧ w.2.2.1 ≤ mc ∧ w.2.2.2 ≤ ms ∧ (0 < yl w.1 a ∧ yl w.1 a ≤ 40000 ∧ i = nI (yl w.1 a - 1)) ∧ K (va_rf (yr w.1 a (yl w.1 a - 1)) :: r) (ywL w.1 a (yl w.1 a - 1) (yi w.1 a 0) (yr w.1 a), w.2)) := rfl
theorem yLni_r : yLni mc ms (.ref a :: r) w K Y = (yc w.1 a = 29 ∧ se_c8 8 r ∧ w.2.2.1 ≤ mc ∧ w.2.2.2 ≤ ms ∧ K r (ywL w.1 a 0 0 (fun _ => none), w.2)) := rfl
end
theorem lG_01 {k c : Nat} : lG k c = 0 ∨ lG k c = 1 := by
  unfold lG
  split
  · exact .inl rfl
  · exact .inr rfl
theorem lNc_le {k c : Nat} (hk : k < 40000) (hc : c ≤ 65536) (hkc : k ≤ c) : k + 1 ≤ lNc k c ∧ lNc k c ≤ 65536 := by
  unfold lNc
  split
  · omega
  · split
    · omega
    · have : c = k := by omega
      omega
theorem nI_ofN {i : Int32} (h : ¬ i < 0) : i = nI i.toNatClampNeg := by
  have hz0 : (0 : Int) ≤ i.toInt := by
    have := Int32.not_lt.mp h
    simpa using Int32.le_iff_toInt_le.mp this
  have h2 : i.toInt < 2 ^ 31 := Int32.toInt_lt i
  apply Int32.toInt_inj.mp
  show i.toInt = (Int32.ofNat i.toNatClampNeg).toInt
  have e : i.toNatClampNeg = i.toInt.toNat := rfl
  rw [Int32.toInt_ofNat_of_lt (by rw [e]; omega), e]
  omega
section
variable {g : hG} {s : State} {m : yM} {h : hH} {n a E k y : Nat} {cp : Int32} {f : Nat → Option Nat}
theorem hEm0 (hS : hSt g s) (hD : hDom g h n) : h (gSa g 0) = none := by
  cases e : h (gSa g 0) with
  | none => rfl
  | some ob =>
    obtain ⟨cell, h1, h2, h3, h4, h5, h6, h7⟩ := hS.2.2.1
    exact absurd (hD _ ob e).2 h7
theorem yLs_li (x : yLs g h a E k cp f) : hLi h a E k := by
  obtain ⟨o, md, e1, e2, e3, e4, -⟩ := x
  exact ⟨o, md, e1, e2, e3, e4⟩
theorem yLs_h (h0 : h (gSa g 0) = none) (x : yLs g h a E k cp f) : ∃ F, hLst g h a E k cp.toNatClampNeg F ∧ ∀ j, j < k → F j = f j := by
  have hli := yLs_li x
  obtain ⟨o, md, e1, e2, e3, e4, q⟩ := x
  rcases q with ⟨rfl, rfl, rfl⟩ | ⟨L, F, q1, rfl, q2, q3, q4, q5⟩
  · exact ⟨f, ⟨hli, Nat.zero_le _, by decide, .inl ⟨rfl, rfl, h0⟩⟩, fun _ _ => rfl⟩
  · have hc : (nI L).toNatClampNeg = L := nI_clamp (by omega)
    rw [hc]
    exact ⟨F, ⟨hli, q3, q4, .inr ⟨q1, q2⟩⟩, q5⟩
theorem hRcv_L (x : hLi h a E k) : hRcv [23] h [.ref a] := by
  obtain ⟨o, md, e1, -⟩ := x
  simp only [hRcv, e1]
  exact List.mem_cons_self
theorem yAny_h {hh : hH} (hr : yRl g m hh n) (hy : yAny m y) : hAnyO g hh y := by
  rcases hy with q | q
  · exact .inl ⟨_, (hr.1 y).1 q, q⟩
  · obtain ⟨j, hj, e, -⟩ := (hr.1 y).2.2.2.1 q
    exact .inr ⟨j, hj, e⟩
end

set_option maxRecDepth 20000 in
theorem yLsz_ok {p : Program} {l : Launch} {e : Env} {s : State} {m : MethodId} {args : Array Value} {below : List Frame} {meth : Method} {c : Code} {nL : Nat} {cc : ByteArray} {ret : Option FieldType} {Q : State → Prop} {g : hG} {H0 : Heap} {idx fr lo mc ms : Nat} {own : String} (hl : l.stackTraces = false) (h1 : Cond.methodLink own idx ({ cls := "java/util/ArrayList", name := "size", desc := "()I" } : Jvm.MethodName) ∈ lw_all) (hf : 1 ≤ fr) (hlo : 40 ≤ lo) (C : se_Cx p s m args meth c cc nL own ret) (hG : hGl g s) (hS : hSt g s) : se_Snd p l e (hRoom fr lo mc ms) s m args below meth c Q nL (fun a => a) (yRM g H0) cc (.invokevirtual idx) 3 (yLsz mc ms) :=
  yLift (hov_LrI_ok (hCVG_ok (cs := [23]) (maxL' := 1) (fr' := 0) (lo' := 0) (yt_L_size l hl) (List.forall_mem_cons.mpr ⟨⟨_, rfl, hRunV_V (na := 0) C.1.2.2.2.2 h1 q687 q688 q101 q689 (by decide +kernel) ⟨by omega, by omega⟩⟩, fun _ h => absurd h List.not_mem_nil⟩) C hG hS)) fun st w K X hh hr hD h => by
    unfold yLsz at h
    split at h
    · rename_i a r
      obtain ⟨hc, h8, k1, k2, h⟩ := h
      obtain ⟨E, hls⟩ := (hr.1 a).2.1 hc
      have hli := yLs_li hls
      rw [hov_LrI_r]
      refine ⟨hRcv_L hli, h8, ⟨_, _, hli⟩, k1, k2, fun x m' n' hq hi hn => ?_⟩
      obtain ⟨rfl, rfl, hq⟩ := hq
      rw [hq _ _ hli]
      exact ⟨w.1, hr, h⟩
    · exact h.elim
set_option maxRecDepth 20000 in
theorem yLem_ok {p : Program} {l : Launch} {e : Env} {s : State} {m : MethodId} {args : Array Value} {below : List Frame} {meth : Method} {c : Code} {nL : Nat} {cc : ByteArray} {ret : Option FieldType} {Q : State → Prop} {g : hG} {H0 : Heap} {idx fr lo mc ms : Nat} {own : String} (hl : l.stackTraces = false) (h1 : Cond.methodLink own idx ({ cls := "java/util/ArrayList", name := "isEmpty", desc := "()Z" } : Jvm.MethodName) ∈ lw_all) (hf : 1 ≤ fr) (hlo : 40 ≤ lo) (C : se_Cx p s m args meth c cc nL own ret) (hG : hGl g s) (hS : hSt g s) : se_Snd p l e (hRoom fr lo mc ms) s m args below meth c Q nL (fun a => a) (yRM g H0) cc (.invokevirtual idx) 3 (yLem mc ms) :=
  yLift (hov_LrZ_ok (hCVG_ok (cs := [23]) (maxL' := 1) (fr' := 0) (lo' := 0) (yt_L_isEmpty l hl) (List.forall_mem_cons.mpr ⟨⟨_, rfl, hRunV_V (na := 0) C.1.2.2.2.2 h1 q1385 q1386 q101 q1387 (by decide +kernel) ⟨by omega, by omega⟩⟩, fun _ h => absurd h List.not_mem_nil⟩) C hG hS)) fun st w K X hh hr hD h => by
    unfold yLem at h
    split at h
    · rename_i a r
      obtain ⟨hc, h8, k1, k2, hlen, h⟩ := h
      obtain ⟨E, hls⟩ := (hr.1 a).2.1 hc
      have hli := yLs_li hls
      rw [hov_LrZ_r]
      refine ⟨hRcv_L hli, h8, ⟨_, _, hli⟩, k1, k2, fun x m' n' hq hi hn => ?_⟩
      obtain ⟨rfl, rfl, hq⟩ := hq
      rw [hq _ _ hli]
      have : (nI (yl w.1 a) = 0) = (yl w.1 a = 0) := by
        rw [L32_0, nI_eqL (by omega) (by omega)]
      simp only [this]
      exact ⟨w.1, hr, h⟩
    · exact h.elim
set_option maxRecDepth 20000 in
theorem yLgt_ok {p : Program} {l : Launch} {e : Env} {s : State} {m : MethodId} {args : Array Value} {below : List Frame} {meth : Method} {c : Code} {nL : Nat} {cc : ByteArray} {ret : Option FieldType} {Q : State → Prop} {g : hG} {H0 : Heap} {idx fr lo mc ms : Nat} {own : String} (hl : l.stackTraces = false) (h1 : Cond.methodLink own idx ({ cls := "java/util/ArrayList", name := "get", desc := "(I)Ljava/lang/Object;" } : Jvm.MethodName) ∈ lw_all) (hf : 5 ≤ fr) (hlo : 150 ≤ lo) (C : se_Cx p s m args meth c cc nL own ret) (hG : hGl g s) (hS : hSt g s) : se_Snd p l e (hRoom fr lo mc ms) s m args below meth c Q nL (fun a => a) (yRM g H0) cc (.invokevirtual idx) 3 (yLgt mc ms) :=
  yLift (hov_LIrL_ok (hCVG_ok (cs := [23]) (maxL' := 2) (fr' := 2) (lo' := 43) (yt_L_get l hl) (List.forall_mem_cons.mpr ⟨⟨_, rfl, hRunV_V (na := 1) C.1.2.2.2.2 h1 q700 q701 q101 q702 (by decide +kernel) ⟨by omega, by omega⟩⟩, fun _ h => absurd h List.not_mem_nil⟩) C hG hS)) fun st w K X hh hr hD h => by
    unfold yLgt at h
    split at h
    · rename_i i a r
      obtain ⟨hc, h8, k1, k2, hin, h⟩ := h
      obtain ⟨E, hls⟩ := (hr.1 a).2.1 hc
      have hli := yLs_li hls
      obtain ⟨F, hlst, hF⟩ : ∃ F, hLst g hh a E (yl w.1 a) (lCp w.1 a) F ∧ ∀ j, j < yl w.1 a → F j = yr w.1 a j := yLs_h (hEm0 hS hD) hls
      have hlt : i.toNatClampNeg < yl w.1 a := Nat.not_le.mp fun q => hin (Or.inr q)
      have hi0 : ¬ i < 0 := fun q => hin (Or.inl q)
      obtain ⟨-, g1, g2, g3⟩ := hlst
      have hEF : hh E = some (hA4 (lCp w.1 a) F) := by
        rcases g3 with ⟨-, q, -⟩ | ⟨q, -⟩
        · omega
        · exact q
      rw [hov_LIrL_r]
      have hi1 : i < nI (yl w.1 a) := by
        have e : i = nI i.toNatClampNeg := nI_ofN hi0
        rw [e, nI_ltL (by omega) (by omega)]
        exact hlt
      refine ⟨hRcv_L hli, h8, ⟨E, _, _, F, hli, hEF, g1, hin, hi0, hi1⟩, k1, k2, fun x m' n' hq hi hn => ?_⟩
      obtain ⟨rfl, rfl, hq⟩ := hq
      rw [hq _ _ _ _ hli hEF, hF _ hlt]
      exact ⟨w.1, hr, h⟩
    · exact h.elim
set_option maxRecDepth 20000 in
theorem yLad_ok {p : Program} {l : Launch} {e : Env} {s : State} {m : MethodId} {args : Array Value} {below : List Frame} {meth : Method} {c : Code} {nL : Nat} {cc : ByteArray} {ret : Option FieldType} {Q : State → Prop} {g : hG} {H0 : Heap} {idx fr lo mc ms : Nat} {own : String} (hl : l.stackTraces = false) (h1 : Cond.methodLink own idx ({ cls := "java/util/ArrayList", name := "add", desc := "(Ljava/lang/Object;)Z" } : Jvm.MethodName) ∈ lw_all) (hf : 8 ≤ fr) (hlo : 300 ≤ lo) (C : se_Cx p s m args meth c cc nL own ret) (hG : hGl g s) (hS : hSt g s) : se_Snd p l e (hRoom fr lo mc ms) s m args below meth c Q nL (fun a => a) (yRM g H0) cc (.invokevirtual idx) 3 (yLad mc ms) :=
  yLift (se_ex fun z : Nat × Nat => hov_LLrZ_ok (hCVG_ok (cs := [23]) (maxL' := 2) (fr' := 6) (lo' := 170) (yt_L_add_L l hl z.1 z.2) (List.forall_mem_cons.mpr ⟨⟨_, rfl, hRunV_V (na := 1) C.1.2.2.2.2 h1 q778 q779 q101 q780 (by decide +kernel) ⟨by omega, by omega⟩⟩, fun _ h => absurd h List.not_mem_nil⟩) C hG hS)) fun st w K X hh hr hD h => by
    unfold yLad at h
    split at h
    · rename_i b a r
      obtain ⟨hc, hb, h8, hlen, hel, hk1, hk2, h⟩ := h
      obtain ⟨E, hls⟩ := (hr.1 a).2.1 hc
      have hli := yLs_li hls
      obtain ⟨F, hlst, hF⟩ : ∃ F, hLst g hh a E (yl w.1 a) (lCp w.1 a) F ∧ ∀ j, j < yl w.1 a → F j = yr w.1 a j := yLs_h (hEm0 hS hD) hls
      refine ⟨(lG (yl w.1 a) (lCp w.1 a), lS (yl w.1 a) (lCp w.1 a)), ?_⟩
      rw [hov_LLrZ_r]
      have hbud : yl w.1 a < lCp w.1 a ∨ (1 ≤ lG (yl w.1 a) (lCp w.1 a) ∧ lNc (yl w.1 a) (lCp w.1 a) ≤ lS (yl w.1 a) (lCp w.1 a)) := by
        by_cases q : yl w.1 a < lCp w.1 a
        · exact .inl q
        · refine .inr ⟨?_, ?_⟩
          · unfold lG; rw [if_neg q]; exact Nat.le_refl _
          · unfold lS; rw [if_neg q]; exact Nat.le_refl _
      refine ⟨hRcv_L hli, h8, ⟨E, _, _, F, hlst, by omega, fun j hj y hy => yAny_h hr (hel j hj y (by rw [← hF j hj]; exact hy)), yAny_h hr hb, hbud⟩, hk1, hk2, fun x m' n' hq hi hn => ?_⟩
      obtain ⟨rfl, hq⟩ := hq
      · obtain ⟨F', hA, hF1, hF2⟩ := hq E _ _ F hlst
        have FK : ∀ j, j < yl w.1 a + 1 → F' j = va_up (yr w.1 a) (yl w.1 a) (some b) j := by
          intro j hj
          unfold va_up
          by_cases q : j = yl w.1 a
          · rw [if_pos q, q]; exact hF2
          · rw [if_neg q, hF1 j (by omega), hF j (by omega)]
        · skip
          obtain ⟨hn', E', hE1, hE2, hE3, hE4, hE5⟩ := hA
          subst hn'
          have h0 := hEm0 hS hi
          have hE0 : E' ≠ gSa g 0 := fun q => by rw [q, h0] at hE2; cases hE2
          have hob : ∀ x, hh a ≠ some (.inr (4, x)) := fun x q => by
            obtain ⟨o, md, e1, -⟩ := hli
            rw [e1] at q; cases q
          have hnn : hh w.2.1 = none := by
            cases e : hh w.2.1 with
            | none => rfl
            | some ob => exact absurd (hD _ ob e).1 (Nat.lt_irrefl _)
          have han : a < w.2.1 := hr.2.1.2 a (by omega)
          obtain ⟨hN1, hN2⟩ := lNc_le (k := yl w.1 a) (c := lCp w.1 a) hlen hlst.2.2.1 hlst.2.1
          obtain ⟨o, md, x1, x2, x3, x4⟩ := hE1
          refine ⟨_, yRl_lst (E := E') hr hD (Nat.le_add_right _ _) (Nat.lt_of_lt_of_le han (Nat.le_add_right _ _)) (.inl hc) hob (fun b hb => ySm_wL hb) yL_cs ?_ (fun b hb1 hb2 hb3 => hE3 b hb2 hb1 (hb3.elim id fun q => absurd q hE0)) ?_ ?_, h⟩
          · rw [yL_ls, yL_is, yL_rs]
            refine ⟨o, md, x1, x2, x3, x4, .inr ⟨_, F', hE2, rfl, by omega, by omega, by omega, FK⟩⟩
          · by_cases q : lG (yl w.1 a) (lCp w.1 a) = 0
            · refine .inr (.inr ⟨hc, ?_⟩)
              rw [(hE4 E hli).1 q]
              exact hls.ed
            · refine .inr (.inl ?_)
              have : lG (yl w.1 a) (lCp w.1 a) = 1 := by
                have := lG_01 (k := yl w.1 a) (c := lCp w.1 a)
                omega
              rw [(hE4 E hli).2 this]
              exact Nat.le_refl _
          · by_cases q : lG (yl w.1 a) (lCp w.1 a) = 0
            · rw [(hE4 E hli).1 q]
              rcases hls.arr with q2 | ⟨y, q2⟩
              · exact .inl q2
              · exact .inr ⟨y, .inl q2⟩
            · have : lG (yl w.1 a) (lCp w.1 a) = 1 := by
                have := lG_01 (k := yl w.1 a) (c := lCp w.1 a)
                omega
              rw [(hE4 E hli).2 this]
              exact .inr ⟨(0, .inl fun _ => 0), .inr hnn⟩
    · exact h.elim
set_option maxRecDepth 20000 in
theorem yLin_ok {p : Program} {l : Launch} {e : Env} {s : State} {m : MethodId} {args : Array Value} {below : List Frame} {meth : Method} {c : Code} {nL : Nat} {cc : ByteArray} {ret : Option FieldType} {Q : State → Prop} {g : hG} {H0 : Heap} {idx fr lo mc ms : Nat} {own : String} (hl : l.stackTraces = false) (h1 : Cond.methodLink own idx ({ cls := "java/util/ArrayList", name := "add", desc := "(ILjava/lang/Object;)V" } : Jvm.MethodName) ∈ lw_all) (hf : 8 ≤ fr) (hlo : 300 ≤ lo) (C : se_Cx p s m args meth c cc nL own ret) (hG : hGl g s) (hS : hSt g s) : se_Snd p l e (hRoom fr lo mc ms) s m args below meth c Q nL (fun a => a) (yRM g H0) cc (.invokevirtual idx) 3 (yLin mc ms) :=
  yLift (se_ex fun z : Nat × Nat => hov_LILrV_ok (hCVG_ok (cs := [23]) (maxL' := 5) (fr' := 5) (lo' := 147) (yt_L_add_IL l hl z.1 z.2) (List.forall_mem_cons.mpr ⟨⟨_, rfl, hRunV_V (na := 2) C.1.2.2.2.2 h1 q1094 q1095 q101 q1096 (by decide +kernel) ⟨by omega, by omega⟩⟩, fun _ h => absurd h List.not_mem_nil⟩) C hG hS)) fun st w K X hh hr hD h => by
    unfold yLin at h
    split at h
    · rename_i b i a r
      obtain ⟨hc, hb, h8, hlen, hin, hel, hk1, hk2, h⟩ := h
      obtain ⟨E, hls⟩ := (hr.1 a).2.1 hc
      have hli := yLs_li hls
      obtain ⟨F, hlst, hF⟩ : ∃ F, hLst g hh a E (yl w.1 a) (lCp w.1 a) F ∧ ∀ j, j < yl w.1 a → F j = yr w.1 a j := yLs_h (hEm0 hS hD) hls
      have hlt : i.toNatClampNeg < yl w.1 a + 1 := Nat.not_le.mp fun q => hin (Or.inr q)
      have hi0 : ¬ i < 0 := fun q => hin (Or.inl q)
      have ei : i = nI i.toNatClampNeg := nI_ofN hi0
      refine ⟨(lG (yl w.1 a) (lCp w.1 a), lS (yl w.1 a) (lCp w.1 a)), ?_⟩
      rw [hov_LILrV_r]
      have hbud : yl w.1 a < lCp w.1 a ∨ (1 ≤ lG (yl w.1 a) (lCp w.1 a) ∧ lNc (yl w.1 a) (lCp w.1 a) ≤ lS (yl w.1 a) (lCp w.1 a)) := by
        by_cases q : yl w.1 a < lCp w.1 a
        · exact .inl q
        · refine .inr ⟨?_, ?_⟩
          · unfold lG; rw [if_neg q]; exact Nat.le_refl _
          · unfold lS; rw [if_neg q]; exact Nat.le_refl _
      refine ⟨hRcv_L hli, h8, ⟨E, _, _, F, _, hlst, ei, by omega, by omega, fun j hj y hy => yAny_h hr (hel j hj y (by rw [← hF j hj]; exact hy)), yAny_h hr hb, hbud⟩, hk1, hk2, fun m' n' hq hi hn => ?_⟩
      · obtain ⟨F', hA, hF1, hF2, hF3⟩ := hq E _ _ F _ hlst ei (by omega)
        have FK : ∀ j, j < yl w.1 a + 1 → F' j = lIns (yr w.1 a) i.toNatClampNeg b j := by
          intro j hj
          unfold lIns
          by_cases q : j < i.toNatClampNeg
          · rw [if_pos q, hF1 j q, hF j (by omega)]
          · by_cases q2 : j = i.toNatClampNeg
            · rw [if_neg q, if_pos q2, q2]; exact hF2
            · rw [if_neg q, if_neg q2, hF3 j (by omega) (by omega), hF (j - 1) (by omega)]
        · skip
          obtain ⟨hn', E', hE1, hE2, hE3, hE4, hE5⟩ := hA
          subst hn'
          have h0 := hEm0 hS hi
          have hE0 : E' ≠ gSa g 0 := fun q => by rw [q, h0] at hE2; cases hE2
          have hob : ∀ x, hh a ≠ some (.inr (4, x)) := fun x q => by
            obtain ⟨o, md, e1, -⟩ := hli
            rw [e1] at q; cases q
          have hnn : hh w.2.1 = none := by
            cases e : hh w.2.1 with
            | none => rfl
            | some ob => exact absurd (hD _ ob e).1 (Nat.lt_irrefl _)
          have han : a < w.2.1 := hr.2.1.2 a (by omega)
          obtain ⟨hN1, hN2⟩ := lNc_le (k := yl w.1 a) (c := lCp w.1 a) hlen hlst.2.2.1 hlst.2.1
          obtain ⟨o, md, x1, x2, x3, x4⟩ := hE1
          refine ⟨_, yRl_lst (E := E') hr hD (Nat.le_add_right _ _) (Nat.lt_of_lt_of_le han (Nat.le_add_right _ _)) (.inl hc) hob (fun b hb => ySm_wL hb) yL_cs ?_ (fun b hb1 hb2 hb3 => hE3 b hb2 hb1 (hb3.elim id fun q => absurd q hE0)) ?_ ?_, h⟩
          · rw [yL_ls, yL_is, yL_rs]
            refine ⟨o, md, x1, x2, x3, x4, .inr ⟨_, F', hE2, rfl, by omega, by omega, by omega, FK⟩⟩
          · by_cases q : lG (yl w.1 a) (lCp w.1 a) = 0
            · refine .inr (.inr ⟨hc, ?_⟩)
              rw [(hE4 E hli).1 q]
              exact hls.ed
            · refine .inr (.inl ?_)
              have : lG (yl w.1 a) (lCp w.1 a) = 1 := by
                have := lG_01 (k := yl w.1 a) (c := lCp w.1 a)
                omega
              rw [(hE4 E hli).2 this]
              exact Nat.le_refl _
          · by_cases q : lG (yl w.1 a) (lCp w.1 a) = 0
            · rw [(hE4 E hli).1 q]
              rcases hls.arr with q2 | ⟨y, q2⟩
              · exact .inl q2
              · exact .inr ⟨y, .inl q2⟩
            · have : lG (yl w.1 a) (lCp w.1 a) = 1 := by
                have := lG_01 (k := yl w.1 a) (c := lCp w.1 a)
                omega
              rw [(hE4 E hli).2 this]
              exact .inr ⟨(0, .inl fun _ => 0), .inr hnn⟩
    · exact h.elim
set_option maxRecDepth 20000 in
theorem yLni_ok {p : Program} {l : Launch} {e : Env} {s : State} {m : MethodId} {args : Array Value} {below : List Frame} {meth : Method} {c : Code} {nL : Nat} {cc : ByteArray} {ret : Option FieldType} {Q : State → Prop} {g : hG} {H0 : Heap} {idx fr lo mc ms : Nat} {own : String} (hl : l.stackTraces = false) (h1 : Cond.methodLink own idx ({ cls := "java/util/ArrayList", name := "<init>", desc := "()V" } : Jvm.MethodName) ∈ lw_all) (hf : 5 ≤ fr) (hlo : 150 ≤ lo) (C : se_Cx p s m args meth c cc nL own ret) (hG : hGl g s) (hS : hSt g s) : se_Snd p l e (hRoom fr lo mc ms) s m args below meth c Q nL (fun a => a) (yRM g H0) cc (.invokespecial idx) 3 (yLni mc ms) :=
  yLift (ho_LrV_ok (hCI_ok (maxL' := 1) (fr' := 3) (lo' := 60) (yt_L_init l hl) (fun g As h n hp => by obtain ⟨_, rfl, _⟩ := hp; exact ⟨_, _, rfl⟩) h1 q160 q101 q161 rfl (by decide +kernel) ⟨by omega, by omega⟩ C hG hS)) fun st w K X hh hr hD h => by
    unfold yLni at h
    split at h
    · rename_i a r
      obtain ⟨hc, h8, k1, k2, h⟩ := h
      obtain ⟨o, ho, ho2⟩ := (hr.1 a).2.2.2.2.2.2 hc
      rw [ho_LrV_r]
      refine ⟨h8, ⟨o, ho⟩, k1, k2, fun m' n' hq hi hn => ?_⟩
      obtain ⟨rfl, hq⟩ := hq
      have hq := hq o ho
      subst hq
      have han : a < w.2.1 := hr.2.1.2 a (by omega)
      refine ⟨_, yRl_lst (E := gSa g 0) hr hD (Nat.le_refl _) han (.inr (.inl hc)) (fun x q => by rw [ho] at q; cases q) (fun b hb => ySm_wL hb) yL_cs ?_ (fun b hb1 hb2 hb3 => hUa_n hb1) (.inl rfl) (.inl rfl), h⟩
      rw [yL_ls, yL_is]
      exact ⟨_, 0, hUa_s, rfl, rfl, by rw [updV_a, if_neg (by omega), updV_a, if_neg (by omega)]; exact ho2, .inl ⟨rfl, rfl, rfl⟩⟩
    · exact h.elim
set_option maxRecDepth 20000 in
theorem yLrm_ok {p : Program} {l : Launch} {e : Env} {s : State} {m : MethodId} {args : Array Value} {below : List Frame} {meth : Method} {c : Code} {nL : Nat} {cc : ByteArray} {ret : Option FieldType} {Q : State → Prop} {g : hG} {H0 : Heap} {idx fr lo mc ms : Nat} {own : String} (hl : l.stackTraces = false) (h1 : Cond.methodLink own idx ({ cls := "java/util/ArrayList", name := "remove", desc := "(I)Ljava/lang/Object;" } : Jvm.MethodName) ∈ lw_all) (hf : 6 ≤ fr) (hlo : 200 ≤ lo) (C : se_Cx p s m args meth c cc nL own ret) (hG : hGl g s) (hS : hSt g s) : se_Snd p l e (hRoom fr lo mc ms) s m args below meth c Q nL (fun a => a) (yRM g H0) cc (.invokevirtual idx) 3 (yLrm mc ms) :=
  yLift (hov_LIrL_ok (hCVG_ok (cs := [23]) (maxL' := 4) (fr' := 2) (lo' := 83) (yt_L_remove l hl) (List.forall_mem_cons.mpr ⟨⟨_, rfl, hRunV_V (na := 1) C.1.2.2.2.2 h1 q1103 q1104 q101 q1105 (by decide +kernel) ⟨by omega, by omega⟩⟩, fun _ h => absurd h List.not_mem_nil⟩) C hG hS)) fun st w K X hh hr hD h => by
    unfold yLrm at h
    split at h
    · rename_i i a r
      obtain ⟨hc, h8, k1, k2, ⟨hl0, hl4, rfl⟩, h⟩ := h
      obtain ⟨E, hls⟩ := (hr.1 a).2.1 hc
      have hli := yLs_li hls
      have hls0 := hls
      obtain ⟨o, md, e1, e2, e3, e4, q⟩ := hls
      rcases q with ⟨-, q, -⟩ | ⟨L, F, q1, q2, q3, q4, q5, q6⟩
      · omega
      · have ek : yl w.1 a = (yl w.1 a - 1) + 1 := by omega
        have hli' : hLi hh a E ((yl w.1 a - 1) + 1) := by rw [← ek]; exact hli
        rw [hov_LIrL_r]
        refine ⟨hRcv_L hli, h8, ⟨E, yl w.1 a - 1, L, F, hli', q1, rfl, by omega, q5⟩, k1, k2, fun x m' n' hq hi hn => ?_⟩
        obtain ⟨rfl, hq⟩ := hq
        obtain ⟨rfl, z1, z2, z3⟩ := hq E _ L F hli' q1 rfl (by omega)
        rw [q6 _ (by omega)]
        have han : a < w.2.1 := hr.2.1.2 a (by omega)
        obtain ⟨o', md', y1, y2, y3, y4⟩ := z1
        refine ⟨_, yRl_lst (E := E) hr hD (Nat.le_refl _) han (.inl hc) (fun x q => by rw [e1] at q; cases q) (fun b hb => ySm_wL hb) yL_cs ?_ (fun b hb1 hb2 hb3 => ?_) (.inr (.inr ⟨hc, hls0.ed⟩)) (.inr ⟨_, .inl q1⟩), h⟩
        · rw [yL_ls, yL_is, yL_rs]
          exact ⟨o', md', y1, y2, y3, y4, .inr ⟨L, _, z2, q2, q3, by omega, q5, fun j hj => by unfold va_up; rw [if_neg (by omega)]; exact q6 j (by omega)⟩⟩
        · rcases hb3 with hb3 | hb3
          · exact z3 b hb1 hb3
          · have := hEm0 hS hD
            rw [← hb3, q1] at this
            cases this
    · exact h.elim
