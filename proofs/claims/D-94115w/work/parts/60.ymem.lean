/-! THE COMPONENT'S MEMORY: typed, lists as arrays of references -/
/-- class codes, lengths, ints, longs, references, by address and key; codes: below 23 objects, 23 lists, 25 texts, 26 boxed ints, 30+t arrays, 44 fixed arrays of texts -/
abbrev yM : Type := (Nat → Nat) × (Nat → Nat) × (Nat → Nat → Int32) × (Nat → Nat → Int64) × (Nat → Nat → Option Nat)
def yc (m : yM) : Nat → Nat := m.1
def yl (m : yM) : Nat → Nat := m.2.1
def yi (m : yM) : Nat → Nat → Int32 := m.2.2.1
def yj (m : yM) : Nat → Nat → Int64 := m.2.2.2.1
def yr (m : yM) : Nat → Nat → Option Nat := m.2.2.2.2
def ywI (m : yM) (a k : Nat) (x : Int32) : yM := (yc m, yl m, fun b => if b = a then upd (yi m b) k x else yi m b, yj m, yr m)
def ywJ (m : yM) (a k : Nat) (x : Int64) : yM := (yc m, yl m, yi m, fun b => if b = a then vp_updL (yj m b) k x else yj m b, yr m)
def ywR (m : yM) (a k : Nat) (x : Option Nat) : yM := (yc m, yl m, yi m, yj m, fun b => if b = a then va_up (yr m b) k x else yr m b)
/-- a new one of a code and a length at an address -/
def ynw (m : yM) (a c n : Nat) : yM := (fun b => if b = a then c else yc m b, fun b => if b = a then n else yl m b, fun b => if b = a then fun _ => 0 else yi m b, fun b => if b = a then fun _ => 0 else yj m b, fun b => if b = a then fun _ => none else yr m b)
/-- a list gets a content -/
def ywL (m : yM) (a n : Nat) (cp : Int32) (f : Nat → Option Nat) : yM := (fun b => if b = a then 23 else yc m b, fun b => if b = a then n else yl m b, fun b => if b = a then fun _ => cp else yi m b, yj m, fun b => if b = a then f else yr m b)
section
variable {m : yM} {a b k n c : Nat} {x : Int32} {u : Int64} {o : Option Nat} {f : Nat → Option Nat}
theorem yc_wI : yc (ywI m a k x) b = yc m b := rfl
theorem yl_wI : yl (ywI m a k x) b = yl m b := rfl
theorem yi_wI : yi (ywI m a k x) b = if b = a then upd (yi m b) k x else yi m b := rfl
theorem yj_wI : yj (ywI m a k x) b = yj m b := rfl
theorem yr_wI : yr (ywI m a k x) b = yr m b := rfl
theorem yc_wJ : yc (ywJ m a k u) b = yc m b := rfl
theorem yl_wJ : yl (ywJ m a k u) b = yl m b := rfl
theorem yi_wJ : yi (ywJ m a k u) b = yi m b := rfl
theorem yj_wJ : yj (ywJ m a k u) b = if b = a then vp_updL (yj m b) k u else yj m b := rfl
theorem yr_wJ : yr (ywJ m a k u) b = yr m b := rfl
theorem yc_wR : yc (ywR m a k o) b = yc m b := rfl
theorem yl_wR : yl (ywR m a k o) b = yl m b := rfl
theorem yi_wR : yi (ywR m a k o) b = yi m b := rfl
theorem yj_wR : yj (ywR m a k o) b = yj m b := rfl
theorem yr_wR : yr (ywR m a k o) b = if b = a then va_up (yr m b) k o else yr m b := rfl
theorem yc_nw : yc (ynw m a c n) b = if b = a then c else yc m b := rfl
theorem yl_nw : yl (ynw m a c n) b = if b = a then n else yl m b := rfl
theorem yi_nw : yi (ynw m a c n) b = if b = a then fun _ => 0 else yi m b := rfl
theorem yj_nw : yj (ynw m a c n) b = if b = a then fun _ => 0 else yj m b := rfl
theorem yr_nw : yr (ynw m a c n) b = if b = a then fun _ => none else yr m b := rfl
theorem yc_wL : yc (ywL m a n x f) b = if b = a then 23 else yc m b := rfl
theorem yl_wL : yl (ywL m a n x f) b = if b = a then n else yl m b := rfl
theorem yi_wL : yi (ywL m a n x f) b = if b = a then fun _ => x else yi m b := rfl
theorem yj_wL : yj (ywL m a n x f) b = yj m b := rfl
theorem yr_wL : yr (ywL m a n x f) b = if b = a then f else yr m b := rfl
theorem yc_wL' (h : yc m a = 23) : yc (ywL m a n x f) b = yc m b := by
  rw [yc_wL]
  split
  · rename_i e
    rw [e, h]
  · rfl
end
/-- the same at an address -/
def ySm (m m' : yM) (b : Nat) : Prop := yc m' b = yc m b ∧ yl m' b = yl m b ∧ yi m' b = yi m b ∧ yj m' b = yj m b ∧ yr m' b = yr m b
theorem ySm.rfl' {m : yM} {b : Nat} : ySm m m b := ⟨rfl, rfl, rfl, rfl, rfl⟩
theorem ySm.tr {m1 m2 m3 : yM} {b : Nat} (h : ySm m1 m2 b) (h' : ySm m2 m3 b) : ySm m1 m3 b := ⟨h'.1.trans h.1, h'.2.1.trans h.2.1, h'.2.2.1.trans h.2.2.1, h'.2.2.2.1.trans h.2.2.2.1, h'.2.2.2.2.trans h.2.2.2.2⟩
theorem ySm_wI {m : yM} {a b k : Nat} {x : Int32} (h : b ≠ a) : ySm m (ywI m a k x) b := ⟨rfl, rfl, if_neg h, rfl, rfl⟩
theorem ySm_wJ {m : yM} {a b k : Nat} {x : Int64} (h : b ≠ a) : ySm m (ywJ m a k x) b := ⟨rfl, rfl, rfl, if_neg h, rfl⟩
theorem ySm_wR {m : yM} {a b k : Nat} {x : Option Nat} (h : b ≠ a) : ySm m (ywR m a k x) b := ⟨rfl, rfl, rfl, rfl, if_neg h⟩
theorem ySm_nw {m : yM} {a b c n : Nat} (h : b ≠ a) : ySm m (ynw m a c n) b := ⟨if_neg h, if_neg h, if_neg h, if_neg h, if_neg h⟩
theorem ySm_wL {m : yM} {a b n : Nat} {x : Int32} {f : Nat → Option Nat} (h : b ≠ a) : ySm m (ywL m a n x f) b := ⟨if_neg h, if_neg h, if_neg h, rfl, if_neg h⟩
/-- kinds of the fields: 0 int, 1 boolean, 2 long, 3 a reference -/
def yKdL : List (List Nat) := [[3, 3, 3, 3, 0, 0, 0, 0, 0, 3, 3, 3, 3], [3, 0, 0, 0, 0, 0, 0, 0, 0, 0, 0, 0, 0, 3], [3, 0, 0, 0, 0, 2, 3, 0, 3, 3], [0, 3, 3], [3, 3, 0], [0, 3, 3], [0], [0, 0, 0, 0, 1], [0, 0, 3, 3, 3, 0, 0, 0, 0, 0, 0, 0, 0], [2, 2], [0, 3, 3], [3, 3, 3, 0, 3], [3, 3, 2, 2, 2, 2, 2, 2, 2, 0, 3], [3], [0], [3, 0, 0], [3, 0, 0, 3], [0, 0], [0, 3], [3, 0, 0, 0, 0, 2, 3, 0, 3, 0, 0], [3, 3, 3, 0, 0, 0, 3, 3], [0, 0, 2, 0], [3, 3, 3, 3, 3, 0, 0, 0], [0, 3, 0], [0]]
def yKd (c k : Nat) : Nat := (yKdL.getD c []).getD k 3
/-- a field's key: its number, the picture reader's moved behind the other readers' -/
def yKy (c k : Nat) : Nat := if c = 16 then k + 6 else k
theorem yKy_inj {c k k' : Nat} (h : yKy c k' = yKy c k) : k' = k := by
  unfold yKy at h
  split at h <;> omega
def yV (m : yM) (a c k : Nat) : Value := match yKd c k with
  | 0 => .int (yi m a (yKy c k))
  | 1 => .int (yi m a (yKy c k))
  | 2 => .long (yj m a (yKy c k))
  | _ => va_rf (yr m a (yKy c k))
theorem yV_i {m : yM} {a c k : Nat} (h : yKd c k ≤ 1) : yV m a c k = .int (yi m a (yKy c k)) := by
  unfold yV
  generalize yKd c k = z at h ⊢
  match z, h with
  | 0, _ => rfl
  | 1, _ => rfl
theorem yV_j {m : yM} {a c k : Nat} (h : yKd c k = 2) : yV m a c k = .long (yj m a (yKy c k)) := by
  unfold yV
  rw [h]
  rfl
theorem yV_r {m : yM} {a c k : Nat} (h : 3 ≤ yKd c k) : yV m a c k = va_rf (yr m a (yKy c k)) := by
  unfold yV
  generalize yKd c k = z at h ⊢
  match z, h with
  | n + 3, _ => rfl
def yA (m : yM) (a t : Nat) : vp_A := match t with
  | 0 => (yl m a, .inl (yi m a))
  | 1 => (yl m a, .inl (yi m a))
  | 2 => (yl m a, .inl (yi m a))
  | 3 => (yl m a, .inr (.inl (yj m a)))
  | _ => (yl m a, .inr (.inr (.inr (.inr (yr m a)))))
/-- the texts of a fixed array -/
def yFx (k : Nat) : List Nat := match k with
  | 2 => hKept
  | 3 => hOnce
  | _ => hWds
/-- a list in the heap: its elements' array at E, of the length that cp tells -/
def yLs (g : hG) (h : hH) (a E n : Nat) (cp : Int32) (f : Nat → Option Nat) : Prop := ∃ (o : Nat → Value) (md : Int32), h a = some (.inl (23, o)) ∧ o 0 = .int md ∧ o 1 = .ref E ∧ o 2 = .int (nI n) ∧
  ((E = gSa g 0 ∧ n = 0 ∧ cp = 0) ∨ ∃ (L : Nat) (F : Nat → Option Nat), h E = some (.inr (4, (L, .inr (.inr (.inr (.inr F)))))) ∧ cp = nI L ∧ 0 < L ∧ n ≤ L ∧ L ≤ 65536 ∧ ∀ k, k < n → F k = f k)
/-- what stands at an address -/
def yOb (g : hG) (m : yM) (h : hH) (a : Nat) : Prop :=
  (yc m a < 23 → h a = some (.inl (yc m a, yV m a (yc m a)))) ∧
  (yc m a = 23 → ∃ E, yLs g h a E (yl m a) (yi m a 0) (yr m a)) ∧
  (yc m a = 25 → ∃ i, i < 29 ∧ a = gTx g i ∧ yl m a = hLen.getD i 0 ∧ ∀ j, yi m a j = (hByt.getD i []).getD j 0) ∧
  (yc m a = 26 → ∃ j, j < 256 ∧ a = gBx g j ∧ yi m a 0 = vb_c j) ∧
  (30 ≤ yc m a → yc m a < 38 → yc m a ≠ 34 ∧ h a = some (.inr (yc m a - 30, yA m a (yc m a - 30)))) ∧
  (yc m a = 44 → ∃ k, 2 ≤ k ∧ k < 5 ∧ a = gSa g k ∧ yl m a = (yFx k).length ∧ ∀ j, j < (yFx k).length → yr m a j = some (gTx g ((yFx k).getD j 0))) ∧
  (yc m a = 29 → ∃ o, h a = some (.inl (23, o)) ∧ o 2 = .int 0)
/-- what the fixed part holds -/
def yLow (g : hG) (m : yM) : Prop :=
  (∀ i, i < 29 → yc m (gTx g i) = 25 ∧ yl m (gTx g i) = hLen.getD i 0 ∧ ∀ j, yi m (gTx g i) j = (hByt.getD i []).getD j 0) ∧
  (∀ j, j < 256 → yc m (gBx g j) = 26 ∧ yi m (gBx g j) 0 = vb_c j) ∧
  (∀ k, 2 ≤ k → k < 5 → yc m (gSa g k) = 44 ∧ yl m (gSa g k) = (yFx k).length ∧ ∀ j, j < (yFx k).length → yr m (gSa g k) j = some (gTx g ((yFx k).getD j 0)))
/-- what holds of every memory: the fixed part, all below the next address -/
def yIn (g : hG) (m : yM) (n : Nat) : Prop := yLow g m ∧ ∀ a, yc m a < 50 → a < n
/-- a list's elements stand in the array at E -/
def hEd (h : hH) (a E : Nat) : Prop := ∃ o, h a = some (.inl (23, o)) ∧ o 1 = .ref E
/-- the heap is as the memory tells -/
def yRl (g : hG) (m : yM) (h : hH) (n : Nat) : Prop := (∀ a, yOb g m h a) ∧ yIn g m n ∧
  ∀ a b E : Nat, yc m a = 23 → yc m b = 23 → hEd h a E → hEd h b E → E = gSa g 0 ∨ a = b
abbrev yW : Type := yM × Nat × Nat × Nat
def yRM (g : hG) (H0 : Heap) (w : yW) (H : Heap) (locs : List Loc) (k q : Nat) : Prop := ∃ h : hH, yRl g w.1 h w.2.1 ∧ hRM g H0 (h, w.2) H locs k q
section
variable {g : hG} {m m' : yM} {h h' : hH} {n n' a b : Nat} {ob : hO}
theorem yLs.keep {E na : Nat} {cp : Int32} {f : Nat → Option Nat} (hb : h' b = h b) (hE : ∀ x, h E = some (.inr (4, x)) → h' E = h E) (x : yLs g h b E na cp f) : yLs g h' b E na cp f := by
  obtain ⟨o, md, x1, x2, x3, x4, x5⟩ := x
  refine ⟨o, md, hb.trans x1, x2, x3, x4, ?_⟩
  rcases x5 with x5 | ⟨L, F, y1, y2⟩
  · exact .inl x5
  · exact .inr ⟨L, F, (hE _ y1).trans y1, y2⟩
theorem yOb.keep (hs : ySm m m' b) (hb : h' b = h b) (hE : ∀ E x, h E = some (.inr (4, x)) → h' E = h E) (x : yOb g m h b) : yOb g m' h' b := by
  obtain ⟨s1, s2, s3, s4, s5⟩ := hs
  obtain ⟨x1, x2, x3, x4, x5, x6, x7⟩ := x
  have eV : ∀ c, yV m' b c = yV m b c := fun c => funext fun k => by unfold yV; rw [s3, s4, s5]
  have eA : ∀ t, yA m' b t = yA m b t := fun t => by unfold yA; rw [s2, s3, s4, s5]
  unfold yOb
  rw [s1, s2, s3, s5, hb]
  refine ⟨fun h1 => ?_, fun h1 => ?_, x3, x4, fun h1 h2 => ?_, x6, x7⟩
  · rw [eV]; exact x1 h1
  · obtain ⟨E, y⟩ := x2 h1
    exact ⟨E, y.keep hb (hE E)⟩
  · rw [eA]; exact x5 h1 h2
theorem yLow.keep (hs : ∀ b, yc m b = 25 ∨ yc m b = 26 ∨ yc m b = 44 → ySm m m' b) (x : yLow g m) : yLow g m' := by
  obtain ⟨x1, x2, x3⟩ := x
  refine ⟨fun i hi => ?_, fun j hj => ?_, fun k h1 h2 => ?_⟩
  · obtain ⟨s1, s2, s3, s4, s5⟩ := hs _ (.inl (x1 i hi).1)
    rw [s1, s2, s3]; exact x1 i hi
  · obtain ⟨s1, s2, s3, s4, s5⟩ := hs _ (.inr (.inl (x2 j hj).1))
    rw [s1, s3]; exact x2 j hj
  · obtain ⟨s1, s2, s3, s4, s5⟩ := hs _ (.inr (.inr (x3 k h1 h2).1))
    rw [s1, s2, s5]; exact x3 k h1 h2
/-- one address gets a new content -/
theorem yRl_upd (hr : yRl g m h n) (hn : n ≤ n') (han : a < n') (hs : ∀ b, b ≠ a → ySm m m' b) (hc : yc m a ≠ 23 ∧ yc m a ≠ 25 ∧ yc m a ≠ 26 ∧ yc m a ≠ 44) (hc' : yc m' a ≠ 23) (hha : ∀ x, h a ≠ some (.inr (4, x))) (hob' : ∀ x, ob ≠ .inr (4, x)) (hob : yOb g m' (hU h a ob) a) : yRl g m' (hU h a ob) n' := by
  have hE : ∀ E x, h E = some (.inr (4, x)) → hU h a ob E = h E := fun E x hx => hU_n (fun e => hha x (e ▸ hx))
  have hE' : ∀ E x, hU h a ob E = some (.inr (4, x)) → h E = hU h a ob E := fun E x hx => by
    by_cases e : E = a
    · subst e; rw [hU_s] at hx; exact absurd (Option.some.inj hx) (hob' x)
    · exact (hU_n e).symm
  refine ⟨fun b => ?_, ⟨hr.2.1.1.keep fun b hb => hs b (fun e => ?_), fun b hb => ?_⟩, fun a1 b1 E h1 h2 y1 y2 => ?_⟩
  · by_cases e : b = a
    · subst e; exact hob
    · exact (hr.1 b).keep (hs b e) (hU_n e) hE
  · subst e
    rcases hb with h | h | h
    · exact hc.2.1 h
    · exact hc.2.2.1 h
    · exact hc.2.2.2 h
  · by_cases e : b = a
    · subst e; exact han
    · rw [(hs b e).1] at hb
      have := hr.2.1.2 b hb
      omega
  · have ea : a1 ≠ a := fun e => hc' (e ▸ h1)
    have eb : b1 ≠ a := fun e => hc' (e ▸ h2)
    rw [(hs _ ea).1] at h1
    rw [(hs _ eb).1] at h2
    unfold hEd at y1 y2
    rw [hU_n ea] at y1
    rw [hU_n eb] at y2
    exact hr.2.2 a1 b1 E h1 h2 y1 y2
theorem yRl_fld (hr : yRl g m h n) (h23 : yc m a < 23) (hs : ∀ b, b ≠ a → ySm m m' b) (hcc : yc m' a = yc m a) {v : Nat → Value} (hv : v = yV m' a (yc m a)) : yRl g m' (hU h a (.inl (yc m a, v))) n := by
  have ha := (hr.1 a).1 h23
  refine yRl_upd hr (Nat.le_refl _) (hr.2.1.2 a (by omega)) hs (by omega) (by omega) (fun x e => ?_) (fun x e => by cases e) ?_
  · rw [ha] at e; cases e
  · unfold yOb
    rw [hcc]
    refine ⟨fun _ => ?_, fun e => ?_, fun e => ?_, fun e => ?_, fun e => ?_, fun e => ?_, fun e => ?_⟩
    · rw [hU_s, hv]
    all_goals omega
theorem yRl_arr (hr : yRl g m h n) (h30 : 30 ≤ yc m a) (h38 : yc m a < 38) (hs : ∀ b, b ≠ a → ySm m m' b) (hcc : yc m' a = yc m a) {t : Nat} (ht : yc m a = 30 + t) {v : vp_A} (hv : v = yA m' a t) : yRl g m' (hU h a (.inr (t, v))) n := by
  obtain ⟨h34, ha⟩ := (hr.1 a).2.2.2.2.1 h30 h38
  have et : yc m a - 30 = t := by omega
  refine yRl_upd hr (Nat.le_refl _) (hr.2.1.2 a (by omega)) hs (by omega) (by omega) (fun x e => ?_) (fun x e => ?_) ?_
  · rw [ha] at e
    have e2 : yc m a - 30 = 4 := congrArg Prod.fst (Sum.inr.inj (Option.some.inj e))
    omega
  · cases e; omega
  · unfold yOb
    rw [hcc, et]
    refine ⟨fun e => ?_, fun e => ?_, fun e => ?_, fun e => ?_, fun _ _ => ⟨h34, ?_⟩, fun e => ?_, fun e => ?_⟩
    · omega
    · omega
    · omega
    · omega
    · rw [hU_s, hv]
    · omega
    · omega
theorem yRl_new (hr : yRl g m h n) (hD : hDom g h n) {c l : Nat} (hc : (c < 23 ∧ ob = .inl (c, yV (ynw m n c l) n c)) ∨ (30 ≤ c ∧ c < 38 ∧ c ≠ 34 ∧ ob = .inr (c - 30, yA (ynw m n c l) n (c - 30))) ∨ c = 29 ∧ ∃ o, ob = .inl (23, o) ∧ o 2 = .int 0) : yRl g (ynw m n c l) (hU h n ob) (n + 1) := by
  have hn : h n = none := by
    cases e : h n with
    | none => rfl
    | some ob => exact absurd (hD n ob e).1 (Nat.lt_irrefl _)
  have h50 : ¬ yc m n < 50 := fun e => Nat.lt_irrefl _ (hr.2.1.2 n e)
  have hcn : yc (ynw m n c l) n = c := by rw [yc_nw, if_pos rfl]
  refine yRl_upd hr (Nat.le_succ _) (Nat.lt_succ_self _) (fun b hb => ySm_nw hb) (by omega) (by rw [hcn]; omega) (fun x e => by rw [hn] at e; cases e) (fun x e => ?_) ?_
  · rcases hc with ⟨h1, h2⟩ | ⟨h1, h2, h3, h4⟩ | ⟨h1, o, h2, h3⟩
    · rw [h2] at e; cases e
    · rw [h4] at e
      have e2 : c - 30 = 4 := congrArg Prod.fst (Sum.inr.inj e)
      omega
    · rw [h2] at e; cases e
  · unfold yOb
    rw [hcn, hU_s]
    rcases hc with ⟨h1, h2⟩ | ⟨h1, h2, h3, h4⟩ | ⟨h1, o, h2, h3⟩
    · refine ⟨fun e => by rw [h2], fun e => ?_, fun e => ?_, fun e => ?_, fun e => ?_, fun e => ?_, fun e => ?_⟩ <;> omega
    · refine ⟨fun e => ?_, fun e => ?_, fun e => ?_, fun e => ?_, fun _ _ => ⟨h3, by rw [h4]⟩, fun e => ?_, fun e => ?_⟩ <;> omega
    · refine ⟨fun e => ?_, fun e => ?_, fun e => ?_, fun e => ?_, fun e => ?_, fun e => ?_, fun _ => ⟨o, by rw [h2], h3⟩⟩ <;> omega
end
theorem yV_wI {m : yM} {a c k : Nat} {x : Int32} (h : yKd c k ≤ 1) : yV (ywI m a (yKy c k) x) a c = updV (yV m a c) k (.int x) := by
  funext j
  unfold updV
  by_cases e : j = k
  · subst e
    rw [if_pos rfl, yV_i h, yi_wI, if_pos rfl, upd_s]
  · rw [if_neg e]
    have hk : yKy c j ≠ yKy c k := fun z => e (yKy_inj z)
    unfold yV
    rw [yi_wI, yj_wI, yr_wI, if_pos rfl, upd_o _ _ hk]
theorem yV_wJ {m : yM} {a c k : Nat} {x : Int64} (h : yKd c k = 2) : yV (ywJ m a (yKy c k) x) a c = updV (yV m a c) k (.long x) := by
  funext j
  unfold updV
  by_cases e : j = k
  · subst e
    rw [if_pos rfl, yV_j h, yj_wJ, if_pos rfl]
    exact congrArg Value.long (if_pos rfl)
  · rw [if_neg e]
    have hk : yKy c j ≠ yKy c k := fun z => e (yKy_inj z)
    have e2 : vp_updL (yj m a) (yKy c k) x (yKy c j) = yj m a (yKy c j) := if_neg hk
    unfold yV
    rw [yi_wJ, yj_wJ, yr_wJ, if_pos rfl, e2]
theorem yV_wR {m : yM} {a c k : Nat} {x : Option Nat} (h : 3 ≤ yKd c k) : yV (ywR m a (yKy c k) x) a c = updV (yV m a c) k (va_rf x) := by
  funext j
  unfold updV
  by_cases e : j = k
  · subst e
    rw [if_pos rfl, yV_r h, yr_wR, if_pos rfl]
    exact congrArg va_rf (if_pos rfl)
  · rw [if_neg e]
    have hk : yKy c j ≠ yKy c k := fun z => e (yKy_inj z)
    have e2 : va_up (yr m a) (yKy c k) x (yKy c j) = yr m a (yKy c j) := if_neg hk
    unfold yV
    rw [yi_wR, yj_wR, yr_wR, if_pos rfl, e2]
/-! operations over it -/
/-- the fields that an instruction may mean: kind t, key q, in the class c -/
def yFk (F : List (Nat × Nat)) (t q c : Nat) : Bool := decide (c < 23) && (match hfl F c with
  | some k => decide (yKd c k = t) && decide (yKy c k = q)
  | none => false)
theorem yFk_e {F : List (Nat × Nat)} {t q c : Nat} (h : yFk F t q c = true) : c < 23 ∧ ∃ k, hfl F c = some k ∧ yKd c k = t ∧ yKy c k = q := by
  unfold yFk at h
  rw [Bool.and_eq_true] at h
  obtain ⟨h1, h2⟩ := h
  split at h2
  · rename_i k hk
    rw [Bool.and_eq_true] at h2
    exact ⟨of_decide_eq_true h1, k, hk, of_decide_eq_true h2.1, of_decide_eq_true h2.2⟩
  · cases h2
def yGI (cs : List Nat) (q : Nat) : se_Op yW := fun st w K _ => match st with
  | .ref a :: r => yc w.1 a ∈ cs ∧ K (.int (yi w.1 a q) :: r) w
  | _ => False
def yGJ (cs : List Nat) (q : Nat) : se_Op yW := fun st w K _ => match st with
  | .ref a :: r => yc w.1 a ∈ cs ∧ K (.long (yj w.1 a q) :: r) w
  | _ => False
def yGR (cs : List Nat) (q : Nat) : se_Op yW := fun st w K _ => match st with
  | .ref a :: r => yc w.1 a ∈ cs ∧ K (va_rf (yr w.1 a q) :: r) w
  | _ => False
def yPI (cs : List Nat) (q : Nat) : se_Op yW := fun st w K _ => match st with
  | .int x :: .ref a :: r => yc w.1 a ∈ cs ∧ K r (ywI w.1 a q x, w.2)
  | _ => False
def yPZ (cs : List Nat) (q : Nat) : se_Op yW := fun st w K _ => match st with
  | .int x :: .ref a :: r => yc w.1 a ∈ cs ∧ (x = 0 ∨ x = 1) ∧ K r (ywI w.1 a q x, w.2)
  | _ => False
def yPJ (cs : List Nat) (q : Nat) : se_Op yW := fun st w K _ => match st with
  | .long x :: .ref a :: r => yc w.1 a ∈ cs ∧ K r (ywJ w.1 a q x, w.2)
  | _ => False
def yPR (cs : List Nat) (q : Nat) : se_Op yW := fun st w K _ => match st with
  | .null :: .ref a :: r => yc w.1 a ∈ cs ∧ K r (ywR w.1 a q none, w.2)
  | .ref b :: .ref a :: r => yc w.1 a ∈ cs ∧ K r (ywR w.1 a q (some b), w.2)
  | _ => False
def yIald : se_Op yW := fun st w K _ => match st with
  | .int i :: .ref a :: r => yc w.1 a = 30 ∧ vp_in i (yl w.1 a) ∧ K (.int (yi w.1 a i.toNatClampNeg) :: r) w
  | _ => False
def yBald : se_Op yW := fun st w K _ => match st with
  | .int i :: .ref a :: r => (yc w.1 a = 31 ∨ yc w.1 a = 32) ∧ vp_in i (yl w.1 a) ∧ K (.int (yi w.1 a i.toNatClampNeg) :: r) w
  | _ => False
def yLald : se_Op yW := fun st w K _ => match st with
  | .int i :: .ref a :: r => yc w.1 a = 33 ∧ vp_in i (yl w.1 a) ∧ K (.long (yj w.1 a i.toNatClampNeg) :: r) w
  | _ => False
def yAald : se_Op yW := fun st w K _ => match st with
  | .int i :: .ref a :: r => (yc w.1 a = 35 ∨ yc w.1 a = 36 ∨ yc w.1 a = 37) ∧ vp_in i (yl w.1 a) ∧ K (va_rf (yr w.1 a i.toNatClampNeg) :: r) w
  | _ => False
def yIast : se_Op yW := fun st w K _ => match st with
  | .int x :: .int i :: .ref a :: r => yc w.1 a = 30 ∧ vp_in i (yl w.1 a) ∧ K r (ywI w.1 a i.toNatClampNeg x, w.2)
  | _ => False
def yZast : se_Op yW := fun st w K _ => match st with
  | .int x :: .int i :: .ref a :: r => yc w.1 a = 31 ∧ (x = 0 ∨ x = 1) ∧ vp_in i (yl w.1 a) ∧ K r (ywI w.1 a i.toNatClampNeg x, w.2)
  | _ => False
def yBast : se_Op yW := fun st w K _ => match st with
  | .int x :: .int i :: .ref a :: r => yc w.1 a = 32 ∧ vp_in i (yl w.1 a) ∧ K r (ywI w.1 a i.toNatClampNeg x.toInt8.toInt32, w.2)
  | _ => False
def yLast : se_Op yW := fun st w K _ => match st with
  | .long x :: .int i :: .ref a :: r => yc w.1 a = 33 ∧ vp_in i (yl w.1 a) ∧ K r (ywJ w.1 a i.toNatClampNeg x, w.2)
  | _ => False
def yAast : se_Op yW := fun st w K _ => match st with
  | .null :: .int i :: .ref a :: r => (yc w.1 a = 35 ∨ yc w.1 a = 36 ∨ yc w.1 a = 37) ∧ vp_in i (yl w.1 a) ∧ K r (ywR w.1 a i.toNatClampNeg none, w.2)
  | .ref b :: .int i :: .ref a :: r => (yc w.1 a = 35 ∧ yc w.1 b = 17 ∨ yc w.1 a = 36 ∧ yc w.1 b = 20 ∨ yc w.1 a = 37 ∧ yc w.1 b = 4) ∧ vp_in i (yl w.1 a) ∧ K r (ywR w.1 a i.toNatClampNeg (some b), w.2)
  | _ => False
def yAlen : se_Op yW := fun st w K _ => match st with
  | .ref a :: r => (30 ≤ yc w.1 a ∧ yc w.1 a < 38) ∧ K (.int (nI (yl w.1 a)) :: r) w
  | _ => False
def yNew (mc ms c N : Nat) : se_Op yW := fun st w K _ => w.2.2.1 + 1 ≤ mc ∧ w.2.2.2 + N ≤ ms ∧ K (.ref w.2.1 :: st) (ynw w.1 w.2.1 c 0, w.2.1 + 1, w.2.2.1 + 1, w.2.2.2 + N)
def yNewA (mc ms t : Nat) : se_Op yW := fun st w K _ => match st with
  | .int x :: r => ¬ x < 0 ∧ x.toNatClampNeg ≤ 65536 ∧ w.2.2.1 + 1 ≤ mc ∧ w.2.2.2 + x.toNatClampNeg ≤ ms ∧ K (.ref w.2.1 :: r) (ynw w.1 w.2.1 (30 + t) x.toNatClampNeg, w.2.1 + 1, w.2.2.1 + 1, w.2.2.2 + x.toNatClampNeg)
  | _ => False
def yCast (cs : List Nat) : se_Op yW := fun st w K _ => match st with
  | .null :: r => K (.null :: r) w
  | .ref a :: r => yc w.1 a ∈ cs ∧ K (.ref a :: r) w
  | _ => False
def yThrow : se_Op yW := fun st w _ X => match st with
  | .ref a :: _ => yc w.1 a = 22 ∧ X a w
  | _ => False
/-- default fields -/
def yDf (c : Nat) (k : Nat) : Value := match yKd c k with
  | 0 => .int 0
  | 1 => .int 0
  | 2 => .long 0
  | _ => .null
theorem yDf_e {m : yM} {n c l : Nat} : yV (ynw m n c l) n c = yDf c := by
  funext k
  unfold yV yDf
  rw [yi_nw, yj_nw, yr_nw, if_pos rfl, if_pos rfl, if_pos rfl]
  rfl
section
variable {p : Program} {l : Launch} {e : Env} {R : Room} {s : State} {m : MethodId} {args : Array Value} {below : List Frame} {meth : Method} {c : Code} {nL : Nat} {cc : ByteArray} {ret : Option FieldType} {Q : State → Prop} {g : hG} {H0 : Heap} {idx : Nat} {own : String} {F : List (Nat × Nat)} {cs : List Nat} {t q : Nat}
/-- an operation of the heap, told over the typed memory -/
theorem yLift {ins : Instr} {len : Nat} {O : se_Op hW} {yO : se_Op yW} (hO : se_Snd p l e R s m args below meth c Q nL (fun a => a) (hRM g H0) cc ins len O)
    (h : ∀ st (w : yW) K X hh, yRl g w.1 hh w.2.1 → hDom g hh w.2.1 → yO st w K X → O st (hh, w.2) (fun st' w' => ∃ mm, yRl g mm w'.1 w'.2.1 ∧ K st' (mm, w'.2)) (fun a w' => ∃ mm, yRl g mm w'.1 w'.2.1 ∧ X a (mm, w'.2))) :
    se_Snd p l e R s m args below meth c Q nL (fun a => a) (yRM g H0) cc ins len yO := by
  intro pc L st w K X hd hK hX hx H locs k q ls hM hl
  obtain ⟨hh, hr, hM⟩ := hM
  exact hO pc L st (hh, w.2) _ _ hd (fun st' w' ⟨mm, hr', hk⟩ H' locs' k' q' ls' hM' hl' => hK _ _ hk H' locs' k' q' ls' ⟨w'.1, hr', hM'⟩ hl') (fun a w' ⟨mm, hr', hk⟩ H' locs' k' q' ls' rest ce hM' hl' => hX _ _ hk H' locs' k' q' ls' rest ce ⟨w'.1, hr', hM'⟩ hl') (h st w K X hh hr hM.2.2.1.dom hx) H locs k q ls hM hl
theorem yGI_ok (hO : se_Snd p l e R s m args below meth c Q nL (fun a => a) (hRM g H0) cc (.getfield idx) 3 (hGet F)) (ht : t ≤ 1) (hk : ∀ c ∈ cs, yFk F t q c = true) : se_Snd p l e R s m args below meth c Q nL (fun a => a) (yRM g H0) cc (.getfield idx) 3 (yGI cs q) :=
  yLift hO fun st w K X hh hr hD h => by
    unfold yGI at h
    split at h
    · rename_i a r
      obtain ⟨hc, h⟩ := h
      obtain ⟨h23, k, e1, e2, e3⟩ := yFk_e (hk _ hc)
      simp only [hGet, (hr.1 a).1 h23, e1]
      rw [yV_i (by omega), e3]
      exact ⟨w.1, hr, h⟩
    · exact h.elim
theorem yGJ_ok (hO : se_Snd p l e R s m args below meth c Q nL (fun a => a) (hRM g H0) cc (.getfield idx) 3 (hGet F)) (hk : ∀ c ∈ cs, yFk F 2 q c = true) : se_Snd p l e R s m args below meth c Q nL (fun a => a) (yRM g H0) cc (.getfield idx) 3 (yGJ cs q) :=
  yLift hO fun st w K X hh hr hD h => by
    unfold yGJ at h
    split at h
    · rename_i a r
      obtain ⟨hc, h⟩ := h
      obtain ⟨h23, k, e1, e2, e3⟩ := yFk_e (hk _ hc)
      simp only [hGet, (hr.1 a).1 h23, e1]
      rw [yV_j e2, e3]
      exact ⟨w.1, hr, h⟩
    · exact h.elim
theorem yGR_ok (hO : se_Snd p l e R s m args below meth c Q nL (fun a => a) (hRM g H0) cc (.getfield idx) 3 (hGet F)) (hk : ∀ c ∈ cs, yFk F 3 q c = true) : se_Snd p l e R s m args below meth c Q nL (fun a => a) (yRM g H0) cc (.getfield idx) 3 (yGR cs q) :=
  yLift hO fun st w K X hh hr hD h => by
    unfold yGR at h
    split at h
    · rename_i a r
      obtain ⟨hc, h⟩ := h
      obtain ⟨h23, k, e1, e2, e3⟩ := yFk_e (hk _ hc)
      simp only [hGet, (hr.1 a).1 h23, e1]
      rw [yV_r (by omega), e3]
      exact ⟨w.1, hr, h⟩
    · exact h.elim
theorem yPI_ok (hO : se_Snd p l e R s m args below meth c Q nL (fun a => a) (hRM g H0) cc (.putfield idx) 3 (hPut F 0)) (hk : ∀ c ∈ cs, yFk F 0 q c = true) : se_Snd p l e R s m args below meth c Q nL (fun a => a) (yRM g H0) cc (.putfield idx) 3 (yPI cs q) :=
  yLift hO fun st w K X hh hr hD h => by
    unfold yPI at h
    split at h
    · rename_i x a r
      obtain ⟨hc, h⟩ := h
      obtain ⟨h23, k, e1, e2, e3⟩ := yFk_e (hk _ hc)
      simp only [hPut, (hr.1 a).1 h23, e1]
      refine ⟨.inl rfl, ywI w.1 a q x, yRl_fld hr h23 (fun b hb => ySm_wI hb) rfl ?_, h⟩
      rw [← e3, yV_wI (by omega)]
    · exact h.elim
theorem yPZ_ok (hO : se_Snd p l e R s m args below meth c Q nL (fun a => a) (hRM g H0) cc (.putfield idx) 3 (hPut F 1)) (hk : ∀ c ∈ cs, yFk F 1 q c = true) : se_Snd p l e R s m args below meth c Q nL (fun a => a) (yRM g H0) cc (.putfield idx) 3 (yPZ cs q) :=
  yLift hO fun st w K X hh hr hD h => by
    unfold yPZ at h
    split at h
    · rename_i x a r
      obtain ⟨hc, hx, h⟩ := h
      obtain ⟨h23, k, e1, e2, e3⟩ := yFk_e (hk _ hc)
      simp only [hPut, (hr.1 a).1 h23, e1]
      refine ⟨.inr ⟨rfl, hx⟩, ywI w.1 a q x, yRl_fld hr h23 (fun b hb => ySm_wI hb) rfl ?_, h⟩
      rw [← e3, yV_wI (by omega)]
    · exact h.elim
theorem yPJ_ok (hO : se_Snd p l e R s m args below meth c Q nL (fun a => a) (hRM g H0) cc (.putfield idx) 3 (hPut F 2)) (hk : ∀ c ∈ cs, yFk F 2 q c = true) : se_Snd p l e R s m args below meth c Q nL (fun a => a) (yRM g H0) cc (.putfield idx) 3 (yPJ cs q) :=
  yLift hO fun st w K X hh hr hD h => by
    unfold yPJ at h
    split at h
    · rename_i x a r
      obtain ⟨hc, h⟩ := h
      obtain ⟨h23, k, e1, e2, e3⟩ := yFk_e (hk _ hc)
      simp only [hPut, (hr.1 a).1 h23, e1]
      refine ⟨rfl, ywJ w.1 a q x, yRl_fld hr h23 (fun b hb => ySm_wJ hb) rfl ?_, h⟩
      rw [← e3, yV_wJ e2]
    · exact h.elim
theorem yPR_ok (hO : se_Snd p l e R s m args below meth c Q nL (fun a => a) (hRM g H0) cc (.putfield idx) 3 (hPut F 3)) (hk : ∀ c ∈ cs, yFk F 3 q c = true) : se_Snd p l e R s m args below meth c Q nL (fun a => a) (yRM g H0) cc (.putfield idx) 3 (yPR cs q) :=
  yLift hO fun st w K X hh hr hD h => by
    unfold yPR at h
    split at h
    · rename_i a r
      obtain ⟨hc, h⟩ := h
      obtain ⟨h23, k, e1, e2, e3⟩ := yFk_e (hk _ hc)
      simp only [hPut, (hr.1 a).1 h23, e1]
      refine ⟨rfl, ywR w.1 a q none, yRl_fld hr h23 (fun b hb => ySm_wR hb) rfl ?_, h⟩
      rw [← e3, yV_wR (by omega)]
      rfl
    · rename_i b a r
      obtain ⟨hc, h⟩ := h
      obtain ⟨h23, k, e1, e2, e3⟩ := yFk_e (hk _ hc)
      simp only [hPut, (hr.1 a).1 h23, e1]
      refine ⟨rfl, ywR w.1 a q (some b), yRl_fld hr h23 (fun b hb => ySm_wR hb) rfl ?_, h⟩
      rw [← e3, yV_wR (by omega)]
      rfl
    · exact h.elim
theorem yAr {m : yM} {hh : hH} {n a t : Nat} (hr : yRl g m hh n) (hc : yc m a = 30 + t) (ht : t < 8) : hh a = some (.inr (t, yA m a t)) := by
  have := ((hr.1 a).2.2.2.2.1 (by omega) (by omega)).2
  rw [show yc m a - 30 = t by omega] at this
  exact this
theorem yIald_ok (C : se_Cx p s m args meth c cc nL own ret) (hG : hGl g s) : se_Snd p l e R s m args below meth c Q nL (fun a => a) (yRM g H0) cc .iaload 1 yIald :=
  yLift (hIald_ok C hG) fun st w K X hh hr hD h => by
    unfold yIald at h
    split at h
    · rename_i i a r
      obtain ⟨hc, hi, h⟩ := h
      have ha : hh a = some (.inr (0, (yl w.1 a, .inl (yi w.1 a)))) := yAr hr (t := 0) hc (by omega)
      simp only [hIald, ha]
      exact ⟨hi, w.1, hr, h⟩
    · exact h.elim
theorem yBald_ok (C : se_Cx p s m args meth c cc nL own ret) (hG : hGl g s) : se_Snd p l e R s m args below meth c Q nL (fun a => a) (yRM g H0) cc .baload 1 yBald :=
  yLift (hBald_ok C hG) fun st w K X hh hr hD h => by
    unfold yBald at h
    split at h
    · rename_i i a r
      obtain ⟨hc | hc, hi, h⟩ := h
      · have ha : hh a = some (.inr (1, (yl w.1 a, .inl (yi w.1 a)))) := yAr hr (t := 1) hc (by omega)
        simp only [hBald, ha]
        exact ⟨hi, w.1, hr, h⟩
      · have ha : hh a = some (.inr (2, (yl w.1 a, .inl (yi w.1 a)))) := yAr hr (t := 2) hc (by omega)
        simp only [hBald, ha]
        exact ⟨hi, w.1, hr, h⟩
    · exact h.elim
theorem yLald_ok (C : se_Cx p s m args meth c cc nL own ret) (hG : hGl g s) : se_Snd p l e R s m args below meth c Q nL (fun a => a) (yRM g H0) cc .laload 1 yLald :=
  yLift (hLald_ok C hG) fun st w K X hh hr hD h => by
    unfold yLald at h
    split at h
    · rename_i i a r
      obtain ⟨hc, hi, h⟩ := h
      have ha : hh a = some (.inr (3, (yl w.1 a, .inr (.inl (yj w.1 a))))) := yAr hr (t := 3) hc (by omega)
      simp only [hLald, ha]
      exact ⟨hi, w.1, hr, h⟩
    · exact h.elim
theorem yAr4 {m : yM} {hh : hH} {n a : Nat} (hr : yRl g m hh n) (hc : yc m a = 35 ∨ yc m a = 36 ∨ yc m a = 37) : ∃ t, yc m a = 30 + t ∧ 5 ≤ t ∧ t < 8 ∧ hh a = some (.inr (t, (yl m a, .inr (.inr (.inr (.inr (yr m a))))))) := by
  rcases hc with hc | hc | hc
  · exact ⟨5, hc, by omega, by omega, yAr hr (t := 5) hc (by omega)⟩
  · exact ⟨6, hc, by omega, by omega, yAr hr (t := 6) hc (by omega)⟩
  · exact ⟨7, hc, by omega, by omega, yAr hr (t := 7) hc (by omega)⟩
theorem yAald_ok (C : se_Cx p s m args meth c cc nL own ret) (hG : hGl g s) : se_Snd p l e R s m args below meth c Q nL (fun a => a) (yRM g H0) cc .aaload 1 yAald :=
  yLift (hAald_ok C hG) fun st w K X hh hr hD h => by
    unfold yAald at h
    split at h
    · rename_i i a r
      obtain ⟨hc, hi, h⟩ := h
      obtain ⟨t, -, t4, -, ha⟩ := yAr4 hr hc
      simp only [hAald, ha]
      exact ⟨by omega, hi, w.1, hr, h⟩
    · exact h.elim
theorem yIast_ok (C : se_Cx p s m args meth c cc nL own ret) (hG : hGl g s) : se_Snd p l e R s m args below meth c Q nL (fun a => a) (yRM g H0) cc .iastore 1 yIast :=
  yLift (hIast_ok C hG) fun st w K X hh hr hD h => by
    unfold yIast at h
    split at h
    · rename_i x i a r
      obtain ⟨hc, hi, h⟩ := h
      have ha : hh a = some (.inr (0, (yl w.1 a, .inl (yi w.1 a)))) := yAr hr (t := 0) hc (by omega)
      simp only [hIast, ha]
      refine ⟨hi, ywI w.1 a i.toNatClampNeg x, yRl_arr hr (by omega) (by omega) (fun b hb => ySm_wI hb) rfl hc ?_, h⟩
      simp only [yA, yl_wI, yi_wI, if_true]
    · exact h.elim
theorem yZast_ok (C : se_Cx p s m args meth c cc nL own ret) (hG : hGl g s) : se_Snd p l e R s m args below meth c Q nL (fun a => a) (yRM g H0) cc .bastore 1 yZast :=
  yLift (hBast_ok C hG) fun st w K X hh hr hD h => by
    unfold yZast at h
    split at h
    · rename_i x i a r
      obtain ⟨hc, hx, hi, h⟩ := h
      have ha : hh a = some (.inr (1, (yl w.1 a, .inl (yi w.1 a)))) := yAr hr (t := 1) hc (by omega)
      simp only [hBast, ha]
      refine ⟨hx, hi, ywI w.1 a i.toNatClampNeg x, yRl_arr hr (by omega) (by omega) (fun b hb => ySm_wI hb) rfl hc ?_, h⟩
      simp only [yA, yl_wI, yi_wI, if_true]
    · exact h.elim
theorem yBast_ok (C : se_Cx p s m args meth c cc nL own ret) (hG : hGl g s) : se_Snd p l e R s m args below meth c Q nL (fun a => a) (yRM g H0) cc .bastore 1 yBast :=
  yLift (hBast_ok C hG) fun st w K X hh hr hD h => by
    unfold yBast at h
    split at h
    · rename_i x i a r
      obtain ⟨hc, hi, h⟩ := h
      have ha : hh a = some (.inr (2, (yl w.1 a, .inl (yi w.1 a)))) := yAr hr (t := 2) hc (by omega)
      simp only [hBast, ha]
      refine ⟨hi, ywI w.1 a i.toNatClampNeg x.toInt8.toInt32, yRl_arr hr (by omega) (by omega) (fun b hb => ySm_wI hb) rfl hc ?_, h⟩
      simp only [yA, yl_wI, yi_wI, if_true]
    · exact h.elim
theorem yLast_ok (C : se_Cx p s m args meth c cc nL own ret) (hG : hGl g s) : se_Snd p l e R s m args below meth c Q nL (fun a => a) (yRM g H0) cc .lastore 1 yLast :=
  yLift (hLast_ok C hG) fun st w K X hh hr hD h => by
    unfold yLast at h
    split at h
    · rename_i x i a r
      obtain ⟨hc, hi, h⟩ := h
      have ha : hh a = some (.inr (3, (yl w.1 a, .inr (.inl (yj w.1 a))))) := yAr hr (t := 3) hc (by omega)
      simp only [hLast, ha]
      refine ⟨hi, ywJ w.1 a i.toNatClampNeg x, yRl_arr hr (by omega) (by omega) (fun b hb => ySm_wJ hb) rfl hc ?_, h⟩
      simp only [yA, yl_wJ, yj_wJ, if_true]
    · exact h.elim
theorem yAast_ok (C : se_Cx p s m args meth c cc nL own ret) (hG : hGl g s) : se_Snd p l e R s m args below meth c Q nL (fun a => a) (yRM g H0) cc .aastore 1 yAast :=
  yLift (hAast_ok C hG) fun st w K X hh hr hD h => by
    have eA : ∀ (m' : yM) (a t : Nat), 5 ≤ t → yA m' a t = (yl m' a, .inr (.inr (.inr (.inr (yr m' a))))) := fun m' a t ht => by
      match t, ht with
      | n + 5, _ => rfl
    unfold yAast at h
    split at h
    · rename_i i a r
      obtain ⟨hc, hi, h⟩ := h
      obtain ⟨t, tc, t4, t8, ha⟩ := yAr4 hr hc
      simp only [hAast, ha]
      refine ⟨by omega, hi, ywR w.1 a i.toNatClampNeg none, yRl_arr hr (by omega) (by omega) (fun b hb => ySm_wR hb) rfl tc ?_, h⟩
      rw [eA _ _ _ t4]
      simp only [yl_wR, yr_wR, if_true]
    · rename_i b i a r
      obtain ⟨hc, hi, h⟩ := h
      obtain ⟨t, tc, t4, t8, ha⟩ := yAr4 hr (a := a) (by omega)
      have hb := (hr.1 b).1 (by omega)
      simp only [hAast, ha, hb]
      refine ⟨?_, hi, ywR w.1 a i.toNatClampNeg (some b), yRl_arr hr (by omega) (by omega) (fun b hb => ySm_wR hb) rfl tc ?_, h⟩
      · unfold hTk; omega
      · rw [eA _ _ _ t4]
        simp only [yl_wR, yr_wR, if_true]
    · exact h.elim
theorem yAlen_ok (C : se_Cx p s m args meth c cc nL own ret) (hG : hGl g s) : se_Snd p l e R s m args below meth c Q nL (fun a => a) (yRM g H0) cc .arraylength 1 yAlen :=
  yLift (hAlen_ok C hG) fun st w K X hh hr hD h => by
    unfold yAlen at h
    split at h
    · rename_i a r
      obtain ⟨hc, h⟩ := h
      have ha := ((hr.1 a).2.2.2.2.1 hc.1 hc.2).2
      have e1 : ∀ t, (yA w.1 a t).1 = yl w.1 a := fun t => by unfold yA; split <;> rfl
      simp only [hAlen, ha, e1]
      exact ⟨w.1, hr, h⟩
    · exact h.elim
theorem yNew_ok {ins : Instr} {len mc ms ci N : Nat} (hO : se_Snd p l e R s m args below meth c Q nL (fun a => a) (hRM g H0) cc ins len (hNew mc ms ci N (yDf ci))) (hc : ci < 23) : se_Snd p l e R s m args below meth c Q nL (fun a => a) (yRM g H0) cc ins len (yNew mc ms ci N) :=
  yLift hO fun st w K X hh hr hD h => by
    obtain ⟨h1, h2, h⟩ := h
    exact ⟨h1, h2, ynw w.1 w.2.1 ci 0, yRl_new hr hD (.inl ⟨hc, by rw [yDf_e]⟩), h⟩
theorem yNewA_ok {ins : Instr} {len mc ms t : Nat} (hO : se_Snd p l e R s m args below meth c Q nL (fun a => a) (hRM g H0) cc ins len (hNewA mc ms t)) (ht : t < 8 ∧ t ≠ 4) : se_Snd p l e R s m args below meth c Q nL (fun a => a) (yRM g H0) cc ins len (yNewA mc ms t) :=
  yLift hO fun st w K X hh hr hD h => by
    unfold yNewA at h
    split at h
    · rename_i x r
      obtain ⟨h1, h2, h3, h4, h⟩ := h
      refine ⟨h1, h2, h3, h4, ynw w.1 w.2.1 (30 + t) x.toNatClampNeg, yRl_new hr hD (.inr (.inl ⟨by omega, by omega, by omega, ?_⟩)), h⟩
      rw [show 30 + t - 30 = t by omega]
      congr 2
      match t, ht with
      | 0, _ => simp only [hZero, yA, yl_nw, yi_nw, if_true]
      | 1, _ => simp only [hZero, yA, yl_nw, yi_nw, if_true]
      | 2, _ => simp only [hZero, yA, yl_nw, yi_nw, if_true]
      | 3, _ => simp only [hZero, yA, yl_nw, yj_nw, if_true]
      | n + 4, _ => simp only [hZero, yA, yl_nw, yr_nw, if_true]
    · exact h.elim
theorem yCast_ok (hO : se_Snd p l e R s m args below meth c Q nL (fun a => a) (hRM g H0) cc (.checkcast idx) 3 (hCast cs)) (hk : ∀ c ∈ cs, c < 23) : se_Snd p l e R s m args below meth c Q nL (fun a => a) (yRM g H0) cc (.checkcast idx) 3 (yCast cs) :=
  yLift hO fun st w K X hh hr hD h => by
    unfold yCast at h
    split at h
    · exact ⟨w.1, hr, h⟩
    · rename_i a r
      obtain ⟨hc, h⟩ := h
      simp only [hCast, (hr.1 a).1 (hk _ hc)]
      exact ⟨hc, w.1, hr, h⟩
    · exact h.elim
theorem yThrow_ok (C : se_Cx p s m args meth c cc nL own ret) (hG : hGl g s) : se_Snd p l e R s m args below meth c Q nL (fun a => a) (yRM g H0) cc .athrow 1 yThrow :=
  yLift (hThrow_ok C hG) fun st w K X hh hr hD h => by
    unfold yThrow at h
    split at h
    · rename_i a r
      obtain ⟨hc, h⟩ := h
      simp only [hThrow, (hr.1 a).1 (by omega)]
      exact ⟨hc, w.1, hr, h⟩
    · exact h.elim
end
/-! contracts over the typed memory -/
abbrev yPre : Type := hG → List Value → yM → Nat → Prop
abbrev yPost : Type := hG → List Value → yM → Nat → Option Value → yM → Nat → Prop
abbrev yPx : Type := hG → List Value → yM → Nat → Nat → yM → Nat → Prop
def yNoX : yPx := fun _ _ _ _ _ _ _ => False
def yH1 (pre : yPre) (m0 : yM) : hPre := fun g av h n => yRl g m0 h n ∧ pre g av m0 n
def yH2 (post : yPost) (m0 : yM) : hPost := fun g av _ n v h' n' => ∃ m', yRl g m' h' n' ∧ post g av m0 n v m' n'
def yH3 (px : yPx) (m0 : yM) : hPx := fun g av _ n a h' n' => ∃ m', yRl g m' h' n' ∧ px g av m0 n a m' n'
def yCon (l : Launch) (y : MethodName) (ws : List Cond) (fr lo mc ms : Nat) (pre : yPre) (post : yPost) (px : yPx) : Prop := ∀ m0 : yM, hCon l y ws fr lo mc ms (yH1 pre m0) (yH2 post m0) (yH3 px m0)
/-- the tables of a method -/
def yTS (l : Launch) (own nm : String) (cc : ByteArray) (nL : Nat) (ret : Option FieldType) (fr lo mc ms : Nat) (T : hG → Nat → Nat → se_Op yW) : Prop :=
  ∀ (g : hG) (p : Program) (e : Env) (s : State) (m : MethodId) (args : Array Value) (below : List Frame) (meth : Method) (c : Code) (Q : State → Prop) (H0 : Heap), se_Cx p s m args meth c cc nL own ret → meth.name = nm → hGl g s → hSt g s →
    ∀ k i, se_Snd p l e (hRoom fr lo mc ms) s m args below meth c Q nL (fun a => a) (yRM g H0) cc (se_ins k i).1 (se_ins k i).2 (T g k i)
def yRt (ret : Option FieldType) (mc ms : Nat) (post : Option Value → yM → Nat → Prop) : Option Value → yW → Prop := fun v w => se_nr ret v ∧ w.2.2.1 ≤ mc ∧ w.2.2.2 ≤ ms ∧ post v w.1 w.2.1
def yXt (mc ms : Nat) (px : Nat → yM → Nat → Prop) : Nat → se_L → Nat → yW → Prop := fun _ _ a w => w.2.2.1 ≤ mc ∧ w.2.2.2 ≤ ms ∧ px a w.1 w.2.1
theorem yOf {l : Launch} {y : MethodName} {own : String} {cc : ByteArray} {maxL : Nat} {ret : Option FieldType} {fr lo mc ms : Nat} {pre : yPre} {post : yPost} {px : yPx} {T : hG → Nat → Nat → se_Op yW} (hy : plainName y.cls = true) (hyc : y.cls = own)
    (hT : yTS l own y.name cc maxL ret fr lo mc ms T) (hlen : ∀ g av m n, pre g av m n → (se_el av).length ≤ maxL)
    (body : ∀ (g : hG) (av : List Value) (m : yM) (n : Nat), hVg g → yIn g m n → pre g av m n → ∀ G : Nat → se_L → List Value → yW → Prop, (∀ (stops : List Nat) (f pc : Nat) (L : se_L) (st : List Value) (w : yW), wpN True (T g) cc stops G (yXt mc ms (px g av m n)) (yRt ret mc ms (post g av m n)) f pc L st w → G pc L st w) → G 0 (se_ent av maxL) [] (m, n, 0, 0)) :
    yCon l y (ws_ y cc maxL ret) fr lo mc ms pre post px := by
  intro m0 g av h n hdom hpre
  obtain ⟨hrl, hpre⟩ := hpre
  refine vx_ofW (cc := cc) (maxL := maxL) (ret := ret) hy rfl ?_
  intro p e s m args below meth c s₁ B hml htab hv
  obtain ⟨rfl, hG, hS, hP⟩ := hv
  have hts0 := atoms_spec (ws := ws_ y cc maxL ret) B.pre
  have hts : ∀ w ∈ lw_all, w.before _ s = true := fun w h => hts0 w (List.mem_cons_of_mem _ h)
  have hown : s.vm.findClass own = some m.cls := hyc ▸ findClass_of_methodNamed B.named
  have hname : meth.name = y.name := (name_of_methodNamed B.named B.method).1
  have C : se_Cx p s m av.toArray meth c cc maxL own ret := ⟨⟨B.exec, B.bytes, hml, hown, hts⟩, B.notSynchronized, B.returns⟩
  have hl0 := se_lok_ent (fun a => a) (hlen g av m0 n hpre)
  rw [lg_entry_eq]
  rw [se_map_id] at hl0
  refine body g av m0 n hS.2.1 hrl.2.1 hpre _ (fun stops f pc L st w hw => wpN_ok C (fun _ a b e => e) (hT g p e s m _ below meth c _ s.heap C hname hG hS) (fun pc' L' a w' hx => ?_) ?_ stops f pc L st w hw) s.heap [] 0 0 _ ⟨h, hrl, rfl, rfl, hP, Nat.le_refl _, fun _ _ _ => rfl, fun _ h => (by cases h)⟩ hl0
  · intro H locs k q ls rest ce hM hl hcell hvm hcl
    obtain ⟨hh, hr', hM⟩ := hM
    obtain ⟨hx1, hx2, hx3⟩ := hx
    exact vx_out (fun x hx => (htab x hx).elim) B.notSynchronized hcell hvm hcl (fun t ht _ => ⟨rfl, hh, w'.2.1, ⟨w'.1, hr', hx3⟩, by rw [ht]; exact hM.2.2.1, va_F_of (H0 := s.heap) hM ht⟩) hM.2.2.2.2.2 (by rw [hM.1]; exact hx1) (by rw [hM.2.1]; exact hx2)
  · intro v w' hr
    refine ⟨hr.1, fun H locs k q hM => ?_⟩
    obtain ⟨hh, hr', hM⟩ := hM
    refine ⟨fun t ht hW => ⟨v, hh, w'.2.1, ?_, ⟨w'.1, hr', hr.2.2.2⟩, by rw [ht]; exact hM.2.2.1, va_F_of (H0 := s.heap) hM ht⟩, hM.2.2.2.2.2, by rw [hM.1]; exact hr.2.1, by rw [hM.2.1]; exact hr.2.2.1⟩
    cases v with
    | none => rfl
    | some z => rw [Option.map_some, se_cv_id]
def yRcv (cs : List Nat) (m : yM) (As : List Value) : Prop := match As with
  | .ref b :: _ => yc m b ∈ cs
  | _ => False
theorem yRcv_e {cs : List Nat} {m : yM} {As : List Value} (hr : yRcv cs m As) : ∃ b As', As = .ref b :: As' ∧ yc m b ∈ cs := by
  unfold yRcv at hr
  split at hr
  · rename_i b As'
    exact ⟨b, As', rfl, hr⟩
  · exact hr.elim
/-- what goes on behind a call -/
def yGo (g : hG) (mc ms mc' ms' : Nat) (pre : List Value → yM → Nat → Prop) (post : List Value → yM → Nat → Option Value → yM → Nat → Prop) (px : List Value → yM → Nat → Nat → yM → Nat → Prop) (As r : List Value) (w : yW) (K : List Value → yW → Prop) (X : Nat → yW → Prop) : Prop :=
  se_c8 8 r ∧ pre As w.1 w.2.1 ∧ w.2.2.1 + mc' ≤ mc ∧ w.2.2.2 + ms' ≤ ms ∧ (∀ v m' n', post As w.1 w.2.1 v m' n' → yIn g m' n' → w.2.1 ≤ n' → K (v.toList ++ r) (m', n', w.2.2.1 + mc', w.2.2.2 + ms')) ∧ (∀ a m' n', px As w.1 w.2.1 a m' n' → yIn g m' n' → w.2.1 ≤ n' → X a (m', n', w.2.2.1 + mc', w.2.2.2 + ms'))
theorem yGo_h {g : hG} {mc ms mc' ms' : Nat} {pre : yPre} {post : yPost} {px : yPx} {As r : List Value} {w : yW} {K : List Value → yW → Prop} {X : Nat → yW → Prop} {hh : hH} (hr : yRl g w.1 hh w.2.1) (h : yGo g mc ms mc' ms' (pre g) (post g) (px g) As r w K X) :
    hGo g mc ms mc' ms' (yH1 pre w.1 g) (yH2 post w.1 g) (yH3 px w.1 g) As r (hh, w.2) (fun st' w' => ∃ mm, yRl g mm w'.1 w'.2.1 ∧ K st' (mm, w'.2)) (fun a w' => ∃ mm, yRl g mm w'.1 w'.2.1 ∧ X a (mm, w'.2)) := by
  obtain ⟨h1, h2, h3, h4, h5, h6⟩ := h
  exact ⟨h1, ⟨hr, h2⟩, h3, h4, fun v h' n' ⟨m', q1, q2⟩ _ hn => ⟨m', q1, h5 v m' n' q2 q1.2.1 hn⟩, fun a h' n' ⟨m', q1, q2⟩ _ hn => ⟨m', q1, h6 a m' n' q2 q1.2.1 hn⟩⟩
def yCV (g : hG) (na mc ms mc' ms' : Nat) (cs : List Nat) (pre : yPre) (post : yPost) (px : yPx) : se_Op yW := fun st w K X => hPop (na + 1) [] st fun As r => yRcv cs w.1 As ∧ yGo g mc ms mc' ms' (pre g) (post g) (px g) As r w K X
def yCS (g : hG) (na mc ms mc' ms' : Nat) (pre : yPre) (post : yPost) (px : yPx) : se_Op yW := fun st w K X => hPop na [] st fun As r => yGo g mc ms mc' ms' (pre g) (post g) (px g) As r w K X
theorem hPop_mono {P Q : List Value → List Value → Prop} (hPQ : ∀ As r, P As r → Q As r) : ∀ {n : Nat} {acc st : List Value}, hPop n acc st P → hPop n acc st Q := by
  intro n
  induction n with
  | zero => intro acc st h; exact hPQ _ _ h
  | succ n ih =>
    intro acc st h
    cases st with
    | nil => exact h.elim
    | cons v st => exact ih h
section
variable {p : Program} {l : Launch} {e : Env} {R : Room} {s : State} {m : MethodId} {args : Array Value} {below : List Frame} {meth : Method} {c : Code} {nL : Nat} {cc : ByteArray} {ret : Option FieldType} {Q : State → Prop} {g : hG} {H0 : Heap} {idx na fr lo mc ms fr' lo' mc' ms' maxL' : Nat} {own : String}
variable {y : MethodName} {cc' : ByteArray} {ret' : Option FieldType} {pre : yPre} {post : yPost} {px : yPx} {cs : List Nat}
/-- .. where the heap's operation may hang on the memory ahead of it -/
theorem yLiftD {ins : Instr} {len : Nat} {O : yM → se_Op hW} {yO : se_Op yW} (hO : ∀ m0, se_Snd p l e R s m args below meth c Q nL (fun a => a) (hRM g H0) cc ins len (O m0))
    (h : ∀ st (w : yW) K X hh, yRl g w.1 hh w.2.1 → hDom g hh w.2.1 → yO st w K X → O w.1 st (hh, w.2) (fun st' w' => ∃ mm, yRl g mm w'.1 w'.2.1 ∧ K st' (mm, w'.2)) (fun a w' => ∃ mm, yRl g mm w'.1 w'.2.1 ∧ X a (mm, w'.2))) :
    se_Snd p l e R s m args below meth c Q nL (fun a => a) (yRM g H0) cc ins len yO := by
  intro pc L st w K X hd hK hX hx
  exact yLift (g := g) (H0 := H0) (R := R) (O := O w.1) (yO := fun st' w' K' X' => w'.1 = w.1 ∧ yO st' w' K' X') (hO w.1) (fun st' w' K' X' hh hr hD h' => h'.1 ▸ h st' w' K' X' hh hr hD h'.2) pc L st w K X hd hK hX ⟨rfl, hx⟩
theorem yCV_ok (hO : ∀ m0, se_Snd p l e R s m args below meth c Q nL (fun a => a) (hRM g H0) cc (.invokevirtual idx) 3 (hCV g na mc ms mc' ms' cs (yH1 pre m0) (yH2 post m0) (yH3 px m0))) (hk : ∀ c ∈ cs, c < 23) :
    se_Snd p l e R s m args below meth c Q nL (fun a => a) (yRM g H0) cc (.invokevirtual idx) 3 (yCV g na mc ms mc' ms' cs pre post px) :=
  yLiftD hO fun st w K X hh hr hD h => by
    refine hPop_mono (fun As r ⟨h1, h2⟩ => ⟨?_, yGo_h hr h2⟩) h
    obtain ⟨b, As', rfl, hb⟩ := yRcv_e h1
    simp only [hRcv, (hr.1 b).1 (hk _ hb)]
    exact hb
theorem yCS_ok {ins : Instr} (hO : ∀ m0, se_Snd p l e R s m args below meth c Q nL (fun a => a) (hRM g H0) cc ins 3 (hCS g na mc ms mc' ms' (yH1 pre m0) (yH2 post m0) (yH3 px m0))) :
    se_Snd p l e R s m args below meth c Q nL (fun a => a) (yRM g H0) cc ins 3 (yCS g na mc ms mc' ms' pre post px) :=
  yLiftD hO fun st w K X hh hr hD h => hPop_mono (fun As r h2 => yGo_h hr h2) h
def yObj : se_Op yW := fun st w K _ => match st with
  | .ref _ :: r => se_c8 8 r ∧ K r w
  | _ => False
theorem yObj_ok (hO : se_Snd p l e R s m args below meth c Q nL (fun a => a) (hRM g H0) cc (.invokespecial idx) 3 hObj) : se_Snd p l e R s m args below meth c Q nL (fun a => a) (yRM g H0) cc (.invokespecial idx) 3 yObj :=
  yLift hO fun st w K X hh hr hD h => by
    unfold yObj at h
    split at h
    · rename_i a r
      simp only [hObj]
      exact ⟨h.1, w.1, hr, h.2⟩
    · exact h.elim
end
/-! calls of inherited, overriding and private methods -/
/-- a virtual call's run, for receivers of class C -/
def hRunV (p : Program) (l : Launch) (e : Env) (R : Room) (s : State) (m : MethodId) (args : Array Value) (below : List Frame) (meth : Method) (c : Code) (nL : Nat) (cc : ByteArray) (own C : String) (y : MethodName) (ws : List Cond) (rm : Room) (na idx mc' ms' : Nat) : Prop :=
  ∀ (H : Heap) (locs : List Loc) (k q pc : Nat) (ls : Array Slot) (b : Addr) (As rest : List Value) (Pc : Array Value → State → Prop) (Qc : Array Value → State → Outcome → State → Prop) (XC : String → Nat → State → State → Prop) (free : Addr → Prop),
    CallFix p m c cc nL s args lw_all own → vx_Met l y ws rm Pc Qc XC mc' ms' free → PreV s H C b Pc As → As.length = na → ls.size = nL → 2 * (F0 m pc ls (As.reverse ++ .ref b :: rest)).monitorRoom + (rest.map fun v => v.category).sum ≤ 8 → decode cc pc = .ok (.invokevirtual idx, 3) → k + mc' ≤ R.cells ∧ q + ms' ≤ R.slots →
    vx_Run p l e R s m args below meth c H locs k q mc' ms' (F0 m pc ls (As.reverse ++ .ref b :: rest)) rest (Qc (Value.ref b :: As).toArray) XC free
section
variable {p : Program} {l : Launch} {e : Env} {R : Room} {s : State} {m : MethodId} {args : Array Value} {below : List Frame} {meth : Method} {c : Code} {nL : Nat} {cc : ByteArray} {ret : Option FieldType} {Q : State → Prop} {g : hG} {H0 : Heap} {idx na fr lo mc ms fr' lo' mc' ms' maxL' : Nat} {own : String}
variable {x y : MethodName} {cc' : ByteArray} {ret' : Option FieldType} {pre : hPre} {post : hPost} {px : hPx} {owner C : String}
theorem hRunV_V (hts : ∀ w ∈ lw_all, w.before args s = true)
    (h1 : Cond.methodLink own idx y ∈ lw_all) (h2 : Cond.instanceMethod y ∈ lw_all) (h3 : Cond.selects C y y ∈ lw_all) (h4 : Cond.initialized C ∈ lw_all) (h5 : Cond.code y cc' maxL' ret' ∈ lw_all)
    (hd0 : y.cls = C ∧ y.cls ≠ "java/lang/invoke/MethodHandle" ∧ y.cls ≠ "java/lang/invoke/VarHandle" ∧ (parseMethodDescriptor y.desc).map (fun d => d.parameters.length) = some na) (hR : fr' + 1 ≤ fr ∧ 8 + (maxL' + 11) + lo' ≤ lo) :
    hRunV p l e (hRoom fr lo mc ms) s m args below meth c nL cc own C y (ws_ y cc' maxL' ret') (hRoom fr' lo' mc' ms') na idx mc' ms' :=
  fun H locs k q pc ls b As rest Pc Qc XC free S hM hp hna hls hW hd hf => vx_runV S hM (cwV (R := hRoom fr lo mc ms) (rm := hRoom fr' lo' mc' ms') na hts (lw_V h1 h2 h3 h4 h5) rfl rfl rfl hd0 hR) hp rfl hna hls rfl hW hd hf
theorem lw_U (h1 : Cond.methodLink own idx x ∈ lw_all) (h0 : Cond.sameMethod x.cls owner x.name x.desc ∈ lw_all) (h3 : Cond.selects C x y ∈ lw_all) (h2 : Cond.instanceMethod y ∈ lw_all) (h4 : Cond.initialized y.cls ∈ lw_all) (h5 : Cond.code y cc' maxL' ret' ∈ lw_all) : GoodIn lw_all (va_wsU own idx C owner x y (ws_ y cc' maxL' ret')) := by
  refine lw_app ?_ (lw_meth h5)
  intro w hw
  simp only [List.mem_cons, List.not_mem_nil, or_false] at hw
  rcases hw with e | e | e | e | e
  · rw [e]; exact h1
  · rw [e]; exact h0
  · rw [e]; exact h3
  · rw [e]; exact h2
  · rw [e]; exact h4
/-- an inherited method: x is what the pool names, y what is run -/
theorem hRunV_U (hts : ∀ w ∈ lw_all, w.before args s = true)
    (h1 : Cond.methodLink own idx x ∈ lw_all) (h0 : Cond.sameMethod x.cls owner x.name x.desc ∈ lw_all) (h3 : Cond.selects C x y ∈ lw_all) (h2 : Cond.instanceMethod y ∈ lw_all) (h4 : Cond.initialized y.cls ∈ lw_all) (h5 : Cond.code y cc' maxL' ret' ∈ lw_all) (hyx : y = ⟨owner, x.name, x.desc⟩)
    (hd0 : owner ≠ "java/lang/invoke/MethodHandle" ∧ owner ≠ "java/lang/invoke/VarHandle" ∧ (parseMethodDescriptor x.desc).map (fun d => d.parameters.length) = some na) (hR : fr' + 1 ≤ fr ∧ 8 + (maxL' + 11) + lo' ≤ lo) :
    hRunV p l e (hRoom fr lo mc ms) s m args below meth c nL cc own C y (ws_ y cc' maxL' ret') (hRoom fr' lo' mc' ms') na idx mc' ms' :=
  fun H locs k q pc ls b As rest Pc Qc XC free S hM hp hna hls hW hd hf => vx_runU S hM (va_cwU (R := hRoom fr lo mc ms) (rm := hRoom fr' lo' mc' ms') na hts (lw_U h1 h0 h3 h2 h4 h5) rfl rfl rfl hyx hd0 hR) hp rfl hna hls rfl hW hd hf
/-- what the pool names has no code -/
theorem hRunV_A (hts : ∀ w ∈ lw_all, w.before args s = true) (hG : hGl g s)
    (h1 : Cond.methodLink own idx x ∈ lw_all) (h0 : Cond.sameMethod x.cls owner x.name x.desc ∈ lw_all) (h3 : Cond.selects C x y ∈ lw_all) (h2 : Cond.instanceMethod y ∈ lw_all) (h4 : Cond.initialized y.cls ∈ lw_all) (h5 : Cond.code y cc' maxL' ret' ∈ lw_all) (hz : va_Nw (.declares ⟨owner, x.name, x.desc⟩) s)
    (hd0 : owner ≠ "java/lang/invoke/MethodHandle" ∧ owner ≠ "java/lang/invoke/VarHandle" ∧ (parseMethodDescriptor x.desc).map (fun d => d.parameters.length) = some na) (hR : fr' + 1 ≤ fr ∧ 8 + (maxL' + 11) + lo' ≤ lo) :
    hRunV p l e (hRoom fr lo mc ms) s m args below meth c nL cc own C y (ws_ y cc' maxL' ret') (hRoom fr' lo' mc' ms') na idx mc' ms' :=
  fun H locs k q pc ls b As rest Pc Qc XC free S hM hp hna hls hW hd hf => vx_runU S hM (va_cwA (R := hRoom fr lo mc ms) (rm := hRoom fr' lo' mc' ms') na hts (lw_U h1 h0 h3 h2 h4 h5) rfl rfl rfl hz hd0 hR) hp rfl hna hls rfl hW hd hf
/-- a nest mate's private method -/
theorem hRunV_N {host : String} (hts : ∀ w ∈ lw_all, w.before args s = true) (hl : va_Nw (.methodLinkNest own idx y host) s)
    (h2 : Cond.instanceMethod y ∈ lw_all) (h3 : Cond.selects C y y ∈ lw_all) (h4 : Cond.initialized y.cls ∈ lw_all) (h5 : Cond.code y cc' maxL' ret' ∈ lw_all)
    (hd0 : y.cls ≠ "java/lang/invoke/MethodHandle" ∧ y.cls ≠ "java/lang/invoke/VarHandle" ∧ (parseMethodDescriptor y.desc).map (fun d => d.parameters.length) = some na) (hR : fr' + 1 ≤ fr ∧ 8 + (maxL' + 11) + lo' ≤ lo) :
    hRunV p l e (hRoom fr lo mc ms) s m args below meth c nL cc own C y (ws_ y cc' maxL' ret') (hRoom fr' lo' mc' ms') na idx mc' ms' :=
  fun H locs k q pc ls b As rest Pc Qc XC free S hM hp hna hls hW hd hf => vx_runVN S hM ⟨va_cnB (R := hRoom fr lo mc ms) (rm := hRoom fr' lo' mc' ms') na hts (lw_meth h5) rfl rfl rfl hl (hts _ h4) hd0 hR, hts _ h2, hts _ h3⟩ hp rfl hna hls rfl hW hd hf
/-- a virtual call, whatever its kind, for receivers of the classes -/
theorem hCVG_ok {cs : List Nat} (hM : hCon l y (ws_ y cc' maxL' ret') fr' lo' mc' ms' pre post px)
    (hrun : ∀ ci ∈ cs, ∃ r0, hCl[ci]? = some r0 ∧ hRunV p l e (hRoom fr lo mc ms) s m args below meth c nL cc own r0.1 y (ws_ y cc' maxL' ret') (hRoom fr' lo' mc' ms') na idx mc' ms')
    (C : se_Cx p s m args meth c cc nL own ret) (hG : hGl g s) (hS : hSt g s) : se_Snd p l e (hRoom fr lo mc ms) s m args below meth c Q nL (fun a => a) (hRM g H0) cc (.invokevirtual idx) 3 (hCV g na mc ms mc' ms' cs pre post px) := by
  intro pc L st w K X hd hK hX h
  obtain ⟨As0, r, rfl, hn0, hrcv, h8, hpre, hk1, hk2, g1, g2⟩ := hPop_e h
  rw [List.append_nil] at hrcv hpre g1 g2
  obtain ⟨b, o, As, rfl, hb0, hoc⟩ := hRcv_e hrcv
  obtain ⟨r0, hci, hrun⟩ := hrun _ hoc
  intro H locs k q ls hMM hl
  obtain ⟨⟨hx, hb, hml, hown, hts⟩, hlk, hrt⟩ := C
  obtain ⟨cell, q1, q2, q3⟩ := hRecv hG hMM hb0 hci
  have hna : As.length = na := by simpa using hn0
  rw [se_map_id]
  refine hFin (K := K) (X := X) (post := post g (.ref b :: As) w.1 w.2.1) (px := px g (.ref b :: As) w.1 w.2.1) ?_ hMM hl hK hX g1 g2
  have hst : (Value.ref b :: As).reverse ++ r = As.reverse ++ .ref b :: r := by simp
  rw [hst]
  exact hrun H locs k q pc ls b As r _ _ _ _ ⟨hx, hb, hml, hown, hts⟩ (hM g (.ref b :: As) w.1 w.2.1 hMM.2.2.1.dom hpre)
    ⟨hBlind g _ _ _, ⟨cell, q1, by rw [q2]; rfl, q3⟩, fun U hU hW => ⟨rfl, hG.moved hW, hS.moved hW, by rw [hU]; exact hMM.2.2.1⟩⟩
    hna hl.1.1 (lv_room (by have := se_c8_le (fun a => a) 8 r h8; rwa [se_map_id] at this)) hd ⟨by rw [hMM.1]; exact hk1, by rw [hMM.2.1]; exact hk2⟩
/-- a nest mate's static method -/
theorem hCSN_ok {host : String} (hM : hCon l y (ws_ y cc' maxL' ret') fr' lo' mc' ms' pre post px) (hl : va_Nw (.methodLinkNest own idx y host) s)
    (h2 : Cond.static y ∈ lw_all) (h3 : Cond.initialized y.cls ∈ lw_all) (h5 : Cond.code y cc' maxL' ret' ∈ lw_all)
    (hd0 : y.cls ≠ "java/lang/invoke/MethodHandle" ∧ y.cls ≠ "java/lang/invoke/VarHandle" ∧ (parseMethodDescriptor y.desc).map (fun d => d.parameters.length) = some na) (hR : fr' + 1 ≤ fr ∧ 8 + (maxL' + 11) + lo' ≤ lo)
    (C : se_Cx p s m args meth c cc nL own ret) (hG : hGl g s) (hS : hSt g s) : se_Snd p l e (hRoom fr lo mc ms) s m args below meth c Q nL (fun a => a) (hRM g H0) cc (.invokestatic idx) 3 (hCS g na mc ms mc' ms' pre post px) := by
  intro pc L st w K X hd hK hX h
  obtain ⟨As, r, rfl, hna, h8, hpre, hk1, hk2, g1, g2⟩ := hPop_e h
  rw [List.append_nil] at hpre g1 g2
  intro H locs k q ls hMM hl'
  obtain ⟨⟨hx, hb, hml, hown, hts⟩, hlk, hrt⟩ := C
  rw [se_map_id]
  refine hFin (K := K) (X := X) (post := post g As w.1 w.2.1) (px := px g As w.1 w.2.1) ?_ hMM hl' hK hX g1 g2
  exact vx_runSN (As := As) (rest := r) ⟨hx, hb, hml, hown, hts⟩ (hM g As w.1 w.2.1 hMM.2.2.1.dom hpre)
    ⟨va_cnB (R := hRoom fr lo mc ms) (rm := hRoom fr' lo' mc' ms') na hts (lw_meth h5) rfl rfl rfl hl (hts _ h3) hd0 hR, hts _ h2, trivial⟩
    ⟨hBlind g _ _ _, fun U hU hW => ⟨rfl, hG.moved hW, hS.moved hW, by rw [hU]; exact hMM.2.2.1⟩⟩
    rfl hna hl'.1.1 rfl (lv_room (by have := se_c8_le (fun a => a) 8 r h8; rwa [se_map_id] at this)) hd ⟨by rw [hMM.1]; exact hk1, by rw [hMM.2.1]; exact hk2⟩
/-- a nest mate's private constructor -/
theorem hCIN_ok {host : String} (hM : hCon l y (ws_ y cc' maxL' none) fr' lo' mc' ms' pre post px) (hp0 : ∀ g As h n, pre g As h n → ∃ b As', As = .ref b :: As') (hl : va_Nw (.methodLinkNest own idx y host) s)
    (h2 : Cond.instanceMethod y ∈ lw_all) (h3 : Cond.initialized y.cls ∈ lw_all) (h5 : Cond.code y cc' maxL' none ∈ lw_all) (hnm : y.name = "<init>")
    (hd0 : y.cls ≠ "java/lang/invoke/MethodHandle" ∧ y.cls ≠ "java/lang/invoke/VarHandle" ∧ (parseMethodDescriptor y.desc).map (fun d => d.parameters.length) = some na) (hR : fr' + 1 ≤ fr ∧ 8 + (maxL' + 11) + lo' ≤ lo)
    (C : se_Cx p s m args meth c cc nL own ret) (hG : hGl g s) (hS : hSt g s) : se_Snd p l e (hRoom fr lo mc ms) s m args below meth c Q nL (fun a => a) (hRM g H0) cc (.invokespecial idx) 3 (hCS g (na + 1) mc ms mc' ms' pre post px) := by
  intro pc L st w K X hd hK hX h
  obtain ⟨As0, r, rfl, hn0, h8, hpre, hk1, hk2, g1, g2⟩ := hPop_e h
  rw [List.append_nil] at hpre g1 g2
  obtain ⟨b, As, rfl⟩ := hp0 _ _ _ _ hpre
  intro H locs k q ls hMM hl'
  obtain ⟨⟨hx, hb, hml, hown, hts⟩, hlk, hrt⟩ := C
  have hna : As.length = na := by simpa using hn0
  rw [se_map_id]
  refine hFin (K := K) (X := X) (post := post g (.ref b :: As) w.1 w.2.1) (px := px g (.ref b :: As) w.1 w.2.1) ?_ hMM hl' hK hX g1 g2
  exact vx_runIN (As := As) (rest := r) (b := b) ⟨hx, hb, hml, hown, hts⟩ (hM g (.ref b :: As) w.1 w.2.1 hMM.2.2.1.dom hpre)
    ⟨va_cnB (R := hRoom fr lo mc ms) (rm := hRoom fr' lo' mc' ms') na hts (lw_meth h5) rfl rfl rfl hl (hts _ h3) hd0 hR, hnm, hts _ h2⟩
    ⟨hBlind g _ _ _, fun U hU hW => ⟨rfl, hG.moved hW, hS.moved hW, by rw [hU]; exact hMM.2.2.1⟩⟩
    rfl hna hl'.1.1 (by simp) (lv_room (by have := se_c8_le (fun a => a) 8 r h8; rwa [se_map_id] at this)) hd ⟨by rw [hMM.1]; exact hk1, by rw [hMM.2.1]; exact hk2⟩
end
/-! what is read of the fixed part -/
def hGst (g : hG) (i : Nat) : se_Op hW := fun st w K _ => K (gV g i :: st) w
def hLdc (q : Nat) : se_Op hW := fun st w K _ => K (.ref q :: st) w
/-- a text's bytes, its coder -/
def hTxV (g : hG) : se_Op hW := fun st w K _ => match st with
  | .ref a :: r => ∃ i, i < 29 ∧ a = gTx g i ∧ K (.ref (gTb g i) :: r) w
  | _ => False
def hTxC (g : hG) : se_Op hW := fun st w K _ => match st with
  | .ref a :: r => ∃ i, i < 29 ∧ a = gTx g i ∧ K (.int 0 :: r) w
  | _ => False
def hTxB (g : hG) : se_Op hW := fun st w K _ => match st with
  | .int j :: .ref a :: r => ∃ i, i < 29 ∧ a = gTb g i ∧ vp_in j (hLen.getD i 0) ∧ K (.int ((hByt.getD i []).getD j.toNatClampNeg 0) :: r) w
  | _ => False
def hTxL (g : hG) : se_Op hW := fun st w K _ => match st with
  | .ref a :: r => ∃ i, i < 29 ∧ a = gTb g i ∧ K (.int (nI (hLen.getD i 0)) :: r) w
  | _ => False
/-- a fixed array of texts: its length, its elements -/
def hFxn (k : Nat) : List Nat := match k with
  | 2 => hKept
  | 3 => hOnce
  | _ => hWds
def hFxL (g : hG) : se_Op hW := fun st w K _ => match st with
  | .ref a :: r => ∃ k, 2 ≤ k ∧ k < 5 ∧ a = gSa g k ∧ K (.int (nI (hFxn k).length) :: r) w
  | _ => False
def hFxA (g : hG) : se_Op hW := fun st w K _ => match st with
  | .int j :: .ref a :: r => ∃ k, 2 ≤ k ∧ k < 5 ∧ a = gSa g k ∧ vp_in j (hFxn k).length ∧ K (.ref (gTx g ((hFxn k).getD j.toNatClampNeg 0)) :: r) w
  | _ => False
/-- the empty array of a new list: its length -/
def hEmL (g : hG) : se_Op hW := fun st w K _ => match st with
  | .ref a :: r => a = gSa g 0 ∧ K (.int 0 :: r) w
  | _ => False
/-- the cache of boxed ints, a box's value -/
def hBxA (g : hG) : se_Op hW := fun st w K _ => match st with
  | .int j :: .ref a :: r => a = gSa g 1 ∧ vp_in j 256 ∧ K (.ref (gBx g j.toNatClampNeg) :: r) w
  | _ => False
def hBxV (g : hG) : se_Op hW := fun st w K _ => match st with
  | .ref a :: r => ∃ i, i < 256 ∧ a = gBx g i ∧ K (.int (vb_c i) :: r) w
  | _ => False
section
variable {p : Program} {l : Launch} {e : Env} {R : Room} {s : State} {m : MethodId} {args : Array Value} {below : List Frame} {meth : Method} {c : Code} {nL : Nat} {cc : ByteArray} {ret : Option FieldType} {Q : State → Prop} {g : hG} {H0 : Heap} {idx : Nat} {own : String}
theorem hLow {w : hW} {H : Heap} {locs : List Loc} {k q : Nat} (hM : hRM g H0 w H locs k q) : ∀ a, a < (gH g).size → ¬ gW g a → H[a]? = (gH g)[a]? := hM.2.2.1.2.2.2.1
theorem hGst_ok {i : Nat} {x : String × String × String} (hx : hStat[i]? = some x) (hl : Cond.fieldLink own idx x.1 x.2.1 x.2.2 ∈ lw_all ∨ ∃ host, Cond.fieldLinkNest own idx x.1 x.2.1 x.2.2 host ∈ lw_tbl) (C : se_Cx p s m args meth c cc nL own ret) (hG : hGl g s) (hS : hSt g s) : se_Snd p l e R s m args below meth c Q nL (fun a => a) (hRM g H0) cc (.getstatic idx) 3 (hGst g i) := by
  intro pc L st w K X hd hK hX h H locs k q ls hM hl'
  obtain ⟨⟨hxx, hb, hml, hown, hts⟩, hlk, hrt⟩ := C
  obtain ⟨cf, kf, fi, f, a, cell, h1, h2, h3, h4, h5, h6, h7, h8⟩ := hS.1 i x hx
  have kk := hK _ _ h H locs k q ls hM hl'
  rw [se_map_id] at kk ⊢
  have hc := (hLow hM a (Array.getElem?_eq_some_iff.mp h5).1 h8).trans h5
  rcases hl with hl | ⟨host, hl⟩
  · exact W.gets hxx hb hown (hts _ hl) h1 h2 h3 h4 hc (fun e => by rw [e] at h6; cases h6) h7 rfl hd kk
  · exact va_WgetsN hxx hb hown (va_Nw.use rfl (hG.2.2.1 _ hl rfl)) h1 h2 h3 h4 hc (fun e => by rw [e] at h6; cases h6) h7 rfl hd kk
theorem hLdc_ok {x : String × Nat × String × Nat} (hx : x ∈ hStrs) (h0 : x.1 = own ∧ x.2.1 = idx) (C : se_Cx p s m args meth c cc nL own ret) (hS : hSt g s) : se_Snd p l e R s m args below meth c Q nL (fun a => a) (hRM g H0) cc (.ldc idx) 2 (hLdc (gTx g x.2.2.2)) := by
  intro pc L st w K X hd hK hX h H locs k q ls hM hl'
  obtain ⟨⟨hxx, hb, hml, hown, hts⟩, hlk, hrt⟩ := C
  obtain ⟨rfl, rfl⟩ := h0
  have kk := hK _ _ h H locs k q ls hM hl'
  rw [se_map_id] at kk ⊢
  exact va_ldcS hxx hb hown (hS.2.2.2.2.2.2.2.2.2 x hx) hd kk
theorem hTxV_ok (hl : Cond.fieldLink own idx "java/lang/String" "value" "[B" ∈ lw_all) (C : se_Cx p s m args meth c cc nL own ret) (hS : hSt g s) : se_Snd p l e R s m args below meth c Q nL (fun a => a) (hRM g H0) cc (.getfield idx) 3 (hTxV g) := by
  intro pc L st w K X hd hK hX h H locs k q ls hM hl'
  obtain ⟨⟨hxx, hb, hml, hown, hts⟩, hlk, hrt⟩ := C
  unfold hTxV at h
  split at h
  · rename_i a r
    obtain ⟨i, hi, rfl, h⟩ := h
    have kk := hK _ _ h H locs k q ls hM hl'
    rw [se_map_id] at kk ⊢
    obtain ⟨cf, k9, fi, f, cell, h1, h2, h3, h4, h5, h6⟩ := (hS.2.2.2.2.2.2.2.2.1.1 i hi).2.2.1.kept (hLow hM)
    exact W.getf hxx hb hown (hts _ hl) h1 h2 h3 h4 (v := .ref (gTb g i)) h5 rfl rfl hd kk
  · exact h.elim
theorem hTxC_ok (hl : Cond.fieldLink own idx "java/lang/String" "coder" "B" ∈ lw_all) (C : se_Cx p s m args meth c cc nL own ret) (hS : hSt g s) : se_Snd p l e R s m args below meth c Q nL (fun a => a) (hRM g H0) cc (.getfield idx) 3 (hTxC g) := by
  intro pc L st w K X hd hK hX h H locs k q ls hM hl'
  obtain ⟨⟨hxx, hb, hml, hown, hts⟩, hlk, hrt⟩ := C
  unfold hTxC at h
  split at h
  · rename_i a r
    obtain ⟨i, hi, rfl, h⟩ := h
    have kk := hK _ _ h H locs k q ls hM hl'
    rw [se_map_id] at kk ⊢
    obtain ⟨cf, k9, fi, f, cell, h1, h2, h3, h4, h5, h6⟩ := (hS.2.2.2.2.2.2.2.2.1.1 i hi).2.1.kept (hLow hM)
    exact W.getf hxx hb hown (hts _ hl) h1 h2 h3 h4 (v := .int 0) h5 rfl rfl hd kk
  · exact h.elim
theorem hTxB_ok (C : se_Cx p s m args meth c cc nL own ret) (hS : hSt g s) : se_Snd p l e R s m args below meth c Q nL (fun a => a) (hRM g H0) cc .baload 1 (hTxB g) := by
  intro pc L st w K X hd hK hX h H locs k q ls hM hl'
  obtain ⟨⟨hxx, hb, hml, hown, hts⟩, hlk, hrt⟩ := C
  unfold hTxB at h
  split at h
  · rename_i j a r
    obtain ⟨i, hi, rfl, hin, h⟩ := h
    have kk := hK _ _ h H locs k q ls hM hl'
    rw [se_map_id] at kk ⊢
    obtain ⟨cell, h1, h2, h3, h4, h5, h6, h7⟩ := (hS.2.2.2.2.2.2.2.2.1.1 i hi).2.2.2.kept (hLow hM)
    have hlt : j.toNatClampNeg < hLen.getD i 0 := Nat.not_le.mp fun q => hin (Or.inr q)
    have hin' : ¬ (j < 0 ∨ cell.slots.size ≤ j.toNatClampNeg) := by
      intro q
      rcases q with q | q
      · exact hin (Or.inl q)
      · omega
    exact W.bald (v := .int ((hByt.getD i []).getD j.toNatClampNeg 0)) hxx hb h1 h2 h3 hin' (h6 _ hlt) rfl rfl hd kk
  · exact h.elim
theorem hTxL_ok (C : se_Cx p s m args meth c cc nL own ret) (hS : hSt g s) : se_Snd p l e R s m args below meth c Q nL (fun a => a) (hRM g H0) cc .arraylength 1 (hTxL g) := by
  intro pc L st w K X hd hK hX h H locs k q ls hM hl'
  obtain ⟨⟨hxx, hb, hml, hown, hts⟩, hlk, hrt⟩ := C
  unfold hTxL at h
  split at h
  · rename_i a r
    obtain ⟨i, hi, rfl, h⟩ := h
    have kk := hK _ _ h H locs k q ls hM hl'
    rw [se_map_id] at kk ⊢
    obtain ⟨cell, h1, h2, h3, h4, h5, h6, h7⟩ := (hS.2.2.2.2.2.2.2.2.1.1 i hi).2.2.2.kept (hLow hM)
    exact W.alen (n := Int32.ofNat (hLen.getD i 0)) hxx hb h1 h2 h5 rfl rfl hd kk
  · exact h.elim
theorem hSt_fx (hS : hSt g s) {k : Nat} (h2 : 2 ≤ k) (h5 : k < 5) : va_T (.object "java/lang/String") (gSa g k) (hFxn k).length (fun j => .ref (gTx g ((hFxn k).getD j 0))) (gW g) s (gH g) := by
  match k, h2, h5 with
  | 2, _, _ => exact hS.2.2.2.2.1
  | 3, _, _ => exact hS.2.2.2.2.2.1
  | 4, _, _ => exact hS.2.2.2.2.2.2.1
theorem hFxL_ok (C : se_Cx p s m args meth c cc nL own ret) (hS : hSt g s) : se_Snd p l e R s m args below meth c Q nL (fun a => a) (hRM g H0) cc .arraylength 1 (hFxL g) := by
  intro pc L st w K X hd hK hX h H locs k q ls hM hl'
  obtain ⟨⟨hxx, hb, hml, hown, hts⟩, hlk, hrt⟩ := C
  unfold hFxL at h
  split at h
  · rename_i a r
    obtain ⟨k0, k1, k2, rfl, h⟩ := h
    have kk := hK _ _ h H locs k q ls hM hl'
    rw [se_map_id] at kk ⊢
    obtain ⟨cell, h1, h2, h3, h4, h5, h6, h7⟩ := (hSt_fx hS k1 k2).kept (hLow hM)
    exact W.alen (n := Int32.ofNat (hFxn k0).length) hxx hb h1 h2 h5 rfl rfl hd kk
  · exact h.elim
theorem hFxA_ok (C : se_Cx p s m args meth c cc nL own ret) (hS : hSt g s) : se_Snd p l e R s m args below meth c Q nL (fun a => a) (hRM g H0) cc .aaload 1 (hFxA g) := by
  intro pc L st w K X hd hK hX h H locs k q ls hM hl'
  obtain ⟨⟨hxx, hb, hml, hown, hts⟩, hlk, hrt⟩ := C
  unfold hFxA at h
  split at h
  · rename_i j a r
    obtain ⟨k0, k1, k2, rfl, hin, h⟩ := h
    have kk := hK _ _ h H locs k q ls hM hl'
    rw [se_map_id] at kk ⊢
    obtain ⟨cell, h1, h2, h3, h4, h5, h6, h7⟩ := (hSt_fx hS k1 k2).kept (hLow hM)
    have hlt : j.toNatClampNeg < (hFxn k0).length := Nat.not_le.mp fun q => hin (Or.inr q)
    have hin' : ¬ (j < 0 ∨ cell.slots.size ≤ j.toNatClampNeg) := by
      intro q
      rcases q with q | q
      · exact hin (Or.inl q)
      · omega
    exact W.aald (v := .ref (gTx g ((hFxn k0).getD j.toNatClampNeg 0))) (ty := .object "java/lang/String") hxx hb h1 h2 rfl h3 hin' (h6 _ hlt) rfl rfl hd kk
  · exact h.elim
theorem hEmL_ok (C : se_Cx p s m args meth c cc nL own ret) (hS : hSt g s) : se_Snd p l e R s m args below meth c Q nL (fun a => a) (hRM g H0) cc .arraylength 1 (hEmL g) := by
  intro pc L st w K X hd hK hX h H locs k q ls hM hl'
  obtain ⟨⟨hxx, hb, hml, hown, hts⟩, hlk, hrt⟩ := C
  unfold hEmL at h
  split at h
  · rename_i a r
    obtain ⟨rfl, h⟩ := h
    have kk := hK _ _ h H locs k q ls hM hl'
    rw [se_map_id] at kk ⊢
    obtain ⟨cell, h1, h2, h3, h4, h5, h6, h7⟩ := hS.2.2.1.kept (hLow hM)
    exact W.alen (n := Int32.ofNat 0) hxx hb h1 h2 h5 rfl rfl hd kk
  · exact h.elim
theorem hBxA_ok (C : se_Cx p s m args meth c cc nL own ret) (hS : hSt g s) : se_Snd p l e R s m args below meth c Q nL (fun a => a) (hRM g H0) cc .aaload 1 (hBxA g) := by
  intro pc L st w K X hd hK hX h H locs k q ls hM hl'
  obtain ⟨⟨hxx, hb, hml, hown, hts⟩, hlk, hrt⟩ := C
  unfold hBxA at h
  split at h
  · rename_i j a r
    obtain ⟨rfl, hin, h⟩ := h
    have kk := hK _ _ h H locs k q ls hM hl'
    rw [se_map_id] at kk ⊢
    obtain ⟨cell, h1, h2, h3, h4, h5, h6, h7⟩ := hS.2.2.2.1.kept (hLow hM)
    have hlt : j.toNatClampNeg < 256 := Nat.not_le.mp fun q => hin (Or.inr q)
    have hin' : ¬ (j < 0 ∨ cell.slots.size ≤ j.toNatClampNeg) := by
      intro q
      rcases q with q | q
      · exact hin (Or.inl q)
      · omega
    exact W.aald (v := .ref (gBx g j.toNatClampNeg)) (ty := .object "java/lang/Integer") hxx hb h1 h2 rfl h3 hin' (h6 _ hlt) rfl rfl hd kk
  · exact h.elim
theorem hBxV_ok (hl : Cond.fieldLink own idx "java/lang/Integer" "value" "I" ∈ lw_all) (C : se_Cx p s m args meth c cc nL own ret) (hS : hSt g s) : se_Snd p l e R s m args below meth c Q nL (fun a => a) (hRM g H0) cc (.getfield idx) 3 (hBxV g) := by
  intro pc L st w K X hd hK hX h H locs k q ls hM hl'
  obtain ⟨⟨hxx, hb, hml, hown, hts⟩, hlk, hrt⟩ := C
  unfold hBxV at h
  split at h
  · rename_i a r
    obtain ⟨i, hi, rfl, h⟩ := h
    have kk := hK _ _ h H locs k q ls hM hl'
    rw [se_map_id] at kk ⊢
    obtain ⟨cf, k9, fi, f, cell, h1, h2, h3, h4, h5, h6⟩ := (hS.2.2.2.2.2.2.2.1.2 i hi).kept (hLow hM)
    exact W.getf hxx hb hown (hts _ hl) h1 h2 h3 h4 (v := .int (vb_c i)) h5 rfl rfl hd kk
  · exact h.elim
end
/-! storing any object into an array of objects -/
def hAnyO (g : hG) (h : hH) (b : Nat) : Prop := (∃ o, h b = some (.inl o) ∧ o.1 < 23) ∨ ∃ j, j < 256 ∧ b = gBx g j
def hAastO (g : hG) : se_Op hW := fun st w K _ => match st with
  | .null :: .int i :: .ref a :: r => (match w.1 a with
    | some (.inr (4, (n, .inr (.inr (.inr (.inr f)))))) => vp_in i n ∧ K r (hU w.1 a (.inr (4, (n, .inr (.inr (.inr (.inr (va_up f i.toNatClampNeg none))))))), w.2)
    | _ => False)
  | .ref b :: .int i :: .ref a :: r => (match w.1 a with
    | some (.inr (4, (n, .inr (.inr (.inr (.inr f)))))) => hAnyO g w.1 b ∧ vp_in i n ∧ K r (hU w.1 a (.inr (4, (n, .inr (.inr (.inr (.inr (va_up f i.toNatClampNeg (some b)))))))), w.2)
    | _ => False)
  | _ => False
theorem hCl_obj : ∀ ci, ci < 23 → ∃ r, hCl[ci]? = some r ∧ Cond.castable r.1 "java/lang/Object" ∈ lw_tbl := by
  intro ci h
  match ci, h with
  | 0, _ => exact ⟨(RX0, TX0, 13), rfl, q2568⟩
  | 1, _ => exact ⟨(RX1, TX1, 14), rfl, q2569⟩
  | 2, _ => exact ⟨(RX5, TX5, 10), rfl, q2572⟩
  | 3, _ => exact ⟨(RX14, TX14, 3), rfl, q2588⟩
  | 4, _ => exact ⟨(RX26, TX26, 3), rfl, q2566⟩
  | 5, _ => exact ⟨(RX15, TX15, 3), rfl, q2589⟩
  | 6, _ => exact ⟨(RX12, TX12, 1), rfl, q2587⟩
  | 7, _ => exact ⟨(RX20, TX20, 5), rfl, q2578⟩
  | 8, _ => exact ⟨(RX19, TX19, 13), rfl, q2577⟩
  | 9, _ => exact ⟨(RX25, TX25, 2), rfl, q2583⟩
  | 10, _ => exact ⟨(RX16, TX16, 3), rfl, q2590⟩
  | 11, _ => exact ⟨(RX23, TX23, 5), rfl, q2581⟩
  | 12, _ => exact ⟨(RX24, TX24, 11), rfl, q2582⟩
  | 13, _ => exact ⟨(RX11, TX11, 1), rfl, q2585⟩
  | 14, _ => exact ⟨(RX13, TX13, 1), rfl, q2586⟩
  | 15, _ => exact ⟨(RX18, TX18, 3), rfl, q2576⟩
  | 16, _ => exact ⟨(RX17, TX17, 4), rfl, q2575⟩
  | 17, _ => exact ⟨(RX7, TX7, 2), rfl, q2564⟩
  | 18, _ => exact ⟨(RX9, TX9, 2), rfl, q2584⟩
  | 19, _ => exact ⟨(RX21, TX21, 11), rfl, q2579⟩
  | 20, _ => exact ⟨(RX22, TX22, 8), rfl, q2565⟩
  | 21, _ => exact ⟨(RX8, TX8, 4), rfl, q2574⟩
  | 22, _ => exact ⟨(RX6, TX6, 8), rfl, q2573⟩
  | n + 23, h => omega
theorem hBx_obj : Cond.castable "java/lang/Integer" "java/lang/Object" ∈ lw_tbl := q2580
section
variable {p : Program} {l : Launch} {e : Env} {R : Room} {s : State} {m : MethodId} {args : Array Value} {below : List Frame} {meth : Method} {c : Code} {nL : Nat} {cc : ByteArray} {ret : Option FieldType} {Q : State → Prop} {g : hG} {H0 : Heap} {idx : Nat} {own : String}
theorem hAny_cell {w : hW} {H : Heap} {locs : List Loc} {k q b : Nat} (hG : hGl g s) (hS : hSt g s) (hM : hRM g H0 w H locs k q) (h : hAnyO g w.1 b) : ∃ (cell : Cell) (C : String), H[b]? = some cell ∧ cell.vm.isStatics = false ∧ s.vm.findClass C = some cell.cls ∧ va_Nw (.castable C "java/lang/Object") s := by
  rcases h with ⟨o, ho, h23⟩ | ⟨j, hj, rfl⟩
  · obtain ⟨r, hr, hca⟩ := hCl_obj _ h23
    obtain ⟨cell, q1, q2, q3⟩ := hRecv hG hM ho hr
    exact ⟨cell, r.1, q1, by rw [q2]; rfl, q3, hG.2.2.1 _ hca rfl⟩
  · obtain ⟨cell, q1, q2, q3, q4⟩ := hS.2.2.2.2.2.2.2.1.1 j hj
    exact ⟨cell, "java/lang/Integer", (hLow hM _ (Array.getElem?_eq_some_iff.mp q1).1 q4).trans q1, q2, q3, hG.2.2.1 _ hBx_obj rfl⟩
theorem hAastO_ok (C : se_Cx p s m args meth c cc nL own ret) (hG : hGl g s) (hS : hSt g s) : se_Snd p l e R s m args below meth c Q nL (fun a => a) (hRM g H0) cc .aastore 1 (hAastO g) := by
  intro pc L st w K X hd hK hX h
  unfold hAastO at h
  split at h
  · rename_i i a r
    split at h
    · rename_i n f ho
      obtain ⟨hin, h⟩ := h
      intro H locs k q ls hM hl'
      obtain ⟨⟨hx, hb, hml, hown, hts⟩, hlk, hrt⟩ := C
      obtain ⟨h8, hc⟩ := (hM.2.2.1.2.1 a _ ho).2
      rw [se_map_id]
      refine va_WaastN (C := "java/lang/Object") hx hb hc (hTy_at hG (t := 4) rfl n (fun j => va_rf (f j))) (fun h => by cases h) (by show ¬ (i < 0 ∨ (arrV _ _ _).slots.size ≤ _); rw [arrV_size]; exact hin) rfl rfl hd fun H1 e1 z oq => ?_
      have kk := hK _ _ h H1 (locs ++ [⟨a, i.toNatClampNeg⟩]) k q ls (hRM_set (ob := .inr (4, (n, .inr (.inr (.inr (.inr (va_up f i.toNatClampNeg none))))))) hM ho z oq ⟨h8, ?_⟩) hl'
      · rw [se_map_id] at kk
        exact kk
      · rw [e1, vp_cell_q, vp_cell_q, arrV_store]
        congr 2
        funext j
        by_cases hj : j = i.toNatClampNeg
        · subst hj
          simp [updV, va_up, va_rf]
        · simp [updV, va_up, hj]
    · exact h.elim
  · rename_i b i a r
    split at h
    · rename_i n f ho
      obtain ⟨hob, hin, h⟩ := h
      intro H locs k q ls hM hl'
      obtain ⟨cellV, Cn, g1, g3, g2, hca⟩ := hAny_cell hG hS hM hob
      obtain ⟨⟨hx, hb, hml, hown, hts⟩, hlk, hrt⟩ := C
      obtain ⟨h8, hc⟩ := (hM.2.2.1.2.1 a _ ho).2
      obtain ⟨kA, comp, k1, k2, k3, -⟩ := (hG.2.1 4 _ rfl).2
      obtain ⟨kE, hkE, -⟩ := Vm.findClass_spec k3
      obtain ⟨kC, hkC, -⟩ := Vm.findClass_spec g2
      have hlt : i.toNatClampNeg < n := Nat.not_le.mp fun q => hin (Or.inr q)
      rw [se_map_id]
      refine W.aast hx hb hc (fun q h => by cases h) (fun h => by cases h) k1 k2 rfl hkE ⟨fun q => hin (Or.inl q), by show _ < (arrV _ _ _).slots.size; rw [arrV_size]; exact hlt⟩ g1 (fun q h => by rw [h] at g3; cases g3) hkC (vb_asgC hca _ _ k3 g2) rfl rfl hd fun H1 e1 z oq => ?_
      have kk := hK _ _ h H1 (locs ++ [⟨a, i.toNatClampNeg⟩]) k q ls (hRM_set (ob := .inr (4, (n, .inr (.inr (.inr (.inr (va_up f i.toNatClampNeg (some b)))))))) hM ho z oq ⟨h8, ?_⟩) hl'
      · rw [se_map_id] at kk
        exact kk
      · rw [e1, vp_cell_q, vp_cell_q, arrV_store]
        congr 2
        funext j
        by_cases hj : j = i.toNatClampNeg
        · subst hj
          simp [updV, va_up, va_rf]
        · simp [updV, va_up, hj]
    · exact h.elim
  · exact h.elim
end
/-! lists in the typed memory -/
section
variable {g : hG} {m m' : yM} {h h' : hH} {n n' a b E E2 na nb : Nat} {cp : Int32} {fa fb : Nat → Option Nat}
theorem hEd.inj (x : hEd h a E) (y : hEd h a E2) : E = E2 := by
  obtain ⟨o, x1, x2⟩ := x
  obtain ⟨o2, y1, y2⟩ := y
  rw [x1] at y1
  cases y1
  rw [x2] at y2
  exact Value.ref.inj y2
theorem yLs.ed (x : yLs g h a E na cp fa) : hEd h a E := by
  obtain ⟨o, md, x1, x2, x3, x4, -⟩ := x
  exact ⟨o, x1, x3⟩
theorem yLs.arr (x : yLs g h a E na cp fa) : E = gSa g 0 ∨ ∃ y, h E = some (.inr (4, y)) := by
  obtain ⟨o, md, x1, x2, x3, x4, x5⟩ := x
  rcases x5 with x5 | ⟨L, F, y1, -⟩
  · exact .inl x5.1
  · exact .inr ⟨_, y1⟩
/-- a list gets a new content; the others stay -/
theorem yRl_lst (hr : yRl g m h n) (hD : hDom g h n) (hn : n ≤ n') (ha : a < n') (hca : yc m a = 23 ∨ yc m a = 29 ∨ 50 ≤ yc m a) (hob : ∀ x, h a ≠ some (.inr (4, x))) (hs : ∀ b, b ≠ a → ySm m m' b) (hc' : yc m' a = 23) (hE : yLs g h' a E (yl m' a) (yi m' a 0) (yr m' a))
    (hh : ∀ b, b ≠ a → b < n → b ≠ E ∨ E = gSa g 0 → h' b = h b) (hEo : E = gSa g 0 ∨ n ≤ E ∨ (yc m a = 23 ∧ hEd h a E)) (hEa : E = gSa g 0 ∨ ∃ y, h E = some (.inr (4, y)) ∨ h E = none) : yRl g m' h' n' := by
  have keepE : ∀ b Eb nb cb fb, b ≠ a → yc m b = 23 → yLs g h b Eb nb cb fb → (Eb ≠ E ∨ E = gSa g 0) ∧ ∀ x, h Eb = some (.inr (4, x)) → h' Eb = h Eb := by
    intro b Eb nb cb fb hba hb x
    have h1 : Eb ≠ E ∨ E = gSa g 0 := by
      by_cases e : Eb = E
      · subst e
        rcases hEo with q | q | ⟨q1, q2⟩
        · exact .inr q
        · rcases x.arr with q2 | ⟨y, q2⟩
          · exact .inr q2
          · have := (hD _ _ q2).1
            omega
        · rcases hr.2.2 b a Eb hb q1 x.ed q2 with q | q
          · exact .inr q
          · exact absurd q hba
      · exact .inl e
    exact ⟨h1, fun y hy => hh Eb (fun e => hob y (e ▸ hy)) (hD _ _ hy).1 h1⟩
  have other : ∀ b, b ≠ a → (∃ ob, h b = some ob ∧ ∀ x, ob ≠ .inr (4, x)) → h' b = h b := by
    intro b hba ⟨ob, h1, h2⟩
    refine hh b hba (hD _ _ h1).1 ?_
    rcases hEa with q | ⟨y, q | q⟩
    · exact .inr q
    · refine .inl fun e => ?_
      subst e
      rw [h1] at q
      exact h2 _ (Option.some.inj q)
    · refine .inl fun e => ?_
      subst e
      rw [h1] at q
      cases q
  refine ⟨fun b => ?_, ⟨hr.2.1.1.keep fun b hb => hs b (fun e => by subst e; omega), fun b hb => ?_⟩, ?_⟩
  · by_cases e : b = a
    · subst e
      unfold yOb
      rw [hc']
      exact ⟨fun e => by omega, fun _ => ⟨E, hE⟩, fun e => by omega, fun e => by omega, fun e => by omega, fun e => by omega, fun e => by omega⟩
    · obtain ⟨s1, s2, s3, s4, s5⟩ := hs b e
      obtain ⟨x1, x2, x3, x4, x5, x6, x7⟩ := hr.1 b
      have eV : ∀ c, yV m' b c = yV m b c := fun c => funext fun k => by unfold yV; rw [s3, s4, s5]
      have eA : ∀ t, yA m' b t = yA m b t := fun t => by unfold yA; rw [s2, s3, s4, s5]
      unfold yOb
      rw [s1, s2, s3, s5]
      refine ⟨fun h1 => ?_, fun h1 => ?_, x3, x4, fun h1 h2 => ?_, x6, fun h1 => ?_⟩
      · rw [eV, other b e ⟨_, x1 h1, fun x q => by cases q⟩]; exact x1 h1
      · obtain ⟨Eb, y⟩ := x2 h1
        obtain ⟨k1, k2⟩ := keepE b Eb _ _ _ e h1 y
        have y0 := y
        obtain ⟨o, md, z1, -⟩ := y0
        exact ⟨Eb, y.keep (other b e ⟨_, z1, fun x q => by cases q⟩) k2⟩
      · obtain ⟨q1, q2⟩ := x5 h1 h2
        rw [eA, other b e ⟨_, q2, fun x q => by have := congrArg Prod.fst (Sum.inr.inj q); simp only at this; omega⟩]
        exact ⟨q1, q2⟩
      · obtain ⟨o, z1, z2⟩ := x7 h1
        exact ⟨o, (other b e ⟨_, z1, fun x q => by cases q⟩).trans z1, z2⟩
  · by_cases e : b = a
    · subst e; exact ha
    · rw [(hs b e).1] at hb
      have := hr.2.1.2 b hb
      omega
  · have old : ∀ b E0, b ≠ a → yc m' b = 23 → hEd h' b E0 → hEd h b E0 ∧ yc m b = 23 ∧ (E0 ≠ E ∨ E = gSa g 0) := by
      intro b E0 hba hb y
      rw [(hs b hba).1] at hb
      obtain ⟨Eb, z⟩ := (hr.1 b).2.1 hb
      have z0 := z
      obtain ⟨o, md, z1, -⟩ := z0
      have eb := other b hba ⟨_, z1, fun x q => by cases q⟩
      have y' : hEd h b E0 := by unfold hEd at y ⊢; rw [eb] at y; exact y
      have e0 : E0 = Eb := y'.inj z.ed
      subst e0
      exact ⟨y', hb, (keepE b _ _ _ _ hba hb z).1⟩
    intro a1 b1 E0 h1 h2 y1 y2
    by_cases e1 : a1 = a
    · by_cases e2 : b1 = a
      · exact .inr (e1.trans e2.symm)
      · obtain ⟨-, -, q⟩ := old b1 E0 e2 h2 y2
        subst e1
        have e0 : E0 = E := y1.inj hE.ed
        rcases q with q | q
        · exact absurd e0 q
        · exact .inl (e0.trans q)
    · obtain ⟨o1, o2, q⟩ := old a1 E0 e1 h1 y1
      by_cases e2 : b1 = a
      · subst e2
        have e0 : E0 = E := y2.inj hE.ed
        rcases q with q | q
        · exact absurd e0 q
        · exact .inl (e0.trans q)
      · obtain ⟨p1, p2, -⟩ := old b1 E0 e2 h2 y2
        exact hr.2.2 a1 b1 E0 o2 p2 o1 p1
end
/-! more operations over the typed memory -/
def yGst (g : hG) (i : Nat) : se_Op yW := fun st w K _ => K (gV g i :: st) w
def yLdc (q : Nat) : se_Op yW := fun st w K _ => K (.ref q :: st) w
/-- lengths of arrays and of the fixed ones -/
def yAlenB : se_Op yW := fun st w K _ => match st with
  | .ref a :: r => ((30 ≤ yc w.1 a ∧ yc w.1 a < 38) ∨ yc w.1 a = 44) ∧ K (.int (nI (yl w.1 a)) :: r) w
  | _ => False
def yAaldB : se_Op yW := fun st w K _ => match st with
  | .int i :: .ref a :: r => (yc w.1 a = 35 ∨ yc w.1 a = 36 ∨ yc w.1 a = 37 ∨ yc w.1 a = 44) ∧ vp_in i (yl w.1 a) ∧ K (va_rf (yr w.1 a i.toNatClampNeg) :: r) w
  | _ => False
def yBastB : se_Op yW := fun st w K _ => match st with
  | .int x :: .int i :: .ref a :: r => vp_in i (yl w.1 a) ∧ ((yc w.1 a = 31 ∧ (x = 0 ∨ x = 1) ∧ K r (ywI w.1 a i.toNatClampNeg x, w.2)) ∨ (yc w.1 a = 32 ∧ K r (ywI w.1 a i.toNatClampNeg x.toInt8.toInt32, w.2)))
  | _ => False
/-- a new list, raw -/
def yNewL (mc ms : Nat) : se_Op yW := fun st w K _ => w.2.2.1 + 1 ≤ mc ∧ w.2.2.2 + 3 ≤ ms ∧ K (.ref w.2.1 :: st) (ynw w.1 w.2.1 29 0, w.2.1 + 1, w.2.2.1 + 1, w.2.2.2 + 3)
section
variable {p : Program} {l : Launch} {e : Env} {R : Room} {s : State} {m : MethodId} {args : Array Value} {below : List Frame} {meth : Method} {c : Code} {nL : Nat} {cc : ByteArray} {ret : Option FieldType} {Q : State → Prop} {g : hG} {H0 : Heap} {idx : Nat} {own : String}
theorem se_or {μ : Type} {f : Nat → Nat} {RM : μ → Heap → List Loc → Nat → Nat → Prop} {ins : Instr} {len : Nat} {O1 O2 O : se_Op μ} (h1 : se_Snd p l e R s m args below meth c Q nL f RM cc ins len O1) (h2 : se_Snd p l e R s m args below meth c Q nL f RM cc ins len O2) (h : ∀ st w K X, O st w K X → O1 st w K X ∨ O2 st w K X) : se_Snd p l e R s m args below meth c Q nL f RM cc ins len O := by
  intro pc L st w K X hd hK hX hx
  rcases h _ _ _ _ hx with q | q
  · exact h1 pc L st w K X hd hK hX q
  · exact h2 pc L st w K X hd hK hX q
theorem yGst_ok {i : Nat} (hO : se_Snd p l e R s m args below meth c Q nL (fun a => a) (hRM g H0) cc (.getstatic idx) 3 (hGst g i)) : se_Snd p l e R s m args below meth c Q nL (fun a => a) (yRM g H0) cc (.getstatic idx) 3 (yGst g i) :=
  yLift hO fun st w K X hh hr hD h => ⟨w.1, hr, h⟩
theorem yLdc_ok {q : Nat} (hO : se_Snd p l e R s m args below meth c Q nL (fun a => a) (hRM g H0) cc (.ldc idx) 2 (hLdc q)) : se_Snd p l e R s m args below meth c Q nL (fun a => a) (yRM g H0) cc (.ldc idx) 2 (yLdc q) :=
  yLift hO fun st w K X hh hr hD h => ⟨w.1, hr, h⟩
theorem yFx_n {k : Nat} : yFx k = hFxn k := rfl
theorem yAlenF_ok (C : se_Cx p s m args meth c cc nL own ret) (hS : hSt g s) : se_Snd p l e R s m args below meth c Q nL (fun a => a) (yRM g H0) cc .arraylength 1 (fun st w K _ => match st with
  | .ref a :: r => yc w.1 a = 44 ∧ K (.int (nI (yl w.1 a)) :: r) w
  | _ => False) :=
  yLift (hFxL_ok C hS) fun st w K X hh hr hD h => by
    split at h
    · rename_i a r
      obtain ⟨hc, h⟩ := h
      obtain ⟨k, k1, k2, rfl, k3, -⟩ := (hr.1 a).2.2.2.2.2.1 hc
      simp only [hFxL]
      rw [k3] at h
      exact ⟨k, k1, k2, rfl, w.1, hr, h⟩
    · exact h.elim
theorem yAlenB_ok (C : se_Cx p s m args meth c cc nL own ret) (hG : hGl g s) (hS : hSt g s) : se_Snd p l e R s m args below meth c Q nL (fun a => a) (yRM g H0) cc .arraylength 1 yAlenB :=
  se_or (yAlen_ok C hG) (yAlenF_ok C hS) fun st w K X h => by
    unfold yAlenB at h
    split at h
    · obtain ⟨hc | hc, h⟩ := h
      · exact .inl ⟨hc, h⟩
      · exact .inr ⟨hc, h⟩
    · exact h.elim
theorem yAaldF_ok (C : se_Cx p s m args meth c cc nL own ret) (hS : hSt g s) : se_Snd p l e R s m args below meth c Q nL (fun a => a) (yRM g H0) cc .aaload 1 (fun st w K _ => match st with
  | .int i :: .ref a :: r => yc w.1 a = 44 ∧ vp_in i (yl w.1 a) ∧ K (va_rf (yr w.1 a i.toNatClampNeg) :: r) w
  | _ => False) :=
  yLift (hFxA_ok C hS) fun st w K X hh hr hD h => by
    split at h
    · rename_i i a r
      obtain ⟨hc, hi, h⟩ := h
      obtain ⟨k, k1, k2, rfl, k3, k4⟩ := (hr.1 a).2.2.2.2.2.1 hc
      rw [k3] at hi
      have hlt : i.toNatClampNeg < (yFx k).length := Nat.not_le.mp fun q => hi (Or.inr q)
      rw [k4 _ hlt] at h
      simp only [hFxA]
      exact ⟨k, k1, k2, rfl, hi, w.1, hr, h⟩
    · exact h.elim
theorem yAaldB_ok (C : se_Cx p s m args meth c cc nL own ret) (hG : hGl g s) (hS : hSt g s) : se_Snd p l e R s m args below meth c Q nL (fun a => a) (yRM g H0) cc .aaload 1 yAaldB :=
  se_or (yAald_ok C hG) (yAaldF_ok C hS) fun st w K X h => by
    unfold yAaldB at h
    split at h
    · obtain ⟨hc | hc | hc | hc, h⟩ := h
      · exact .inl ⟨.inl hc, h⟩
      · exact .inl ⟨.inr (.inl hc), h⟩
      · exact .inl ⟨.inr (.inr hc), h⟩
      · exact .inr ⟨hc, h⟩
    · exact h.elim
theorem yBastB_ok (C : se_Cx p s m args meth c cc nL own ret) (hG : hGl g s) : se_Snd p l e R s m args below meth c Q nL (fun a => a) (yRM g H0) cc .bastore 1 yBastB :=
  se_or (yZast_ok C hG) (yBast_ok C hG) fun st w K X h => by
    unfold yBastB at h
    split at h
    · obtain ⟨hi, ⟨hc, hx, h⟩ | ⟨hc, h⟩⟩ := h
      · exact .inl ⟨hc, hx, hi, h⟩
      · exact .inr ⟨hc, hi, h⟩
    · exact h.elim
theorem yNewL_ok {ins : Instr} {len mc ms : Nat} (hO : se_Snd p l e R s m args below meth c Q nL (fun a => a) (hRM g H0) cc ins len (hNew mc ms 23 3 (yDf 23))) : se_Snd p l e R s m args below meth c Q nL (fun a => a) (yRM g H0) cc ins len (yNewL mc ms) :=
  yLift hO fun st w K X hh hr hD h => by
    obtain ⟨h1, h2, h⟩ := h
    exact ⟨h1, h2, ynw w.1 w.2.1 29 0, yRl_new hr hD (.inr (.inr ⟨rfl, yDf 23, rfl, rfl⟩)), h⟩
end
