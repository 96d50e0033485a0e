/-! MEMORY BY TAGS: a graph G (what each tag is, which references it holds, where it lies) and its ints σ -/
abbrev y_K : Type := Nat ⊕ (Nat × Nat)
abbrev y_G : Type := (Nat → Option y_K) × (Nat → Int → Option Nat) × (Nat → Nat)
abbrev y_S : Type := Nat → Int → Int
abbrev y_E : Type := va_G × (Nat → ClassId)
def gCl : List vw_C := [(RX1, TX1, 33), (RX3, TX3, 2), (RX4, TX4, 3), (RX5, TX5, 6), (RX6, TX6, 3), (RX7, TX7, 4), (RX8, TX8, 7), (RX9, TX9, 52), (RX11, TX11, 4), (RX12, TX12, 8), (RX13, TX13, 4), (RX14, TX14, 5), (RX15, TX15, 6), (RX16, TX16, 5), (RX17, TX17, 3), (RX18, TX18, 3), (RJ3, TJ3, 3)]
def gTy (ci : Nat) : Nat → FieldType := match ci with
  | 0 => tyX1
  | 1 => tyX3
  | 2 => tyX4
  | 3 => tyX5
  | 4 => tyX6
  | 5 => tyX7
  | 6 => tyX8
  | 7 => tyX9
  | 8 => tyX11
  | 9 => tyX12
  | 10 => tyX13
  | 11 => tyX14
  | 12 => tyX15
  | 13 => tyX16
  | 14 => tyX17
  | 15 => tyX18
  | _ => tyJ3
theorem gCl_all {P : Nat → vw_C → Prop} (h0 : P 0 (RX1, TX1, 33)) (h1 : P 1 (RX3, TX3, 2)) (h2 : P 2 (RX4, TX4, 3)) (h3 : P 3 (RX5, TX5, 6)) (h4 : P 4 (RX6, TX6, 3)) (h5 : P 5 (RX7, TX7, 4)) (h6 : P 6 (RX8, TX8, 7)) (h7 : P 7 (RX9, TX9, 52)) (h8 : P 8 (RX11, TX11, 4)) (h9 : P 9 (RX12, TX12, 8)) (h10 : P 10 (RX13, TX13, 4)) (h11 : P 11 (RX14, TX14, 5)) (h12 : P 12 (RX15, TX15, 6)) (h13 : P 13 (RX16, TX16, 5)) (h14 : P 14 (RX17, TX17, 3)) (h15 : P 15 (RX18, TX18, 3)) (h16 : P 16 (RJ3, TJ3, 3)) :
    ∀ (ci : Nat) (q : vw_C), gCl[ci]? = some q → P ci q := by
  intro ci q h
  match ci, h with
  | 0, h => cases h; exact h0
  | 1, h => cases h; exact h1
  | 2, h => cases h; exact h2
  | 3, h => cases h; exact h3
  | 4, h => cases h; exact h4
  | 5, h => cases h; exact h5
  | 6, h => cases h; exact h6
  | 7, h => cases h; exact h7
  | 8, h => cases h; exact h8
  | 9, h => cases h; exact h9
  | 10, h => cases h; exact h10
  | 11, h => cases h; exact h11
  | 12, h => cases h; exact h12
  | 13, h => cases h; exact h13
  | 14, h => cases h; exact h14
  | 15, h => cases h; exact h15
  | 16, h => cases h; exact h16
  | n + 17, h =>
    have h2 := (List.getElem?_eq_some_iff.mp h).1
    have h3 : gCl.length = 17 := rfl
    omega
theorem gCl_in : ∀ (ci : Nat) (q : vw_C), gCl[ci]? = some q → ∀ w ∈ u_ws q.1 q.2.1 q.2.2, w ∈ lw_all :=
  gCl_all (P := fun _ q => ∀ w ∈ u_ws q.1 q.2.1 q.2.2, w ∈ lw_all) in_X1 in_X3 in_X4 in_X5 in_X6 in_X7 in_X8 in_X9 in_X11 in_X12 in_X13 in_X14 in_X15 in_X16 in_X17 in_X18 in_J3
theorem gCl_ty : ∀ (ci : Nat) (q : vw_C), gCl[ci]? = some q → ∀ k, k < q.2.2 → parseFieldDescriptor (q.2.1 k).2.2.1 = some (gTy ci k) :=
  gCl_all (P := fun ci q => ∀ k, k < q.2.2 → parseFieldDescriptor (q.2.1 k).2.2.1 = some (gTy ci k)) tyX1_ok tyX3_ok tyX4_ok tyX5_ok tyX6_ok tyX7_ok tyX8_ok tyX9_ok tyX11_ok tyX12_ok tyX13_ok tyX14_ok tyX15_ok tyX16_ok tyX17_ok tyX18_ok tyJ3_ok
/-- two fields of a table: of two names, or both final and of two owners -/
def gTwo (T : u_T) (a b : Nat) : Bool := decide ((T a).2.1 ≠ (T b).2.1) || ((T a).2.2.2 && (T b).2.2.2 && decide ((T a).1 ≠ (T b).1))
def gNd (T : u_T) (N : Nat) : Bool := (List.range N).all fun a => (List.range N).all fun b => a == b || gTwo T a b
theorem gNd_two {T : u_T} {N : Nat} (h : gNd T N = true) {a b : Nat} (ha : a < N) (hb : b < N) (hne : a ≠ b) : gTwo T a b = true := by
  have h1 := List.all_eq_true.mp h a (List.mem_range.mpr ha)
  have h2 := List.all_eq_true.mp h1 b (List.mem_range.mpr hb)
  simpa [hne] using h2
theorem gCl_nd : ∀ (ci : Nat) (q : vw_C), gCl[ci]? = some q → gNd q.2.1 q.2.2 = true :=
  gCl_all (P := fun _ q => gNd q.2.1 q.2.2 = true) (by decide +kernel) (by decide +kernel) (by decide +kernel) (by decide +kernel) (by decide +kernel) (by decide +kernel) (by decide +kernel) (by decide +kernel) (by decide +kernel) (by decide +kernel) (by decide +kernel) (by decide +kernel) (by decide +kernel) (by decide +kernel) (by decide +kernel) (by decide +kernel) (by decide +kernel)
theorem g_apO {args : Array Value} {s : State} {C O f d O' f' d' : String} (h : (Cond.laysFinal C O f d).before args s = true) (h' : (Cond.laysFinal C O' f' d').before args s = true) {cf fi cf' fi' : Nat} {kf kf' : Class} {fd fd' : Field}
    (hi : s.fieldFound? O f d = some (cf, kf, fi, fd)) (hi' : s.fieldFound? O' f' d' = some (cf', kf', fi', fd')) (hne : O ≠ O') : fd.slot ≠ fd'.slot := by
  obtain ⟨a, _, c1, k1, i1, f1, ha, _, hg, _, _, _, ho, _, d1, hd, hk, _, _⟩ := Cond.laysFinal_spec h
  cases hi.symm.trans hg
  obtain ⟨a', _, c2, k2, i2, f2, ha', _, hg', _, _, _, ho', _, d2, hd', hk', _, _⟩ := Cond.laysFinal_spec h'
  cases hi'.symm.trans hg'
  cases ha.symm.trans ha'
  intro hs
  rw [hs] at hd
  cases hd.symm.trans hd'
  obtain ⟨q1, e1, n1⟩ := Vm.findClass_spec ho
  obtain ⟨q2, e2, n2⟩ := Vm.findClass_spec ho'
  cases (State.fieldFound?_spec hi).1.symm.trans e1
  cases (State.fieldFound?_spec hi').1.symm.trans e2
  exact hne (n1.symm.trans (hk.symm.trans (hk'.trans n2)))
theorem g_slots {args : Array Value} {s : State} {C : String} {T : u_T} {N : Nat} {cC : ClassId} {iS : Nat → Nat} (hts : ∀ w ∈ lw_all, w.before args s = true) (hin : ∀ w ∈ u_ws C T N, w ∈ lw_all) (hK : u_Kn s C T N cC iS) (ty : Nat → FieldType) (hty : ∀ k, k < N → parseFieldDescriptor (T k).2.2.1 = some (ty k)) (hnd : gNd T N = true) : ∀ x y, x < N → y < N → x ≠ y → iS x ≠ iS y := by
  intro x y hx hy hne
  obtain ⟨hS, -⟩ := hK
  obtain ⟨_, _, _, fa, hia, ea⟩ := hS x hx
  obtain ⟨_, _, _, fb, hib, eb⟩ := hS y hy
  rw [← ea, ← eb]
  have h2 := gNd_two hnd hx hy hne
  simp only [gTwo, Bool.or_eq_true, decide_eq_true_eq, Bool.and_eq_true] at h2
  rcases h2 with h2 | ⟨⟨h2, h3⟩, h4⟩
  · refine u_apart (u_lays hts hin hx) (u_lays hts hin hy) hia hib ?_
    rw [(State.fieldFound?_type hia (hty x hx)).1, (State.fieldFound?_type hib (hty y hy)).1]
    exact h2
  · have hlx := hts _ (hin _ (u_in_lay hx))
    have hly := hts _ (hin _ (u_in_lay hy))
    unfold u_lay at hlx hly
    rw [if_pos h2] at hlx
    rw [if_pos h3] at hly
    exact g_apO hlx hly hia hib h4
def gV (ci : Nat) (f : Int → Int) (r : Int → Option Nat) (k : Nat) : Value := if (gTy ci k).isReference = true then va_rf (r (k : Int)) else .int (jI (f (k : Int)))
def gAty (ak : Nat) : FieldType := match ak with
  | 0 => .int
  | 1 => .boolean
  | 2 => .byte
  | 3 => .object "java/lang/Object"
  | 4 => .object "LightPlate$Cell"
  | 5 => .object "LightPlate$Node"
  | 6 => .array .int
  | _ => .array .boolean
def gAv (ak : Nat) (f : Int → Int) (r : Int → Option Nat) (j : Nat) : Value := if (gAty ak).isReference = true then va_rf (r (j : Int)) else .int (jI (f (j : Int)))
def gCell (E : y_E) (a : Nat) (k : y_K) (f : Int → Int) (r : Int → Option Nat) (H : Heap) : Prop := match k with
  | .inl ci => ∃ q : vw_C, gCl[ci]? = some q ∧ t_OB a (E.1.1 ci) q.2.2 (E.1.2 ci) H (gV ci f r)
  | .inr b => H[a]? = some (arrV (E.2 b.1) b.2 (gAv b.1 f r))
theorem gCell.kept {E : y_E} {a : Nat} {k : y_K} {f : Int → Int} {r : Int → Option Nat} {H H1 : Heap} (h : gCell E a k f r H) (hq : H1[a]? = H[a]?) : gCell E a k f r H1 := by
  cases k with
  | inl ci =>
    obtain ⟨q, h1, h2⟩ := h
    exact ⟨q, h1, h2.kept hq⟩
  | inr b => exact hq.trans h
theorem gCell.lt {E : y_E} {a : Nat} {k : y_K} {f : Int → Int} {r : Int → Option Nat} {H : Heap} (h : gCell E a k f r H) : a < H.size := by
  cases k with
  | inl ci =>
    obtain ⟨q, h1, cell, h2, -⟩ := h
    exact (Array.getElem?_eq_some_iff.mp h2).1
  | inr b => exact (Array.getElem?_eq_some_iff.mp h).1
/-- the words that don't ride in lw_all, but are taken along -/
def gRide (w : Cond) : Bool := match w with
  | .fieldLinkNest .. => true
  | .methodLinkNest .. => true
  | .castable .. => true
  | .declares .. => true
  | _ => false
/-- the name of what an array's places hold -/
def gEl (ty : FieldType) : Option String := match ty with
  | .object C => some C
  | .array t => some (FieldType.array t).toString
  | _ => none
def gAK (U : State) (cA : ClassId) (ty : FieldType) : Prop := ∃ (kA : Class) (comp : ClassId), U.vm.classes[cA]? = some kA ∧ kA.kind = .array comp ty ∧ U.vm.findClass ("[" ++ ty.toString) = some cA ∧ (∀ C, gEl ty = some C → U.vm.findClass C = some comp)
theorem gAK.moved {u U : State} (hvm : u.vm.Alike U.vm) {cA : ClassId} {ty : FieldType} (h : gAK u cA ty) : gAK U cA ty := by
  obtain ⟨kA, comp, h1, h2, h3, h4⟩ := h
  obtain ⟨k', hk', he⟩ := hvm.2.2 _ _ h1
  exact ⟨k', comp, hk', by rw [he]; exact h2, by rw [hvm.findClass]; exact h3, fun C hC => by rw [hvm.findClass]; exact h4 C hC⟩
theorem gAK.arr {U : State} {cA : ClassId} {ty : FieldType} (h : gAK U cA ty) : ArrOfT U cA ty := by
  obtain ⟨kA, comp, h1, h2, -⟩ := h
  exact fun n z => ⟨fun q hq => (by cases hq), kA, h1, comp, h2⟩
/-- statics that nobody writes: where they lie, what they hold (E's own numbers 100..103) -/
def gSt (k : Nat) : String × String × String := match k with
  | 0 => ("java/util/ArrayList", "DEFAULTCAPACITY_EMPTY_ELEMENTDATA", "[Ljava/lang/Object;")
  | 1 => ("java/lang/Throwable", "UNASSIGNED_STACK", "[Ljava/lang/StackTraceElement;")
  | _ => ("java/lang/Throwable", "SUPPRESSED_SENTINEL", "Ljava/util/List;")
def gZr (E : y_E) (k : Nat) : Option Nat := match E.1.2 102 k with
  | 0 => none
  | n + 1 => some n
def gZk (E : y_E) (U : State) (k : Nat) : Prop := ∃ (cf : ClassId) (kf : Class) (fi : Nat) (f : Field), U.fieldFound? (gSt k).1 (gSt k).2.1 (gSt k).2.2 = some (cf, kf, fi, f) ∧ f.isStatic = true ∧ kf.init = .initialized ∧ kf.statics = some (E.1.2 100 k) ∧ f.slot = E.1.2 101 k
theorem gZk.moved {E : y_E} {u U : State} {k : Nat} (hvm : u.vm.Alike U.vm) (h : gZk E u k) : gZk E U k := by
  obtain ⟨cf, kf, fi, f, h1, h2, h3, h4, h5⟩ := h
  obtain ⟨k', hi', he⟩ := State.fieldFound?_setVm hvm h1
  exact ⟨cf, k', fi, f, hi', h2, by rw [he]; exact h3, by rw [he]; exact h4, h5⟩
/-- a private method of Look's runs on every look -/
def gHa : MethodName := ⟨"LightPlate$Look", "heatAt", "(II)I"⟩
def gX (E : y_E) (U : State) : Prop := (∀ C ∈ ["LightPlate$Plain", "LightPlate$True", "LightPlate$Guess", "LightPlate$Again"], (Cond.selects C gHa gHa).before #[] U = true) ∧ va_Mi "[Ljava/lang/Object;" (E.1.2 103 0) U ∧ ∀ k, k < 3 → gZk E U k
/-- what is known of the tables -/
def gK (E : y_E) (U : State) : Prop := (∀ (ci : Nat) (q : vw_C), gCl[ci]? = some q → u_Kn U q.1 q.2.1 q.2.2 (E.1.1 ci) (E.1.2 ci)) ∧ (∀ ak, ak < 8 → gAK U (E.2 ak) (gAty ak)) ∧ (∀ w ∈ lw_tbl, gRide w = true → va_Nw w U) ∧ (va_AO "java/lang/Object" U ∧ va_AO "LightPlate$Cell" U ∧ va_AO "LightPlate$Node" U) ∧ gX E U
theorem gX.warm {E : y_E} {s U : State} (hW : s.WarmedH U.vm) (h : gX E s) : gX E U := by
  obtain ⟨h1, h2, h3⟩ := h
  exact ⟨fun C hC => word_at hW (Or.inl rfl) (h1 C hC), h2.moved hW.alike, fun k hk => (h3 k hk).moved hW.alike⟩
theorem gK.warm {E : y_E} {s U : State} (hW : s.WarmedH U.vm) (h : gK E s) : gK E U := by
  obtain ⟨h1, h2, h3, ⟨h4, h5, h6⟩, h8⟩ := h
  refine ⟨fun ci q hq => u_Kn_moved hW.alike (h1 ci q hq), fun ak ha => (h2 ak ha).moved hW.alike, fun w hw hr => ?_, ⟨h4.moved hW.alike, h5.moved hW.alike, h6.moved hW.alike⟩, h8.warm hW⟩
  have h7 := h3 w hw hr
  cases w <;> first | exact va_Nw.warmF hW h7 | exact va_Nw.warmM hW h7 | exact va_Nw.warmC hW h7 | exact va_Nw.warmD hW h7 | exact absurd hr Bool.false_ne_true
/-- the statics' cells, apart from all tags -/
def gZm (E : y_E) (G : y_G) (H : Heap) : Prop := ∀ k, k < 3 → ∃ cell : Cell, H[E.1.2 100 k]? = some cell ∧ cell.vm.isStatics = true ∧ cell.slots[E.1.2 101 k]? = some (va_rf (gZr E k)) ∧ ∀ t : Nat, G.1 t ≠ none → G.2.2 t ≠ E.1.2 100 k
theorem gZm.lt {E : y_E} {G : y_G} {H : Heap} (h : gZm E G H) {k : Nat} (hk : k < 3) : E.1.2 100 k < H.size := by
  obtain ⟨cell, h1, -⟩ := h k hk
  exact (Array.getElem?_eq_some_iff.mp h1).1
theorem gZm.kept {E : y_E} {G : y_G} {H H1 : Heap} (h : gZm E G H) {t : Nat} (ht : G.1 t ≠ none) (ho : ∀ q : Nat, q ≠ G.2.2 t → H1[q]? = H[q]?) : gZm E G H1 := fun k hk => by
  obtain ⟨cell, h1, h2, h3, h4⟩ := h k hk
  exact ⟨cell, by rw [ho _ (Ne.symm (h4 t ht))]; exact h1, h2, h3, h4⟩
/-- the heap holds the memory -/
def gMem (E : y_E) (G : y_G) (σ : y_S) (H : Heap) : Prop := (∀ (t : Nat) (k : y_K), G.1 t = some k → gCell E (G.2.2 t) k (σ t) (G.2.1 t) H) ∧ (∀ t u : Nat, G.1 t ≠ none → G.1 u ≠ none → G.2.2 t = G.2.2 u → t = u) ∧ (∀ (t : Nat) (i : Int), R32 (σ t i)) ∧ gZm E G H
/-- what a method with this memory may change: its cells (tag 0 is read alone), and new ones -/
def gA (G : y_G) (sz : Nat) : Nat → Prop := fun q => (∃ t : Nat, t ≠ 0 ∧ G.1 t ≠ none ∧ G.2.2 t = q) ∨ sz ≤ q
def gM (E : y_E) (A : Nat → Prop) (G : y_G) (σ : y_S) (H0 H : Heap) (locs : List Loc) : Prop := gMem E G σ H ∧ (∀ t : Nat, t ≠ 0 → G.1 t ≠ none → A (G.2.2 t)) ∧ va_S A H0 H locs
def up1 {α : Type} (f : Int → α) (i : Int) (v : α) : Int → α := fun j => if j = i then v else f j
def up2 {α : Type} (σ : Nat → Int → α) (t : Nat) (i : Int) (v : α) : Nat → Int → α := fun u => if u = t then up1 (σ u) i v else σ u
def upT {α : Type} (κ : Nat → α) (t : Nat) (v : α) : Nat → α := fun u => if u = t then v else κ u
theorem up1_s {α : Type} (f : Int → α) (i : Int) (v : α) : up1 f i v i = v := by simp [up1]
theorem up1_n {α : Type} (f : Int → α) {i j : Int} (v : α) (h : j ≠ i) : up1 f i v j = f j := by simp [up1, h]
theorem up2_s {α : Type} (σ : Nat → Int → α) (t : Nat) (i : Int) (v : α) : up2 σ t i v t = up1 (σ t) i v := by simp [up2]
theorem up2_n {α : Type} (σ : Nat → Int → α) {t u : Nat} (i : Int) (v : α) (h : u ≠ t) : up2 σ t i v u = σ u := by simp [up2, h]
theorem up2_ss {α : Type} (σ : Nat → Int → α) (t : Nat) (i : Int) (v : α) : up2 σ t i v t i = v := by rw [up2_s, up1_s]
theorem upT_s {α : Type} (κ : Nat → α) (t : Nat) (v : α) : upT κ t v t = v := by simp [upT]
theorem upT_n {α : Type} (κ : Nat → α) {t u : Nat} (v : α) (h : u ≠ t) : upT κ t v u = κ u := by simp [upT, h]
theorem gM.r {E : y_E} {A : Nat → Prop} {G : y_G} {σ : y_S} {H0 H : Heap} {locs : List Loc} (h : gM E A G σ H0 H locs) (t : Nat) (i : Int) : R32 (σ t i) := h.1.2.2.1 t i
theorem gMem.lt {E : y_E} {G : y_G} {σ : y_S} {H : Heap} (h : gMem E G σ H) {t : Nat} (ht : G.1 t ≠ none) : G.2.2 t < H.size := by
  cases hk : G.1 t with
  | none => exact absurd hk ht
  | some k => exact (h.1 t k hk).lt
/-- a cell is changed: an int of it -/
theorem gM.seti {E : y_E} {A : Nat → Prop} {G : y_G} {σ : y_S} {H0 H H1 : Heap} {locs : List Loc} (h : gM E A G σ H0 H locs) {t : Nat} (h0 : t ≠ 0) {k : y_K} (ht : G.1 t = some k) {i v : Int} (hv : R32 v) {n : Nat} (hc : gCell E (G.2.2 t) k (up1 (σ t) i v) (G.2.1 t) H1) (hz : H1.size = H.size) (ho : ∀ q : Nat, q ≠ G.2.2 t → H1[q]? = H[q]?) :
    gM E A G (up2 σ t i v) H0 H1 (locs ++ [⟨G.2.2 t, n⟩]) := by
  obtain ⟨⟨h1, h2, h3, h6⟩, h4, h5⟩ := h
  refine ⟨⟨fun u k' hu => ?_, h2, fun u j => ?_, h6.kept (by rw [ht]; exact fun q => by cases q) ho⟩, h4, h5.put hz ho (h4 t h0 (by rw [ht]; exact fun q => by cases q))⟩
  · by_cases e : u = t
    · subst e
      cases ht.symm.trans hu
      rw [up2_s]
      exact hc
    · rw [up2_n _ _ _ e]
      exact (h1 u k' hu).kept (ho _ (fun q => e (h2 u t (by rw [hu]; exact fun q => by cases q) (by rw [ht]; exact fun q => by cases q) q)))
  · by_cases e : u = t
    · subst e
      rw [up2_s]
      by_cases e2 : j = i
      · subst e2; rw [up1_s]; exact hv
      · rw [up1_n _ _ e2]; exact h3 u j
    · rw [up2_n _ _ _ e]; exact h3 u j
/-- a cell is changed: a reference of it -/
theorem gM.setr {E : y_E} {A : Nat → Prop} {G : y_G} {σ : y_S} {H0 H H1 : Heap} {locs : List Loc} (h : gM E A G σ H0 H locs) {t : Nat} (h0 : t ≠ 0) {k : y_K} (ht : G.1 t = some k) {i : Int} {v : Option Nat} {n : Nat} (hc : gCell E (G.2.2 t) k (σ t) (up1 (G.2.1 t) i v) H1) (hz : H1.size = H.size) (ho : ∀ q : Nat, q ≠ G.2.2 t → H1[q]? = H[q]?) :
    gM E A (G.1, up2 G.2.1 t i v, G.2.2) σ H0 H1 (locs ++ [⟨G.2.2 t, n⟩]) := by
  obtain ⟨⟨h1, h2, h3, h6⟩, h4, h5⟩ := h
  refine ⟨⟨fun u k' hu => ?_, h2, h3, h6.kept (t := t) (by rw [ht]; exact fun q => by cases q) ho⟩, h4, h5.put hz ho (h4 t h0 (by rw [ht]; exact fun q => by cases q))⟩
  by_cases e : u = t
  · subst e
    cases ht.symm.trans hu
    show gCell E (G.2.2 u) k (σ u) (up2 G.2.1 u i v u) H1
    rw [up2_s]
    exact hc
  · show gCell E (G.2.2 u) k' (σ u) (up2 G.2.1 t i v u) H1
    rw [up2_n _ _ _ e]
    exact (h1 u k' hu).kept (ho _ (fun q => e (h2 u t (by rw [hu]; exact fun q => by cases q) (by rw [ht]; exact fun q => by cases q) q)))
/-- a new cell, by a tag that nothing has -/
theorem gM.push {E : y_E} {A : Nat → Prop} {G : y_G} {σ : y_S} {H0 H H1 : Heap} {locs : List Loc} (h : gM E A G σ H0 H locs) (hA : ∀ q, H0.size ≤ q → A q) (t : Nat) (ht : G.1 t = none) {k : y_K} {f : Int → Int} {r : Int → Option Nat} (hf : ∀ i, R32 (f i)) (hc : gCell E H.size k f r H1) (hz : H1.size = H.size + 1) (ho : ∀ q : Nat, q < H.size → H1[q]? = H[q]?) :
    gM E A (upT G.1 t (some k), upT G.2.1 t r, upT G.2.2 t H.size) (upT σ t f) H0 H1 locs := by
  obtain ⟨⟨h1, h2, h3, h9⟩, h4, h5⟩ := h
  have hlt : ∀ u, G.1 u ≠ none → G.2.2 u < H.size := fun u hu => by
    cases hk : G.1 u with
    | none => exact absurd hk hu
    | some k => exact (h1 u k hk).lt
  refine ⟨⟨fun u k' hu => ?_, fun u w hu hw e => ?_, fun u j => ?_, fun k hk => ?_⟩, fun u h0 hu => ?_, ⟨by have := h5.1; omega, fun q h6 h7 => by rw [ho q (by have := h5.1; omega)]; exact h5.2.1 q h6 h7, h5.2.2⟩⟩
  · show gCell E (upT G.2.2 t H.size u) k' (upT σ t f u) (upT G.2.1 t r u) H1
    by_cases e : u = t
    · subst e
      have hu : upT G.1 u (some k) u = some k' := hu
      rw [upT_s] at hu
      cases hu
      rw [upT_s, upT_s, upT_s]
      exact hc
    · have hu : upT G.1 t (some k) u = some k' := hu
      rw [upT_n _ _ e] at hu
      rw [upT_n _ _ e, upT_n _ _ e, upT_n _ _ e]
      exact (h1 u k' hu).kept (ho _ (h1 u k' hu).lt)
  · have hu : upT G.1 t (some k) u ≠ none := hu
    have hw : upT G.1 t (some k) w ≠ none := hw
    have e : upT G.2.2 t H.size u = upT G.2.2 t H.size w := e
    by_cases e1 : u = t
    · by_cases e2 : w = t
      · rw [e1, e2]
      · rw [e1, upT_s, upT_n _ _ e2] at e
        rw [upT_n _ _ e2] at hw
        have := hlt w hw
        omega
    · by_cases e2 : w = t
      · rw [e2, upT_s, upT_n _ _ e1] at e
        rw [upT_n _ _ e1] at hu
        have := hlt u hu
        omega
      · rw [upT_n _ _ e1, upT_n _ _ e2] at e
        rw [upT_n _ _ e1] at hu
        rw [upT_n _ _ e2] at hw
        exact h2 u w hu hw e
  · by_cases e : u = t
    · subst e; rw [upT_s]; exact hf j
    · rw [upT_n _ _ e]; exact h3 u j
  · obtain ⟨cell, z1, z2, z3, z4⟩ := h9 k hk
    have zl := h9.lt hk
    refine ⟨cell, by rw [ho _ zl]; exact z1, z2, z3, fun u hu => ?_⟩
    have hu : upT G.1 t (some _) u ≠ none := hu
    show upT G.2.2 t H.size u ≠ _
    by_cases e : u = t
    · subst e; rw [upT_s]; omega
    · rw [upT_n _ _ e] at hu ⊢; exact z4 u hu
  · have hu : upT G.1 t (some k) u ≠ none := hu
    show A (upT G.2.2 t H.size u)
    by_cases e : u = t
    · subst e; rw [upT_s]; exact hA _ h5.1
    · rw [upT_n _ _ e]
      rw [upT_n _ _ e] at hu
      exact h4 u h0 hu
/-- tags are let go -/
theorem gMem.drop {E : y_E} {G : y_G} {σ : y_S} {H : Heap} (h : gMem E G σ H) {κ : Nat → Option y_K} (hκ : ∀ t k, κ t = some k → G.1 t = some k) : gMem E (κ, G.2) σ H := by
  obtain ⟨h1, h2, h3, h9⟩ := h
  have hn : ∀ t, κ t ≠ none → G.1 t ≠ none := fun t ht => by
    cases hk : κ t with
    | none => exact absurd hk ht
    | some k => rw [hκ t k hk]; exact fun q => by cases q
  exact ⟨fun t k ht => h1 t k (hκ t k ht), fun t u ht hu e => h2 t u (hn t ht) (hn u hu) e, h3, fun k hk => by
    obtain ⟨cell, z1, z2, z3, z4⟩ := h9 k hk
    exact ⟨cell, z1, z2, z3, fun u hu => z4 u (hn u hu)⟩⟩
theorem gM.drop {E : y_E} {A : Nat → Prop} {G : y_G} {σ : y_S} {H0 H : Heap} {locs : List Loc} (h : gM E A G σ H0 H locs) {κ : Nat → Option y_K} (hκ : ∀ t k, κ t = some k → G.1 t = some k) : gM E A (κ, G.2) σ H0 H locs := by
  refine ⟨h.1.drop hκ, fun t h0 ht => h.2.1 t h0 ?_, h.2.2⟩
  cases hk : κ t with
  | none => exact absurd hk ht
  | some k => rw [hκ t k hk]; exact fun q => by cases q
