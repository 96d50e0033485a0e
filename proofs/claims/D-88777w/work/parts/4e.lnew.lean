/-! NEW OBJECTS, ARRAYS OF REFERENCES, STATICS -/
/-- tags are named anew -/
theorem gM.tag {E : y_E} {A : Nat → Prop} {G : y_G} {σ : y_S} {H0 H : Heap} {locs : List Loc} (h : gM E A G σ H0 H locs) {π : Nat → Nat} (hi : ∀ t u, π t = π u → t = u) (h0 : π 0 = 0) : gM E A (fun t => G.1 (π t), fun t => G.2.1 (π t), fun t => G.2.2 (π t)) (fun t => σ (π t)) H0 H locs := by
  obtain ⟨⟨h1, h2, h3, h4⟩, h5, h6⟩ := h
  refine ⟨⟨fun t k ht => h1 (π t) k ht, fun t u ht hu e => hi _ _ (h2 (π t) (π u) ht hu e), fun t i => h3 (π t) i, fun k hk => ?_⟩, fun t ht hk => h5 (π t) (fun q => ht (hi _ _ (q.trans h0.symm))) hk, h6⟩
  obtain ⟨cell, z1, z2, z3, z4⟩ := h4 k hk
  exact ⟨cell, z1, z2, z3, fun t ht => z4 (π t) ht⟩
/-- two tags change places -/
def sw (a b : Nat) (t : Nat) : Nat := if t = a then b else if t = b then a else t
theorem sw_a (a b : Nat) : sw a b a = b := by unfold sw; rw [if_pos rfl]
theorem sw_b (a b : Nat) : sw a b b = a := by
  unfold sw
  by_cases h : b = a
  · rw [if_pos h, h]
  · rw [if_neg h, if_pos rfl]
theorem sw_n {a b t : Nat} (h1 : t ≠ a) (h2 : t ≠ b) : sw a b t = t := by unfold sw; rw [if_neg h1, if_neg h2]
theorem sw_i {a b : Nat} : ∀ t u : Nat, sw a b t = sw a b u → t = u := by
  intro t u h
  unfold sw at h
  split at h <;> split at h <;> (try split at h) <;> (try split at h) <;> omega
def gOkT (t : FieldType) : Bool := match t with
  | .int => true
  | .boolean => true
  | .byte => true
  | .object _ => true
  | .array _ => true
  | _ => false
theorem gOkT_d {ci k : Nat} (h : gOkT (gTy ci k) = true) : defaultValue (gTy ci k) = gV ci (fun _ => 0) (fun _ => none) k := by
  unfold gV
  cases hq : gTy ci k <;> rw [hq] at h <;> first | rfl | exact absurd h (by decide)
theorem gCl_df : ∀ (ci : Nat) (q : vw_C), gCl[ci]? = some q → ∀ k, k < q.2.2 → gOkT (gTy ci k) = true :=
  gCl_all (P := fun ci q => ∀ k, k < q.2.2 → gOkT (gTy ci k) = true) (by decide +kernel) (by decide +kernel) (by decide +kernel) (by decide +kernel) (by decide +kernel) (by decide +kernel) (by decide +kernel) (by decide +kernel) (by decide +kernel) (by decide +kernel) (by decide +kernel) (by decide +kernel) (by decide +kernel) (by decide +kernel) (by decide +kernel) (by decide +kernel) (by decide +kernel)
theorem gCl_ob : ∀ (ci : Nat) (q : vw_C), gCl[ci]? = some q → (Cond.castable q.1 "java/lang/Object") ∈ lw_tbl :=
  gCl_all (P := fun _ q => (Cond.castable q.1 "java/lang/Object") ∈ lw_tbl) q1488 q1489 q1490 q1491 q1492 q1493 q1487 q1495 q1496 q1497 q1499 q1500 q1498 q1501 q1502 q1503 q1494
theorem g_asO {E : y_E} {s : State} (hK : gK E s) {ci : Nat} {q : vw_C} (hc : gCl[ci]? = some q) : ∀ comp c0 : ClassId, s.vm.findClass "java/lang/Object" = some comp → s.vm.findClass q.1 = some c0 → s.vm.assignable c0 comp = true := vb_asgC (hK.2.2.1 _ (gCl_ob ci q hc) rfl)
section GNW
variable {p : Program} {l : Launch} {e : Env} {R : Room} {s : State} {m : MethodId} {args : Array Value} {below : List Frame} {meth : Method} {c : Code} {H : Heap} {locs : List Loc} {cells slots : Nat} {Q : State → Prop} {cc : ByteArray} {pc nL : Nat} {ls : Array Slot} {rest : List Value}
variable {E : y_E} {A : Nat → Prop} {G : y_G} {σ : y_S} {own : String}
theorem g_new (CF : CallFix p m c cc nL s args lw_all own) (hK : gK E s) (hM : gM E A G σ s.heap H locs) (hA : ∀ q, s.heap.size ≤ q → A q) (t : Nat) (ht : G.1 t = none) {ci : Nat} {q : vw_C} (hc : gCl[ci]? = some q) {index n : Nat} (hnf : q.2.2 = n) (hcl : Cond.classLink own index q.1 ∈ lw_all) (hins : Cond.instantiable q.1 n ∈ lw_all) (hini : Cond.initialized q.1 ∈ lw_all) (hcells : cells + 1 ≤ R.cells) (hslots : slots + n ≤ R.slots) (hdg : decode cc pc = .ok (.new index, 3))
    (kk : ∀ (H1 : Heap) (a : Nat), gM E A (upT G.1 t (some (.inl ci)), upT G.2.1 t (fun _ => none), upT G.2.2 t a) (upT σ t (fun _ => 0)) s.heap H1 locs → W p l e R s m args below meth c H1 locs (cells + 1) (slots + n) Q (F0 m (pc + 3) ls (.ref a :: rest))) : W p l e R s m args below meth c H locs cells slots Q (F0 m pc ls rest) := by
  subst hnf
  obtain ⟨hx, hb, hml, hown, hts⟩ := CF
  refine W.newcK hx hb hown (hts _ hcl) (hts _ hins) (hts _ hini) rfl hdg hcells hslots (hK.1 ci q hc).2.1 rfl fun H1 kC hkC e1 z1 o1 => ?_
  exact kk H1 H.size (gM.push hM hA t ht (fun _ => ⟨by decide, by decide⟩) ⟨q, hc, (u_born (gTy ci) hts (gCl_in ci q hc) (hK.1 ci q hc) hkC e1 (gCl_ty ci q hc)).to (fun j hj => gOkT_d (gCl_df ci q hc j hj))⟩ z1 o1)
theorem g_newb (CF : CallFix p m c cc nL s args lw_all own) (hK : gK E s) (hM : gM E A G σ s.heap H locs) (hA : ∀ q, s.heap.size ≤ q → A q) (t : Nat) (ht : G.1 t = none) (ak : Nat) (hak : ak < 3) {atype : ArrayType} (hty : newarray.typeOf atype = gAty ak) (harr : (Cond.arrayClass (gAty ak)) ∈ lw_all)
    {nI : Int} {n : Nat} (hn : nI = (n : Int)) (hb : n ≤ 100000) (hcells : cells + 1 ≤ R.cells) (hslots : slots + n ≤ R.slots) (hdg : decode cc pc = .ok (.newarray atype, 2))
    (kk : ∀ (H1 : Heap) (a : Nat), gM E A (upT G.1 t (some (.inr (ak, n))), upT G.2.1 t (fun _ => none), upT G.2.2 t a) (upT σ t (fun _ => 0)) s.heap H1 locs → W p l e R s m args below meth c H1 locs (cells + 1) (slots + n) Q (F0 m (pc + 2) ls (.ref a :: rest))) : W p l e R s m args below meth c H locs cells slots Q (F0 m pc ls (.int (jI nI) :: rest)) :=
  g_newa CF hK hM hA t ht ak hak hty harr hn hb hcells hslots hdg (fun H1 h => kk H1 H.size h)
theorem gAv_n {ak n : Nat} {f : Int → Int} (h : (gAty ak).isReference = true) {cA : ClassId} : arrV cA n (fun _ => Value.null) = arrV cA n (gAv ak f (fun _ => none)) := by
  congr 1
  funext j
  rw [gAv_r h]
  rfl
theorem g_newr (CF : CallFix p m c cc nL s args lw_all own) (hK : gK E s) (hM : gM E A G σ s.heap H locs) (hA : ∀ q, s.heap.size ≤ q → A q) (t : Nat) (ht : G.1 t = none) (ak : Nat) (hak : ak < 8) {C : String} (hty : gAty ak = .object C) (hao : va_AO C s) {index : Nat} (hcl : Cond.classLink own index C ∈ lw_all)
    {nI : Int} {n : Nat} (hn : nI = (n : Int)) (hb : n ≤ 100000) (hcells : cells + 1 ≤ R.cells) (hslots : slots + n ≤ R.slots) (hdg : decode cc pc = .ok (.anewarray index, 3))
    (kk : ∀ (H1 : Heap) (a : Nat), gM E A (upT G.1 t (some (.inr (ak, n))), upT G.2.1 t (fun _ => none), upT G.2.2 t a) (upT σ t (fun _ => 0)) s.heap H1 locs → W p l e R s m args below meth c H1 locs (cells + 1) (slots + n) Q (F0 m (pc + 3) ls (.ref a :: rest))) : W p l e R s m args below meth c H locs cells slots Q (F0 m pc ls (.int (jI nI) :: rest)) := by
  subst hn
  obtain ⟨hx, hbb, hml, hown, hts⟩ := CF
  have hcl2 : (jI (n : Int)).toNatClampNeg = n := by rw [jI_clamp (by omega) (by omega), Int.toNat_natCast]
  refine W.anew hx hbb hown (hts _ hcl) (va_AO.use hao) rfl hdg rfl (by rw [← jI_0, jI_lt ⟨by omega, by omega⟩ ⟨by decide, by decide⟩]; omega) (by rw [hcl2]; omega) hcells (by rw [hcl2]; exact hslots) fun cA kA comp f1 f2 f3 f4 => ?_
  rw [hcl2]
  generalize hH1 : H.push ({ cls := cA, slots := Array.replicate n .null, vm := .none } : Cell) = H1
  have z1 : H1.size = H.size + 1 := by rw [← hH1, Array.size_push]
  have e1 : H1[H.size]? = some (arrV cA n (fun _ => .null)) := by rw [← hH1, Array.getElem?_push_size, ← arrV_new]
  have o1 : ∀ q : Nat, q < H.size → H1[q]? = H[q]? := fun q hq => by rw [← hH1, Array.getElem?_push, if_neg (Nat.ne_of_lt hq)]
  refine kk H1 H.size (gM.push hM hA t ht (fun _ => ⟨by decide, by decide⟩) ?_ z1 o1)
  obtain ⟨kA2, comp2, g1, g2, g3, g4⟩ := hK.2.1 ak hak
  rw [hty] at g3
  cases f1.symm.trans g3
  show H1[H.size]? = some _
  rw [e1, gAv_n (by rw [hty]; rfl)]
/-- a reference is stored -/
theorem g_aast (CF : CallFix p m c cc nL s args lw_all own) (hK : gK E s) (hM : gM E A G σ s.heap H locs) (t : Nat) (ht0 : t ≠ 0) {ak n : Nat} (ht : G.1 t = some (.inr (ak, n))) (hak : ak < 8) {C : String} (hty : gAty ak = .object C) {i : Int} (h0 : 0 ≤ i) (h1 : i < n) (hn : n ≤ 2147483647) {u ci : Nat} (hu : G.1 u = some (.inl ci)) {q : vw_C} (hc : gCl[ci]? = some q) (has : ∀ comp c0 : ClassId, s.vm.findClass C = some comp → s.vm.findClass q.1 = some c0 → s.vm.assignable c0 comp = true) {v : Nat} (hv : G.2.2 u = v) (hdg : decode cc pc = .ok (.aastore, 1))
    (kk : ∀ (H : Heap) (locs : List Loc), gM E A (G.1, up2 G.2.1 t i (some v), G.2.2) σ s.heap H locs → W p l e R s m args below meth c H locs cells slots Q (F0 m (pc + 1) ls rest)) : W p l e R s m args below meth c H locs cells slots Q (F0 m pc ls (.ref v :: .int (jI i) :: .ref (G.2.2 t) :: rest)) := by
  subst hv
  obtain ⟨cellV, g1, g3, g2⟩ := g_recv hK hM hu hc
  obtain ⟨kA, comp, k1, k2, -, k4⟩ := hK.2.1 ak hak
  have k3 := k4 C (by rw [hty]; rfl)
  obtain ⟨kE, hkE, -⟩ := Vm.findClass_spec k3
  obtain ⟨kC, hkC, -⟩ := Vm.findClass_spec g2
  have hin := jI_in h0 h1 hn
  have href : (gAty ak).isReference = true := by rw [hty]; rfl
  refine W.aast CF.1 CF.2.1 (hM.1.1 t _ ht) (fun q h => by cases h) (fun h => by cases h) k1 k2 href hkE ⟨fun z => hin (Or.inl z), by rw [arrV_size, jI_clamp h0 (by omega)]; omega⟩ g1 (fun q h => by rw [h] at g3; cases g3) hkC (has _ _ k3 g2) rfl rfl hdg fun H1 e1 z oq => ?_
  refine kk H1 _ (hM.setr ht0 ht ?_ z oq)
  show H1[G.2.2 t]? = some (arrV (E.2 ak) n (gAv ak (σ t) (up1 (G.2.1 t) i (some (G.2.2 u)))))
  have e2 := gAv_ur (ak := ak) (k := i.toNat) (f := σ t) (r := G.2.1 t) (v := some (G.2.2 u)) href
  rw [Int.toNat_of_nonneg h0] at e2
  rw [e1, arrV_store, jI_clamp h0 (by omega), ← e2]
  rfl
theorem g_aastN (CF : CallFix p m c cc nL s args lw_all own) (hK : gK E s) (hM : gM E A G σ s.heap H locs) (t : Nat) (ht0 : t ≠ 0) {ak n : Nat} (ht : G.1 t = some (.inr (ak, n))) (hak : ak < 8) {C : String} (hty : gAty ak = .object C) {i : Int} (h0 : 0 ≤ i) (h1 : i < n) (hn : n ≤ 2147483647) (hdg : decode cc pc = .ok (.aastore, 1))
    (kk : ∀ (H : Heap) (locs : List Loc), gM E A (G.1, up2 G.2.1 t i none, G.2.2) σ s.heap H locs → W p l e R s m args below meth c H locs cells slots Q (F0 m (pc + 1) ls rest)) : W p l e R s m args below meth c H locs cells slots Q (F0 m pc ls (.null :: .int (jI i) :: .ref (G.2.2 t) :: rest)) := by
  have hin := jI_in h0 h1 hn
  have href : (gAty ak).isReference = true := by rw [hty]; rfl
  have harr := (hK.2.1 ak hak).arr n (gAv ak (σ t) (G.2.1 t))
  rw [hty] at harr
  refine va_WaastN CF.1 CF.2.1 (C := C) (hM.1.1 t _ ht) harr (fun h => by cases h) (by rw [arrV_size]; exact hin) rfl rfl hdg fun H1 e1 z oq => ?_
  refine kk H1 _ (hM.setr ht0 ht ?_ z oq)
  show H1[G.2.2 t]? = some (arrV (E.2 ak) n (gAv ak (σ t) (up1 (G.2.1 t) i none)))
  have e2 := gAv_ur (ak := ak) (k := i.toNat) (f := σ t) (r := G.2.1 t) (v := none) href
  rw [Int.toNat_of_nonneg h0] at e2
  rw [e1, arrV_store, jI_clamp h0 (by omega), ← e2]
  rfl
/-- a static that nobody writes -/
theorem g_gets (CF : CallFix p m c cc nL s args lw_all own) (hK : gK E s) (hM : gM E A G σ s.heap H locs) (k : Nat) (hk : k < 3) {index : Nat} (hlink : Cond.fieldLink own index (gSt k).1 (gSt k).2.1 (gSt k).2.2 ∈ lw_all) {r : Option Nat} (hr : gZr E k = r) (hdg : decode cc pc = .ok (.getstatic index, 3))
    (kk : W p l e R s m args below meth c H locs cells slots Q (F0 m (pc + 3) ls (va_rf r :: rest))) : W p l e R s m args below meth c H locs cells slots Q (F0 m pc ls rest) := by
  subst hr
  obtain ⟨hx, hb, hml, hown, hts⟩ := CF
  obtain ⟨cf, kf, fi, f, h1, h2, h3, h4, h5⟩ := hK.2.2.2.2.2.2 k hk
  obtain ⟨cell, z1, z2, z3, -⟩ := hM.1.2.2.2 k hk
  exact W.gets hx hb hown (hts _ hlink) h1 h2 h3 h4 z1 (fun q => by rw [q] at z2; cases z2) (by rw [h5]; exact z3) rfl hdg kk
theorem g_ldcM (CF : CallFix p m c cc nL s args lw_all own) (hK : gK E s) {index : Nat} (hlink : Cond.classLink own index "[Ljava/lang/Object;" ∈ lw_all) (hdg : decode cc pc = .ok (.ldc index, 2))
    (kk : W p l e R s m args below meth c H locs cells slots Q (F0 m (pc + 2) ls (.ref (E.1.2 103 0) :: rest))) : W p l e R s m args below meth c H locs cells slots Q (F0 m pc ls rest) :=
  va_ldcM CF.1 CF.2.1 CF.2.2.2.1 (CF.2.2.2.2 _ hlink) hK.2.2.2.2.2.1 hdg kk
theorem g_getC (CF : CallFix p m c cc nL s args lw_all own) (hK : gK E s) (hM : gM E A G σ s.heap H locs) (t : Nat) {n : Nat} (ht : G.1 t = some (.inr (3, n))) {index : Nat} (hlink : Cond.methodLink own index ⟨"java/lang/Object", "getClass", "()Ljava/lang/Class;"⟩ ∈ lw_all) (hls : ls.size = nL) (hframes : 1 ≤ R.frames) (hlocals : (rest.map fun v => v.category).sum + 14 ≤ R.locals) (hdg : decode cc pc = .ok (.invokevirtual index, 3))
    (kk : W p l e R s m args below meth c H locs cells slots Q (F0 m (pc + 3) ls (.ref (E.1.2 103 0) :: rest))) : W p l e R s m args below meth c H locs cells slots Q (F0 m pc ls (.ref (G.2.2 t) :: rest)) := by
  obtain ⟨hx, hb, hml, hown, hts⟩ := CF
  obtain ⟨kA, comp, k1, k2, k3, k4⟩ := hK.2.1 3 (by decide)
  have k3 : s.vm.findClass "[Ljava/lang/Object;" = some (E.2 3) := k3
  exact va_getC hx hb (by rw [hml, hls]) hown (hts _ hlink) (va_Nw.use rfl (hK.2.2.1 _ q1507 rfl)) (hts _ q1506) (hts _ q814) (hts _ q833) hK.2.2.2.2.2.1 ⟨_, hM.1.1 t _ ht, rfl, k3⟩ hframes hlocals hdg kk
end GNW
/-- places below n are g's (references) -/
def fillQ (f g : Int → Option Nat) (n : Int) : Int → Option Nat := fun i => if 0 ≤ i ∧ i < n then g i else f i
theorem fillQ_in {f g : Int → Option Nat} {n i : Int} (h0 : 0 ≤ i) (h1 : i < n) : fillQ f g n i = g i := by unfold fillQ; rw [if_pos ⟨h0, h1⟩]
section GCQ
variable {p : Program} {l : Launch} {e : Env} {R : Room} {s : State} {m : MethodId} {args : Array Value} {below : List Frame} {meth : Method} {c : Code} {H : Heap} {locs : List Loc} {cells slots : Nat} {Q : State → Prop} {cc : ByteArray} {pc nL : Nat} {ls : Array Slot} {rest : List Value}
variable {E : y_E} {A : Nat → Prop} {G : y_G} {σ : y_S} {own : String}
theorem g_copyr (CF : CallFix p m c cc nL s args lw_all own) (hK : gK E s) (hM : gM E A G σ s.heap H locs) (t1 t2 : Nat) (h20 : t2 ≠ 0) {n1 n2 : Nat} (ht1 : G.1 t1 = some (.inr (3, n1))) (ht2 : G.1 t2 = some (.inr (3, n2))) {n : Int} (h0 : 0 ≤ n) (h1 : n ≤ n1) (h2 : n ≤ n2) (hn : n ≤ 2147483647) (hel : ∀ i : Int, 0 ≤ i → i < n → ∀ y : Nat, G.2.1 t1 i = some y → ∃ u ci : Nat, G.1 u = some (.inl ci) ∧ G.2.2 u = y) {index : Nat} (hlink : Cond.methodLink own index arraycopyName ∈ lw_all) (hls : ls.size = nL)
    (hframes : 1 ≤ R.frames) (hlocals : (rest.map fun v => v.category).sum + (nativeFrameWords "java/lang/System" "arraycopy" 5 + 11) ≤ R.locals) (hdg : decode cc pc = .ok (.invokestatic index, 3))
    (kk : ∀ (H : Heap) (locs : List Loc), gM E A (G.1, upT G.2.1 t2 (fillQ (G.2.1 t2) (G.2.1 t1) n), G.2.2) σ s.heap H locs → W p l e R s m args below meth c H locs cells slots Q (F0 m (pc + 3) ls rest)) : W p l e R s m args below meth c H locs cells slots Q (F0 m pc ls (.int (jI n) :: .int (jI 0) :: .ref (G.2.2 t2) :: .int (jI 0) :: .ref (G.2.2 t1) :: rest)) := by
  obtain ⟨hx, hb, hml, hown, hts⟩ := CF
  intro T hT X
  have ga : ∀ (t n : Nat), arrV (E.2 3) n (gAv 3 (σ t) (G.2.1 t)) = arrV (E.2 3) n (fun j => va_rf (G.2.1 t (j : Int))) := fun t n => rfl
  have hc1 : H[G.2.2 t1]? = some (arrV (E.2 3) n1 (fun j => va_rf (G.2.1 t1 (j : Int)))) := by rw [← ga]; exact hM.1.1 t1 _ ht1
  have hc2 : H[G.2.2 t2]? = some (arrV (E.2 3) n2 (fun j => va_rf (G.2.1 t2 (j : Int)))) := by rw [← ga]; exact hM.1.1 t2 _ ht2
  obtain ⟨kA, comp, hk1, hkk1, -, k4⟩ := hK.2.1 3 (by decide)
  have r3 := k4 _ rfl
  have hcn : (jI n).toNatClampNeg = n.toNat := jI_clamp h0 hn
  have hc0 : (jI 0).toNatClampNeg = 0 := rfl
  have hi0 : (jI 0).toInt = 0 := rfl
  have hin : (jI n).toInt = n := jI_toInt ⟨by omega, hn⟩
  have n0 : ¬ jI 0 < 0 := by decide
  have nn : ¬ jI n < 0 := by rw [← jI_0, jI_lt ⟨by omega, hn⟩ ⟨by decide, by decide⟩]; omega
  obtain ⟨vm', X', step⟩ := X.arraycopy hx hown (hts _ hlink) (hts _ q549) (hts _ q548) (hts _ q75) (src := G.2.2 t1) (dst := G.2.2 t2) (cs := arrV (E.2 3) n1 (fun j => va_rf (G.2.1 t1 (j : Int)))) (cd := arrV (E.2 3) n2 (fun j => va_rf (G.2.1 t2 (j : Int)))) (srcPos := jI 0) (destPos := jI 0) (n := jI n) (by rw [hT]; exact hc1) (by rw [hT]; exact hc2)
    (fun _ h => by cases h) (fun _ h => by cases h) (fun h => by cases h) (fun h => by cases h) hk1 hk1 hkk1 hkk1 rfl n0 n0 nn
    (by rw [hi0, hin, arrV_size]; omega) (by rw [hi0, hin, arrV_size]; omega)
    (fun vm₁ hal i hi => by
      rw [hcn] at hi
      have e : (arrV (E.2 3) n1 (fun j => va_rf (G.2.1 t1 (j : Int)))).slots.getD ((jI 0).toNatClampNeg + i) .null = va_rf (G.2.1 t1 (i : Int)) := by
        rw [hc0, Array.getD_eq_getD_getElem?, arrV_read _ _ (by omega)]
        show va_rf (G.2.1 t1 ((0 + i : Nat) : Int)) = _
        rw [Nat.zero_add]
      rw [e]
      cases hy : G.2.1 t1 (i : Int) with
      | none => exact ⟨rfl, trivial⟩
      | some y =>
        obtain ⟨u, ci, hu, hv⟩ := hel (i : Int) (by omega) (by omega) y hy
        obtain ⟨q, hq, -⟩ := hM.1.1 u _ hu
        obtain ⟨cellV, g1, g2, g3⟩ := g_recv hK hM hu hq
        rw [hv] at g1
        obtain ⟨kC, hkC, -⟩ := Vm.findClass_spec g3
        obtain ⟨kE, hkE, -⟩ := Vm.findClass_spec r3
        obtain ⟨kC', hkC', -⟩ := hal.2.2 _ _ hkC
        obtain ⟨kE', hkE', -⟩ := hal.2.2 _ _ hkE
        refine ⟨rfl, cellV, (show T.heap[y]? = some cellV by rw [hT]; exact g1), (fun q h => by rw [h] at g2; cases g2), ⟨kC', hkC'⟩, ?_, ?_⟩
        · exact ⟨kE', hkE'⟩
        · show vm₁.assignable _ _ = true
          rw [hal.assignable]
          exact g_asO hK hq _ _ r3 g3)
    (g := F0 m pc ls (.int (jI n) :: .int (jI 0) :: .ref (G.2.2 t2) :: .int (jI 0) :: .ref (G.2.2 t1) :: rest)) rfl (by rw [hml]; exact hls) (rest := rest) rfl (by rw [hb]; exact hdg) hframes (by show 2 * 0 + _ + _ ≤ _; omega)
  have e1 : copied (arrV (E.2 3) n1 (fun j => va_rf (G.2.1 t1 (j : Int)))) (arrV (E.2 3) n2 (fun j => va_rf (G.2.1 t2 (j : Int)))) (jI 0) (jI 0) (jI n) = arrV (E.2 3) n2 (gAv 3 (σ t2) (fillQ (G.2.1 t2) (G.2.1 t1) n)) := by
    have e2 := va_copied (fun z => va_rf z) (E.2 3) (E.2 3) (n0 := n1) (n1 := n2) (sp := 0) (dp := 0) (n := n.toNat) (fun j => G.2.1 t1 (j : Int)) (fun j => G.2.1 t2 (j : Int)) (by omega)
    have e3 : copied (arrV (E.2 3) n1 (fun j => va_rf (G.2.1 t1 (j : Int)))) (arrV (E.2 3) n2 (fun j => va_rf (G.2.1 t2 (j : Int)))) (jI 0) (jI 0) (jI n) = (arrV (E.2 3) n2 (fun j => va_rf (G.2.1 t2 (j : Int)))).storeRun 0 ((arrV (E.2 3) n1 (fun j => va_rf (G.2.1 t1 (j : Int)))).stretch 0 n.toNat) := by
      unfold copied
      rw [hcn, hc0]
    rw [e3, e2]
    congr 1
    funext j
    rw [gAv_r rfl]
    unfold va_cpy fillQ
    by_cases hj : j < n.toNat
    · rw [if_pos ⟨by omega, by omega⟩, if_pos ⟨by omega, by omega⟩]
      show va_rf (G.2.1 t1 ((0 + (j - 0) : Nat) : Int)) = _
      rw [Nat.zero_add, Nat.sub_zero]
    · rw [if_neg (by omega), if_neg (by omega)]
  rw [e1] at X' step
  have hl : G.2.2 t2 < H.size := (Array.getElem?_eq_some_iff.mp hc2).1
  have hheap : ((T.setVm vm').setCell (G.2.2 t2) (arrV (E.2 3) n2 (gAv 3 (σ t2) (fillQ (G.2.1 t2) (G.2.1 t1) n)))).heap = H.setIfInBounds (G.2.2 t2) (arrV (E.2 3) n2 (gAv 3 (σ t2) (fillQ (G.2.1 t2) (G.2.1 t1) n))) := by rw [← hT]; rfl
  have hM2 : ∀ L : List Loc, (∀ q ∈ L, q.base = G.2.2 t2) → gM E A (G.1, upT G.2.1 t2 (fillQ (G.2.1 t2) (G.2.1 t1) n), G.2.2) σ s.heap (H.setIfInBounds (G.2.2 t2) (arrV (E.2 3) n2 (gAv 3 (σ t2) (fillQ (G.2.1 t2) (G.2.1 t1) n)))) (locs ++ L) := fun L hL => by
    have h := hM.setT h20 ht2 (f := σ t2) (r := fillQ (G.2.1 t2) (G.2.1 t1) n) (H1 := H.setIfInBounds (G.2.2 t2) (arrV (E.2 3) n2 (gAv 3 (σ t2) (fillQ (G.2.1 t2) (G.2.1 t1) n)))) (fun i => hM.r t2 i) hL (show (H.setIfInBounds _ _)[_]? = some _ by simp [Array.getElem?_setIfInBounds, hl]) (by simp) (fun q hq => by simp [Array.getElem?_setIfInBounds, Ne.symm hq])
    rw [upT_self] at h
    exact h
  obtain ⟨t, a1, b1⟩ := kk _ _ (hM2 _ (fun q hq => by obtain ⟨z, -, hz⟩ := List.mem_map.mp hq; rw [← hz])) _ hheap X'
  exact ⟨t, step t a1, b1⟩
end GCQ
