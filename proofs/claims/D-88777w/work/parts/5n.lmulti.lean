/-! ARRAYS OF ARRAYS ARE MADE -/
section ML
def mlO (cA : ClassId) (n h0 i : Nat) : Cell := arrV cA n (fun j => if j < i then .ref (h0 + 1 + j) else .null)
def mlR (cB : ClassId) (k : Nat) (dv : Value) : Cell := arrV cB k (fun _ => dv)
/-- the state with i rows made -/
def mlS (s : State) (cA cB : ClassId) (n k : Nat) (dv : Value) : Nat → State
  | 0 => s.pushCell (mlO cA n s.heap.size 0)
  | i + 1 => ((mlS s cA cB n k dv i).pushCell (mlR cB k dv)).setCell s.heap.size (mlO cA n s.heap.size (i + 1))
theorem mlO_s (cA : ClassId) (n h0 i : Nat) : (mlO cA n h0 i).setSlot i (.ref (h0 + 1 + i)) = mlO cA n h0 (i + 1) := by
  unfold mlO
  rw [arrV_store]
  congr 1
  funext j
  unfold updV
  by_cases c : j = i
  · subst c
    rw [if_pos (Nat.lt_succ_self j)]
    simp
  · rw [if_neg c]
    dsimp only
    by_cases c2 : j < i
    · rw [if_pos c2, if_pos (by omega)]
    · rw [if_neg c2, if_neg (by omega)]
theorem mlS_f (s : State) (cA cB : ClassId) (n k : Nat) (dv : Value) : ∀ i : Nat, (mlS s cA cB n k dv i).heap.size = s.heap.size + 1 + i ∧ (mlS s cA cB n k dv i).heap[s.heap.size]? = some (mlO cA n s.heap.size i) ∧ (mlS s cA cB n k dv i).vm = s.vm ∧ (mlS s cA cB n k dv i).slotsUsed = s.slotsUsed + n + i * k ∧
      (∀ q : Nat, q < s.heap.size → (mlS s cA cB n k dv i).heap[q]? = s.heap[q]?) ∧ ∀ j : Nat, j < i → (mlS s cA cB n k dv i).heap[s.heap.size + 1 + j]? = some (mlR cB k dv)
  | 0 => by
    refine ⟨by simp [mlS], by simp [mlS], rfl, ?_, fun q hq => State.heap_pushCell_of_lt _ _ hq, fun j hj => absurd hj (Nat.not_lt_zero _)⟩
    simp [mlS, mlO, arrV_size]
  | i + 1 => by
    obtain ⟨f1, f2, f3, f4, f5, f6⟩ := mlS_f s cA cB n k dv i
    have lt : s.heap.size < (mlS s cA cB n k dv i).heap.size := by omega
    have b2 : ((mlS s cA cB n k dv i).pushCell (mlR cB k dv)).heap[s.heap.size]? = some (mlO cA n s.heap.size i) := by rw [State.heap_pushCell_of_lt (h := lt)]; exact f2
    refine ⟨?_, State.heap_setCell_self b2, by simp [mlS, f3], ?_, fun q hq => ?_, fun j hj => ?_⟩
    · simp [mlS, State.setCell, f1]; omega
    · simp [mlS, f4, mlR, arrV_size, Nat.succ_mul]; omega
    · show (((mlS s cA cB n k dv i).pushCell (mlR cB k dv)).setCell s.heap.size _).heap[q]? = _
      have lq : q < (mlS s cA cB n k dv i).heap.size := by omega
      rw [State.heap_setCell_other (Nat.ne_of_gt hq), State.heap_pushCell_of_lt (h := lq)]
      exact f5 q hq
    · show (((mlS s cA cB n k dv i).pushCell (mlR cB k dv)).setCell s.heap.size _).heap[s.heap.size + 1 + j]? = _
      rw [State.heap_setCell_other (show s.heap.size ≠ s.heap.size + 1 + j by omega)]
      by_cases c : j = i
      · subst c
        rw [← f1]
        exact State.heap_pushCell_size _ _
      · have lj : s.heap.size + 1 + j < (mlS s cA cB n k dv i).heap.size := by omega
        rw [State.heap_pushCell_of_lt (h := lj)]
        exact f6 j (by omega)
theorem mlS_top (s : State) (f : JFrame) (cA cB : ClassId) (n k : Nat) (dv : Value) : ∀ i : Nat, mlS (s.setTop f) cA cB n k dv i = (mlS s cA cB n k dv i).setTop f
  | 0 => rfl
  | i + 1 => by simp only [mlS, mlS_top s f cA cB n k dv i, State.heap_setTop, State.pushCell_setTop, State.setCell_setTop]
theorem mlS_X {p : Program} {l : Launch} {e : Env} {R : Room} {s : State} {m : MethodId} {args : Array Value} {below : List Frame} {meth : Method} {c : Code} {T : State} {locs : List Loc} {cells slots : Nat} (X : Stand p l e R s m args below meth c T locs cells slots) (cA cB : ClassId) (n k : Nat) (dv : Value) :
    ∀ i : Nat, Stand p l e R s m args below meth c (mlS T cA cB n k dv i) (locs ++ (List.range i).map fun j => ⟨T.heap.size, j⟩) (cells + 1 + i) (slots + n + i * k)
  | 0 => by
    have h := X.pushed (mlO cA n T.heap.size 0)
    unfold mlO at h
    rw [arrV_size] at h
    simpa [mlS, mlO] using h
  | i + 1 => by
    have Xi := mlS_X X cA cB n k dv i
    obtain ⟨f1, f2, -⟩ := mlS_f T cA cB n k dv i
    have lt : T.heap.size < (mlS T cA cB n k dv i).heap.size := by omega
    have hc : ((mlS T cA cB n k dv i).pushCell (mlR cB k dv)).heap[T.heap.size]? = some (mlO cA n T.heap.size i) := by rw [State.heap_pushCell_of_lt (h := lt)]; exact f2
    have h := (Xi.pushed (mlR cB k dv)).stored hc i (.ref (T.heap.size + 1 + i))
    rw [mlO_s, show (mlR cB k dv).slots.size = k from arrV_size _ _ _] at h
    have e2 : (locs ++ (List.range (i + 1)).map fun j => (⟨T.heap.size, j⟩ : Loc)) = (locs ++ (List.range i).map fun j => (⟨T.heap.size, j⟩ : Loc)) ++ [⟨T.heap.size, i⟩] := by simp [List.range_succ, List.append_assoc]
    rw [e2, show slots + n + (i + 1) * k = slots + n + i * k + k by rw [Nat.succ_mul]; omega]
    exact h
section MW
variable {E : CtlPost} {e : Env} {d : Bool} {acts : List Action} {s : State}
theorem ml_row {cB cc : ClassId} {kB : Class} {ty : FieldType} {k : Int32} (hk : s.vm.classes[cB]? = some kB) (hkd : kB.kind = .array cc ty) (h0 : ¬ k < 0) (hl : ¬ k.toNatClampNeg > e.platform.arrayLengthLimit) (hh : ¬ k.toNatClampNeg * componentBytes ty > e.platform.maxHeapBytes) (hf : fits ty (defaultValue ty) = true) (h1 : s.heap.size < e.platform.maxCells) (h2 : s.slotsUsed + k.toNatClampNeg ≤ e.platform.maxSlots)
    {Q : Addr → Pre} (hq : ∀ acts', Q s.heap.size d acts' (s.pushCell (mlR cB k.toNatClampNeg (defaultValue ty)))) : wp (multianewarray.make cB [k]) Q E e d acts s := by
  rw [multianewarray.make]
  simp only [wp_bind', W.ite, h0, if_false, wp_pure', W.theClass, hk, hkd, Option.some.injEq, exists_eq_left']
  refine W.newArray_of hk hkd hl hh h1 h2 hf (fun acts' => ?_)
  have e1 := hq acts'
  unfold mlR at e1
  rw [← arrV_new] at e1
  exact e1
theorem ml_all {cA cB cc : ClassId} {kA kB : Class} {ty : FieldType} {n k : Int32} (hA : s.vm.classes[cA]? = some kA) (hAk : kA.kind = .array cB (.array ty)) (hB : s.vm.classes[cB]? = some kB) (hBk : kB.kind = .array cc ty) (hn : ¬ n < 0) (hk : ¬ k < 0) (hl1 : ¬ n.toNatClampNeg > e.platform.arrayLengthLimit) (hh1 : ¬ n.toNatClampNeg * componentBytes (.array ty) > e.platform.maxHeapBytes) (hl2 : ¬ k.toNatClampNeg > e.platform.arrayLengthLimit) (hh2 : ¬ k.toNatClampNeg * componentBytes ty > e.platform.maxHeapBytes) (hf : fits ty (defaultValue ty) = true)
    (hc : s.heap.size + (1 + n.toNatClampNeg) ≤ e.platform.maxCells) (hs : s.slotsUsed + (n.toNatClampNeg + n.toNatClampNeg * k.toNatClampNeg) ≤ e.platform.maxSlots) {Q : Addr → Pre} (hq : ∀ d' acts', Q s.heap.size d' acts' (mlS s cA cB n.toNatClampNeg k.toNatClampNeg (defaultValue ty) n.toNatClampNeg)) : wp (multianewarray.make cA [n, k]) Q E e d acts s := by
  generalize hN : n.toNatClampNeg = N at *
  generalize hK : k.toNatClampNeg = K at *
  have no : ([k].find? (· < 0)) = none := by simp [hk]
  rw [multianewarray.make]
  simp only [wp_bind', W.ite, hn, if_false, wp_pure', W.theClass, hA, hAk, Option.some.injEq, exists_eq_left']
  refine W.newArray_of hA hAk (by rw [hN]; exact hl1) (by rw [hN]; exact hh1) (by omega) (by rw [hN]; omega) rfl (fun acts' => ?_)
  simp only [no]
  rw [ite_self, wp_bind', Std.Legacy.Range.forIn_eq_forIn_range', hN]
  have hz : ([:N] : Std.Legacy.Range).size = N := by simp [Std.Legacy.Range.size]
  rw [hz]
  show wp (forIn (List.range' 0 N 1) PUnit.unit _) _ E e d acts' _
  refine wp_forIn_inv (fun rest s' => ∃ i : Nat, i ≤ N ∧ rest = List.range' i (N - i) ∧ s' = mlS s cA cB N K (defaultValue ty) i) _ _ ⟨0, Nat.zero_le _, rfl, ?_⟩ ?_ ?_
  · show s.pushCell _ = s.pushCell (mlO cA N s.heap.size 0)
    unfold mlO
    rw [arrV_new]
    rfl
  · intro x rest s' d' acts2 Q' hI hnext
    obtain ⟨i, hi, hl, rfl⟩ := hI
    have lt : i < N := by
      by_cases c : i < N
      · exact c
      · rw [show N - i = 0 by omega] at hl; cases hl
    rw [show N - i = (N - (i + 1)) + 1 by omega, List.range'_succ] at hl
    obtain ⟨rfl, hl2'⟩ := List.cons.inj hl
    obtain ⟨f1, f2, f3, f4, -⟩ := mlS_f s cA cB N K (defaultValue ty) x
    have mul : x * K + K ≤ N * K := by
      have q := Nat.mul_le_mul_right K (show x + 1 ≤ N from lt)
      rw [Nat.succ_mul] at q
      exact q
    simp only [wp_bind']
    refine ml_row (by rw [f3]; exact hB) hBk hk (by rw [hK]; exact hl2) (by rw [hK]; exact hh2) hf (by omega) (by rw [hK]; omega) (fun acts3 => ?_)
    rw [hK]
    have g2 : ((mlS s cA cB N K (defaultValue ty) x).pushCell (mlR cB K (defaultValue ty))).heap[s.heap.size]? = some (mlO cA N s.heap.size x) := by
      have lx : s.heap.size < (mlS s cA cB N K (defaultValue ty) x).heap.size := by omega
      rw [State.heap_pushCell_of_lt (h := lx)]
      exact f2
    simp only [wp_bind', W.writeLoc, wp_pure']
    have nu : (mlO cA N s.heap.size x).vm ≠ VmData.unknown := fun z => by cases z
    have sz : x < (mlO cA N s.heap.size x).slots.size := by unfold mlO; rw [arrV_size]; exact lt
    refine ⟨_, g2, nu, sz, ?_, hnext _ _ _ ⟨x + 1, lt, hl2', ?_⟩⟩
    · have hv : (mlS s cA cB N K (defaultValue ty) x).vm.classes[cA]? = some kA := by rw [f3]; exact hA
      show State.fitsSlot _ cA .none x _ = true
      simp [State.fitsSlot, State.slotType?, hv, hAk, fits]
    · rw [f1, mlO_s]
      rfl
  · intro s' d' acts2 hI
    obtain ⟨i, hi, hl, rfl⟩ := hI
    have : N - i = 0 := by
      by_cases c : N - i = 0
      · exact c
      · rw [show N - i = (N - i - 1) + 1 by omega, List.range'_succ] at hl; cases hl
    rw [show i = N by omega]
    simp only [wp_pure']
    exact hq _ _
end MW
variable {p : Program} {l : Launch} {e : Env} {R : Room} {s : State} {m : MethodId} {args : Array Value} {below : List Frame} {meth : Method} {c : Code} {H : Heap} {locs : List Loc} {cells slots : Nat} {Q : State → Prop} {cc : ByteArray} {pc nL : Nat} {ls : Array Slot} {rest : List Value}
theorem W.ml {own nm : String} {index : Nat} (hx : p.tables.exec = Jvm.exec) (hb : c.code = cc) (hown : s.vm.findClass own = some m.cls) (hlink : (Cond.classLink own index nm).before args s = true) {cA cB c0 : ClassId} {kA kB : Class} {ty : FieldType} (hfA : s.vm.findClass nm = some cA) (hA : s.vm.classes[cA]? = some kA) (hAk : kA.kind = .array cB (.array ty)) (hB : s.vm.classes[cB]? = some kB) (hBk : kB.kind = .array c0 ty) (hf : fits ty (defaultValue ty) = true)
    {n k : Int32} {N K : Nat} (hN : n.toNatClampNeg = N) (hK : k.toNatClampNeg = K) (hn : ¬ n < 0) (hk : ¬ k < 0) (hb1 : N ≤ 100000) (hb2 : K * componentBytes ty ≤ 536870912) (hb3 : K ≤ 100000) (hcells : cells + (1 + N) ≤ R.cells) (hslots : slots + (N + N * K) ≤ R.slots) (hdg : decode cc pc = .ok (.multianewarray index 2, 4))
    (kk : ∀ H1 : Heap, H1.size = H.size + 1 + N → H1[H.size]? = some (mlO cA N H.size N) → (∀ j : Nat, j < N → H1[H.size + 1 + j]? = some (mlR cB K (defaultValue ty))) → (∀ q : Nat, q < H.size → H1[q]? = H[q]?) → W p l e R s m args below meth c H1 (locs ++ (List.range N).map fun j => ⟨H.size, j⟩) (cells + 1 + N) (slots + N + N * K) Q (F0 m (pc + 4) ls (.ref H.size :: rest))) :
    W p l e R s m args below meth c H locs cells slots Q (F0 m pc ls (.int k :: .int n :: rest)) := by
  intro T hT X
  subst hT
  have hpl : e.platform.magicAccessors = ({} : Platform).magicAccessors := by rw [X.admits.platform]
  obtain ⟨c9, f9, hcl⟩ := Cond.classLink_spec hown hlink e.platform hpl
  cases hfA.symm.trans f9
  obtain ⟨g1, g2, g3⟩ := State.classEntry (e := e) X.warmed hcl
  generalize T.vm.noted m.cls index (.cls cA) = vm1 at g1 g2 g3
  have al : s.vm.Alike vm1 := g2.alike
  obtain ⟨kA1, hA1, eA⟩ := al.2.2 _ _ hA
  obtain ⟨kB1, hB1, eB⟩ := al.2.2 _ _ hB
  have hAk1 : kA1.kind = .array cB (.array ty) := by rw [eA]; exact hAk
  have hBk1 : kB1.kind = .array c0 ty := by rw [eB]; exact hBk
  have X1 := X.noted g2
  obtain ⟨r1, r2⟩ := X.roomAbove hcells hslots
  have XF := mlS_X X1 cA cB N K (defaultValue ty) N
  obtain ⟨f1, f2, f3, f4, f5, f6⟩ := mlS_f (T.setVm vm1) cA cB N K (defaultValue ty) N
  obtain ⟨t, a1, b1⟩ := kk (mlS (T.setVm vm1) cA cB N K (defaultValue ty) N).heap f1 f2 f6 f5 _ rfl XF
  refine ⟨t, ?_, b1⟩
  have hl1 : ¬ n.toNatClampNeg > e.platform.arrayLengthLimit := by rw [Launch.admits_arrayLengthLimit X.admits, hN]; omega
  have hh1 : ¬ n.toNatClampNeg * componentBytes (.array ty) > e.platform.maxHeapBytes := by
    rw [Launch.admits_maxHeapBytes X.admits, hN]; show ¬ N * 4 > 536870912; omega
  have hl2 : ¬ k.toNatClampNeg > e.platform.arrayLengthLimit := by rw [Launch.admits_arrayLengthLimit X.admits, hK]; omega
  have hh2 : ¬ k.toNatClampNeg * componentBytes ty > e.platform.maxHeapBytes := by rw [Launch.admits_maxHeapBytes X.admits, hK]; omega
  have hdg2 : decode c.code (F0 m pc ls (.int k :: .int n :: rest)).pc = .ok (.multianewarray index 2, 4) := by rw [hb]; exact hdg
  jvm_step X.here [hx, hdg2]
  simp only [multianewarray.sem, wp_bind', W.resolveClassAt_links (State.method?_setTop (F0 m pc ls (.int k :: .int n :: rest)) X.here.top) g1]
  rw [W.popN, if_neg (by decide)]
  refine ⟨F0 m pc ls (.int k :: .int n :: rest), State.topJava?_setTop' (s := T.setVm vm1) _ X.here.top, [.int n, .int k], rest, rfl, rfl, ?_⟩
  simp only [List.mapM_cons, List.mapM_nil, wp_bind', wp_pure']
  refine ml_all (kA := kA1) (kB := kB1) (cB := cB) (cc := c0) (ty := ty) hA1 hAk1 hB1 hBk1 hn hk hl1 hh1 hl2 hh2 hf (by rw [hN]; show T.heap.size + _ ≤ _; omega) (by rw [hN, hK]; show T.slotsUsed + _ ≤ _; omega) (fun d' acts' => ?_)
  rw [hN, hK]
  have eS : ((T.setTop (F0 m pc ls (.int k :: .int n :: rest))).setVm vm1).setTop (F0 m pc ls rest) = (T.setVm vm1).setTop (F0 m pc ls rest) := by
    show ((T.setVm vm1).setTop _).setTop _ = _
    rw [State.setTop_setTop]
  rw [show ({ F0 m pc ls (.int k :: .int n :: rest) with stack := rest } : JFrame) = F0 m pc ls rest from rfl, eS, mlS_top]
  simp only [wp_bind', W.mark, W.pushRef, State.topJava?_setTop' _ XF.here.top, Option.some.injEq, exists_eq_left', State.setTop_setTop, State.heap_setTop]
  intro acts
  simp [jvm, XF.here.top]
  exact a1
end ML
