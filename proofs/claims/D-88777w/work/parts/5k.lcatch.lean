/-! WHAT IS THROWN IS CAUGHT: the first row of the table, its class resolved or not -/
theorem c_find {e : Env} {s : State} {f : JFrame} {a : Addr} {meth : Method} {code : Code} (hm : s.vm.method? f.method = some meth) (hc : meth.code = some code) {x : ExceptionTableEntry} {t : List ExceptionTableEntry} (hs : code.exceptionTable.toList = x :: t) (hx : covers x f.pc = true) (h0 : x.catchType ≠ 0) {cT : ClassId} {cell : Cell}
    (hl : s.vm.ClassLinks e.platform f.method.cls x.catchType cT) (hcell : s.heap[a]? = some cell) (hobj : ∀ k, cell.vm ≠ .statics k) (hk : ∃ k, s.vm.classes[cell.cls]? = some k) (hcl : ∃ k, s.vm.classes[cT]? = some k) (hfit : s.vm.assignable cell.cls cT = true)
    (Q : Handler → Pre) (E : CtlPost) (d : Bool) (acts : List Action) : wp (findHandler f a) Q E e d acts s ↔ Q (.found x.handlerPc) d acts (s.setVm (s.vm.noted f.method.cls x.catchType (.cls cT))) := by
  have gv := resolveClass_links e.toSetting hl
  obtain ⟨r1, r2⟩ := gv.op (op := VmOp.resolveClass f.method.cls x.catchType) rfl
  have al : s.vm.Alike (s.vm.noted f.method.cls x.catchType (.cls cT)) := (Vm.Alike.refl s.vm).noted _ _ _
  obtain ⟨kA, hkA⟩ := hk
  obtain ⟨kB, hkB⟩ := hcl
  obtain ⟨kA', hkA', -⟩ := al.2.2 _ _ hkA
  obtain ⟨kB', hkB', -⟩ := al.2.2 _ _ hkB
  have fit2 : (s.vm.noted f.method.cls x.catchType (.cls cT)).assignable cell.cls cT = true := by rw [al.assignable]; exact hfit
  rw [W.findHandler_eq hm hc, hs]
  simp only [covers] at hx
  simp [findHandler.go, hx, h0, r1, r2, hcell, hobj, hkA', hkB', fit2, VmOp.dirties, VmOp.acts]
theorem c_step {tb : Tables} {e : Env} {s target : State} {g : JFrame} {c : Code} {below : List Frame} {a : Addr} (h : At s g.method c below) {pc : Nat} {vm' : Vm} (hf : ∀ (Q : Handler → Pre) (E : CtlPost) (d : Bool) (acts : List Action), wp (findHandler g a) Q E e d acts ((s.setTop g).pushFrame (.throwing a)) ↔ Q (.found pc) d acts (((s.setTop g).pushFrame (.throwing a)).setVm vm'))
    (hrest : Steps tb e below ((s.setVm vm').setTop { g with pc := pc, stack := [.ref a] }) target) : Steps tb e below ((s.setTop g).pushFrame (.throwing a)) target := by
  obtain ⟨q1, q2⟩ := h.throwing a
  obtain ⟨g₀, hg⟩ := Option.isSome_iff_exists.mp h.top
  obtain ⟨r, hr⟩ := State.topJava?_eq_some.mp hg
  have hr2 : (s.setVm vm').frames = .java g₀ :: r := hr
  have one : (stepThrowing e ((s.setTop g).pushFrame (.throwing a)) a (.java g :: s.frames.tail)).Is ((((s.setTop g).pushFrame (.throwing a)).setVm vm').setFrames (.java { g with pc := pc, stack := [.ref a] } :: s.frames.tail)) [] := by
    simp only [stepThrowing, searchFrame, vmDo]
    generalize hz : Sem.go _ e false [] ((s.setTop g).pushFrame (.throwing a)) = res
    obtain ⟨as, rfl, ha⟩ := Sem.eq_ok_of hz (a := Handler.found pc) (s' := ((s.setTop g).pushFrame (.throwing a)).setVm vm') (acts' := []) (by simp [hf _ _ _ _])
    exact ⟨rfl, ha⟩
  refine Steps.head q1 q2 ?_
  rw [stepThread_throwing (frames_entered h.top _), one.1]
  rw [State.setTop_of_frames _ hr2] at hrest
  have e2 : (((s.setTop g).pushFrame (.throwing a)).setVm vm').setFrames (.java { g with pc := pc, stack := [.ref a] } :: s.frames.tail) = (s.setVm vm').setFrames (.java { g with pc := pc, stack := [.ref a] } :: r) := by
    have k1 : ∀ (u : State) (F : List Frame), (u.setFrames F).setVm vm' = (u.setVm vm').setFrames F := fun _ _ => rfl
    rw [hr, State.setTop_of_frames _ hr, State.pushFrame, State.setFrames_setFrames, k1, State.setFrames_setFrames, List.tail_cons]
  rw [e2]
  exact hrest
section GCA
variable {p : Program} {l : Launch} {e : Env} {R : Room} {s : State} {m : MethodId} {args : Array Value} {below : List Frame} {meth : Method} {c : Code} {H : Heap} {locs : List Loc} {cells slots mc ms : Nat} {Q : State → Prop} {cc : ByteArray} {pc nL : Nat} {ls : Array Slot} {rest st0 : List Value}
variable {E : y_E} {A0 : Nat → Prop} {G : y_G} {σ : y_S} {own : String} {thr : Nat → y_G → y_S → Prop} {a : Array Value}
/-- a called method throws a Wrong, and this method's first handler takes it -/
theorem g_catch (CF : CallFix p m c cc nL s args lw_all own) (hK : gK E s) (hM : gM E A0 G σ s.heap H locs) (hA : ∀ q, s.heap.size ≤ q → A0 q) {x0 : ExceptionTableEntry} {t0 : List ExceptionTableEntry} (hs : c.exceptionTable.toList = x0 :: t0) (hcov : covers x0 pc = true) (h0 : x0.catchType ≠ 0) (hlink : Cond.classLink own x0.catchType "LightPlate$Wrong" ∈ lw_all)
    (hr : ∀ T : State, T.heap = H → Stand p l e R s m args below meth c T locs cells slots → ∃ (o : Outcome) (st₀ t : State) (L : List Loc), st₀.heap = H ∧ gQT E G H.size thr a st₀ o t ∧ (∀ q ∈ L, gA G H.size q.base) ∧ ∀ x : Nat, o = .threw x → ∃ T' : State, Stand p l e R s m args below meth c T' (locs ++ L) (cells + mc) (slots + ms) ∧ T'.heap = t.heap ∧ T'.vm = t.vm ∧ Steps p.tables e below (T.setTop (F0 m pc ls st0)) ((T'.setTop { F0 m pc ls st0 with stack := rest }).pushFrame (.throwing x)))
    (hw : ∀ x G' σ', thr x G' σ' → ∃ u : Nat, G'.2.2 u = x ∧ G'.1 u = some (.inl 9))
    (kk : ∀ (x : Nat) (G' : y_G) (σ' : y_S) (H : Heap) (locs : List Loc), thr x G' σ' → gM E A0 G' σ' s.heap H locs → W p l e R s m args below meth c H locs (cells + mc) (slots + ms) Q (F0 m x0.handlerPc ls [.ref x])) : W p l e R s m args below meth c H locs cells slots Q (F0 m pc ls st0) := by
  intro T hT X
  obtain ⟨o, st₀, t, L, hh, ⟨⟨x, G', σ', rfl, hq, hm, ht⟩, hz, hk⟩, hL, hthr⟩ := hr T hT X
  obtain ⟨T', X', e1, e2, st⟩ := hthr x rfl
  have hF : ∀ q, gA G H.size q → A0 q := fun q h => by
    rcases h with ⟨u, u0, u1, u2⟩ | h
    · rw [← u2]; exact hM.2.1 u u0 u1
    · exact hA q (Nat.le_trans hM.2.2.1 h)
  rw [hh] at hz hk
  have hS := hM.2.2
  have hM' : gM E A0 G' σ' s.heap T'.heap (locs ++ L) := ⟨by rw [e1]; exact hm, fun u h0 hu => hF _ (ht u h0 hu), Nat.le_trans hS.1 (by rw [e1]; exact hz), fun q h1 h2 => by
      rw [e1, hk q (Nat.lt_of_lt_of_le h1 hS.1) (fun z => h2 (hF q z))]
      exact hS.2.1 q h1 h2, fun q hq => by
      rcases List.mem_append.mp hq with h | h
      · exact hS.2.2 q h
      · exact hF _ (hL q h)⟩
  obtain ⟨u, hu1, hu2⟩ := hw x G' σ' hq
  obtain ⟨cell, c1, c2, c3⟩ := g_recv hK hM' hu2 rfl
  rw [hu1] at c1
  have hpl : e.platform.magicAccessors = ({} : Platform).magicAccessors := by rw [X'.admits.platform]
  obtain ⟨cT, f1, f2⟩ := Cond.classLink_spec CF.2.2.2.1 (CF.2.2.2.2 _ hlink) e.platform hpl
  cases c3.symm.trans f1
  obtain ⟨dk, _, _, kt, hd, _, _, _, _, hkt, _, hopen⟩ := f2.here
  have hl2 := X'.warmed.classLinks f2
  have hW2 : s.WarmedH (T'.vm.noted m.cls x0.catchType (.cls cell.cls)) := X'.warmed.noted hd hopen (State.rightAt_cls f2)
  have al := X'.warmed.alike
  obtain ⟨kt', hkt', -⟩ := al.2.2 _ _ hkt
  obtain ⟨w1, w2, g1, g2, g3⟩ := Cond.castable_spec (va_Nw.use (A := args) rfl (hK.2.2.1 _ q633 rfl))
  have g1 : s.vm.findClass "LightPlate$Wrong" = some w1 := g1
  have g2 : s.vm.findClass "LightPlate$Wrong" = some w2 := g2
  cases c3.symm.trans g1
  cases c3.symm.trans g2
  have fit : T'.vm.assignable cell.cls cell.cls = true := by rw [al.assignable]; exact g3
  have X2 := X'.noted hW2
  obtain ⟨t2, a1, b1⟩ := kk x G' σ' T'.heap (locs ++ L) hq hM' (T'.setVm (T'.vm.noted m.cls x0.catchType (.cls cell.cls))) rfl X2
  refine ⟨t2, st.trans (c_step (g := { F0 m pc ls st0 with stack := rest }) X'.here (c_find (meth := meth) (code := c) X'.method' X'.code hs hcov h0 hl2 c1 (VmData.ne_statics_of c2) ⟨kt', hkt'⟩ ⟨kt', hkt'⟩ fit) a1), b1⟩
end GCA
/-- a method with handlers: its start -/
abbrev gCtW (l : Launch) (y : MethodName) (cc : ByteArray) (maxL : Nat) (ret : Option FieldType) (hh : List (Nat × Nat × Nat × Nat)) (rm : Room) (E : y_E) (av : List Value) (G : y_G) (σ : y_S) (sz : Nat) (post : Option Value → y_G → y_S → Prop) (mc ms : Nat) : Prop := Met l y (wsW_ y cc maxL ret hh) rm (gP E av G σ sz) (gQ E G sz post) mc ms (gA G sz)
theorem g_metW {l : Launch} {y : MethodName} {cc : ByteArray} {maxL : Nat} {ret : Option FieldType} {hh : List (Nat × Nat × Nat × Nat)} {rm : Room} {mc ms : Nat} {E : y_E} {G : y_G} {σ : y_S} {sz : Nat} {av : List Value} {post : Option Value → y_G → y_S → Prop} (hy : plainName y.cls = true) (hav : (lg_sl av).length ≤ maxL)
    (body : ∀ (p : Program) (e : Env) (s : State) (m : MethodId) (below : List Frame) (meth : Method) (c : Code) (ls : Array Slot), CallFix p m c cc maxL s av.toArray lw_all y.cls → c.exceptionTable.toList.map (fun h => (h.startPc, h.endPc, h.handlerPc, h.catchType)) = hh → meth.sig.returnType = ret → meth.locks = false → meth.name = y.name → gK E s → gM E (gA G sz) G σ s.heap s.heap [] → (∀ q, s.heap.size ≤ q → gA G sz q) → lv_has ls maxL (lv_args 0 av) →
      W p l e rm s m av.toArray below meth c s.heap [] 0 0 (MQ below (gQ E G sz post) av.toArray s mc ms (gA G sz)) (F0 m 0 ls [])) : gCtW l y cc maxL ret hh rm E av G σ sz post mc ms := by
  refine va_MetW (cc := cc) (maxL := maxL) (ret := ret) (hh := hh) hy rfl ?_
  intro p e s m args below meth c s₁ B hml hv
  obtain ⟨rfl, hK, hsz, hMem⟩ := hv
  have hts0 := atoms_spec (ws := wsW_ y cc maxL ret hh) B.pre
  have hts : ∀ w ∈ lw_all, w.before _ s = true := fun w h => hts0 w (List.mem_cons_of_mem _ h)
  have hex : c.exceptionTable.toList.map (fun h => (h.startPc, h.endPc, h.handlerPc, h.catchType)) = hh := by
    obtain ⟨m9, meth9, c9, k1, k2, k3, -, -, k4, -⟩ := Cond.codeWith_spec (hts0 _ List.mem_cons_self)
    cases B.named.symm.trans k1
    cases B.method.symm.trans k2
    cases (Stand.of_body B).code.symm.trans k3
    exact k4
  have hl := lv_entry av (n := maxL) hav
  rw [lg_entry_eq]
  generalize (lg_sl av ++ List.replicate (maxL - (lg_sl av).length) Slot.unset).toArray = ls at hl ⊢
  exact body p e s m below meth c ls ⟨B.exec, B.bytes, hml, findClass_of_methodNamed B.named, hts⟩ hex B.returns B.notSynchronized (name_of_methodNamed B.named B.method).1 hK ⟨hMem, fun t h0 ht => Or.inl ⟨t, h0, ht, rfl⟩, va_S.rf⟩ (fun q h => Or.inr (by rw [← hsz]; exact h)) hl
