/-! A METHOD'S START, ITS ENDS, ITS CALLS -/
theorem g_met {l : Launch} {y : MethodName} {cc : ByteArray} {maxL : Nat} {ret : Option FieldType} {rm : Room} {mc ms : Nat} {E : y_E} {G : y_G} {σ : y_S} {sz : Nat} {av : List Value} {post : Option Value → y_G → y_S → Prop} (hy : plainName y.cls = true) (hav : (lg_sl av).length ≤ maxL)
    (body : ∀ (p : Program) (e : Env) (s : State) (m : MethodId) (below : List Frame) (meth : Method) (c : Code) (ls : Array Slot), CallFix p m c cc maxL s av.toArray lw_all y.cls → meth.sig.returnType = ret → meth.locks = false → meth.name = y.name → gK E s → gM E (gA G sz) G σ s.heap s.heap [] → (∀ q, s.heap.size ≤ q → gA G sz q) → lv_has ls maxL (lv_args 0 av) →
      W p l e rm s m av.toArray below meth c s.heap [] 0 0 (MQ below (gQ E G sz post) av.toArray s mc ms (gA G sz)) (F0 m 0 ls [])) : Met l y (ws_ y cc maxL ret) rm (gP E av G σ sz) (gQ E G sz post) mc ms (gA G sz) := by
  refine Met.ofW (cc := cc) (maxL := maxL) (ret := ret) hy rfl ?_
  intro p e s m args below meth c s₁ B hml hv
  obtain ⟨rfl, hK, hsz, hMem⟩ := hv
  have hts := atoms_spec (ws := ws_ y cc maxL ret) B.pre
  have hts : ∀ w ∈ lw_all, w.before _ s = true := fun w h => hts w (List.mem_cons_of_mem _ h)
  have hl := lv_entry av (n := maxL) hav
  rw [lg_entry_eq]
  generalize (lg_sl av ++ List.replicate (maxL - (lg_sl av).length) Slot.unset).toArray = ls at hl ⊢
  exact body p e s m below meth c ls ⟨B.exec, B.bytes, hml, findClass_of_methodNamed B.named, hts⟩ B.returns B.notSynchronized (name_of_methodNamed B.named B.method).1 hK ⟨hMem, fun t h0 ht => Or.inl ⟨t, h0, ht, rfl⟩, va_S.rf⟩ (fun q h => Or.inr (by rw [← hsz]; exact h)) hl
section GC
variable {p : Program} {l : Launch} {e : Env} {R : Room} {s : State} {m : MethodId} {args : Array Value} {below : List Frame} {meth : Method} {c : Code} {H : Heap} {locs : List Loc} {cells slots mc ms : Nat} {Q : State → Prop} {cc : ByteArray} {pc nL : Nat} {ls : Array Slot} {rest st0 : List Value}
variable {E : y_E} {A : Nat → Prop} {G G0 : y_G} {σ : y_S} {sz : Nat} {own : String} {post : Option Value → y_G → y_S → Prop} {a : Array Value}
theorem g_iret (CF : CallFix p m c cc nL s args lw_all own) (hr : meth.sig.returnType = some .int) (hlocks : meth.locks = false) (hM : gM E (gA G0 sz) G σ s.heap H locs) {r : Int} (hp : post (some (.int (jI r))) G σ) (h1 : cells ≤ mc) (h2 : slots ≤ ms) (hdg : decode cc pc = .ok (.ireturn, 1)) :
    W p l e R s m args below meth c H locs cells slots (MQ below (gQ E G0 sz post) args s mc ms (gA G0 sz)) (F0 m pc ls [.int (jI r)]) :=
  W.widen h1 h2 (W.iret CF.1 CF.2.1 hr (fun t ht hW => ⟨⟨_, G, σ, rfl, hp, by rw [ht]; exact hM.1, hM.2.1⟩, hM.2.2.F ht⟩) hM.2.2.2.2 hdg hlocks)
theorem g_zret (CF : CallFix p m c cc nL s args lw_all own) (hr : meth.sig.returnType = some .boolean) (hlocks : meth.locks = false) (hM : gM E (gA G0 sz) G σ s.heap H locs) {r : Int} (hz : r = 0 ∨ r = 1) (hp : post (some (.int (jI r))) G σ) (h1 : cells ≤ mc) (h2 : slots ≤ ms) (hdg : decode cc pc = .ok (.ireturn, 1)) :
    W p l e R s m args below meth c H locs cells slots (MQ below (gQ E G0 sz post) args s mc ms (gA G0 sz)) (F0 m pc ls [.int (jI r)]) :=
  W.widen h1 h2 (W.zret CF.1 CF.2.1 hr (g_nz hz) (fun t ht hW => ⟨⟨_, G, σ, rfl, hp, by rw [ht]; exact hM.1, hM.2.1⟩, hM.2.2.F ht⟩) hM.2.2.2.2 hdg hlocks)
theorem g_vret (CF : CallFix p m c cc nL s args lw_all own) (hr : meth.sig.returnType = none) (hlocks : meth.locks = false) (hM : gM E (gA G0 sz) G σ s.heap H locs) (hp : post none G σ) (h1 : cells ≤ mc) (h2 : slots ≤ ms) (hdg : decode cc pc = .ok (.return_, 1)) :
    W p l e R s m args below meth c H locs cells slots (MQ below (gQ E G0 sz post) args s mc ms (gA G0 sz)) (F0 m pc ls []) :=
  W.widen h1 h2 (W.vret CF.1 CF.2.1 hr (fun t ht hW => ⟨⟨_, G, σ, rfl, hp, by rw [ht]; exact hM.1, hM.2.1⟩, hM.2.2.F ht⟩) hM.2.2.2.2 hdg hlocks)
theorem g_aret (CF : CallFix p m c cc nL s args lw_all own) {rt : FieldType} (hr : meth.sig.returnType = some rt) (hrt : (∃ n, rt = .object n) ∨ ∃ t, rt = .array t) (hlocks : meth.locks = false) (hM : gM E (gA G0 sz) G σ s.heap H locs) {r : Option Nat} (hp : post (some (va_rf r)) G σ) (h1 : cells ≤ mc) (h2 : slots ≤ ms) (hdg : decode cc pc = .ok (.areturn, 1)) :
    W p l e R s m args below meth c H locs cells slots (MQ below (gQ E G0 sz post) args s mc ms (gA G0 sz)) (F0 m pc ls [va_rf r]) :=
  W.widen h1 h2 (W.aret CF.1 CF.2.1 hr hrt (va_rf_or r) (fun t ht hW => ⟨⟨_, G, σ, rfl, hp, by rw [ht]; exact hM.1, hM.2.1⟩, hM.2.2.F ht⟩) hM.2.2.2.2 hdg hlocks)
theorem g_call (hM : gM E A G σ s.heap H locs) (hA : ∀ q, s.heap.size ≤ q → A q) (hr : va_Run p l e R s m args below meth c H locs cells slots mc ms (F0 m pc ls st0) rest (gQ E G H.size post a) (gA G H.size))
    (kk : ∀ (v : Option Value) (G' : y_G) (σ' : y_S) (H : Heap) (locs : List Loc), post v G' σ' → gM E A G' σ' s.heap H locs → W p l e R s m args below meth c H locs (cells + mc) (slots + ms) Q (F0 m (pc + 3) ls (v.toList ++ rest))) : W p l e R s m args below meth c H locs cells slots Q (F0 m pc ls st0) := by
  intro T hT X
  obtain ⟨v, st₀, t, T', L, h0, X', hL, e1, e2, ⟨⟨v', G', σ', hv, hp, hm, ht⟩, hz, hk⟩, st⟩ := hr T hT X
  cases hv
  have hF : ∀ q, gA G H.size q → A q := fun q h => by
    rcases h with ⟨u, h0, h1, h2⟩ | h
    · rw [← h2]; exact hM.2.1 u h0 h1
    · exact hA q (Nat.le_trans hM.2.2.1 h)
  rw [h0] at hz hk
  have hS := hM.2.2
  obtain ⟨t2, a1, b1⟩ := kk v G' σ' T'.heap (locs ++ L) hp ⟨by rw [e1]; exact hm, fun u h0 hu => hF _ (ht u h0 hu), Nat.le_trans hS.1 (by rw [e1]; exact hz), fun q h1 h2 => by
      rw [e1, hk q (Nat.lt_of_lt_of_le h1 hS.1) (fun z => h2 (hF q z))]
      exact hS.2.1 q h1 h2, fun q hq => by
      rcases List.mem_append.mp hq with h | h
      · exact hS.2.2 q h
      · exact hF _ (hL q h)⟩ T' rfl X'
  exact ⟨t2, st t2 a1, b1⟩
theorem g_calli (hM : gM E A G σ s.heap H locs) (hA : ∀ q, s.heap.size ≤ q → A q) {r : Int} {G1 : y_G} {σ1 : y_S} (hr : va_Run p l e R s m args below meth c H locs cells slots mc ms (F0 m pc ls st0) rest (gQ E G H.size (gR (some (.int (jI r))) G1 σ1) a) (gA G H.size))
    (kk : ∀ (H : Heap) (locs : List Loc), gM E A G1 σ1 s.heap H locs → W p l e R s m args below meth c H locs (cells + mc) (slots + ms) Q (F0 m (pc + 3) ls (.int (jI r) :: rest))) : W p l e R s m args below meth c H locs cells slots Q (F0 m pc ls st0) :=
  g_call hM hA hr (fun v G' σ' H locs hp hM => by obtain ⟨rfl, rfl, rfl⟩ := hp; exact kk H locs hM)
theorem g_callv (hM : gM E A G σ s.heap H locs) (hA : ∀ q, s.heap.size ≤ q → A q) {G1 : y_G} {σ1 : y_S} (hr : va_Run p l e R s m args below meth c H locs cells slots mc ms (F0 m pc ls st0) rest (gQ E G H.size (gR none G1 σ1) a) (gA G H.size))
    (kk : ∀ (H : Heap) (locs : List Loc), gM E A G1 σ1 s.heap H locs → W p l e R s m args below meth c H locs (cells + mc) (slots + ms) Q (F0 m (pc + 3) ls rest)) : W p l e R s m args below meth c H locs cells slots Q (F0 m pc ls st0) :=
  g_call hM hA hr (fun v G' σ' H locs hp hM => by obtain ⟨rfl, rfl, rfl⟩ := hp; exact kk H locs hM)
theorem g_callq (hM : gM E A G σ s.heap H locs) (hA : ∀ q, s.heap.size ≤ q → A q) {r : Option Nat} {G1 : y_G} {σ1 : y_S} (hr : va_Run p l e R s m args below meth c H locs cells slots mc ms (F0 m pc ls st0) rest (gQ E G H.size (gR (some (va_rf r)) G1 σ1) a) (gA G H.size))
    (kk : ∀ (H : Heap) (locs : List Loc), gM E A G1 σ1 s.heap H locs → W p l e R s m args below meth c H locs (cells + mc) (slots + ms) Q (F0 m (pc + 3) ls (va_rf r :: rest))) : W p l e R s m args below meth c H locs cells slots Q (F0 m pc ls st0) :=
  g_call hM hA hr (fun v G' σ' H locs hp hM => by obtain ⟨rfl, rfl, rfl⟩ := hp; exact kk H locs hM)
theorem g_recv (hK : gK E s) (hM : gM E A G σ s.heap H locs) {t ci : Nat} (ht : G.1 t = some (.inl ci)) {q : vw_C} (hc : gCl[ci]? = some q) : ∃ cell : Cell, H[G.2.2 t]? = some cell ∧ cell.vm.isStatics = false ∧ s.vm.findClass q.1 = some cell.cls := by
  obtain ⟨q', h1, cell, q1, q2, q3, q4⟩ := hM.1.1 t _ ht
  exact ⟨cell, q1, by rw [q3]; rfl, by rw [q2]; exact (hK.1 ci q hc).2.1⟩
variable {y : MethodName} {bytes : ByteArray} {maxL n index : Nat} {ret : Option FieldType} {rm : Room} {As : List Value}
theorem g_pre (hK : gK E s) (hM : gM E A G σ s.heap H locs) : PreS s H (gP E As G σ H.size) As := ⟨gP_blind, fun U hU hW => ⟨rfl, hK.warm hW, by rw [hU], by rw [hU]; exact hM.1⟩⟩
theorem g_runV (CF : CallFix p m c cc nL s args lw_all own) (hK : gK E s) (hM : gM E A G σ s.heap H locs) {t ci : Nat} (ht : G.1 t = some (.inl ci)) {q : vw_C} (hc : gCl[ci]? = some q) (hC : Met l y (ws_ y bytes maxL ret) rm (gP E (.ref (G.2.2 t) :: As) G σ H.size) (gQ E G H.size post) mc ms (gA G H.size)) (cw : CallW R s args own q.1 index y bytes maxL ret (ws_ y bytes maxL ret) rm mc ms n)
    (hn : As.length = n) (hl : ls.size = nL) (hstack : st0 = As.reverse ++ .ref (G.2.2 t) :: rest) (hW : (rest.map fun v => v.category).sum ≤ 8) (hdg : decode cc pc = .ok (.invokevirtual index, 3)) (hf : cells + mc ≤ R.cells ∧ slots + ms ≤ R.slots) :
    va_Run p l e R s m args below meth c H locs cells slots mc ms (F0 m pc ls st0) rest (gQ E G H.size post (Value.ref (G.2.2 t) :: As).toArray) (gA G H.size) :=
  va_runV CF hC cw ⟨gP_blind, g_recv hK hM ht hc, (g_pre hK hM).2⟩ rfl hn hl hstack (lv_room hW) hdg hf
theorem g_runS (CF : CallFix p m c cc nL s args lw_all own) (hK : gK E s) (hM : gM E A G σ s.heap H locs) (hC : Met l y (ws_ y bytes maxL ret) rm (gP E As G σ H.size) (gQ E G H.size post) mc ms (gA G H.size)) (cw : CallB R s args own index y bytes maxL ret (ws_ y bytes maxL ret) rm mc ms n ∧ (Cond.static y).before args s = true)
    (hn : As.length = n) (hl : ls.size = nL) (hstack : st0 = As.reverse ++ rest) (hW : (rest.map fun v => v.category).sum ≤ 8) (hdg : decode cc pc = .ok (.invokestatic index, 3)) (hf : cells + mc ≤ R.cells ∧ slots + ms ≤ R.slots) :
    va_Run p l e R s m args below meth c H locs cells slots mc ms (F0 m pc ls st0) rest (gQ E G H.size post As.toArray) (gA G H.size) :=
  va_runS CF hC cw (g_pre hK hM) rfl hn hl hstack (lv_room hW) hdg hf
theorem g_runI (CF : CallFix p m c cc nL s args lw_all own) (hK : gK E s) (hM : gM E A G σ s.heap H locs) {b : Nat} (hC : Met l y (ws_ y bytes maxL none) rm (gP E (.ref b :: As) G σ H.size) (gQ E G H.size post) mc ms (gA G H.size)) (cw : CallB R s args own index y bytes maxL none (ws_ y bytes maxL none) rm mc ms n ∧ y.name = "<init>" ∧ (Cond.instanceMethod y).before args s = true)
    (hn : As.length = n) (hl : ls.size = nL) (hstack : st0 = As.reverse ++ .ref b :: rest) (hW : (rest.map fun v => v.category).sum ≤ 8) (hdg : decode cc pc = .ok (.invokespecial index, 3)) (hf : cells + mc ≤ R.cells ∧ slots + ms ≤ R.slots) :
    va_Run p l e R s m args below meth c H locs cells slots mc ms (F0 m pc ls st0) rest (gQ E G H.size post (Value.ref b :: As).toArray) (gA G H.size) :=
  va_runI CF hC cw (g_pre hK hM) rfl hn hl hstack (lv_room hW) hdg hf
end GC
