/-! METHODS THAT THROW, over the memory by tags -/
def gQT (E : y_E) (G : y_G) (sz : Nat) (thr : Nat → y_G → y_S → Prop) : Array Value → State → Outcome → State → Prop := fun _ st oc t => (∃ (a : Nat) (G' : y_G) (σ' : y_S), oc = .threw a ∧ thr a G' σ' ∧ gMem E G' σ' t.heap ∧ ∀ u : Nat, u ≠ 0 → G'.1 u ≠ none → gA G sz (G'.2.2 u)) ∧ va_F (gA G sz) st t
theorem g_metT {l : Launch} {y : MethodName} {cc : ByteArray} {maxL : Nat} {ret : Option FieldType} {rm : Room} {mc ms : Nat} {E : y_E} {G : y_G} {σ : y_S} {sz : Nat} {av : List Value} {thr : Nat → y_G → y_S → Prop} (hy : plainName y.cls = true) (hav : (lg_sl av).length ≤ maxL)
    (body : ∀ (p : Program) (e : Env) (s : State) (m : MethodId) (below : List Frame) (meth : Method) (c : Code) (ls : Array Slot), CallFix p m c cc maxL s av.toArray lw_all y.cls → c.exceptionTable.isEmpty = true → meth.locks = false → meth.name = y.name → gK E s → gM E (gA G sz) G σ s.heap s.heap [] → (∀ q, s.heap.size ≤ q → gA G sz q) → lv_has ls maxL (lv_args 0 av) →
      W p l e rm s m av.toArray below meth c s.heap [] 0 0 (MQT below (gQT E G sz thr) av.toArray s mc ms (gA G sz)) (F0 m 0 ls [])) : MetT l y (ws_ y cc maxL ret) rm (gP E av G σ sz) (gQT E G sz thr) mc ms (gA G sz) := by
  refine MetT.ofW (cc := cc) (maxL := maxL) (ret := ret) hy rfl ?_
  intro p e s m args below meth c s₁ B hml het hv
  obtain ⟨rfl, hK, hsz, hMem⟩ := hv
  have hts := atoms_spec (ws := ws_ y cc maxL ret) B.pre
  have hts : ∀ w ∈ lw_all, w.before _ s = true := fun w h => hts w (List.mem_cons_of_mem _ h)
  have hl := lv_entry av (n := maxL) hav
  rw [lg_entry_eq]
  generalize (lg_sl av ++ List.replicate (maxL - (lg_sl av).length) Slot.unset).toArray = ls at hl ⊢
  exact body p e s m below meth c ls ⟨B.exec, B.bytes, hml, findClass_of_methodNamed B.named, hts⟩ het B.notSynchronized (name_of_methodNamed B.named B.method).1 hK ⟨hMem, fun t h0 ht => Or.inl ⟨t, h0, ht, rfl⟩, va_S.rf⟩ (fun q h => Or.inr (by rw [← hsz]; exact h)) hl
section GT
variable {p : Program} {l : Launch} {e : Env} {R : Room} {s : State} {m : MethodId} {args : Array Value} {below : List Frame} {meth : Method} {c : Code} {H : Heap} {locs : List Loc} {cells slots mc ms mc' ms' : Nat} {cc : ByteArray} {pc nL : Nat} {ls : Array Slot} {rest st0 As : List Value}
variable {E : y_E} {G G0 : y_G} {σ : y_S} {sz : Nat} {own : String} {thr thr' : Nat → y_G → y_S → Prop} {a : Array Value}
/-- what is thrown by athrow -/
theorem g_athr (CF : CallFix p m c cc nL s args lw_all own) (het : c.exceptionTable.isEmpty = true) (hlocks : meth.locks = false) (hM : gM E (gA G0 sz) G σ s.heap H locs) {x : Nat} (hp : thr x G σ) (hdg : decode cc pc = .ok (.athrow, 1)) :
    W p l e R s m args below meth c H locs cells slots (MQT below (gQT E G0 sz thr) args s cells slots (gA G0 sz)) (F0 m pc ls (.ref x :: rest)) :=
  W.athr CF.1 CF.2.1 het hlocks (fun t ht hW => ⟨⟨x, G, σ, rfl, hp, by rw [ht]; exact hM.1, hM.2.1⟩, hM.2.2.F ht⟩) hM.2.2.2.2 hdg
/-- what a called method throws goes out -/
theorem g_pass (het : c.exceptionTable.isEmpty = true) (hlocks : meth.locks = false) (hM : gM E (gA G0 sz) G σ s.heap H locs) (hA : ∀ q, s.heap.size ≤ q → gA G0 sz q)
    (hr : ∀ T : State, T.heap = H → Stand p l e R s m args below meth c T locs cells slots → ∃ (o : Outcome) (st₀ t : State) (L : List Loc), st₀.heap = H ∧ gQT E G H.size thr a st₀ o t ∧ (∀ q ∈ L, gA G H.size q.base) ∧ ∀ x : Nat, o = .threw x → ∃ T' : State, Stand p l e R s m args below meth c T' (locs ++ L) (cells + mc) (slots + ms) ∧ T'.heap = t.heap ∧ T'.vm = t.vm ∧ Steps p.tables e below (T.setTop (F0 m pc ls st0)) ((T'.setTop { F0 m pc ls st0 with stack := rest }).pushFrame (.throwing x)))
    (hp : ∀ x G' σ', thr x G' σ' → thr' x G' σ') :
    W p l e R s m args below meth c H locs cells slots (MQT below (gQT E G0 sz thr') args s (cells + mc) (slots + ms) (gA G0 sz)) (F0 m pc ls st0) := by
  intro T hT X
  obtain ⟨o, st₀, t, L, h0, ⟨⟨x, G', σ', rfl, hq, hm, ht⟩, hz, hk⟩, hL, hthr⟩ := hr T hT X
  obtain ⟨T', X', e1, e2, st⟩ := hthr x rfl
  have hout : ∀ z ∈ c.exceptionTable.toList, covers z ({ F0 m pc ls st0 with stack := rest } : JFrame).pc = false := by
    intro z h
    rw [Array.isEmpty_iff.mp het] at h
    cases h
  obtain ⟨g1, g2, g3, g4, g5⟩ := X'.leaveThrown x (g := { F0 m pc ls st0 with stack := rest }) rfl rfl rfl hout hlocks
  have hF : ∀ q, gA G H.size q → gA G0 sz q := fun q h => by
    rcases h with ⟨u, u0, u1, u2⟩ | h
    · rw [← u2]; exact hM.2.1 u u0 u1
    · exact hA q (Nat.le_trans hM.2.2.1 h)
  rw [h0] at hz hk
  have hS := hM.2.2
  have hh : (T'.setFrames (.throwing x :: below)).heap = t.heap := by rw [← e1]; rfl
  refine ⟨_, st.trans g1, _, g2, g3, ⟨⟨x, G', σ', rfl, hp _ _ _ hq, by rw [hh]; exact hm, fun u h0 hu => hF _ (ht u h0 hu)⟩, by rw [hh]; exact Nat.le_trans hS.1 hz, fun q h1 h2 => ?_⟩, locs ++ L, ⟨g4, g5⟩, fun q hq2 => ?_⟩
  · rw [hh, hk q (Nat.lt_of_lt_of_le h1 hS.1) (fun z => h2 (hF q z))]
    exact hS.2.1 q h1 h2
  · rcases List.mem_append.mp hq2 with h | h
    · exact hS.2.2 q h
    · exact hF _ (hL q h)
end GT
