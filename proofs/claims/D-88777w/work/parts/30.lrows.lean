/-! ROWS FOR THE CLASS ITSELF (1): signs by xor, longs that are given back -/
theorem jI_neg0 {x : Int32} : x.toInt < 0 ↔ x.toBitVec.msb = true := by
  rw [BitVec.msb_eq_toInt, decide_eq_true_iff]
  exact Iff.rfl
theorem jL_neg0 {x : Int64} : x.toInt < 0 ↔ x.toBitVec.msb = true := by
  rw [BitVec.msb_eq_toInt, decide_eq_true_iff]
  exact Iff.rfl
theorem jI_xor {a b : Int} (ha : R32 a) (hb : R32 b) (h0 : 0 ≤ b) : (jI a ^^^ jI b).toInt < 0 ↔ a < 0 := by
  have h1 : (jI a).toBitVec.msb = decide (a < 0) := by
    rw [BitVec.msb_eq_toInt]; show decide ((jI a).toInt < 0) = _; rw [jI_toInt ha]
  have h2 : (jI b).toBitVec.msb = false := by
    rw [BitVec.msb_eq_toInt]; show decide ((jI b).toInt < 0) = _; rw [jI_toInt hb, decide_eq_false_iff_not]; omega
  rw [jI_neg0]
  show ((jI a).toBitVec ^^^ (jI b).toBitVec).msb = true ↔ _
  rw [BitVec.msb_xor, h1, h2, Bool.xor_false, decide_eq_true_iff]
theorem jL_xor {a b : Int} (ha : R64 a) (hb : R64 b) (h0 : 0 ≤ b) : (jL a ^^^ jL b).toInt < 0 ↔ a < 0 := by
  have h1 : (jL a).toBitVec.msb = decide (a < 0) := by
    rw [BitVec.msb_eq_toInt]; show decide ((jL a).toInt < 0) = _; rw [jL_toInt ha]
  have h2 : (jL b).toBitVec.msb = false := by
    rw [BitVec.msb_eq_toInt]; show decide ((jL b).toInt < 0) = _; rw [jL_toInt hb, decide_eq_false_iff_not]; omega
  rw [jL_neg0]
  show ((jL a).toBitVec ^^^ (jL b).toBitVec).msb = true ↔ _
  rw [BitVec.msb_xor, h1, h2, Bool.xor_false, decide_eq_true_iff]
section XX
variable {p : Program} {l : Launch} {e : Env} {R : Room} {s : State} {m : MethodId} {args : Array Value} {below : List Frame} {meth : Method} {c : Code} {H : Heap} {locs : List Loc} {cells slots mc ms : Nat} {Q : State → Prop} {cc : ByteArray} {pc nL : Nat} {ls : Array Slot} {rest st0 : List Value}
variable {E : y_E} {A : Nat → Prop} {G G0 : y_G} {σ : y_S} {sz : Nat} {own : String} {post : Option Value → y_G → y_S → Prop} {a : Array Value}
theorem x_ixor (hx : p.tables.exec = Jvm.exec) (hb : c.code = cc) {a b : Int} (hdg : decode cc pc = .ok (.ixor, 1)) (ha : R32 a) (hb2 : R32 b) (h0 : 0 ≤ b)
    (k : ∀ v : Int, R32 v → (v < 0 ↔ a < 0) → W p l e R s m args below meth c H locs cells slots Q (F0 m (pc + 1) ls (.int (jI v) :: rest))) : W p l e R s m args below meth c H locs cells slots Q (F0 m pc ls (.int (jI b) :: .int (jI a) :: rest)) := by
  refine lv_ixor hx hb hdg ?_
  have := k (jI a ^^^ jI b).toInt (jI_r _) (jI_xor ha hb2 h0)
  rw [jI_of] at this
  exact this
theorem x_lxor (hx : p.tables.exec = Jvm.exec) (hb : c.code = cc) {a b : Int} (hdg : decode cc pc = .ok (.lxor, 1)) (ha : R64 a) (hb2 : R64 b) (h0 : 0 ≤ b)
    (k : ∀ v : Int, R64 v → (v < 0 ↔ a < 0) → W p l e R s m args below meth c H locs cells slots Q (F0 m (pc + 1) ls (.long (jL v) :: rest))) : W p l e R s m args below meth c H locs cells slots Q (F0 m pc ls (.long (jL b) :: .long (jL a) :: rest)) := by
  refine lv_lxor hx hb hdg ?_
  have := k (jL a ^^^ jL b).toInt (jL_r _) (jL_xor ha hb2 h0)
  rw [jL_of] at this
  exact this
theorem g_lret (CF : CallFix p m c cc nL s args lw_all own) (hr : meth.sig.returnType = some .long) (hlocks : meth.locks = false) (hM : gM E (gA G0 sz) G σ s.heap H locs) {r : Int} (hp : post (some (.long (jL r))) G σ) (h1 : cells ≤ mc) (h2 : slots ≤ ms) (hdg : decode cc pc = .ok (.lreturn, 1)) :
    W p l e R s m args below meth c H locs cells slots (MQ below (gQ E G0 sz post) args s mc ms (gA G0 sz)) (F0 m pc ls [.long (jL r)]) :=
  W.widen h1 h2 (W.lret CF.1 CF.2.1 hr (fun t ht hW => ⟨⟨_, G, σ, rfl, hp, by rw [ht]; exact hM.1, hM.2.1⟩, hM.2.2.F ht⟩) hM.2.2.2.2 hdg hlocks)
theorem g_calll (hM : gM E A G σ s.heap H locs) (hA : ∀ q, s.heap.size ≤ q → A q) {r : Int} {G1 : y_G} {σ1 : y_S} (hr : va_Run p l e R s m args below meth c H locs cells slots mc ms (F0 m pc ls st0) rest (gQ E G H.size (gR (some (.long (jL r))) G1 σ1) a) (gA G H.size))
    (kk : ∀ (H : Heap) (locs : List Loc), gM E A G1 σ1 s.heap H locs → W p l e R s m args below meth c H locs (cells + mc) (slots + ms) Q (F0 m (pc + 3) ls (.long (jL r) :: rest))) : W p l e R s m args below meth c H locs cells slots Q (F0 m pc ls st0) :=
  g_call hM hA hr (fun v G' σ' H locs hp hM => by obtain ⟨rfl, rfl, rfl⟩ := hp; exact kk H locs hM)
end XX
theorem g_pl {z r : Int} {σ : y_S} {G : y_G} (e : z = r) : gR (some (.long (jL z))) G σ (some (.long (jL r))) G σ := by subst e; exact ⟨rfl, rfl, rfl⟩
/-- a remainder that is made positive -/
theorem tm_pos {v b : Int} (hb : 0 < b) : (0 ≤ v ∧ v.tmod b = v % b) ∨ (v < 0 ∧ v.tmod b = 0 ∧ v % b = 0) ∨ (v < 0 ∧ v.tmod b < 0 ∧ v % b = v.tmod b + b) := by
  by_cases h : 0 ≤ v
  · exact Or.inl ⟨h, Int.tmod_eq_emod_of_nonneg h⟩
  · refine Or.inr ?_
    have e : v.tmod b = -((-v) % b) := by rw [← Int.tmod_eq_emod_of_nonneg (by omega), Int.neg_tmod, Int.neg_neg]
    have h1 := Int.emod_nonneg (-v) (show b ≠ 0 by omega)
    have h2 := Int.emod_lt_of_pos (-v) hb
    by_cases h3 : (-v) % b = 0
    · refine Or.inl ⟨by omega, by omega, ?_⟩
      have h4 : b ∣ -v := Int.dvd_of_emod_eq_zero h3
      exact Int.emod_eq_zero_of_dvd (Int.dvd_neg.mp h4)
    · refine Or.inr ⟨by omega, by omega, ?_⟩
      rw [e]
      have h5 : v = -((-v) % b) + b + b * (-((-v) / b) - 1) := by
        have := Int.mul_ediv_add_emod (-v) b
        have e2 : b * (-((-v) / b) - 1) = -(b * ((-v) / b)) - b := by rw [Int.mul_sub, Int.mul_neg, Int.mul_one]
        omega
      have h6 : v % b = (-((-v) % b) + b) % b := by
        conv => lhs; rw [h5]
        rw [Int.add_mul_emod_self_left]
      rw [h6, Int.emod_eq_of_lt (by omega) (by omega)]
/-- a contract's start, for a method that no table entry runs instead -/
theorem g_metF {l : Launch} {y : MethodName} {cc : ByteArray} {maxL : Nat} {ret : Option FieldType} {rm : Room} {mc ms : Nat} {E : y_E} {G : y_G} {σ : y_S} {sz : Nat} {av : List Value} {post : Option Value → y_G → y_S → Prop} (hy : plainFor y = true) (hav : (lg_sl av).length ≤ maxL)
    (body : ∀ (p : Program) (e : Env) (s : State) (m : MethodId) (below : List Frame) (meth : Method) (c : Code) (ls : Array Slot), CallFix p m c cc maxL s av.toArray lw_all y.cls → meth.sig.returnType = ret → meth.locks = false → meth.name = y.name → gK E s → gM E (gA G sz) G σ s.heap s.heap [] → (∀ q, s.heap.size ≤ q → gA G sz q) → lv_has ls maxL (lv_args 0 av) →
      W p l e rm s m av.toArray below meth c s.heap [] 0 0 (MQ below (gQ E G sz post) av.toArray s mc ms (gA G sz)) (F0 m 0 ls [])) : Met l y (ws_ y cc maxL ret) rm (gP E av G σ sz) (gQ E G sz post) mc ms (gA G sz) := by
  refine MetFree.of_bodySF (code := cc) (maxLocals := maxL) (ret := ret) hy ?_ ?_
  · intro args s m h hn
    obtain ⟨meth, c, h1, h2, h3, h4, h5, h6, -, -⟩ := Cond.code_spec hn (atoms_spec (ws := ws_ y cc maxL ret) h _ List.mem_cons_self)
    exact ⟨meth, c, h1, h2, h3, h4, h5, h6⟩
  · intro p e s m args below meth c s₁ B hml hv _
    have hh0 : s₁.heap = s.heap := by rw [B.state]; rfl
    have hw : W p l e rm s m args below meth c s.heap [] 0 0 (MQ below (gQ E G sz post) args s mc ms (gA G sz)) (entryFrame m args maxL) := by
      obtain ⟨rfl, hK, hsz, hMem⟩ := hv
      have hts := atoms_spec (ws := ws_ y cc maxL ret) B.pre
      have hts : ∀ w ∈ lw_all, w.before _ s = true := fun w h => hts w (List.mem_cons_of_mem _ h)
      have hl := lv_entry av (n := maxL) hav
      rw [lg_entry_eq]
      generalize (lg_sl av ++ List.replicate (maxL - (lg_sl av).length) Slot.unset).toArray = ls at hl ⊢
      exact body p e s m below meth c ls ⟨B.exec, B.bytes, hml, findClass_of_methodNamed B.named, hts⟩ B.returns B.notSynchronized (name_of_methodNamed B.named B.method).1 hK ⟨hMem, fun t h0 ht => Or.inl ⟨t, h0, ht, rfl⟩, va_S.rf⟩ (fun q h => Or.inr (by rw [← hsz]; exact h)) hl
    obtain ⟨t, a1, o, b1, b2, b3⟩ := hw s₁ hh0 (Stand.of_body B)
    exact ⟨t, o, a1, b1, b2, ⟨b3.1, b3.2⟩⟩
