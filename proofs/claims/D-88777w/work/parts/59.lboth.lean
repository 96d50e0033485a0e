/-! METHODS THAT RETURN OR THROW: one contract -/
def gQB (E : y_E) (G : y_G) (sz : Nat) (post : Option Value → y_G → y_S → Prop) (thr : Nat → y_G → y_S → Prop) : Array Value → State → Outcome → State → Prop := fun _ st oc t =>
  ((∃ (v : Option Value) (G' : y_G) (σ' : y_S), oc = .returned v ∧ post v G' σ' ∧ gMem E G' σ' t.heap ∧ ∀ u : Nat, u ≠ 0 → G'.1 u ≠ none → gA G sz (G'.2.2 u)) ∨
   (∃ (a : Nat) (G' : y_G) (σ' : y_S), oc = .threw a ∧ thr a G' σ' ∧ gMem E G' σ' t.heap ∧ ∀ u : Nat, u ≠ 0 → G'.1 u ≠ none → gA G sz (G'.2.2 u))) ∧ va_F (gA G sz) st t
abbrev gCtB (l : Launch) (y : MethodName) (cc : ByteArray) (maxL : Nat) (ret : Option FieldType) (rm : Room) (E : y_E) (av : List Value) (G : y_G) (σ : y_S) (sz : Nat) (post : Option Value → y_G → y_S → Prop) (thr : Nat → y_G → y_S → Prop) (mc ms : Nat) : Prop := MetT l y (ws_ y cc maxL ret) rm (gP E av G σ sz) (gQB E G sz post thr) mc ms (gA G sz)
theorem g_metB {l : Launch} {y : MethodName} {cc : ByteArray} {maxL : Nat} {ret : Option FieldType} {rm : Room} {mc ms : Nat} {E : y_E} {G : y_G} {σ : y_S} {sz : Nat} {av : List Value} {post : Option Value → y_G → y_S → Prop} {thr : Nat → y_G → y_S → Prop} (hy : plainName y.cls = true) (hav : (lg_sl av).length ≤ maxL)
    (body : ∀ (p : Program) (e : Env) (s : State) (m : MethodId) (below : List Frame) (meth : Method) (c : Code) (ls : Array Slot), CallFix p m c cc maxL s av.toArray lw_all y.cls → c.exceptionTable.isEmpty = true → meth.sig.returnType = ret → meth.locks = false → meth.name = y.name → gK E s → gM E (gA G sz) G σ s.heap s.heap [] → (∀ q, s.heap.size ≤ q → gA G sz q) → lv_has ls maxL (lv_args 0 av) →
      W p l e rm s m av.toArray below meth c s.heap [] 0 0 (MQT below (gQB E G sz post thr) av.toArray s mc ms (gA G sz)) (F0 m 0 ls [])) : gCtB l y cc maxL ret rm E av G σ sz post thr mc ms := by
  refine MetT.ofW (cc := cc) (maxL := maxL) (ret := ret) hy rfl ?_
  intro p e s m args below meth c s₁ B hml het hv
  obtain ⟨rfl, hK, hsz, hMem⟩ := hv
  have hts := atoms_spec (ws := ws_ y cc maxL ret) B.pre
  have hts : ∀ w ∈ lw_all, w.before _ s = true := fun w h => hts w (List.mem_cons_of_mem _ h)
  have hl := lv_entry av (n := maxL) hav
  rw [lg_entry_eq]
  generalize (lg_sl av ++ List.replicate (maxL - (lg_sl av).length) Slot.unset).toArray = ls at hl ⊢
  exact body p e s m below meth c ls ⟨B.exec, B.bytes, hml, findClass_of_methodNamed B.named, hts⟩ het B.returns B.notSynchronized (name_of_methodNamed B.named B.method).1 hK ⟨hMem, fun t h0 ht => Or.inl ⟨t, h0, ht, rfl⟩, va_S.rf⟩ (fun q h => Or.inr (by rw [← hsz]; exact h)) hl
theorem gCtB.ret {l : Launch} {y : MethodName} {cc : ByteArray} {maxL : Nat} {ret : Option FieldType} {rm : Room} {mc ms : Nat} {E : y_E} {G : y_G} {σ : y_S} {sz : Nat} {av : List Value} {post : Option Value → y_G → y_S → Prop} {thr : Nat → y_G → y_S → Prop} (h : gCtB l y cc maxL ret rm E av G σ sz post thr mc ms) (hn : ∀ (x : Nat) (G' : y_G) (σ' : y_S), ¬ thr x G' σ') : gCt l y cc maxL ret rm E av G σ sz post mc ms := by
  intro p e h1 h2 h3 s m args below h4 h5 h6 h7
  obtain ⟨n, o, k1, k2, k3, ⟨k4, k5⟩, L, k6, k7⟩ := h p e h1 h2 h3 s m args below h4 h5 h6 h7
  rcases k4 with ⟨v, G', σ', rfl, q1, q2, q3⟩ | ⟨a, G', σ', rfl, q1, q2, q3⟩
  · exact ⟨n, _, k1, k2, k3, ⟨⟨v, G', σ', rfl, q1, q2, q3⟩, k5⟩, L, ⟨⟨v, rfl⟩, k6⟩, k7⟩
  · exact absurd q1 (hn a G' σ')
theorem gCtB.thr {l : Launch} {y : MethodName} {cc : ByteArray} {maxL : Nat} {ret : Option FieldType} {rm : Room} {mc ms : Nat} {E : y_E} {G : y_G} {σ : y_S} {sz : Nat} {av : List Value} {post : Option Value → y_G → y_S → Prop} {thr : Nat → y_G → y_S → Prop} (h : gCtB l y cc maxL ret rm E av G σ sz post thr mc ms) (hn : ∀ (v : Option Value) (G' : y_G) (σ' : y_S), ¬ post v G' σ') : gCtT l y cc maxL ret rm E av G σ sz thr mc ms := by
  intro p e h1 h2 h3 s m args below h4 h5 h6 h7
  obtain ⟨n, o, k1, k2, k3, ⟨k4, k5⟩, L, k6, k7⟩ := h p e h1 h2 h3 s m args below h4 h5 h6 h7
  rcases k4 with ⟨v, G', σ', rfl, q1, q2, q3⟩ | ⟨a, G', σ', rfl, q1, q2, q3⟩
  · exact absurd q1 (hn v G' σ')
  · exact ⟨n, _, k1, k2, k3, ⟨⟨a, G', σ', rfl, q1, q2, q3⟩, k5⟩, L, k6, k7⟩
section GB
variable {p : Program} {l : Launch} {e : Env} {R : Room} {s : State} {m : MethodId} {args : Array Value} {below : List Frame} {meth : Method} {c : Code} {H : Heap} {locs : List Loc} {cells slots mc ms : Nat} {free : Addr → Prop} {g : JFrame}
variable {E : y_E} {G0 : y_G} {sz : Nat} {post : Option Value → y_G → y_S → Prop} {thr : Nat → y_G → y_S → Prop}
theorem g_upR (h : W p l e R s m args below meth c H locs cells slots (MQ below (gQ E G0 sz post) args s mc ms free) g) : W p l e R s m args below meth c H locs cells slots (MQT below (gQB E G0 sz post thr) args s mc ms free) g := h.mono (fun t q => by
  obtain ⟨o, h1, h2, ⟨h3, h6⟩, L, h4, h5⟩ := q
  exact ⟨o, h1, h2, ⟨Or.inl h3, h6⟩, L, h4.2, h5⟩)
theorem g_upT (h : W p l e R s m args below meth c H locs cells slots (MQT below (gQT E G0 sz thr) args s mc ms free) g) : W p l e R s m args below meth c H locs cells slots (MQT below (gQB E G0 sz post thr) args s mc ms free) g := h.mono (fun t q => by
  obtain ⟨o, h1, h2, ⟨h3, h6⟩, L, h4, h5⟩ := q
  exact ⟨o, h1, h2, ⟨Or.inr h3, h6⟩, L, h4, h5⟩)
/-- the bounds of what an end says are widened -/
theorem g_widE {Qc : Array Value → State → Outcome → State → Prop} {mc' ms' : Nat} (h1 : mc ≤ mc') (h2 : ms ≤ ms') (hc : cells ≤ mc) (hs : slots ≤ ms) (h : W p l e R s m args below meth c H locs mc ms (MQT below Qc args s mc' ms' free) g) : W p l e R s m args below meth c H locs cells slots (MQT below Qc args s mc' ms' free) g := W.widen hc hs h
end GB
/-! NODES IN MEMORY -/
def ndLf (ρ : y_S) (G : y_G) (τ : y_S) (u : Nat) (L : List Int) : Prop := ∃ ci : Nat, (ci = 10 ∨ ci = 11 ∨ ci = 12) ∧ G.1 u = some (.inl ci) ∧ G.2.1 u 3 = some (G.2.2 60) ∧ (0 ≤ τ u 1 ∧ τ u 1 ≤ ρ 60 0 - 2) ∧ (0 ≤ τ u 2 ∧ τ u 2 ≤ 95) ∧ (ci = 12 → τ u 2 = 24) ∧ L = [100 * τ u 1 + (if ci = 10 then τ u 2 else if ci = 11 then (96 - τ u 2) % 96 else 24)]
def lsV (P : Nat → List Int → Prop) (A : Nat → Prop) (G : y_G) (τ : y_S) (ul : Nat) (L : List Int) : Prop := A ul ∧ A (ul + 1) ∧ G.1 ul = some (.inl 16) ∧ ∃ (n : Nat) (el : Nat → Nat) (Ls : Nat → List Int), n ≤ 100 ∧ lLs ul (ul + 1) (n : Int) (fun i => G.2.2 (el i.toNat)) G τ ∧ (∀ i : Nat, i < n → P (el i) (Ls i)) ∧ L = rdCat n Ls
/-- a node (its tags are A's) that gives these works -/
def ndV (ρ : y_S) (G : y_G) (τ : y_S) (A : Nat → Prop) : Nat → Nat → List Int → Prop
  | 0, _, _ => False
  | h + 1, u, L => A u ∧ (ndLf ρ G τ u L ∨ (G.1 u = some (.inl 8) ∧ (0 ≤ τ u 1 ∧ τ u 1 ≤ 9) ∧ ∃ (ul : Nat) (L1 : List Int), G.2.1 u 2 = some (G.2.2 ul) ∧ lsV (ndV ρ G τ A h) A G τ ul L1 ∧ L = rdRep (τ u 1).toNat L1))
/-- the tags below N are as they were, but for the reader's own places -/
def rdN (N : Nat) (G : y_G) (σ : y_S) (G' : y_G) (τ' : y_S) : Prop := ∀ t : Nat, t < N → t < 90 ∨ 100 ≤ t → G'.1 t = G.1 t ∧ G'.2.2 t = G.2.2 t ∧ (t ≠ 62 → G'.2.1 t = G.2.1 t) ∧ (t ≠ 26 → τ' t = σ t)
theorem rdN.rf {N : Nat} {G : y_G} {σ : y_S} : rdN N G σ G σ := fun _ _ _ => ⟨rfl, rfl, fun _ => rfl, fun _ => rfl⟩
theorem rdN.tr {N N' : Nat} {G G1 G2 : y_G} {σ σ1 σ2 : y_S} (h : rdN N G σ G1 σ1) (k : rdN N' G1 σ1 G2 σ2) (hN : N ≤ N') : rdN N G σ G2 σ2 := fun t a b => by
  have x := h t a b
  have y := k t (by omega) b
  exact ⟨y.1.trans x.1, y.2.1.trans x.2.1, fun c => (y.2.2.1 c).trans (x.2.2.1 c), fun c => (y.2.2.2 c).trans (x.2.2.2 c)⟩
theorem rdN.k {N : Nat} {G G' : y_G} {σ σ' : y_S} (h : rdN N G σ G' σ') (hN : 10000 ≤ N) : rdK G σ G' σ' := fun t a b => h t (by omega) b
theorem rdK.tr {G G1 G2 : y_G} {σ σ1 σ2 : y_S} (h : rdK G σ G1 σ1) (k : rdK G1 σ1 G2 σ2) : rdK G σ G2 σ2 := fun t a b => by
  have x := h t a b
  have y := k t a b
  exact ⟨y.1.trans x.1, y.2.1.trans x.2.1, fun c => (y.2.2.1 c).trans (x.2.2.1 c), fun c => (y.2.2.2 c).trans (x.2.2.2 c)⟩
theorem thW.of {G G1 : y_G} {σ σ1 : y_S} {kd pl : Int} {a : Nat} {G' : y_G} {τ' : y_S} (h : rdK G σ G1 σ1) (k : thW G1 σ1 kd pl a G' τ') : thW G σ kd pl a G' τ' := ⟨k.1, h.tr k.2⟩
/-- the tags of A are as they were -/
def agA (A : Nat → Prop) (G : y_G) (σ : y_S) (G' : y_G) (τ' : y_S) : Prop := ∀ t : Nat, A t → gAg G σ G' τ' t
theorem agA.rf {A : Nat → Prop} {G : y_G} {σ : y_S} : agA A G σ G σ := fun _ _ => ⟨rfl, rfl, rfl, rfl⟩
theorem agA.tr {A A' : Nat → Prop} {G G1 G2 : y_G} {σ σ1 σ2 : y_S} (h : agA A G σ G1 σ1) (k : agA A' G1 σ1 G2 σ2) (hA : ∀ t, A t → A' t) : agA A G σ G2 σ2 := fun t a => by
  have x := h t a
  have y := k t (hA t a)
  exact ⟨y.1.trans x.1, y.2.1.trans x.2.1, y.2.2.1.trans x.2.2.1, y.2.2.2.trans x.2.2.2⟩
theorem rdN.ag {N : Nat} {A : Nat → Prop} {G G' : y_G} {σ σ' : y_S} (h : rdN N G σ G' σ') (hA : ∀ t, A t → 10000 ≤ t ∧ t < N) : agA A G σ G' σ' := fun t a => by
  have b := hA t a
  have x := h t b.2 (by omega)
  exact ⟨x.1, x.2.1, x.2.2.1 (by omega), x.2.2.2 (by omega)⟩
theorem ndV.a {ρ : y_S} {G : y_G} {τ : y_S} {A : Nat → Prop} {h u : Nat} {L : List Int} (k : ndV ρ G τ A h u L) : A u := by
  cases h with
  | zero => exact k.elim
  | succ h => exact k.1
theorem ndV.ob {ρ : y_S} {G : y_G} {τ : y_S} {A : Nat → Prop} {h u : Nat} {L : List Int} (k : ndV ρ G τ A h u L) : ∃ ci : Nat, G.1 u = some (.inl ci) := by
  cases h with
  | zero => exact k.elim
  | succ h =>
    rcases k.2 with ⟨ci, z1, z2, z3⟩ | ⟨z1, z2⟩
    · exact ⟨ci, z2⟩
    · exact ⟨8, z1⟩
theorem lsV.fr {P P' : Nat → List Int → Prop} {A A' : Nat → Prop} {ul : Nat} {L : List Int} {G G' : y_G} {σ σ' : y_S} (h : lsV P A G σ ul L) (k : agA A G σ G' σ') (h0 : G'.2.2 0 = G.2.2 0) (hA : ∀ t, A t → A' t) (hP : ∀ u L, P u L → P' u L) (hu : ∀ u L, P u L → A u) : lsV P' A' G' σ' ul L := by
  obtain ⟨h1, h2, h3, n, el, Ls, h4, h5, h6, h7⟩ := h
  have a := k ul h1
  have b := k (ul + 1) h2
  refine ⟨hA _ h1, hA _ h2, a.1.trans h3, n, el, Ls, h4, h5.tr a b.1 b.2.1 b.2.2.1 h0 (fun i i0 i1 => ?_), fun i hi => hP _ _ (h6 i hi), h7⟩
  exact (k _ (hu _ _ (h6 i.toNat (by omega)))).2.1
theorem ndV.fr {ρ : y_S} {G G' : y_G} {σ σ' : y_S} {A A' : Nat → Prop} (k : agA A G σ G' σ') (h0 : G'.2.2 0 = G.2.2 0) (h60 : G'.2.2 60 = G.2.2 60) (hA : ∀ t, A t → A' t) : ∀ (h u : Nat) (L : List Int), ndV ρ G σ A h u L → ndV ρ G' σ' A' h u L
  | 0, _, _, q => q.elim
  | h + 1, u, L, q => by
    obtain ⟨q1, q3⟩ := q
    have a := k u q1
    refine ⟨hA _ q1, ?_⟩
    rcases q3 with ⟨ci, z1, z2, z3, z4⟩ | ⟨z1, z2, ul, L1, z3, z4, z5⟩
    · exact Or.inl ⟨ci, z1, a.1.trans z2, by rw [a.2.2.1, h60]; exact z3, by rw [a.2.2.2]; exact z4⟩
    · refine Or.inr ⟨a.1.trans z1, by rw [a.2.2.2]; exact z2, ul, L1, ?_, z4.fr k h0 hA (ndV.fr k h0 h60 hA h) (fun u L q => q.a), by rw [a.2.2.2]; exact z5⟩
      rw [a.2.2.1, z3, (k ul z4.1).2.1]
theorem lsV.mo {P P' : Nat → List Int → Prop} {A : Nat → Prop} {ul : Nat} {L : List Int} {G : y_G} {σ : y_S} (h : lsV P A G σ ul L) (hP : ∀ u L, P u L → P' u L) : lsV P' A G σ ul L := by
  obtain ⟨h1, h2, h3, n, el, Ls, h4, h5, h6, h7⟩ := h
  exact ⟨h1, h2, h3, n, el, Ls, h4, h5, fun i hi => hP _ _ (h6 i hi), h7⟩
theorem ndV.up {ρ : y_S} {G : y_G} {σ : y_S} {A : Nat → Prop} : ∀ (h u : Nat) (L : List Int), ndV ρ G σ A h u L → ndV ρ G σ A (h + 1) u L
  | 0, _, _, q => q.elim
  | h + 1, u, L, q => by
    obtain ⟨q1, q3⟩ := q
    refine ⟨q1, ?_⟩
    rcases q3 with z | ⟨z1, z2, ul, L1, z3, z4, z5⟩
    · exact Or.inl z
    · exact Or.inr ⟨z1, z2, ul, L1, z3, z4.mo (ndV.up h), z5⟩
theorem ndV.le {ρ : y_S} {G : y_G} {σ : y_S} {A : Nat → Prop} {h u : Nat} {L : List Int} (k : ndV ρ G σ A h u L) : ∀ {h' : Nat}, h ≤ h' → ndV ρ G σ A h' u L := by
  intro h' hh
  obtain ⟨d, rfl⟩ := Nat.exists_eq_add_of_le hh
  clear hh
  induction d with
  | zero => exact k
  | succ d ih => exact ndV.up _ _ _ ih
/-- the reader's names -/
def lgN (ρ : y_S) (G : y_G) (τ : y_S) (A : Nat → Prop) (h : Nat) (nm : rM) : Prop := ∀ k : Int, 0 ≤ k → k < 6 → match nm k with
  | none => G.2.1 62 k = none
  | some L => ∃ u : Nat, G.2.1 62 k = some (G.2.2 u) ∧ ndV ρ G τ A h u L
/-- what holds while it is read -/
def lgP (E : y_E) (ρ : y_S) (G : y_G) (τ : y_S) (A : Nat → Prop) (N : Nat) (a lk : Int) (nm : rM) : Prop := lgV ρ G τ ∧ (τ 26 1 = a ∧ τ 26 2 = lk) ∧ (10000 ≤ N ∧ (∀ t : Nat, N ≤ t → G.1 t = none) ∧ (∀ t : Nat, 90 ≤ t → t < 100 → G.1 t = none) ∧ ∀ t : Nat, A t → 10000 ≤ t ∧ t < N) ∧ gZr E 0 = some (G.2.2 0) ∧ lgN ρ G τ A a.toNat nm ∧ (0 ≤ a ∧ a ≤ ρ 60 30) ∧ rLo lk
def aX (A : Nat → Prop) (N N' : Nat) (t : Nat) : Prop := A t ∨ (N ≤ t ∧ t < N')
theorem lgP.fr {E : y_E} {ρ τ τ' : y_S} {G G' : y_G} {A A' : Nat → Prop} {N N' : Nat} {a a' lk lk' : Int} {nm : rM} (h : lgP E ρ G τ A N a lk nm) (k : rdK G τ G' τ') (g : agA A G τ G' τ') (hA : ∀ t, A t → A' t) (h62 : G'.2.1 62 = G.2.1 62) (h1 : τ' 26 1 = a') (h2 : τ' 26 2 = lk') (hN : N ≤ N') (hf : ∀ t : Nat, N' ≤ t → G'.1 t = none) (hs : ∀ t : Nat, 90 ≤ t → t < 100 → G'.1 t = none) (hA' : ∀ t, A' t → 10000 ≤ t ∧ t < N') (ha : a ≤ a') (ha2 : a' ≤ ρ 60 30) (hl : rLo lk') : lgP E ρ G' τ' A' N' a' lk' nm := by
  obtain ⟨b1, b2, b3, b4, b5, b6, b7⟩ := h
  have k0 := k 0 (by decide) (by decide)
  have k60 := k 60 (by decide) (by decide)
  have k24 := k 24 (by decide) (by decide)
  refine ⟨b1.fr (fun t ht => ?_) (k60.2.2.2 (by decide)) (k24.2.2.2 (by decide)), ⟨h1, h2⟩, ⟨by omega, hf, hs, hA'⟩, by rw [k0.2.1]; exact b4, fun j j0 j1 => ?_, ⟨by omega, ha2⟩, hl⟩
  · unfold gdT at ht
    have q := k t (by omega) (by omega)
    exact ⟨q.1, q.2.1, fun j z => by rw [q.2.2.1 z]⟩
  · have q := b5 j j0 j1
    rw [h62]
    rcases hm : nm j with _ | L
    · rw [hm] at q; exact q
    · rw [hm] at q
      obtain ⟨u, q1, q2⟩ := q
      exact ⟨u, by rw [(g u q2.a).2.1]; exact q1, (ndV.fr g k0.2.1 k60.2.1 hA _ _ _ q2).le (by omega)⟩
