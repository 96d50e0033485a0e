/-! CALLS OF NEST MATES -/
section GNM
variable {p : Program} {l : Launch} {e : Env} {R : Room} {s : State} {m : MethodId} {args : Array Value} {below : List Frame} {meth : Method} {c : Code} {H : Heap} {locs : List Loc} {cells slots mc ms : Nat} {cc : ByteArray} {pc nL : Nat} {ls : Array Slot} {rest st0 : List Value}
variable {E : y_E} {A : Nat → Prop} {G : y_G} {σ : y_S} {own host : String} {post : Option Value → y_G → y_S → Prop}
variable {y : MethodName} {bytes : ByteArray} {maxL n index : Nat} {ret : Option FieldType} {rm : Room} {As : List Value}
theorem g_runVN (CF : CallFix p m c cc nL s args lw_all own) (hK : gK E s) (hM : gM E A G σ s.heap H locs) {t ci : Nat} (ht : G.1 t = some (.inl ci)) {q : vw_C} (hc : gCl[ci]? = some q) (hC : Met l y (ws_ y bytes maxL ret) rm (gP E (.ref (G.2.2 t) :: As) G σ H.size) (gQ E G H.size post) mc ms (gA G H.size)) (cw : va_CN R s args own index y host bytes maxL ret (ws_ y bytes maxL ret) rm mc ms n ∧ (Cond.instanceMethod y).before args s = true ∧ (Cond.selects q.1 y y).before args s = true)
    (hn : As.length = n) (hl : ls.size = nL) (hstack : st0 = As.reverse ++ .ref (G.2.2 t) :: rest) (hW : (rest.map fun v => v.category).sum ≤ 8) (hdg : decode cc pc = .ok (.invokevirtual index, 3)) (hf : cells + mc ≤ R.cells ∧ slots + ms ≤ R.slots) :
    va_Run p l e R s m args below meth c H locs cells slots mc ms (F0 m pc ls st0) rest (gQ E G H.size post (Value.ref (G.2.2 t) :: As).toArray) (gA G H.size) :=
  va_runVN CF hC cw ⟨gP_blind, g_recv hK hM ht hc, (g_pre hK hM).2⟩ rfl hn hl hstack (lv_room hW) hdg hf
theorem g_runSN (CF : CallFix p m c cc nL s args lw_all own) (hK : gK E s) (hM : gM E A G σ s.heap H locs) (hC : Met l y (ws_ y bytes maxL ret) rm (gP E As G σ H.size) (gQ E G H.size post) mc ms (gA G H.size)) (cw : va_CN R s args own index y host bytes maxL ret (ws_ y bytes maxL ret) rm mc ms n ∧ (Cond.static y).before args s = true ∧ True)
    (hn : As.length = n) (hl : ls.size = nL) (hstack : st0 = As.reverse ++ rest) (hW : (rest.map fun v => v.category).sum ≤ 8) (hdg : decode cc pc = .ok (.invokestatic index, 3)) (hf : cells + mc ≤ R.cells ∧ slots + ms ≤ R.slots) :
    va_Run p l e R s m args below meth c H locs cells slots mc ms (F0 m pc ls st0) rest (gQ E G H.size post As.toArray) (gA G H.size) :=
  va_runSN CF hC cw (g_pre hK hM) rfl hn hl hstack (lv_room hW) hdg hf
theorem g_runIN (CF : CallFix p m c cc nL s args lw_all own) (hK : gK E s) (hM : gM E A G σ s.heap H locs) {b : Nat} (hC : Met l y (ws_ y bytes maxL none) rm (gP E (.ref b :: As) G σ H.size) (gQ E G H.size post) mc ms (gA G H.size)) (cw : va_CN R s args own index y host bytes maxL none (ws_ y bytes maxL none) rm mc ms n ∧ y.name = "<init>" ∧ (Cond.instanceMethod y).before args s = true)
    (hn : As.length = n) (hl : ls.size = nL) (hstack : st0 = As.reverse ++ .ref b :: rest) (hW : (rest.map fun v => v.category).sum ≤ 8) (hdg : decode cc pc = .ok (.invokespecial index, 3)) (hf : cells + mc ≤ R.cells ∧ slots + ms ≤ R.slots) :
    va_Run p l e R s m args below meth c H locs cells slots mc ms (F0 m pc ls st0) rest (gQ E G H.size post (Value.ref b :: As).toArray) (gA G H.size) :=
  va_runIN CF hC cw (g_pre hK hM) rfl hn hl hstack (lv_room hW) hdg hf
/-- an inherited, overriding or abstract method, on a receiver whose class is known -/
theorem g_cu {C owner : String} {x : MethodName} (n : Nat) (hts : ∀ w ∈ lw_all, w.before args s = true) (hl : Cond.methodLink own index x ∈ lw_all) (hsm : Cond.sameMethod x.cls owner x.name x.desc ∈ lw_all) (hd : va_Decl s ⟨owner, x.name, x.desc⟩) (hsel : (Cond.selects C x y).before args s = true) (hi : Cond.instanceMethod y ∈ lw_all) (hini : Cond.initialized y.cls ∈ lw_all) (hc : Cond.code y bytes maxL ret ∈ lw_all) (hrc : rm.cells = mc) (hrs : rm.slots = ms)
    (hdd : owner ≠ "java/lang/invoke/MethodHandle" ∧ owner ≠ "java/lang/invoke/VarHandle" ∧ (parseMethodDescriptor x.desc).map (fun d => d.parameters.length) = some n) (hR : rm.frames + 1 ≤ R.frames ∧ 8 + (maxL + 11) + rm.locals ≤ R.locals) : va_CU R s args own C owner index x y bytes maxL ret (ws_ y bytes maxL ret) rm mc ms n := by
  refine ⟨⟨hrc, hrs, hR.1, hR.2, pay_in hts (lw_meth hc), List.mem_cons_self⟩, hts _ hc, hts _ hini, ⟨hdd.1, hdd.2.1⟩, fun sig h => ?_, hts _ hl, hts _ hsm, hd, hsel, hts _ hi⟩
  have h2 := hdd.2.2
  rw [h] at h2
  exact (Option.some.inj h2).symm
theorem g_runU (CF : CallFix p m c cc nL s args lw_all own) (hK : gK E s) (hM : gM E A G σ s.heap H locs) {t ci : Nat} (ht : G.1 t = some (.inl ci)) {q : vw_C} (hc : gCl[ci]? = some q) {owner : String} {x : MethodName} (hC : Met l y (ws_ y bytes maxL ret) rm (gP E (.ref (G.2.2 t) :: As) G σ H.size) (gQ E G H.size post) mc ms (gA G H.size)) (cw : va_CU R s args own q.1 owner index x y bytes maxL ret (ws_ y bytes maxL ret) rm mc ms n)
    (hn : As.length = n) (hl : ls.size = nL) (hstack : st0 = As.reverse ++ .ref (G.2.2 t) :: rest) (hW : (rest.map fun v => v.category).sum ≤ 8) (hdg : decode cc pc = .ok (.invokevirtual index, 3)) (hf : cells + mc ≤ R.cells ∧ slots + ms ≤ R.slots) :
    va_Run p l e R s m args below meth c H locs cells slots mc ms (F0 m pc ls st0) rest (gQ E G H.size post (Value.ref (G.2.2 t) :: As).toArray) (gA G H.size) :=
  va_runU CF hC cw ⟨gP_blind, g_recv hK hM ht hc, (g_pre hK hM).2⟩ rfl hn hl hstack (lv_room hW) hdg hf
/-- super's method -/
theorem g_cs (n : Nat) (hts : ∀ w ∈ lw_all, w.before args s = true) (hl : Cond.methodLink own index y ∈ lw_all) (hsm : Cond.sameMethod y.cls y.cls y.name y.desc ∈ lw_all) (hsu : Cond.superclass own y.cls ∈ lw_all) (hi : Cond.instanceMethod y ∈ lw_all) (hini : Cond.initialized y.cls ∈ lw_all) (hc : Cond.code y bytes maxL ret ∈ lw_all) (hrc : rm.cells = mc) (hrs : rm.slots = ms)
    (hdd : y.name ≠ "<init>" ∧ (parseMethodDescriptor y.desc).map (fun d => d.parameters.length) = some n) (hR : rm.frames + 1 ≤ R.frames ∧ 8 + (maxL + 11) + rm.locals ≤ R.locals) : va_CS R s args own index y bytes maxL ret (ws_ y bytes maxL ret) rm mc ms n := by
  refine ⟨⟨hrc, hrs, hR.1, hR.2, pay_in hts (lw_meth hc), List.mem_cons_self⟩, hts _ hl, hts _ hsm, hts _ hsu, hts _ hi, hts _ hini, hts _ hc, hdd.1, fun sig h => ?_⟩
  have h2 := hdd.2
  rw [h] at h2
  exact (Option.some.inj h2).symm
theorem g_runSU (CF : CallFix p m c cc nL s args lw_all own) (hK : gK E s) (hM : gM E A G σ s.heap H locs) {t ci : Nat} (ht : G.1 t = some (.inl ci)) {q : vw_C} (hc : gCl[ci]? = some q) (hC : Met l y (ws_ y bytes maxL ret) rm (gP E (.ref (G.2.2 t) :: As) G σ H.size) (gQ E G H.size post) mc ms (gA G H.size)) (cw : va_CS R s args own index y bytes maxL ret (ws_ y bytes maxL ret) rm mc ms n)
    (hn : As.length = n) (hl : ls.size = nL) (hstack : st0 = As.reverse ++ .ref (G.2.2 t) :: rest) (hW : (rest.map fun v => v.category).sum ≤ 8) (hdg : decode cc pc = .ok (.invokespecial index, 3)) (hf : cells + mc ≤ R.cells ∧ slots + ms ≤ R.slots) :
    va_Run p l e R s m args below meth c H locs cells slots mc ms (F0 m pc ls st0) rest (gQ E G H.size post (Value.ref (G.2.2 t) :: As).toArray) (gA G H.size) :=
  va_runSU (hK.1 ci q hc).2 CF hC cw ⟨gP_blind, g_recv hK hM ht hc, (g_pre hK hM).2⟩ rfl hn hl hstack (lv_room hW) hdg hf
theorem g_selA (h : gX E s) {C : String} (hC : C ∈ ["LightPlate$Plain", "LightPlate$True", "LightPlate$Guess", "LightPlate$Again"]) : (Cond.selects C gHa gHa).before args s = true := word_at (State.WarmedH.refl s) (Or.inl rfl) (h.1 C hC)
end GNM
/-- a row is changed as a whole -/
theorem gM.setT {E : y_E} {A : Nat → Prop} {G : y_G} {σ : y_S} {H0 H H1 : Heap} {locs : List Loc} (h : gM E A G σ H0 H locs) {t : Nat} (h0 : t ≠ 0) {k : y_K} (ht : G.1 t = some k) {f : Int → Int} {r : Int → Option Nat} (hv : ∀ i, R32 (f i)) {L : List Loc} (hL : ∀ q ∈ L, q.base = G.2.2 t) (hc : gCell E (G.2.2 t) k f r H1) (hz : H1.size = H.size) (ho : ∀ q : Nat, q ≠ G.2.2 t → H1[q]? = H[q]?) :
    gM E A (G.1, upT G.2.1 t r, G.2.2) (upT σ t f) H0 H1 (locs ++ L) := by
  obtain ⟨⟨h1, h2, h3, h6⟩, h4, h5⟩ := h
  have hA : A (G.2.2 t) := h4 t h0 (by rw [ht]; exact fun q => by cases q)
  refine ⟨⟨fun u k' hu => ?_, h2, fun u j => ?_, h6.kept (t := t) (by rw [ht]; exact fun q => by cases q) ho⟩, h4, ⟨by rw [hz]; exact h5.1, fun q g1 g2 => by rw [ho q (fun e => g2 (e ▸ hA))]; exact h5.2.1 q g1 g2, fun q hq => ?_⟩⟩
  · show gCell E (G.2.2 u) k' (upT σ t f u) (upT G.2.1 t r u) H1
    by_cases e : u = t
    · subst e
      cases ht.symm.trans hu
      rw [upT_s, upT_s]
      exact hc
    · rw [upT_n _ _ e, upT_n _ _ e]
      exact (h1 u k' hu).kept (ho _ (fun q => e (h2 u t (by rw [hu]; exact fun q => by cases q) (by rw [ht]; exact fun q => by cases q) q)))
  · by_cases e : u = t
    · subst e; rw [upT_s]; exact hv j
    · rw [upT_n _ _ e]; exact h3 u j
  · rcases List.mem_append.mp hq with h | h
    · exact h5.2.2 q h
    · rw [hL q h]; exact hA
theorem fillN_r {f g : Int → Int} {n : Int} (hf : ∀ i, R32 (f i)) (hg : ∀ i, R32 (g i)) (i : Int) : R32 (fillN f g n i) := by
  unfold fillN
  split
  · exact hg i
  · exact hf i
theorem gAv0 (cA : ClassId) (n : Nat) (f : Int → Int) (r : Int → Option Nat) : arrV cA n (gAv 0 f r) = arrV cA n (fun j => Value.int (jI (f (j : Int)))) := by
  congr 1
section GCP
variable {p : Program} {l : Launch} {e : Env} {R : Room} {s : State} {m : MethodId} {args : Array Value} {below : List Frame} {meth : Method} {c : Code} {H : Heap} {locs : List Loc} {cells slots : Nat} {Q : State → Prop} {cc : ByteArray} {pc nL : Nat} {ls : Array Slot} {rest : List Value}
variable {E : y_E} {A : Nat → Prop} {G : y_G} {σ : y_S} {own : String}
/-- System.arraycopy of ints, from place 0 to place 0 -/
theorem g_copyi (CF : CallFix p m c cc nL s args lw_all own) (hK : gK E s) (hM : gM E A G σ s.heap H locs) (t1 t2 : Nat) (h20 : t2 ≠ 0) {n1 n2 : Nat} (ht1 : G.1 t1 = some (.inr (0, n1))) (ht2 : G.1 t2 = some (.inr (0, n2))) {n : Int} (h0 : 0 ≤ n) (h1 : n ≤ n1) (h2 : n ≤ n2) (hn : n ≤ 2147483647) {index : Nat} (hlink : Cond.methodLink own index arraycopyName ∈ lw_all) (hls : ls.size = nL)
    (hframes : 1 ≤ R.frames) (hlocals : (rest.map fun v => v.category).sum + (nativeFrameWords "java/lang/System" "arraycopy" 5 + 11) ≤ R.locals) (hdg : decode cc pc = .ok (.invokestatic index, 3))
    (kk : ∀ (H : Heap) (locs : List Loc), gM E A G (upT σ t2 (fillN (σ t2) (σ t1) n)) s.heap H locs → W p l e R s m args below meth c H locs cells slots Q (F0 m (pc + 3) ls rest)) : W p l e R s m args below meth c H locs cells slots Q (F0 m pc ls (.int (jI n) :: .int (jI 0) :: .ref (G.2.2 t2) :: .int (jI 0) :: .ref (G.2.2 t1) :: rest)) := by
  obtain ⟨hx, hb, hml, hown, hts⟩ := CF
  intro T hT X
  have hc1 : H[G.2.2 t1]? = some (arrV (E.2 0) n1 (gAv 0 (σ t1) (G.2.1 t1))) := hM.1.1 t1 _ ht1
  have hc2 : H[G.2.2 t2]? = some (arrV (E.2 0) n2 (gAv 0 (σ t2) (G.2.1 t2))) := hM.1.1 t2 _ ht2
  rw [gAv0] at hc1 hc2
  obtain ⟨-, k1, hk1, cm1, hkk1⟩ := (hK.2.1 0 (by decide)).arr n1 (fun j => Value.int (jI (σ t1 (j : Int))))
  have hcn : (jI n).toNatClampNeg = n.toNat := jI_clamp h0 hn
  have hc0 : (jI 0).toNatClampNeg = 0 := rfl
  have hi0 : (jI 0).toInt = 0 := rfl
  have hin : (jI n).toInt = n := jI_toInt ⟨by omega, hn⟩
  have n0 : ¬ jI 0 < 0 := by decide
  have nn : ¬ jI n < 0 := by rw [← jI_0, jI_lt ⟨by omega, hn⟩ ⟨by decide, by decide⟩]; omega
  obtain ⟨vm', X', step⟩ := X.arraycopy hx hown (hts _ hlink) (hts _ q549) (hts _ q548) (hts _ q75) (src := G.2.2 t1) (dst := G.2.2 t2) (cs := arrV (E.2 0) n1 (fun j => Value.int (jI (σ t1 (j : Int))))) (cd := arrV (E.2 0) n2 (fun j => Value.int (jI (σ t2 (j : Int))))) (srcPos := jI 0) (destPos := jI 0) (n := jI n) (by rw [hT]; exact hc1) (by rw [hT]; exact hc2)
    (fun _ h => by cases h) (fun _ h => by cases h) (fun h => by cases h) (fun h => by cases h) hk1 hk1 hkk1 hkk1 rfl n0 n0 nn
    (by rw [hi0, hin, arrV_size]; omega) (by rw [hi0, hin, arrV_size]; omega)
    (fun vm₁ _ i hi => by
      rw [hcn] at hi
      have e : (arrV (E.2 0) n1 (fun j => Value.int (jI (σ t1 (j : Int))))).slots.getD ((jI 0).toNatClampNeg + i) .null = .int (jI (σ t1 ((0 + i : Nat) : Int))) := by
        rw [hc0, Array.getD_eq_getD_getElem?, arrV_read _ _ (by omega)]
        rfl
      rw [e]
      exact ⟨rfl, trivial⟩)
    (g := F0 m pc ls (.int (jI n) :: .int (jI 0) :: .ref (G.2.2 t2) :: .int (jI 0) :: .ref (G.2.2 t1) :: rest)) rfl (by rw [hml]; exact hls) (rest := rest) rfl (by rw [hb]; exact hdg) hframes (by show 2 * 0 + _ + _ ≤ _; omega)
  have e1 : copied (arrV (E.2 0) n1 (fun j => Value.int (jI (σ t1 (j : Int))))) (arrV (E.2 0) n2 (fun j => Value.int (jI (σ t2 (j : Int))))) (jI 0) (jI 0) (jI n) = arrV (E.2 0) n2 (gAv 0 (fillN (σ t2) (σ t1) n) (G.2.1 t2)) := by
    have e2 := va_copied (fun z => Value.int z) (E.2 0) (E.2 0) (n0 := n1) (n1 := n2) (sp := 0) (dp := 0) (n := n.toNat) (fun j => jI (σ t1 (j : Int))) (fun j => jI (σ t2 (j : Int))) (by omega)
    have e3 : copied (arrV (E.2 0) n1 (fun j => Value.int (jI (σ t1 (j : Int))))) (arrV (E.2 0) n2 (fun j => Value.int (jI (σ t2 (j : Int))))) (jI 0) (jI 0) (jI n) = (arrV (E.2 0) n2 (fun j => Value.int (jI (σ t2 (j : Int))))).storeRun 0 ((arrV (E.2 0) n1 (fun j => Value.int (jI (σ t1 (j : Int))))).stretch 0 n.toNat) := by
      unfold copied
      rw [hcn, hc0]
    rw [e3, e2, gAv0]
    congr 1
    funext j
    unfold va_cpy fillN
    by_cases hj : j < n.toNat
    · rw [if_pos ⟨by omega, by omega⟩, if_pos ⟨by omega, by omega⟩]
      show Value.int (jI (σ t1 ((0 + (j - 0) : Nat) : Int))) = _
      rw [Nat.zero_add, Nat.sub_zero]
    · rw [if_neg (by omega), if_neg (by omega)]
  rw [e1] at X' step
  have hl : G.2.2 t2 < H.size := (Array.getElem?_eq_some_iff.mp hc2).1
  have hheap : ((T.setVm vm').setCell (G.2.2 t2) (arrV (E.2 0) n2 (gAv 0 (fillN (σ t2) (σ t1) n) (G.2.1 t2)))).heap = H.setIfInBounds (G.2.2 t2) (arrV (E.2 0) n2 (gAv 0 (fillN (σ t2) (σ t1) n) (G.2.1 t2))) := by rw [← hT]; rfl
  have hg : (G.1, upT G.2.1 t2 (G.2.1 t2), G.2.2) = G := by rw [upT_self]
  have hM2 : ∀ L : List Loc, (∀ q ∈ L, q.base = G.2.2 t2) → gM E A G (upT σ t2 (fillN (σ t2) (σ t1) n)) s.heap (H.setIfInBounds (G.2.2 t2) (arrV (E.2 0) n2 (gAv 0 (fillN (σ t2) (σ t1) n) (G.2.1 t2)))) (locs ++ L) := fun L hL => by
    have h := hM.setT h20 ht2 (f := fillN (σ t2) (σ t1) n) (r := G.2.1 t2) (H1 := H.setIfInBounds (G.2.2 t2) (arrV (E.2 0) n2 (gAv 0 (fillN (σ t2) (σ t1) n) (G.2.1 t2)))) (fillN_r (fun i => hM.r t2 i) (fun i => hM.r t1 i)) hL (show (H.setIfInBounds _ _)[_]? = some _ by simp [Array.getElem?_setIfInBounds, hl]) (by simp) (fun q hq => by simp [Array.getElem?_setIfInBounds, Ne.symm hq])
    rw [hg] at h
    exact h
  obtain ⟨t, a1, b1⟩ := kk _ _ (hM2 _ (fun q hq => by obtain ⟨z, -, hz⟩ := List.mem_map.mp hq; rw [← hz])) _ hheap X'
  exact ⟨t, step t a1, b1⟩
end GCP
