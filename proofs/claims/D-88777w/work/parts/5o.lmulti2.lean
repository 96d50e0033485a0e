/-! ARRAYS OF ARRAYS, over the memory by tags -/
def mlK (K : Nat → Option y_K) (T B N ak ek len : Nat) (t : Nat) : Option y_K := if t = T then some (.inr (ak, N)) else if B ≤ t ∧ t < B + N then some (.inr (ek, len)) else K t
def mlQ (r : Nat → Int → Option Nat) (T B N a : Nat) (t : Nat) : Int → Option Nat := if t = T then (fun j => if 0 ≤ j ∧ j < (N : Int) then some (a + 1 + j.toNat) else none) else if B ≤ t ∧ t < B + N then (fun _ => none) else r t
def mlA (ad : Nat → Nat) (T B N a : Nat) (t : Nat) : Nat := if t = T then a else if B ≤ t ∧ t < B + N then a + 1 + (t - B) else ad t
def mlV (σ : y_S) (T B N : Nat) (t : Nat) : Int → Int := if t = T ∨ (B ≤ t ∧ t < B + N) then (fun _ => 0) else σ t
theorem gM.ml {E : y_E} {A : Nat → Prop} {G : y_G} {σ : y_S} {H0 H H1 : Heap} {locs locs' : List Loc} (h : gM E A G σ H0 H locs) (hA : ∀ q, H0.size ≤ q → A q) {T B N ak ek len : Nat} (hT : G.1 T = none) (hB : ∀ t : Nat, B ≤ t → t < B + N → G.1 t = none) (hTB : T < B) (hr : (gAty ak).isReference = true) (he : (gAty ek).isReference = false)
    (z : H1.size = H.size + 1 + N) (h1 : H1[H.size]? = some (mlO (E.2 ak) N H.size N)) (h2 : ∀ j : Nat, j < N → H1[H.size + 1 + j]? = some (mlR (E.2 ek) len (.int (jI 0)))) (ho : ∀ q : Nat, q < H.size → H1[q]? = H[q]?) (hl : ∀ q ∈ locs', q ∈ locs ∨ q.base = H.size) :
    gM E A (mlK G.1 T B N ak ek len, mlQ G.2.1 T B N H.size, mlA G.2.2 T B N H.size) (mlV σ T B N) H0 H1 locs' := by
  obtain ⟨⟨m1, m2, m3, m4⟩, m5, m6, m7, m8⟩ := h
  have hlt : ∀ u, G.1 u ≠ none → G.2.2 u < H.size := fun u hu => by
    cases hk : G.1 u with
    | none => exact absurd hk hu
    | some k => exact (m1 u k hk).lt
  have eT : ∀ t : Nat, t = T → mlK G.1 T B N ak ek len t = some (.inr (ak, N)) ∧ mlA G.2.2 T B N H.size t = H.size := fun t e => ⟨if_pos e, if_pos e⟩
  have eB : ∀ t : Nat, t ≠ T → (B ≤ t ∧ t < B + N) → mlK G.1 T B N ak ek len t = some (.inr (ek, len)) ∧ mlA G.2.2 T B N H.size t = H.size + 1 + (t - B) := fun t e c => ⟨by unfold mlK; rw [if_neg e, if_pos c], by unfold mlA; rw [if_neg e, if_pos c]⟩
  have eO : ∀ t : Nat, t ≠ T → ¬ (B ≤ t ∧ t < B + N) → mlK G.1 T B N ak ek len t = G.1 t ∧ mlQ G.2.1 T B N H.size t = G.2.1 t ∧ mlA G.2.2 T B N H.size t = G.2.2 t ∧ mlV σ T B N t = σ t := fun t e c => ⟨by unfold mlK; rw [if_neg e, if_neg c], by unfold mlQ; rw [if_neg e, if_neg c], by unfold mlA; rw [if_neg e, if_neg c], by unfold mlV; rw [if_neg (fun q => q.elim e c)]⟩
  refine ⟨⟨fun u k hu => ?_, fun u w hu hw e => ?_, fun u j => ?_, fun k hk => ?_⟩, fun u u0 hu => ?_, ⟨by omega, fun q h6 h7 => by rw [ho q (by omega)]; exact m7 q h6 h7, fun q hq => ?_⟩⟩
  · show gCell E (mlA G.2.2 T B N H.size u) k (mlV σ T B N u) (mlQ G.2.1 T B N H.size u) H1
    have hu : mlK G.1 T B N ak ek len u = some k := hu
    by_cases c1 : u = T
    · rw [(eT u c1).1] at hu
      cases hu
      rw [(eT u c1).2]
      show H1[H.size]? = some (arrV (E.2 ak) N (gAv ak (mlV σ T B N u) (mlQ G.2.1 T B N H.size u)))
      rw [h1]
      congr 1
      unfold mlO
      congr 1
      funext j
      unfold gAv mlQ
      rw [if_pos hr, if_pos c1]
      by_cases c : j < N
      · rw [if_pos c, if_pos (by omega), Int.toNat_natCast]
        rfl
      · rw [if_neg c, if_neg (by omega)]
        rfl
    · by_cases c2 : B ≤ u ∧ u < B + N
      · rw [(eB u c1 c2).1] at hu
        cases hu
        rw [(eB u c1 c2).2]
        show H1[H.size + 1 + (u - B)]? = some (arrV (E.2 ek) len (gAv ek (mlV σ T B N u) (mlQ G.2.1 T B N H.size u)))
        rw [h2 (u - B) (by omega)]
        congr 1
        unfold mlR
        congr 1
        funext j
        unfold gAv mlV
        rw [if_neg (by rw [he]; decide), if_pos (Or.inr c2)]
      · obtain ⟨q1, q2, q3, q4⟩ := eO u c1 c2
        rw [q1] at hu
        rw [q2, q3, q4]
        exact (m1 u k hu).kept (ho _ (hlt u (by rw [hu]; exact fun q => by cases q)))
  · have key : ∀ t : Nat, mlK G.1 T B N ak ek len t ≠ none → (t = T ∧ mlA G.2.2 T B N H.size t = H.size) ∨ (t ≠ T ∧ (B ≤ t ∧ t < B + N) ∧ mlA G.2.2 T B N H.size t = H.size + 1 + (t - B)) ∨ (G.1 t ≠ none ∧ mlA G.2.2 T B N H.size t = G.2.2 t ∧ G.2.2 t < H.size) := fun t ht => by
      by_cases c1 : t = T
      · exact Or.inl ⟨c1, (eT t c1).2⟩
      · by_cases c2 : B ≤ t ∧ t < B + N
        · exact Or.inr (Or.inl ⟨c1, c2, (eB t c1 c2).2⟩)
        · obtain ⟨q1, q2, q3, q4⟩ := eO t c1 c2
          rw [q1] at ht
          exact Or.inr (Or.inr ⟨ht, q3, hlt t ht⟩)
    have e : mlA G.2.2 T B N H.size u = mlA G.2.2 T B N H.size w := e
    rcases key u hu with ⟨a1, a2⟩ | ⟨a1, a2, a3⟩ | ⟨a1, a2, a3⟩ <;> rcases key w hw with ⟨b1, b2⟩ | ⟨b1, b2, b3⟩ | ⟨b1, b2, b3⟩ <;> first | omega | exact m2 u w a1 b1 (by omega)
  · show R32 (mlV σ T B N u j)
    unfold mlV
    split
    · exact (show R32 (0 : Int) from ⟨by decide, by decide⟩)
    · exact m3 u j
  · obtain ⟨cell, z1, z2, z3, z4⟩ := m4 k hk
    have lt : E.1.2 100 k < H.size := (Array.getElem?_eq_some_iff.mp z1).1
    refine ⟨cell, by rw [ho _ lt]; exact z1, z2, z3, fun t ht => ?_⟩
    show mlA G.2.2 T B N H.size t ≠ _
    by_cases c1 : t = T
    · rw [(eT t c1).2]; omega
    · by_cases c2 : B ≤ t ∧ t < B + N
      · rw [(eB t c1 c2).2]; omega
      · obtain ⟨q1, q2, q3, q4⟩ := eO t c1 c2
        rw [q3]
        have ht : mlK G.1 T B N ak ek len t ≠ none := ht
        rw [q1] at ht
        exact z4 t ht
  · show A (mlA G.2.2 T B N H.size u)
    have hu : mlK G.1 T B N ak ek len u ≠ none := hu
    by_cases c1 : u = T
    · rw [(eT u c1).2]; exact hA _ m6
    · by_cases c2 : B ≤ u ∧ u < B + N
      · rw [(eB u c1 c2).2]; exact hA _ (by omega)
      · obtain ⟨q1, q2, q3, q4⟩ := eO u c1 c2
        rw [q1] at hu
        rw [q3]
        exact m5 u u0 hu
  · rcases hl q hq with z9 | z9
    · exact m8 q z9
    · rw [z9]; exact hA _ m6
section GML
variable {p : Program} {l : Launch} {e : Env} {R : Room} {s : State} {m : MethodId} {args : Array Value} {below : List Frame} {meth : Method} {c : Code} {H : Heap} {locs : List Loc} {cells slots : Nat} {Q : State → Prop} {cc : ByteArray} {pc nL : Nat} {ls : Array Slot} {rest : List Value}
variable {E : y_E} {A : Nat → Prop} {G : y_G} {σ : y_S} {own : String}
theorem g_ml (CF : CallFix p m c cc nL s args lw_all own) (hK : gK E s) (hM : gM E A G σ s.heap H locs) (hA : ∀ q, s.heap.size ≤ q → A q) (T B N ak ek len : Nat) (hk : (ak = 6 ∧ ek = 0) ∨ (ak = 7 ∧ ek = 1)) (hT : G.1 T = none) (hB : ∀ t : Nat, B ≤ t → t < B + N → G.1 t = none) (hTB : T < B) {index : Nat} {nm : String} (hnm : nm = "[" ++ (gAty ak).toString) (hlink : Cond.classLink own index nm ∈ lw_all) (hN : N ≤ 1000) (hlen : len ≤ 10000) (hcells : cells + (1 + N) ≤ R.cells) (hslots : slots + (N + N * len) ≤ R.slots) (hdg : decode cc pc = .ok (.multianewarray index 2, 4))
    (kk : ∀ (H : Heap) (locs : List Loc) (a : Nat), gM E A (mlK G.1 T B N ak ek len, mlQ G.2.1 T B N a, mlA G.2.2 T B N a) (mlV σ T B N) s.heap H locs → W p l e R s m args below meth c H locs (cells + 1 + N) (slots + N + N * len) Q (F0 m (pc + 4) ls (.ref a :: rest))) : W p l e R s m args below meth c H locs cells slots Q (F0 m pc ls (.int (jI (len : Int)) :: .int (jI (N : Int)) :: rest)) := by
  have cl : ∀ n : Nat, n ≤ 10000 → (jI (n : Int)).toNatClampNeg = n ∧ ¬ jI (n : Int) < 0 := fun n hn => ⟨by rw [jI_clamp (by omega) (by omega), Int.toNat_natCast], by rw [← jI_0, jI_lt ⟨by omega, by omega⟩ ⟨by decide, by decide⟩]; omega⟩
  have go : ∀ ty : FieldType, gAty ak = .array ty → gAty ek = ty → (gAty ek).isReference = false → fits ty (defaultValue ty) = true → defaultValue ty = .int (jI 0) → len * componentBytes ty ≤ 536870912 → ak < 8 → ek < 8 → W p l e R s m args below meth c H locs cells slots Q (F0 m pc ls (.int (jI (len : Int)) :: .int (jI (N : Int)) :: rest)) := fun ty t1 t2 t3 t4 t5 t6 a8 e8 => by
    obtain ⟨kA, comp, g1, g2, g3, g4⟩ := hK.2.1 ak a8
    obtain ⟨kB, c0, f1, f2, f3, -⟩ := hK.2.1 ek e8
    rw [t1] at g2 g3 g4
    have g5 := g4 _ rfl
    rw [t2] at f2 f3
    have ec : comp = E.2 ek := Option.some.inj (g5.symm.trans f3)
    subst ec
    refine W.ml CF.1 CF.2.1 CF.2.2.2.1 (CF.2.2.2.2 _ hlink) (cA := E.2 ak) (cB := E.2 ek) (ty := ty) (by rw [hnm, t1]; exact g3) g1 g2 f1 f2 t4 (cl N (by omega)).1 (cl len hlen).1 (cl N (by omega)).2 (cl len hlen).2 (by omega) t6 (by omega) hcells hslots hdg (fun H1 z1 z2 z3 z4 => ?_)
    rw [t5] at z3
    refine kk H1 _ H.size (hM.ml hA hT hB hTB (by rw [t1]; rfl) t3 z1 z2 z3 z4 (fun q hq => ?_))
    rcases List.mem_append.mp hq with w | w
    · exact Or.inl w
    · obtain ⟨j, -, rfl⟩ := List.mem_map.mp w
      exact Or.inr rfl
  rcases hk with ⟨rfl, rfl⟩ | ⟨rfl, rfl⟩
  · exact go .int rfl rfl rfl rfl (by rw [jI_0]; rfl) (by show len * 4 ≤ _; omega) (by decide) (by decide)
  · exact go .boolean rfl rfl rfl rfl (by rw [jI_0]; rfl) (by show len * 1 ≤ _; omega) (by decide) (by decide)
end GML
