/-! THE CELLS IN ORDER: by the array's places, by the reference's, layer by layer -/
def cJ (n : Int) : Nat → List (Int × Int)
  | 0 => []
  | j + 1 => cJ n j ++ (if mCell n ((j : Int) / n) ((j : Int) % n) then [((j : Int) / n, (j : Int) % n)] else [])
def cK (n : Int) : Nat → List (Int × Int)
  | 0 => []
  | k + 1 => cK n k ++ (if mCell n ((k : Int) / 6) ((k : Int) % 6) then [((k : Int) / 6, (k : Int) % 6)] else [])
def cI (n l : Int) : Nat → Int → List (Int × Int)
  | 0, _ => []
  | f + 1, i => if i < n - 1 then (l, i) :: cI n l f (i + 2) else []
def cL (n : Int) : Nat → Int → List (Int × Int)
  | 0, _ => []
  | f + 1, l => if l < 12 then cI n l 3 (l % 2) ++ cL n f (l + 1) else []
theorem n_cases {n : Int} (h0 : 2 ≤ n) (h1 : n ≤ 6) : n = 2 ∨ n = 3 ∨ n = 4 ∨ n = 5 ∨ n = 6 := by omega
theorem cJ_K {n : Int} (h0 : 2 ≤ n) (h1 : n ≤ 6) : cJ n (12 * n.toNat) = cK n 72 := by
  rcases n_cases h0 h1 with e | e | e | e | e <;> subst e <;> decide +kernel
theorem cL_K {n : Int} (h0 : 2 ≤ n) (h1 : n ≤ 6) : cL n 12 0 = cK n 72 := by
  rcases n_cases h0 h1 with e | e | e | e | e <;> subst e <;> decide +kernel
theorem cJ_y {n : Int} {j : Nat} (h : mCell n ((j : Int) / n) ((j : Int) % n)) : cJ n (j + 1) = cJ n j ++ [((j : Int) / n, (j : Int) % n)] := by rw [cJ, if_pos h]
theorem cJ_n {n : Int} {j : Nat} (h : ¬ mCell n ((j : Int) / n) ((j : Int) % n)) : cJ n (j + 1) = cJ n j := by rw [cJ, if_neg h, List.append_nil]
theorem cK_y {n : Int} {j : Nat} (h : mCell n ((j : Int) / 6) ((j : Int) % 6)) : cK n (j + 1) = cK n j ++ [((j : Int) / 6, (j : Int) % 6)] := by rw [cK, if_pos h]
theorem cK_n {n : Int} {j : Nat} (h : ¬ mCell n ((j : Int) / 6) ((j : Int) % 6)) : cK n (j + 1) = cK n j := by rw [cK, if_neg h, List.append_nil]
theorem cK_in {n : Int} : ∀ (k : Nat) (p : Int × Int), p ∈ cK n k → mCell n p.1 p.2
  | 0, p, h => by cases h
  | k + 1, p, h => by
    rw [cK] at h
    rcases List.mem_append.mp h with h | h
    · exact cK_in k p h
    · by_cases hc : mCell n ((k : Int) / 6) ((k : Int) % 6)
      · rw [if_pos hc, List.mem_singleton] at h
        rw [h]; exact hc
      · rw [if_neg hc] at h
        cases h
/-- the row that has gone through the first j places -/
def goJ (n : Int) (c s : Int → Int) (tf : Int → Int → Int) (r : Int → Int) (ps : List (Int × Int)) : Int → Int := ps.foldl (fun r p => tRow c s r p.2 (tf p.1 p.2)) r
theorem goJ_a {n : Int} {c s : Int → Int} {tf : Int → Int → Int} {r : Int → Int} {ps : List (Int × Int)} {p : Int × Int} : goJ n c s tf r (ps ++ [p]) = tRow c s (goJ n c s tf r ps) p.2 (tf p.1 p.2) := by
  unfold goJ
  rw [List.foldl_append]
  rfl
theorem goI_f {n l : Int} {c s : Int → Int} {tf : Int → Int → Int} : ∀ (f : Nat) (i : Int) (r : Int → Int), goI n c s (tf l) f i r = goJ n c s tf r (cI n l f i)
  | 0, _, _ => rfl
  | f + 1, i, r => by
    rw [goI, cI]
    by_cases h : i < n - 1
    · rw [if_pos h, if_pos h, goI_f f]
      rfl
    · rw [if_neg h, if_neg h]
      rfl
theorem goL_f {n : Int} {c s : Int → Int} {tf : Int → Int → Int} : ∀ (f : Nat) (l : Int) (r : Int → Int), goL n c s tf f l r = goJ n c s tf r (cL n f l)
  | 0, _, _ => rfl
  | f + 1, l, r => by
    rw [goL, cL]
    by_cases h : l < 12
    · rw [if_pos h, if_pos h, goL_f f, goI_f]
      unfold goJ
      rw [List.foldl_append]
    · rw [if_neg h, if_neg h]
      rfl
theorem goR_J {n : Int} {c s : Int → Int} {tf : Int → Int → Int} {r : Int → Int} (h0 : 2 ≤ n) (h1 : n ≤ 6) : goR n c s tf r = goJ n c s tf r (cJ n (12 * n.toNat)) := by
  unfold goR
  rw [goL_f, cL_K h0 h1, cJ_K h0 h1]
/-- a row goes through alike where it is alike on the lanes -/
theorem tRow_cg {n : Int} {c s r r' : Int → Int} {i k : Int} (h0 : 0 ≤ i) (h1 : i ≤ n - 2) (h : ∀ j : Int, 0 ≤ j → j < n → r' j = r j) : ∀ j : Int, 0 ≤ j → j < n → tRow c s r' i k j = tRow c s r i k j := by
  intro j a b
  unfold tRow up1
  rw [h i h0 (by omega), h (i + 1) (by omega) (by omega), h j a b]
theorem goJ_cg {n : Int} {c s : Int → Int} {tf tf' : Int → Int → Int} : ∀ (ps : List (Int × Int)) (r r' : Int → Int), (∀ p ∈ ps, mCell n p.1 p.2 ∧ tf' p.1 p.2 = tf p.1 p.2) → (∀ j : Int, 0 ≤ j → j < n → r' j = r j) → ∀ j : Int, 0 ≤ j → j < n → goJ n c s tf' r' ps j = goJ n c s tf r ps j
  | [], _, _, _, h => h
  | p :: ps, r, r', hp, h => by
    have h1 := hp p List.mem_cons_self
    show ∀ j : Int, 0 ≤ j → j < n → goJ n c s tf' (tRow c s r' p.2 (tf' p.1 p.2)) ps j = goJ n c s tf (tRow c s r p.2 (tf p.1 p.2)) ps j
    rw [h1.2]
    exact goJ_cg ps _ _ (fun q hq => hp q (List.mem_cons_of_mem _ hq)) (tRow_cg (by omega) (by omega) h)
theorem goR_cg {n : Int} {c s : Int → Int} {tf tf' : Int → Int → Int} {r r' : Int → Int} (h0 : 2 ≤ n) (h1 : n ≤ 6) (ht : ∀ l i : Int, mCell n l i → tf' l i = tf l i) (h : ∀ j : Int, 0 ≤ j → j < n → r' j = r j) : ∀ j : Int, 0 ≤ j → j < n → goR n c s tf' r' j = goR n c s tf r j := by
  rw [goR_J h0 h1, goR_J h0 h1, cJ_K h0 h1]
  exact goJ_cg _ _ _ (fun p hp => ⟨cK_in 72 p hp, ht _ _ (cK_in 72 p hp)⟩) h
theorem j_ix {n : Int} {j : Nat} (h0 : 2 ≤ n) (h1 : n ≤ 6) (hj : j < 12 * n.toNat) : 0 ≤ (j : Int) / n ∧ (j : Int) / n < 12 ∧ 0 ≤ (j : Int) % n ∧ (j : Int) % n < n ∧ (j : Int) / n * n + (j : Int) % n = (j : Int) := by
  rcases n_cases h0 h1 with e | e | e | e | e <;> subst e <;> omega
theorem lgS.at {n : Int} {G : y_G} (h : lgS n G) (h0 : 2 ≤ n) (h1 : n ≤ 6) {j : Nat} (hj : j < 12 * n.toNat) : G.2.1 3 (j : Int) = if mCell n ((j : Int) / n) ((j : Int) % n) then some (G.2.2 (cT ((j : Int) / n) ((j : Int) % n))) else none := by
  have hx := j_ix h0 h1 hj
  have e := h.2.2.1 _ _ hx.1 hx.2.1 hx.2.2.1 hx.2.2.2.1
  rw [hx.2.2.2.2] at e
  exact e
theorem lKd_to {n : Int} {c : Nat} (h : c < 6) : lKd n (200 + c) = some (.inr (0, 6)) ∧ lKd n (210 + c) = some (.inr (0, 6)) ∧ lKd n (220 + c) = some (.inr (0, 97)) := by
  rcases (by omega : c = 0 ∨ c = 1 ∨ c = 2 ∨ c = 3 ∨ c = 4 ∨ c = 5) with e | e | e | e | e | e <;> subst e <;> exact ⟨rfl, rfl, rfl⟩
theorem lKd_ce {n : Int} {l : Nat} (h : l < 13) : lKd n (240 + l) = some (.inr (1, 1024)) := by
  rcases (by omega : l = 0 ∨ l = 1 ∨ l = 2 ∨ l = 3 ∨ l = 4 ∨ l = 5 ∨ l = 6 ∨ l = 7 ∨ l = 8 ∨ l = 9 ∨ l = 10 ∨ l = 11 ∨ l = 12) with e | e | e | e | e | e | e | e | e | e | e | e | e <;> subst e <;> rfl
/-- a wrapped number -/
def wr (a : Int) : Int := (jI a).toInt
theorem jI_wr (a : Int) : jI a = jI (wr a) := (jI_of _).symm
theorem wr_r (a : Int) : R32 (wr a) := jI_r _
section GAC
variable {p : Program} {l : Launch} {e : Env} {R : Room} {s : State} {m : MethodId} {args : Array Value} {below : List Frame} {meth : Method} {c : Code} {H : Heap} {locs : List Loc} {cells slots : Nat} {Q : State → Prop} {cc : ByteArray} {pc nL : Nat} {ls : Array Slot} {rest : List Value}
variable {E : y_E} {A : Nat → Prop} {G : y_G} {σ : y_S} {H0 : Heap} {own : String}
theorem g_aaldc (CF : CallFix p m c cc nL s args lw_all own) (hK : gK E s) (hM : gM E A G σ H0 H locs) (t : Nat) {ak n : Nat} (ht : G.1 t = some (.inr (ak, n))) (hak : ak < 8) (href : (gAty ak).isReference = true) {i : Int} (h0 : 0 ≤ i) (h1 : i < n) (hn : n ≤ 2147483647) {P : Prop} [Decidable P] {b : Nat} (hr : G.2.1 t i = if P then some b else none) (hdg : decode cc pc = .ok (.aaload, 1))
    (k1 : P → W p l e R s m args below meth c H locs cells slots Q (F0 m (pc + 1) ls (.ref b :: rest))) (k0 : ¬ P → W p l e R s m args below meth c H locs cells slots Q (F0 m (pc + 1) ls (.null :: rest))) : W p l e R s m args below meth c H locs cells slots Q (F0 m pc ls (.int (jI i) :: .ref (G.2.2 t) :: rest)) :=
  g_aald CF hK hM t ht hak href h0 h1 hn hr hdg (by
    by_cases h : P
    · rw [if_pos h]; exact k1 h
    · rw [if_neg h]; exact k0 h)
theorem g_aaldr (CF : CallFix p m c cc nL s args lw_all own) (hK : gK E s) (hM : gM E A G σ H0 H locs) (t : Nat) {ak n : Nat} (ht : G.1 t = some (.inr (ak, n))) (hak : ak < 8) (href : (gAty ak).isReference = true) {i : Int} (h0 : 0 ≤ i) (h1 : i < n) (hn : n ≤ 2147483647) (b : Nat) (hr : G.2.1 t i = some b) (hdg : decode cc pc = .ok (.aaload, 1))
    (k1 : W p l e R s m args below meth c H locs cells slots Q (F0 m (pc + 1) ls (.ref b :: rest))) : W p l e R s m args below meth c H locs cells slots Q (F0 m pc ls (.int (jI i) :: .ref (G.2.2 t) :: rest)) :=
  g_aald CF hK hM t ht hak href h0 h1 hn hr hdg k1
/-- a checkcast to the object's own class -/
theorem g_cast (CF : CallFix p m c cc nL s args lw_all own) (hK : gK E s) (hM : gM E A G σ s.heap H locs) (t : Nat) {ci : Nat} (ht : G.1 t = some (.inl ci)) {q : vw_C} (hc : gCl[ci]? = some q) {index : Nat} (hlink : Cond.classLink own index q.1 ∈ lw_all) (hdg : decode cc pc = .ok (.checkcast index, 3))
    (kk : W p l e R s m args below meth c H locs cells slots Q (F0 m (pc + 3) ls (.ref (G.2.2 t) :: rest))) : W p l e R s m args below meth c H locs cells slots Q (F0 m pc ls (.ref (G.2.2 t) :: rest)) :=
  va_castS CF.1 CF.2.1 CF.2.2.2.1 (CF.2.2.2.2 _ hlink) (hK.1 ci q hc).2 (g_recv hK hM ht hc) hdg kk
end GAC
