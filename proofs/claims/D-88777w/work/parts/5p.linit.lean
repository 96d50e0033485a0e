/-! A NEW PLATE: what its memory shows -/
def iK (t : Nat) : Option y_K := if t = 60 then some (.inl 0) else if t = 0 then some (.inr (3, 0)) else none
def iQ (_ : Nat) (_ : Int) : Option Nat := none
/-- no tag of P is anything -/
def nnP (P : Nat → Prop) (K : Nat → Option y_K) : Prop := ∀ t, P t → K t = none
theorem nnP.u {P : Nat → Prop} {K : Nat → Option y_K} (h : nnP P K) {t : Nat} (ht : ¬ P t) {v : Option y_K} : nnP P (upT K t v) := fun u hu => by rw [upT_n _ _ (fun q : u = t => ht (by rw [← q]; exact hu))]; exact h u hu
theorem nnP.m {P : Nat → Prop} {K : Nat → Option y_K} (h : nnP P K) {T B N ak ek len : Nat} (hT : ¬ P T) (hB : ∀ t, B ≤ t → t < B + N → ¬ P t) : nnP P (mlK K T B N ak ek len) := fun u hu => by
  unfold mlK
  rw [if_neg (fun q : u = T => hT (by rw [← q]; exact hu)), if_neg (fun q => hB u q.1 q.2 hu)]
  exact h u hu
theorem nnP.z {P : Nat → Prop} (h6 : ¬ P 60) (h0 : ¬ P 0) : nnP P iK := fun t ht => by
  unfold iK
  rw [if_neg (fun q : t = 60 => h6 (by rw [← q]; exact ht)), if_neg (fun q : t = 0 => h0 (by rw [← q]; exact ht))]
/-- all numbers are 0, but the plate's own and the tables of turns -/
def zzP (τ : y_S) : Prop := ∀ t : Nat, t ≠ 60 → t ≠ 61 → t ≠ 1 → τ t = fun _ => 0
theorem zzP.u {τ : y_S} (h : zzP τ) {t : Nat} : zzP (upT τ t (fun _ => 0)) := fun u a b c => by
  by_cases e : u = t
  · rw [e, upT_s]
  · rw [upT_n _ _ e]; exact h u a b c
theorem zzP.m {τ : y_S} (h : zzP τ) {T B N : Nat} : zzP (mlV τ T B N) := fun u a b c => by
  unfold mlV
  split
  · rfl
  · exact h u a b c
theorem zzP.s {τ : y_S} (h : zzP τ) {k v : Int} : zzP (up2 τ 60 k v) := fun u a b c => by rw [up2_n _ _ _ a]; exact h u a b c
theorem zzP.o {τ : y_S} (h : zzP τ) {t : Nat} {k : Int} : zzP (up2 τ t k 0) := fun u a b c => by
  by_cases e : u = t
  · subst e
    rw [up2_s, h u a b c]
    funext j
    unfold up1
    split <;> rfl
  · rw [up2_n _ _ _ e]; exact h u a b c
def iB (E : y_E) (n : Int) (G : y_G) (τ : y_S) : Prop :=
  ((∀ (t : Nat) (k : y_K), lKd n t = some k → ¬ (100 ≤ t ∧ t < 172) → G.1 t = some k) ∧ (∀ (k t : Nat), lFl k = some t → G.2.1 60 (k : Int) = some (G.2.2 t))) ∧
  ((G.2.1 5 0 = some (G.2.2 60) ∧ G.2.1 5 1 = some (G.2.2 60)) ∧ (G.2.1 6 0 = some (G.2.2 60) ∧ G.2.1 6 1 = some (G.2.2 60) ∧ G.2.1 6 2 = some (G.2.2 60)) ∧
  (G.2.1 7 0 = some (G.2.2 60) ∧ G.2.1 7 1 = some (G.2.2 60) ∧ G.2.1 7 2 = some (G.2.2 60) ∧ G.2.1 7 5 = some (G.2.2 60)) ∧ (G.2.1 8 0 = some (G.2.2 60) ∧ G.2.1 8 2 = some (G.2.2 60)) ∧
  (G.2.1 26 0 = some (G.2.2 62) ∧ G.2.1 26 3 = some (G.2.2 60)) ∧
  (∀ c : Nat, c < 6 → G.2.1 10 (c : Int) = some (G.2.2 (200 + c)) ∧ G.2.1 11 (c : Int) = some (G.2.2 (210 + c)) ∧ G.2.1 32 (c : Int) = some (G.2.2 (220 + c))) ∧
  ∀ l : Nat, l < 13 → G.2.1 21 (l : Int) = some (G.2.2 (240 + l))) ∧
  ((G.2.1 27 1 = some (G.2.2 0) ∧ G.2.1 28 1 = some (G.2.2 0) ∧ G.2.1 30 1 = some (G.2.2 0)) ∧ nnP (fun t => 63 ≤ t ∧ t < 66 ∨ 100 ≤ t ∧ t < 172 ∨ 1000 ≤ t) G.1 ∧ G.2.1 3 = fun _ => none) ∧
  (τ 60 2 = n ∧ τ 60 4 = 99 ∧ (∀ k : Int, k ≠ 2 → k ≠ 4 → τ 60 k = 0) ∧ (∀ k : Int, 0 ≤ k → k < 96 → τ 61 k = csC k ∧ τ 1 k = csS k) ∧ zzP τ) ∧ gZr E 0 = some (G.2.2 0)
def iC (n : Int) (Gb : y_G) (τb : y_S) (G : y_G) (τ : y_S) (l i : Int) : Prop :=
  (∀ t : Nat, ¬ (100 ≤ t ∧ t < 172) → G.1 t = Gb.1 t ∧ G.2.2 t = Gb.2.2 t ∧ (t ≠ 3 → G.2.1 t = Gb.2.1 t) ∧ τ t = τb t) ∧
  (∀ l' i' : Int, mCell n l' i' → (l' < l ∨ (l' = l ∧ i' < i)) → G.1 (cT l' i') = some (.inl 6) ∧ G.2.1 (cT l' i') 6 = some (G.2.2 60) ∧ τ (cT l' i') 0 = l' ∧ τ (cT l' i') 1 = i' ∧ τ (cT l' i') 2 = 0 ∧ τ (cT l' i') 3 = -1 ∧ τ (cT l' i') 4 = 0 ∧ τ (cT l' i') 5 = -1) ∧
  (∀ l' i' : Int, mCell n l' i' → ¬ (l' < l ∨ (l' = l ∧ i' < i)) → G.1 (cT l' i') = none) ∧
  (∀ l' i' : Int, 0 ≤ l' → l' < 12 → 0 ≤ i' → i' < n → G.2.1 3 (l' * n + i') = if mCell n l' i' ∧ (l' < l ∨ (l' = l ∧ i' < i)) then some (G.2.2 (cT l' i')) else none)
theorem iC.zero {E : y_E} {n : Int} {G : y_G} {τ : y_S} (hn : n ≤ 6) (h : iB E n G τ) : iC n G τ G τ 0 0 := by
  refine ⟨fun t _ => ⟨rfl, rfl, fun _ => rfl, rfl⟩, fun l i hc hb => absurd hb (by omega), fun l i hc _ => ?_, fun l i h0 h1 h2 h3 => ?_⟩
  · have := cT_ix hn hc
    exact h.2.2.1.2.1 _ (Or.inr (Or.inl ⟨this.1, this.2.1⟩))
  · rw [if_neg (by omega), h.2.2.1.2.2]
/-- on to the next place -/
theorem iC.to {n l i l2 i2 : Int} {Gb G : y_G} {τb τ : y_S} (h : iC n Gb τb G τ l i) (he : ∀ l' i' : Int, mCell n l' i' → ((l' < l ∨ (l' = l ∧ i' < i)) ↔ (l' < l2 ∨ (l' = l2 ∧ i' < i2)))) : iC n Gb τb G τ l2 i2 := by
  obtain ⟨h1, h2, h3, h4⟩ := h
  refine ⟨h1, fun l' i' hc hb => h2 l' i' hc ((he l' i' hc).mpr hb), fun l' i' hc hb => h3 l' i' hc (fun q => hb ((he l' i' hc).mp q)), fun l' i' a b c d => ?_⟩
  rw [h4 l' i' a b c d]
  by_cases q : mCell n l' i'
  · by_cases r : l' < l ∨ (l' = l ∧ i' < i)
    · rw [if_pos ⟨q, r⟩, if_pos ⟨q, (he l' i' q).mp r⟩]
    · rw [if_neg (fun z => r z.2), if_neg (fun z => r ((he l' i' q).mpr z.2))]
  · rw [if_neg (fun z => q z.1), if_neg (fun z => q z.1)]
/-- a cell is made -/
theorem iC.step {n l i : Int} {Gb G : y_G} {τb τ : y_S} (hn : n ≤ 6) (h : iC n Gb τb G τ l i) (hc : mCell n l i) {a : Nat} : iC n Gb τb (upT G.1 (cT l i) (some (.inl 6)), up2 (up2 (upT G.2.1 (cT l i) (fun _ => none)) (cT l i) 6 (some (G.2.2 60))) 3 (l * n + i) (some (upT G.2.2 (cT l i) a (cT l i))), upT G.2.2 (cT l i) a) (up2 (up2 (up2 (up2 (upT τ (cT l i) (fun _ => 0)) (cT l i) 3 (-1)) (cT l i) 5 (-1)) (cT l i) 0 l) (cT l i) 1 i) l (i + 2) := by
  rw [upT_s (κ := G.2.2)]
  obtain ⟨h1, h2, h3, h4⟩ := h
  have x := cT_ix hn hc
  have ne : ∀ l' i' : Int, mCell n l' i' → ¬ (l' = l ∧ i' = i) → cT l' i' ≠ cT l i := fun l' i' hc' q e => q (cT_inj hn hc' hc e)
  have e3 : ∀ t : Nat, t ≠ 3 → ∀ (r : Nat → Int → Option Nat) (k : Int) (v : Option Nat), up2 r 3 k v t = r t := fun t ht r k v => up2_n _ _ _ ht
  have c60 : (60 : Nat) ≠ cT l i := by omega
  have c3 : (3 : Nat) ≠ cT l i := by omega
  refine ⟨fun t ht => ?_, fun l' i' hc' hb => ?_, fun l' i' hc' hb => ?_, fun l' i' a0 a1 a2 a3 => ?_⟩
  · have e : t ≠ cT l i := by omega
    have q := h1 t ht
    refine ⟨(upT_n _ _ e).trans q.1, (upT_n _ _ e).trans q.2.1, fun z => ?_, ?_⟩
    · show up2 (up2 (upT G.2.1 (cT l i) _) (cT l i) 6 _) 3 _ _ t = _
      rw [e3 t z, up2_n _ _ _ e, upT_n _ _ e]; exact q.2.2.1 z
    · rw [up2_n _ _ _ e, up2_n _ _ _ e, up2_n _ _ _ e, up2_n _ _ _ e, upT_n _ _ e]; exact q.2.2.2
  · have x' := cT_ix hn hc'
    have z3 : cT l' i' ≠ 3 := by omega
    by_cases c : l' = l ∧ i' = i
    · obtain ⟨rfl, rfl⟩ := c
      refine ⟨upT_s _ _ _, ?_, ?_, ?_, ?_, ?_, ?_, ?_⟩
      · show up2 (up2 (upT G.2.1 (cT l' i') _) (cT l' i') 6 _) 3 _ _ (cT l' i') 6 = some (upT G.2.2 (cT l' i') a 60)
        rw [e3 _ z3, up2_s, up1_s, upT_n _ _ c60]
      · rw [up2_s, up1_n _ _ (by decide), up2_s, up1_s]
      · rw [up2_s, up1_s]
      · rw [up2_s, up1_n _ _ (by decide), up2_s, up1_n _ _ (by decide), up2_s, up1_n _ _ (by decide), up2_s, up1_n _ _ (by decide), upT_s]
      · rw [up2_s, up1_n _ _ (by decide), up2_s, up1_n _ _ (by decide), up2_s, up1_n _ _ (by decide), up2_s, up1_s]
      · rw [up2_s, up1_n _ _ (by decide), up2_s, up1_n _ _ (by decide), up2_s, up1_n _ _ (by decide), up2_s, up1_n _ _ (by decide), upT_s]
      · rw [up2_s, up1_n _ _ (by decide), up2_s, up1_n _ _ (by decide), up2_s, up1_s]
    · have e := ne l' i' hc' c
      have q := h2 l' i' hc' (by omega)
      show upT G.1 (cT l i) _ (cT l' i') = _ ∧ up2 (up2 (upT G.2.1 (cT l i) _) (cT l i) 6 _) 3 _ _ (cT l' i') 6 = some (upT G.2.2 (cT l i) a 60) ∧ _
      rw [upT_n _ _ e, e3 _ z3, up2_n _ _ _ e, upT_n _ _ e, upT_n _ _ c60, up2_n _ _ _ e, up2_n _ _ _ e, up2_n _ _ _ e, up2_n _ _ _ e, upT_n _ _ e]
      exact q
  · have e := ne l' i' hc' (by omega)
    show upT G.1 (cT l i) _ (cT l' i') = none
    rw [upT_n _ _ e]
    exact h3 l' i' hc' (by omega)
  · show up2 (up2 (upT G.2.1 (cT l i) _) (cT l i) 6 _) 3 (l * n + i) (some a) 3 (l' * n + i') = if _ then some (upT G.2.2 (cT l i) a (cT l' i')) else none
    rw [up2_s]
    have ix : ∀ l1 i1 : Int, 0 ≤ i1 → i1 < n → l1 * n + i1 = l * n + i → l1 = l ∧ i1 = i := fun l1 i1 u v w => by
      have hi : 0 ≤ i ∧ i < n := by omega
      have d1 : (l1 * n + i1) / n = l1 := by rw [Int.add_comm, Int.add_mul_ediv_right _ _ (by omega), Int.ediv_eq_zero_of_lt u v, Int.zero_add]
      have d2 : (l * n + i) / n = l := by rw [Int.add_comm, Int.add_mul_ediv_right _ _ (by omega), Int.ediv_eq_zero_of_lt hi.1 hi.2, Int.zero_add]
      rw [w, d2] at d1
      subst d1
      exact ⟨rfl, by omega⟩
    by_cases c : l' = l ∧ i' = i
    · obtain ⟨rfl, rfl⟩ := c
      rw [up1_s, if_pos ⟨hc, by omega⟩, upT_s]
    · rw [up1_n _ _ (fun w => c (ix l' i' a2 a3 w)), up2_n _ _ _ c3, upT_n _ _ c3, h4 l' i' a0 a1 a2 a3]
      by_cases q : mCell n l' i'
      · have e := ne l' i' q c
        by_cases r : l' < l ∨ (l' = l ∧ i' < i)
        · rw [if_pos ⟨q, r⟩, if_pos ⟨q, by omega⟩, upT_n _ _ e]
        · rw [if_neg (fun z => r z.2), if_neg (fun z => r (by omega))]
      · rw [if_neg (fun z => q z.1), if_neg (fun z => q z.1)]
/-- all is made -/
theorem iC.fin {E : y_E} {x : Int} (hx : R32 x) {Gb G : y_G} {τb τ : y_S} (hb : iB E (x % 5 + 2) Gb τb) (h : iC (x % 5 + 2) Gb τb G τ 12 0) : lgR E (oInit x) G τ := by
  obtain ⟨⟨b1, b2⟩, ⟨b3, b4, b5, b6, b7, b8, b9⟩, ⟨⟨b10, b11, b12⟩, b13, b14⟩, ⟨b15, b16, b17, b18, b19⟩, b20⟩ := hb
  obtain ⟨h1, h2, h3, h4⟩ := h
  have hn : x % 5 + 2 ≤ 6 := by omega
  have r0 : oInit x 60 0 = x % 5 + 2 := rfl
  have K : ∀ t : Nat, t < 100 → G.1 t = Gb.1 t := fun t ht => (h1 t (by omega)).1
  have D : ∀ t : Nat, t < 100 ∨ 172 ≤ t → G.2.2 t = Gb.2.2 t := fun t ht => (h1 t (by omega)).2.1
  have F : ∀ t : Nat, t < 100 → t ≠ 3 → G.2.1 t = Gb.2.1 t := fun t ht z => (h1 t (by omega)).2.2.1 z
  have V : ∀ t : Nat, t < 100 ∨ 172 ≤ t → τ t = τb t := fun t ht => (h1 t (by omega)).2.2.2
  have d0 := D 0 (by decide)
  have d60 := D 60 (by decide)
  have z0 : ∀ (t : Nat) (k : Int), t ≠ 60 → t ≠ 61 → t ≠ 1 → (t < 100 ∨ 172 ≤ t) → τ t k = 0 := fun t k a b c d => by rw [V t d, b19 t a b c]
  have v60 : ∀ k : Int, k ≠ 2 → k ≠ 4 → τ 60 k = 0 := fun k a b => by rw [V 60 (by decide)]; exact b17 k a b
  refine ⟨ok_init x, ?_, ?_, ?_, ?_, by rw [d0]; exact b20⟩
  · rw [r0]
    refine ⟨fun t k hk => ?_, fun k t hk => ?_, fun l i l0 l1 i0 i1 => ?_, fun l i hc => (h2 l i hc (Or.inl (by omega))).2.1, ?_, ?_, ?_, ?_, ?_, fun c hc => ?_, fun l hl => ?_⟩
    · by_cases c : 100 ≤ t ∧ t < 172
      · have hc : mCell (x % 5 + 2) (((t - 100 : Nat) : Int) / 6) (((t - 100 : Nat) : Int) % 6) ∧ k = .inl 6 := by
          unfold lKd at hk
          split at hk <;> first | omega | skip
          by_cases q : 100 ≤ t ∧ t < 172 ∧ mCell (x % 5 + 2) (((t - 100 : Nat) : Int) / 6) (((t - 100 : Nat) : Int) % 6)
          · rw [if_pos q] at hk
            cases hk
            exact ⟨q.2.2, rfl⟩
          · rw [if_neg q, if_neg (by omega), if_neg (by omega), if_neg (by omega)] at hk
            cases hk
        have e : cT (((t - 100 : Nat) : Int) / 6) (((t - 100 : Nat) : Int) % 6) = t := by unfold cT; omega
        have q := (h2 _ _ hc.1 (Or.inl (by omega))).1
        rw [e] at q
        rw [q, hc.2]
      · rw [(h1 t c).1]; exact b1 t k hk c
    · have hk2 : t < 100 ∧ t ≠ 3 ∨ t = 3 := by
        unfold lFl at hk
        split at hk <;> first | (cases hk; decide) | cases hk
      rw [F 60 (by decide) (by decide), D t (by omega)]
      exact b2 k t hk
    · rw [h4 l i l0 l1 i0 i1]
      by_cases q : mCell (x % 5 + 2) l i
      · rw [if_pos ⟨q, Or.inl (by omega)⟩, if_pos q]
      · rw [if_neg (fun z => q z.1), if_neg q]
    · rw [F 5 (by decide) (by decide), d60]; exact b3
    · rw [F 6 (by decide) (by decide), d60]; exact b4
    · rw [F 7 (by decide) (by decide), d60]; exact b5
    · rw [F 8 (by decide) (by decide), d60]; exact b6
    · rw [F 26 (by decide) (by decide), d60, D 62 (by decide)]; exact b7
    · rw [F 10 (by decide) (by decide), F 11 (by decide) (by decide), F 32 (by decide) (by decide), D (200 + c) (by omega), D (210 + c) (by omega), D (220 + c) (by omega)]; exact b8 c hc
    · rw [F 21 (by decide) (by decide), D (240 + l) (by omega)]; exact b9 l hl
  · refine ⟨by rw [V 60 (by decide)]; exact b15, by rw [V 60 (by decide)]; exact b16, v60 29 (by decide) (by decide), fun k k0 k1 => ?_, fun l i hc => ?_⟩
    · rw [V 61 (by decide), V 1 (by decide)]
      have e1 : oInit x 1 k = csC k := fillN_in (f := zR) (g := csC) k0 k1
      have e2 : oInit x 2 k = csS k := fillN_in (f := zR) (g := csS) k0 k1
      rw [e1, e2]
      exact b18 k k0 k1
    · have hc : mCell (x % 5 + 2) l i := hc
      have q := h2 l i hc (Or.inl (by omega))
      have e4 : oInit x 4 (6 * l + i) = -1 := fillN_in (f := zR) (g := fun _ => -1) (by omega) (by omega)
      have e5 : oInit x 5 (6 * l + i) = -1 := fillN_in (f := zR) (g := fun _ => -1) (by omega) (by omega)
      rw [e4, e5]
      exact ⟨q.2.2.1, q.2.2.2.1, q.2.2.2.2.1, q.2.2.2.2.2.1, q.2.2.2.2.2.2.1, q.2.2.2.2.2.2.2⟩
  · exact ⟨fun c r _ _ _ => z0 _ _ (by omega) (by omega) (by omega) (by omega), ⟨v60 15 (by decide) (by decide), v60 17 (by decide) (by decide), fun z => absurd rfl z⟩, fun k _ _ => ⟨z0 12 k (by decide) (by decide) (by decide) (by decide), z0 13 k (by decide) (by decide) (by decide) (by decide)⟩, fun k _ _ => z0 14 k (by decide) (by decide) (by decide) (by decide), ⟨v60 20 (by decide) (by decide), fun k a b => absurd (show k < 0 from b) (by omega)⟩, ⟨v60 25 (by decide) (by decide), fun k a b => absurd (show k < 0 from b) (by omega)⟩, v60 31 (by decide) (by decide)⟩
  · have ls : ∀ (tl ta : Nat) (f : Int → Nat), (tl = 27 ∧ ta = 63) ∨ (tl = 28 ∧ ta = 64) ∨ (tl = 30 ∧ ta = 65) → Gb.2.1 tl 1 = some (Gb.2.2 0) → lLs tl ta 0 f G τ := fun tl ta f hc hg => ⟨z0 tl 2 (by omega) (by omega) (by omega) (by omega), Or.inl ⟨rfl, by rw [K ta (by omega)]; exact b13 ta (by omega), by rw [F tl (by omega) (by omega), d0]; exact hg⟩⟩
    refine ⟨⟨ls 27 63 _ (by decide) b10, fun q hq => absurd (show (q : Int) < 0 from hq) (by omega)⟩, ⟨ls 28 64 _ (by decide) b11, fun q hq => absurd (show (q : Int) < 0 from hq) (by omega)⟩, ⟨ls 30 65 _ (by decide) b12, fun q hq => absurd (show (q : Int) < 0 from hq) (by omega), fun k a b => absurd (show k < 0 from b) (by omega)⟩, fun t ht => ?_⟩
    rw [(h1 t (by omega)).1]
    exact b13 t (by omega)
/-- the tables of turns while they are made -/
def lIn (k : Int) : y_S := upT (upT z0 61 (fillN zR csC k)) 1 (fillN zR csS k)
theorem lIn_1 : up2 (upT (upT z0 61 (fun _ => 0)) 1 (fun _ => 0)) 61 0 1 = lIn 1 := by
  have e1 : fillN zR csS 1 = zR := by
    funext i
    unfold fillN
    split
    · rename_i h
      rw [show i = 0 by omega]
      rfl
    · rfl
  have e2 : up1 zR 0 1 = fillN zR csC 1 := by
    have := fillN_s (f := zR) (g := csC) (n := 0) (v := 1) (by decide) rfl
    rw [fillN_0] at this
    exact this
  unfold lIn
  rw [e1, ← e2]
  funext t
  by_cases c : t = 61
  · subst c; rfl
  · rw [up2_n _ _ _ c]
    by_cases d : t = 1
    · subst d; rfl
    · rw [upT_n _ _ d, upT_n _ _ c, upT_n _ _ d, upT_n _ _ c]
theorem lIn_c {k : Int} (h : 1 ≤ k) : lIn k 61 (k - 1) = csC (k - 1) := fillN_in (f := zR) (g := csC) (by omega) (by omega)
theorem lIn_s {k : Int} (h : 1 ≤ k) : lIn k 1 (k - 1) = csS (k - 1) := fillN_in (f := zR) (g := csS) (by omega) (by omega)
theorem csC_g (k : Int) : 0 ≤ csC k ∧ csC k ≤ 96 := (csN_r k.toNat).1
theorem csS_g (k : Int) : 0 ≤ csS k ∧ csS k ≤ 96 := (csN_r k.toNat).2
theorem csC_i {k : Int} (h : 1 ≤ k) : (22 * csC (k - 1) - 83 * csS (k - 1)) % 97 = csC k := by
  obtain ⟨q, hq⟩ : ∃ q : Nat, k = (q : Int) + 1 := ⟨(k - 1).toNat, by omega⟩
  subst hq
  rw [show (q : Int) + 1 - 1 = (q : Int) by omega, csC_n, csS_n]
  exact csC_s (by rw [Int.mul_comm 22, Int.mul_comm 83])
theorem csS_i {k : Int} (h : 1 ≤ k) : (22 * csS (k - 1) + 83 * csC (k - 1)) % 97 = csS k := by
  obtain ⟨q, hq⟩ : ∃ q : Nat, k = (q : Int) + 1 := ⟨(k - 1).toNat, by omega⟩
  subst hq
  rw [show (q : Int) + 1 - 1 = (q : Int) by omega, csC_n, csS_n]
  exact csS_s (by rw [Int.mul_comm 22, Int.mul_comm 83])
theorem lIn_n {k : Int} (h : 0 ≤ k) : up2 (up2 (lIn k) 61 k (csC k)) 1 k (csS k) = lIn (k + 1) := by
  unfold lIn
  rw [up2_cT _ (by decide), up2_fill h rfl, up2_fill h rfl]
theorem zz_lIn (k : Int) : zzP (lIn k) := fun t a b c => by
  unfold lIn
  rw [upT_n _ _ c, upT_n _ _ b]
  rfl
/-- the kinds of a plate's tags, one by one -/
theorem lKd_x {n : Int} {t : Nat} {k : y_K} (hk : lKd n t = some k) (hc : ¬ (100 ≤ t ∧ t < 172)) (P : Nat → y_K → Prop) (p0 : P 0 (.inr (3, 0))) (p60 : P 60 (.inl 0)) (p61 : P 61 (.inr (0, 96))) (p1 : P 1 (.inr (0, 96))) (p3 : P 3 (.inr (4, 12 * n.toNat))) (p5 : P 5 (.inl 1)) (p6 : P 6 (.inl 2)) (p7 : P 7 (.inl 3)) (p8 : P 8 (.inl 4)) (p9 : P 9 (.inr (0, 6))) (p10 : P 10 (.inr (6, 6))) (p11 : P 11 (.inr (6, 6))) (p12 : P 12 (.inr (0, 15))) (p13 : P 13 (.inr (0, 15))) (p14 : P 14 (.inr (0, 6))) (p18 : P 18 (.inr (0, 10))) (p19 : P 19 (.inr (0, 10))) (p21 : P 21 (.inr (7, 13))) (p24 : P 24 (.inr (2, 100))) (p26 : P 26 (.inl 5)) (p62 : P 62 (.inr (5, 6))) (p27 : P 27 (.inl 16)) (p28 : P 28 (.inl 16)) (p30 : P 30 (.inl 16)) (p32 : P 32 (.inr (6, 6)))
    (q0 : ∀ j : Nat, j < 6 → P (200 + j) (.inr (0, 6))) (q1 : ∀ j : Nat, j < 6 → P (210 + j) (.inr (0, 6))) (q2 : ∀ j : Nat, j < 6 → P (220 + j) (.inr (0, 97))) (q3 : ∀ j : Nat, j < 13 → P (240 + j) (.inr (1, 1024))) : P t k := by
  unfold lKd at hk
  split at hk <;> first | (cases hk; assumption) | skip
  rw [if_neg (fun q => hc ⟨q.1, q.2.1⟩)] at hk
  by_cases c1 : (200 ≤ t ∧ t < 206) ∨ (210 ≤ t ∧ t < 216)
  · rw [if_pos c1] at hk
    cases hk
    rcases c1 with c1 | c1
    · have := q0 (t - 200) (by omega)
      rw [show 200 + (t - 200) = t by omega] at this
      exact this
    · have := q1 (t - 210) (by omega)
      rw [show 210 + (t - 210) = t by omega] at this
      exact this
  · rw [if_neg c1] at hk
    by_cases c2 : 220 ≤ t ∧ t < 226
    · rw [if_pos c2] at hk
      cases hk
      have := q2 (t - 220) (by omega)
      rw [show 220 + (t - 220) = t by omega] at this
      exact this
    · rw [if_neg c2] at hk
      by_cases c3 : 240 ≤ t ∧ t < 253
      · rw [if_pos c3] at hk
        cases hk
        have := q3 (t - 240) (by omega)
        rw [show 240 + (t - 240) = t by omega] at this
        exact this
      · rw [if_neg c3] at hk
        cases hk
theorem ce_ix {n la i : Int} (h0 : 0 ≤ la) (h1 : la ≤ 11) (i0 : 0 ≤ i) (i1 : i < n) : 0 ≤ la * n + i ∧ la * n + i < 12 * n := by
  have a : 0 ≤ la * n := Int.mul_nonneg h0 (by omega)
  have b : la * n ≤ 11 * n := Int.mul_le_mul_of_nonneg_right h1 (by omega)
  omega
