/-! ENDS THAT ARE SAID BY A PREDICATE -/
def gPI (P : Int → y_G → y_S → Prop) : Option Value → y_G → y_S → Prop := fun v G' τ' => ∃ r : Int, v = some (.int (jI r)) ∧ P r G' τ'
def gPV (P : y_G → y_S → Prop) : Option Value → y_G → y_S → Prop := fun v G' τ' => v = none ∧ P G' τ'
section GPP
variable {p : Program} {l : Launch} {e : Env} {R : Room} {s : State} {m : MethodId} {args : Array Value} {below : List Frame} {meth : Method} {c : Code} {H : Heap} {locs : List Loc} {cells slots mc ms : Nat} {Q : State → Prop} {pc : Nat} {ls : Array Slot} {rest st0 : List Value}
variable {E : y_E} {A : Nat → Prop} {G : y_G} {σ : y_S} {a : Array Value}
theorem g_callPI (hM : gM E A G σ s.heap H locs) (hA : ∀ q, s.heap.size ≤ q → A q) {P : Int → y_G → y_S → Prop} (hr : va_Run p l e R s m args below meth c H locs cells slots mc ms (F0 m pc ls st0) rest (gQ E G H.size (gPI P) a) (gA G H.size))
    (kk : ∀ (r : Int) (G' : y_G) (τ' : y_S) (H : Heap) (locs : List Loc), P r G' τ' → gM E A G' τ' s.heap H locs → W p l e R s m args below meth c H locs (cells + mc) (slots + ms) Q (F0 m (pc + 3) ls (.int (jI r) :: rest))) : W p l e R s m args below meth c H locs cells slots Q (F0 m pc ls st0) :=
  g_call hM hA hr (fun v G' σ' H locs hp hM => by obtain ⟨r, rfl, hp⟩ := hp; exact kk r G' σ' H locs hp hM)
theorem g_callPV (hM : gM E A G σ s.heap H locs) (hA : ∀ q, s.heap.size ≤ q → A q) {P : y_G → y_S → Prop} (hr : va_Run p l e R s m args below meth c H locs cells slots mc ms (F0 m pc ls st0) rest (gQ E G H.size (gPV P) a) (gA G H.size))
    (kk : ∀ (G' : y_G) (τ' : y_S) (H : Heap) (locs : List Loc), P G' τ' → gM E A G' τ' s.heap H locs → W p l e R s m args below meth c H locs (cells + mc) (slots + ms) Q (F0 m (pc + 3) ls rest)) : W p l e R s m args below meth c H locs cells slots Q (F0 m pc ls st0) :=
  g_call hM hA hr (fun v G' σ' H locs hp hM => by obtain ⟨rfl, hp⟩ := hp; exact kk G' σ' H locs hp hM)
end GPP
/-! LAYING: which work comes next at a cell; the works that may and must be done -/
theorem lgW.u60 {ρ τ : y_S} {G : y_G} (h : lgW ρ G τ) {k v : Int} (hk : k ≠ 2 ∧ k ≠ 20) : lgW ρ G (up2 τ 60 k v) := by
  obtain ⟨h1, h2, h3, h4, h5⟩ := h
  refine ⟨h1, h2, by rw [up2_s, up1_n _ _ (Ne.symm hk.1)]; exact h3, ⟨by rw [up2_s, up1_n _ _ (Ne.symm hk.2)]; exact h4.1, h4.2⟩, fun l i hc => ?_⟩
  rw [up2_n _ _ _ (cT_ne (by decide))]
  exact h5 l i hc
def nxP (ρ : y_S) (l i : Int) (D w : Nat) : Prop := w < wkN ρ ∧ ρ 19 (w : Int) = i ∧ ¬ D.testBit w = true ∧ mOk1 ρ l D w
theorem nxP_u {ρ : y_S} {l i : Int} {D w w' : Nat} (h : nxP ρ l i D w) (h' : nxP ρ l i D w') : w = w' := by
  rcases Nat.lt_trichotomy w w' with q | q | q
  · exact absurd (h'.2.2.2.2.2 w q (by rw [h.2.1, h'.2.1]; omega)) h.2.2.1
  · exact q
  · exact absurd (h.2.2.2.2.2 w' q (by rw [h.2.1, h'.2.1]; omega)) h'.2.2.1
noncomputable def nxF (ρ : y_S) (l i : Int) (D : Nat) : Int := @dite _ (∃ w, nxP ρ l i D w) (Classical.propDecidable _) (fun h => ((Classical.choose h : Nat) : Int)) (fun _ => -1)
theorem nxF_y {ρ : y_S} {l i : Int} {D w : Nat} (h : nxP ρ l i D w) : nxF ρ l i D = (w : Int) := by
  unfold nxF
  rw [dif_pos ⟨w, h⟩]
  exact congrArg Int.ofNat (nxP_u (Classical.choose_spec (⟨w, h⟩ : ∃ w, nxP ρ l i D w)) h)
theorem nxF_n {ρ : y_S} {l i : Int} {D : Nat} (h : ∀ w, ¬ nxP ρ l i D w) : nxF ρ l i D = -1 := by
  unfold nxF
  rw [dif_neg (fun q => Exists.elim q h)]
theorem nxF_c (ρ : y_S) (l i : Int) (D : Nat) : (nxF ρ l i D = -1 ∧ ∀ w, ¬ nxP ρ l i D w) ∨ ∃ w : Nat, nxF ρ l i D = (w : Int) ∧ nxP ρ l i D w := by
  by_cases h : ∃ w, nxP ρ l i D w
  · obtain ⟨w, h⟩ := h
    exact Or.inr ⟨w, nxF_y h, h⟩
  · exact Or.inl ⟨nxF_n (fun w q => h ⟨w, q⟩), fun w q => h ⟨w, q⟩⟩
/-- no work comes next: the first that is undone on the lane can't be done, or there is none -/
theorem nx_no {ρ : y_S} {l i : Int} {D w : Nat} (hno : ∀ v : Nat, v < w → ρ 19 (v : Int) = i → D.testBit v = true) (hl : ρ 19 (w : Int) = i) (hD : ¬ D.testBit w = true) (h : ¬ mOk1 ρ l D w) : ∀ v, ¬ nxP ρ l i D v := by
  intro v hv
  rcases Nat.lt_trichotomy v w with q | q | q
  · exact hv.2.2.1 (hno v q hv.2.1)
  · subst q; exact h hv.2.2.2
  · exact hD (hv.2.2.2.2.2 w q (by rw [hl, hv.2.1]; omega))
theorem mm_a (σ : y_S) (a b a' : Int) : up2 (up2 (up2 σ 60 22 a) 60 23 b) 60 22 a' = up2 (up2 σ 60 22 a') 60 23 b := by
  funext t k
  by_cases ht : t = 60
  · subst ht
    rw [up2_s, up2_s, up2_s, up2_s, up2_s]
    unfold up1
    by_cases h1 : k = 22
    · subst h1; simp
    · by_cases h2 : k = 23
      · subst h2; simp
      · simp [h1, h2]
  · rw [up2_n _ _ _ ht, up2_n _ _ _ ht, up2_n _ _ _ ht, up2_n _ _ _ ht, up2_n _ _ _ ht]
/-- the layer's works, by those cells that lie before a lane -/
def lkA (ρ : y_S) (l : Int) (D : Nat) (i : Int) (A : Nat) : Prop := ∀ w : Nat, A.testBit w = true ↔ ∃ j : Int, j < i ∧ mCell (ρ 60 0) l j ∧ nxP ρ l j D w
def lkB (ρ : y_S) (l : Int) (D : Nat) (i : Int) (b : Bool) : Prop := b = true ↔ ∃ j : Int, j < i ∧ mCell (ρ 60 0) l j ∧ 0 < ρ 4 (6 * l + j) ∧ ∀ w, ¬ nxP ρ l j D w
def lkM (ρ : y_S) (l : Int) (D : Nat) (i : Int) (M : Nat) : Prop := ∀ w : Nat, M.testBit w = true ↔ ∃ j : Int, j < i ∧ mCell (ρ 60 0) l j ∧ 0 < ρ 4 (6 * l + j) ∧ nxP ρ l j D w
theorem step2 {n l i j : Int} (hi : i % 2 = l % 2) (hc : mCell n l j) (h : j < i + 2) : j < i ∨ j = i := by omega
theorem lkA_0 {ρ : y_S} {l i : Int} {D : Nat} (h : i = l % 2) : lkA ρ l D i 0 := fun w => ⟨fun q => (by rw [Nat.zero_testBit] at q; cases q), fun ⟨j, a, b, _⟩ => by omega⟩
theorem lkB_0 {ρ : y_S} {l i : Int} {D : Nat} (h : i = l % 2) : lkB ρ l D i false := ⟨fun q => (by cases q), fun ⟨j, a, b, _⟩ => by omega⟩
theorem lkM_0 {ρ : y_S} {l i : Int} {D : Nat} (h : i = l % 2) : lkM ρ l D i 0 := fun w => ⟨fun q => (by rw [Nat.zero_testBit] at q; cases q), fun ⟨j, a, b, _⟩ => by omega⟩
theorem tb_or {A w v : Nat} : (A ||| 2 ^ w).testBit v = true ↔ A.testBit v = true ∨ v = w := by
  rw [Nat.testBit_or, Nat.testBit_two_pow, Bool.or_eq_true, decide_eq_true_iff]
  exact ⟨fun h => h.imp id Eq.symm, fun h => h.imp id Eq.symm⟩
theorem lkA_n {ρ : y_S} {l i : Int} {D A : Nat} (h : lkA ρ l D i A) (hi : i % 2 = l % 2) (hc : mCell (ρ 60 0) l i) (hx : ∀ w, ¬ nxP ρ l i D w) : lkA ρ l D (i + 2) A := fun w => by
  rw [h w]
  exact ⟨fun ⟨j, a, b, c⟩ => ⟨j, by omega, b, c⟩, fun ⟨j, a, b, c⟩ => (step2 hi b a).elim (fun q => ⟨j, q, b, c⟩) (fun q => absurd (q ▸ c) (hx w))⟩
theorem lkA_y {ρ : y_S} {l i : Int} {D A w : Nat} (h : lkA ρ l D i A) (hi : i % 2 = l % 2) (hc : mCell (ρ 60 0) l i) (hx : nxP ρ l i D w) : lkA ρ l D (i + 2) (A ||| 2 ^ w) := fun v => by
  rw [tb_or, h v]
  constructor
  · rintro (⟨j, a, b, c⟩ | rfl)
    · exact ⟨j, by omega, b, c⟩
    · exact ⟨i, by omega, hc, hx⟩
  · rintro ⟨j, a, b, c⟩
    rcases step2 hi b a with q | q
    · exact Or.inl ⟨j, q, b, c⟩
    · subst q; exact Or.inr (nxP_u c hx)
theorem lkB_n {ρ : y_S} {l i : Int} {D : Nat} {b : Bool} (h : lkB ρ l D i b) (hi : i % 2 = l % 2) (hx : ¬ (0 < ρ 4 (6 * l + i) ∧ ∀ w, ¬ nxP ρ l i D w)) : lkB ρ l D (i + 2) b := by
  unfold lkB at h ⊢
  rw [h]
  exact ⟨fun ⟨j, a, b, c⟩ => ⟨j, by omega, b, c⟩, fun ⟨j, a, b, c⟩ => (step2 hi b a).elim (fun q => ⟨j, q, b, c⟩) (fun q => absurd (q ▸ c) hx)⟩
theorem lkB_y {ρ : y_S} {l i : Int} {D : Nat} (hc : mCell (ρ 60 0) l i) (hx : 0 < ρ 4 (6 * l + i) ∧ ∀ w, ¬ nxP ρ l i D w) : lkB ρ l D (i + 2) true := ⟨fun _ => ⟨i, by omega, hc, hx⟩, fun _ => rfl⟩
theorem lkB_t {ρ : y_S} {l i : Int} {D : Nat} (h : lkB ρ l D i true) : lkB ρ l D (i + 2) true := ⟨fun _ => by obtain ⟨j, a, b, c⟩ := h.mp rfl; exact ⟨j, by omega, b, c⟩, fun _ => rfl⟩
theorem lkM_n {ρ : y_S} {l i : Int} {D M : Nat} (h : lkM ρ l D i M) (hi : i % 2 = l % 2) (hx : ∀ w, ¬ (0 < ρ 4 (6 * l + i) ∧ nxP ρ l i D w)) : lkM ρ l D (i + 2) M := fun w => by
  rw [h w]
  exact ⟨fun ⟨j, a, b, c⟩ => ⟨j, by omega, b, c⟩, fun ⟨j, a, b, c⟩ => (step2 hi b a).elim (fun q => ⟨j, q, b, c⟩) (fun q => absurd (q ▸ c) (hx w))⟩
theorem lkM_y {ρ : y_S} {l i : Int} {D M w : Nat} (h : lkM ρ l D i M) (hi : i % 2 = l % 2) (hc : mCell (ρ 60 0) l i) (hp : 0 < ρ 4 (6 * l + i)) (hx : nxP ρ l i D w) : lkM ρ l D (i + 2) (M ||| 2 ^ w) := fun v => by
  rw [tb_or, h v]
  constructor
  · rintro (⟨j, a, b, c⟩ | rfl)
    · exact ⟨j, by omega, b, c⟩
    · exact ⟨i, by omega, hc, hp, hx⟩
  · rintro ⟨j, a, b, c⟩
    rcases step2 hi b a with q | q
    · exact Or.inl ⟨j, q, b, c⟩
    · subst q; exact Or.inr (nxP_u c.2 hx)
theorem lkA_lt {ρ : y_S} {l i : Int} {D A : Nat} (h : lkA ρ l D i A) : A < 2 ^ wkN ρ := Nat.lt_pow_two_of_testBit A (fun w hw => by
  cases hb : A.testBit w with
  | false => rfl
  | true => obtain ⟨j, _, _, c⟩ := (h w).mp hb; exact absurd c.1 (by omega))
theorem lkM_lt {ρ : y_S} {l i : Int} {D A : Nat} (h : lkM ρ l D i A) : A < 2 ^ wkN ρ := Nat.lt_pow_two_of_testBit A (fun w hw => by
  cases hb : A.testBit w with
  | false => rfl
  | true => obtain ⟨j, _, _, _, c⟩ := (h w).mp hb; exact absurd c.1 (by omega))
theorem sub_tb {T A : Nat} : T &&& A = T ↔ ∀ w, T.testBit w = true → A.testBit w = true := by
  constructor
  · intro h w hw
    rw [← h, Nat.testBit_and, Bool.and_eq_true] at hw
    exact hw.2
  · intro h
    apply Nat.eq_of_testBit_eq
    intro w
    rw [Nat.testBit_and]
    cases hb : T.testBit w with
    | false => rfl
    | true => rw [h w hb]; rfl
/-- what may be chosen is what may be done -/
theorem ch_iff {ρ : y_S} {l : Int} {D A M : Nat} (hD : D < 2 ^ wkN ρ) (hA : lkA ρ l D (ρ 60 0) A) (hM : lkM ρ l D (ρ 60 0) M) (hb : lkB ρ l D (ρ 60 0) false) {T : Nat} : (T &&& A = T ∧ T &&& M = M) ↔ (T &&& frS (wkN ρ) D = T ∧ mMay ρ l T D) := by
  have hbn : ∀ j : Int, mCell (ρ 60 0) l j → 0 < ρ 4 (6 * l + j) → ∃ w, nxP ρ l j D w := fun j hc hp => by
    apply Classical.byContradiction
    intro q
    exact absurd (hb.mpr ⟨j, by omega, hc, hp, fun w z => q ⟨w, z⟩⟩) (by decide)
  constructor
  · rintro ⟨h1, h2⟩
    have h1 := sub_tb.mp h1
    have h2 := sub_tb.mp (show M &&& T = M by rw [Nat.and_comm]; exact h2)
    have hw : ∀ w, T.testBit w = true → ∃ j : Int, mCell (ρ 60 0) l j ∧ nxP ρ l j D w := fun w hw => by
      obtain ⟨j, _, b, c⟩ := (hA w).mp (h1 w hw); exact ⟨j, b, c⟩
    refine ⟨sub_tb.mpr fun w hw2 => ?_, ?_, fun w _ hw2 => ?_, fun i hc hp => ?_⟩
    · obtain ⟨j, b, c⟩ := hw w hw2
      rw [frS_bit hD, Bool.and_eq_true, decide_eq_true_iff]
      exact ⟨c.1, by cases hq : D.testBit w with
        | false => rfl
        | true => exact absurd hq c.2.2.1⟩
    · apply Nat.eq_of_testBit_eq
      intro w
      rw [Nat.testBit_and, Nat.zero_testBit]
      cases hq : T.testBit w with
      | false => rfl
      | true =>
        obtain ⟨j, b, c⟩ := hw w hq
        cases hz : D.testBit w with
        | false => rfl
        | true => exact absurd hz c.2.2.1
    · obtain ⟨j, b, c⟩ := hw w hw2; exact c.2.2.2
    · obtain ⟨w, hx⟩ := hbn i hc hp
      exact ⟨w, hx.1, h2 w ((hM w).mpr ⟨i, by omega, hc, hp, hx⟩), hx.2.1⟩
  · rintro ⟨h1, h2, h3, h4⟩
    have h1 := sub_tb.mp h1
    have hlt : ∀ w, T.testBit w = true → w < wkN ρ ∧ ¬ D.testBit w = true := fun w hw => by
      have q := h1 w hw
      rw [frS_bit hD, Bool.and_eq_true, decide_eq_true_iff] at q
      exact ⟨q.1, fun z => by rw [z] at q; exact absurd q.2 (by decide)⟩
    have hnx : ∀ w, T.testBit w = true → nxP ρ l (ρ 19 (w : Int)) D w := fun w hw => ⟨(hlt w hw).1, rfl, (hlt w hw).2, h3 w (hlt w hw).1 hw⟩
    refine ⟨sub_tb.mpr fun w hw => (hA w).mpr ⟨_, by have := (h3 w (hlt w hw).1 hw).1; omega, (h3 w (hlt w hw).1 hw).1, hnx w hw⟩, ?_⟩
    rw [Nat.and_comm]
    refine sub_tb.mpr fun w hw => ?_
    obtain ⟨j, _, hc, hp, hx⟩ := (hM w).mp hw
    obtain ⟨v, a, b, c⟩ := h4 j hc hp
    have := nxP_u (c ▸ hnx v b) hx
    rw [← this]; exact b
theorem ch_bad {ρ : y_S} {l : Int} {D : Nat} (hD : D < 2 ^ wkN ρ) (hb : lkB ρ l D (ρ 60 0) true) {T : Nat} : ¬ (T &&& frS (wkN ρ) D = T ∧ mMay ρ l T D) := by
  rintro ⟨h1, h2, h3, h4⟩
  have h1 := sub_tb.mp h1
  obtain ⟨j, _, hc, hp, hx⟩ := hb.mp rfl
  obtain ⟨v, a, b, c⟩ := h4 j hc hp
  have q := h1 v b
  rw [frS_bit hD, Bool.and_eq_true, decide_eq_true_iff] at q
  exact hx v ⟨a, c, fun z => by rw [z] at q; exact absurd q.2 (by decide), h3 v a b⟩
/-- a layer's row of the table -/
def cRw (ρ : y_S) (L : Int) (l : Nat) (τ : y_S) : Prop := ∀ D : Nat, D < 2 ^ wkN ρ → τ (240 + l) (D : Int) = if pB (mCan ρ L (L - (l : Int)).toNat D) = true then 1 else 0
