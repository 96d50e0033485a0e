/-! THE CLASS'S MEMORY: how it shows the reference's -/
def cT (l i : Int) : Nat := 100 + (6 * l + i).toNat
def lKd (n : Int) (t : Nat) : Option y_K := match t with
  | 0 => some (.inr (3, 0))
  | 60 => some (.inl 0)
  | 61 => some (.inr (0, 96))
  | 1 => some (.inr (0, 96))
  | 3 => some (.inr (4, 12 * n.toNat))
  | 5 => some (.inl 1)
  | 6 => some (.inl 2)
  | 7 => some (.inl 3)
  | 8 => some (.inl 4)
  | 9 => some (.inr (0, 6))
  | 10 => some (.inr (6, 6))
  | 11 => some (.inr (6, 6))
  | 12 => some (.inr (0, 15))
  | 13 => some (.inr (0, 15))
  | 14 => some (.inr (0, 6))
  | 18 => some (.inr (0, 10))
  | 19 => some (.inr (0, 10))
  | 21 => some (.inr (7, 13))
  | 24 => some (.inr (2, 100))
  | 26 => some (.inl 5)
  | 62 => some (.inr (5, 6))
  | 27 => some (.inl 16)
  | 28 => some (.inl 16)
  | 30 => some (.inl 16)
  | 32 => some (.inr (6, 6))
  | t => if 100 ≤ t ∧ t < 172 ∧ mCell n (((t - 100 : Nat) : Int) / 6) (((t - 100 : Nat) : Int) % 6) then some (.inl 6) else if (200 ≤ t ∧ t < 206) ∨ (210 ≤ t ∧ t < 216) then some (.inr (0, 6)) else if 220 ≤ t ∧ t < 226 then some (.inr (0, 97)) else if 240 ≤ t ∧ t < 253 then some (.inr (1, 1024)) else none
theorem cT_ne {l i : Int} {t : Nat} (h : t < 100) : cT l i ≠ t := by unfold cT; omega
theorem cT_62 {n l i : Int} (hn : n ≤ 6) (hc : mCell n l i) : cT l i ≠ 62 := cT_ne (by decide)
theorem cT_ix {n l i : Int} (hn : n ≤ 6) (hc : mCell n l i) : 100 ≤ cT l i ∧ cT l i < 172 ∧ ((cT l i - 100 : Nat) : Int) = 6 * l + i := by
  unfold cT
  omega
theorem lKd_c {n l i : Int} (hn : n ≤ 6) (hc : mCell n l i) : lKd n (cT l i) = some (.inl 6) := by
  have h := cT_ix hn hc
  have e := cell_ix hc hn
  generalize cT l i = t at *
  unfold lKd
  split <;> first | omega | skip
  rw [if_pos ⟨h.1, h.2.1, by rw [h.2.2, e.1, e.2.1]; exact hc⟩]
def lFl (k : Nat) : Option Nat := match k with
  | 0 => some 61
  | 1 => some 1
  | 3 => some 3
  | 5 => some 5
  | 6 => some 6
  | 7 => some 7
  | 8 => some 8
  | 9 => some 9
  | 10 => some 10
  | 11 => some 11
  | 12 => some 12
  | 13 => some 13
  | 14 => some 14
  | 18 => some 18
  | 19 => some 19
  | 21 => some 21
  | 24 => some 24
  | 26 => some 26
  | 27 => some 27
  | 28 => some 28
  | 30 => some 30
  | 32 => some 32
  | _ => none
/-- the references that never change -/
def lgS (n : Int) (G : y_G) : Prop := (∀ (t : Nat) (k : y_K), lKd n t = some k → G.1 t = some k) ∧ (∀ (k t : Nat), lFl k = some t → G.2.1 60 (k : Int) = some (G.2.2 t)) ∧
  (∀ l i : Int, 0 ≤ l → l < 12 → 0 ≤ i → i < n → G.2.1 3 (l * n + i) = if mCell n l i then some (G.2.2 (cT l i)) else none) ∧
  (∀ l i : Int, mCell n l i → G.2.1 (cT l i) 6 = some (G.2.2 60)) ∧
  (G.2.1 5 0 = some (G.2.2 60) ∧ G.2.1 5 1 = some (G.2.2 60)) ∧ (G.2.1 6 0 = some (G.2.2 60) ∧ G.2.1 6 1 = some (G.2.2 60) ∧ G.2.1 6 2 = some (G.2.2 60)) ∧
  (G.2.1 7 0 = some (G.2.2 60) ∧ G.2.1 7 1 = some (G.2.2 60) ∧ G.2.1 7 2 = some (G.2.2 60) ∧ G.2.1 7 5 = some (G.2.2 60)) ∧ (G.2.1 8 0 = some (G.2.2 60) ∧ G.2.1 8 2 = some (G.2.2 60)) ∧
  (G.2.1 26 0 = some (G.2.2 62) ∧ G.2.1 26 3 = some (G.2.2 60)) ∧
  (∀ c : Nat, c < 6 → G.2.1 10 (c : Int) = some (G.2.2 (200 + c)) ∧ G.2.1 11 (c : Int) = some (G.2.2 (210 + c)) ∧ G.2.1 32 (c : Int) = some (G.2.2 (220 + c))) ∧
  ∀ l : Nat, l < 13 → G.2.1 21 (l : Int) = some (G.2.2 (240 + l))
/-- the numbers of the plate -/
def lgM (ρ τ : y_S) : Prop := τ 60 2 = ρ 60 0 ∧ τ 60 4 = ρ 60 7 ∧ τ 60 29 = ρ 60 42 ∧ (∀ k : Int, 0 ≤ k → k < 96 → τ 61 k = ρ 1 k ∧ τ 1 k = ρ 2 k) ∧
  ∀ l i : Int, mCell (ρ 60 0) l i → τ (cT l i) 0 = l ∧ τ (cT l i) 1 = i ∧ τ (cT l i) 2 = ρ 3 (6 * l + i) ∧ τ (cT l i) 3 = ρ 4 (6 * l + i) ∧ τ (cT l i) 4 = ρ 6 (6 * l + i) ∧ τ (cT l i) 5 = ρ 5 (6 * l + i)
theorem cT_inj {n l i l' i' : Int} (hn : n ≤ 6) (hc : mCell n l i) (hc' : mCell n l' i') (h : cT l i = cT l' i') : l = l' ∧ i = i' := by
  have a := cT_ix hn hc
  have b := cT_ix hn hc'
  rw [h] at a
  have : 6 * l + i = 6 * l' + i' := a.2.2.symm.trans b.2.2
  omega
/-- the numbers off the cells -/
def lgX (ρ τ : y_S) : Prop :=
  (∀ (c : Nat) (r : Int), (c : Int) < ρ 60 0 → 0 ≤ r → r < ρ 60 0 → τ (200 + c) r = ρ 11 (6 * r + (c : Int))) ∧
  (τ 60 15 = ρ 60 16 ∧ τ 60 17 = ρ 60 17 ∧ (ρ 60 17 ≠ 0 → (τ 60 16 = -1 ↔ ρ 60 18 = 0))) ∧
  (∀ k : Int, 0 ≤ k → k < 15 → τ 12 k = ρ 13 k ∧ τ 13 k = ρ 14 k) ∧
  (∀ k : Int, 0 ≤ k → k < ρ 60 0 → τ 14 k = ρ 15 k) ∧
  (τ 60 20 = ρ 60 21 ∧ ∀ k : Int, 0 ≤ k → k < ρ 60 21 → τ 18 k = ρ 19 k ∧ τ 19 k = ρ 20 k) ∧
  (τ 60 25 = ρ 60 30 ∧ ∀ k : Int, 0 ≤ k → k < ρ 60 30 → τ 24 k = (ρ 23 k).bmod 256) ∧
  τ 60 31 = ρ 60 49
/-- a list by its tag, its array's tag, its size, the addresses that it holds -/
def lLs (tl ta : Nat) (N : Int) (f : Int → Nat) (G : y_G) (τ : y_S) : Prop := τ tl 2 = N ∧ ((N = 0 ∧ G.1 ta = none ∧ G.2.1 tl 1 = some (G.2.2 0)) ∨ ∃ cap : Nat, G.1 ta = some (.inr (3, cap)) ∧ N ≤ (cap : Int) ∧ 1 ≤ cap ∧ cap ≤ 600 ∧ G.2.1 tl 1 = some (G.2.2 ta) ∧ ∀ i : Int, 0 ≤ i → i < N → G.2.1 ta i = some (f i))
/-- a number of a cell -/
def lCk (n k : Int) : Prop := 0 ≤ k ∧ k < 72 ∧ mCell n (k / 6) (k % 6)
/-- a run, a finding, a hypothesis by its number -/
def lRu (ρ : y_S) (G : y_G) (τ : y_S) (q : Nat) : Prop :=
  (G.1 (1000 + 4 * q) = some (.inl 13) ∧ G.1 (1001 + 4 * q) = some (.inr (0, 6)) ∧ G.1 (1002 + 4 * q) = some (.inr (0, 6)) ∧ G.1 (1003 + 4 * q) = some (.inr (0, 12 * (ρ 60 0).toNat))) ∧
  (G.2.1 (1000 + 4 * q) 1 = some (G.2.2 (1001 + 4 * q)) ∧ G.2.1 (1000 + 4 * q) 2 = some (G.2.2 (1002 + 4 * q)) ∧ G.2.1 (1000 + 4 * q) 3 = some (G.2.2 (1003 + 4 * q)) ∧ G.2.1 (1000 + 4 * q) 4 = some (G.2.2 60)) ∧
  τ (1000 + 4 * q) 0 = (q : Int) ∧ (∀ i : Int, 0 ≤ i → i < ρ 60 0 → τ (1001 + 4 * q) i = ρ 35 (6 * (q : Int) + i) ∧ τ (1002 + 4 * q) i = ρ 36 (6 * (q : Int) + i)) ∧
  ∀ l i : Int, mCell (ρ 60 0) l i → τ (1003 + 4 * q) (l * ρ 60 0 + i) = ρ 37 (72 * (q : Int) + (6 * l + i))
def lFi (ρ : y_S) (G : y_G) (τ : y_S) (q : Nat) : Prop := G.1 (2000 + q) = some (.inl 14) ∧ lCk (ρ 60 0) (ρ 38 (q : Int)) ∧ G.2.1 (2000 + q) 0 = some (G.2.2 (100 + (ρ 38 (q : Int)).toNat)) ∧ τ (2000 + q) 1 = ρ 39 (q : Int) ∧ τ (2000 + q) 2 = ρ 40 (q : Int)
def lHy (ρ : y_S) (G : y_G) (τ : y_S) (q : Nat) : Prop := G.1 (3000 + q) = some (.inl 15) ∧ (G.2.1 (3000 + q) 0 = if q = 0 then none else some (G.2.2 (100 + (ρ 44 (((q : Int) - 1) / 4)).toNat))) ∧ (τ (3000 + q) 1 = if q = 0 then 0 else moF (((q : Int) - 1) % 4)) ∧ τ (3000 + q) 2 = ρ 46 (q : Int)
def lgD (ρ : y_S) (G : y_G) (τ : y_S) : Prop :=
  (lLs 27 63 (ρ 60 41) (fun i => G.2.2 (1000 + 4 * i.toNat)) G τ ∧ ∀ q : Nat, (q : Int) < ρ 60 41 → lRu ρ G τ q) ∧
  (lLs 28 64 (ρ 60 43) (fun i => G.2.2 (2000 + i.toNat)) G τ ∧ ∀ q : Nat, (q : Int) < ρ 60 43 → lFi ρ G τ q) ∧
  (lLs 30 65 (ρ 60 48) (fun i => G.2.2 (3000 + i.toNat)) G τ ∧ (∀ q : Nat, (q : Int) < ρ 60 48 → lHy ρ G τ q) ∧ ∀ k : Int, 0 ≤ k → k < ρ 60 47 → lCk (ρ 60 0) (ρ 44 k)) ∧
  ∀ t : Nat, ((1000 ≤ t ∧ t < 2000 ∧ 1000 + 4 * ρ 60 41 ≤ (t : Int)) ∨ (2000 ≤ t ∧ t < 3000 ∧ 2000 + ρ 60 43 ≤ (t : Int)) ∨ (3000 ≤ t ∧ t < 4000 ∧ 3000 + ρ 60 48 ≤ (t : Int)) ∨ 10000 ≤ t) → G.1 t = none
/-- the class's memory shows the reference's -/
def lgR (E : y_E) (ρ : y_S) (G : y_G) (τ : y_S) : Prop := mOk ρ ∧ lgS (ρ 60 0) G ∧ lgM ρ τ ∧ lgX ρ τ ∧ lgD ρ G τ ∧ gZr E 0 = some (G.2.2 0)
/-- what laying reads -/
def lgW (ρ : y_S) (G : y_G) (τ : y_S) : Prop := mOk ρ ∧ lgS (ρ 60 0) G ∧ τ 60 2 = ρ 60 0 ∧ (τ 60 20 = ρ 60 21 ∧ ∀ k : Int, 0 ≤ k → k < ρ 60 21 → τ 18 k = ρ 19 k ∧ τ 19 k = ρ 20 k) ∧ ∀ l i : Int, mCell (ρ 60 0) l i → τ (cT l i) 0 = l ∧ τ (cT l i) 1 = i ∧ τ (cT l i) 3 = ρ 4 (6 * l + i)
theorem lgR.w {E : y_E} {ρ τ : y_S} {G : y_G} (h : lgR E ρ G τ) : lgW ρ G τ := ⟨h.1, h.2.1, h.2.2.1.1, h.2.2.2.1.2.2.2.2.1, fun l i hc => by have := h.2.2.1.2.2.2.2 l i hc; exact ⟨this.1, this.2.1, this.2.2.2.1⟩⟩
/-- tags whose numbers are held to the reference -/
def lgT (ρ : y_S) (t : Nat) : Prop := t = 61 ∨ t = 1 ∨ (100 ≤ t ∧ t < 172) ∨ (200 ≤ t ∧ t < 206) ∨ t = 12 ∨ t = 13 ∨ t = 14 ∨ t = 18 ∨ t = 19 ∨ t = 24 ∨ t = 27 ∨ t = 28 ∨ t = 30 ∨ (1000 ≤ t ∧ (t : Int) < 1000 + 4 * ρ 60 41) ∨ (2000 ≤ t ∧ (t : Int) < 2000 + ρ 60 43) ∨ (3000 ≤ t ∧ (t : Int) < 3000 + ρ 60 48)
/-- graphs that differ in what nothing is said of -/
def lgG (G G' : y_G) : Prop := (∀ t : Nat, t < 10000 → G'.1 t = G.1 t ∧ G'.2.2 t = G.2.2 t ∧ ∀ k : Int, ¬ (t = 7 ∧ k = 3) → ¬ (t = 8 ∧ k = 1) → t ≠ 62 → G'.2.1 t k = G.2.1 t k) ∧ ∀ t : Nat, 10000 ≤ t → G'.1 t = none
/-- memories of the reference that differ in scratch rows alone -/
def lgE (ρ ρ' : y_S) : Prop := mSame [8, 9, 10, 12, 22, 24, 25, 26, 27, 28, 29, 45, 51, 60] ρ ρ' ∧ ∀ k : Int, k ≠ 31 → k ≠ 32 → k ≠ 33 → k ≠ 34 → ρ' 60 k = ρ 60 k
theorem lgE.rf {ρ : y_S} : lgE ρ ρ := ⟨mSame.rf, fun _ _ _ _ _ => rfl⟩
theorem lgE.of {ρ ρ' : y_S} (h : mSame [8, 9, 10, 12, 22, 24, 25, 26, 27, 28, 29, 45, 51] ρ ρ') : lgE ρ ρ' := ⟨fun t ht => h t (fun q => ht (by simp only [List.mem_cons, List.not_mem_nil, or_false] at q ⊢; omega)), fun k _ _ _ _ => by rw [h 60 (by decide)]⟩
theorem lgE.sm {ts : List Nat} {ρ ρ' : y_S} (h : mSame ts ρ ρ') (hs : ∀ t ∈ ts, t ∈ [8, 9, 10, 12, 22, 24, 25, 26, 27, 28, 29, 45, 51]) : lgE ρ ρ' := lgE.of (fun t ht => h t (fun q => ht (hs t q)))
theorem lKd_lt {n : Int} {t : Nat} {k : y_K} (h : lKd n t = some k) : t < 10000 := by
  by_cases h1 : t < 10000
  · exact h1
  · exfalso
    unfold lKd at h
    split at h <;> first | omega | (rw [if_neg (by omega), if_neg (by omega), if_neg (by omega), if_neg (by omega)] at h; cases h)
theorem lFl_lt {k t : Nat} (h : lFl k = some t) : t < 100 := by
  unfold lFl at h
  split at h <;> first | (cases h; omega) | cases h
theorem cT_lt {n l i : Int} (hn : n ≤ 6) (hc : mCell n l i) : cT l i < 10000 := by have := cT_ix hn hc; omega
theorem lgS.fr {n : Int} {G G' : y_G} (h : lgS n G) (hn : n ≤ 6) (hG : lgG G G') : lgS n G' := by
  obtain ⟨h1, h2, h3, h4, ⟨h50, h51⟩, ⟨h60, h61, h62⟩, ⟨h70, h71, h72, h75⟩, ⟨h80, h82⟩, ⟨h90, h93⟩, h10, h11⟩ := h
  have ga : ∀ t : Nat, t < 10000 → G'.2.2 t = G.2.2 t := fun t ht => (hG.1 t ht).2.1
  have gr : ∀ (t : Nat) (k : Int), t < 10000 → ¬ (t = 7 ∧ k = 3) → ¬ (t = 8 ∧ k = 1) → t ≠ 62 → G'.2.1 t k = G.2.1 t k := fun t k ht => (hG.1 t ht).2.2 k
  have gk : ∀ (t u : Nat) (k : Int), t < 10000 → u < 10000 → ¬ (t = 7 ∧ k = 3) → ¬ (t = 8 ∧ k = 1) → t ≠ 62 → G.2.1 t k = some (G.2.2 u) → G'.2.1 t k = some (G'.2.2 u) := fun t u k ht hu a b c e => by rw [gr t k ht a b c, ga u hu]; exact e
  refine ⟨fun t k e => by rw [(hG.1 t (lKd_lt e)).1]; exact h1 t k e, fun k t e => gk 60 t k (by decide) (by have := lFl_lt e; omega) (by omega) (by omega) (by decide) (h2 k t e), fun l i a b c d => ?_, fun l i hc => gk _ 60 6 (cT_lt hn hc) (by decide) (by omega) (by omega) (cT_62 hn hc) (h4 l i hc),
    ⟨gk 5 60 0 (by decide) (by decide) (by decide) (by decide) (by decide) h50, gk 5 60 1 (by decide) (by decide) (by decide) (by decide) (by decide) h51⟩,
    ⟨gk 6 60 0 (by decide) (by decide) (by decide) (by decide) (by decide) h60, gk 6 60 1 (by decide) (by decide) (by decide) (by decide) (by decide) h61, gk 6 60 2 (by decide) (by decide) (by decide) (by decide) (by decide) h62⟩,
    ⟨gk 7 60 0 (by decide) (by decide) (by decide) (by decide) (by decide) h70, gk 7 60 1 (by decide) (by decide) (by decide) (by decide) (by decide) h71, gk 7 60 2 (by decide) (by decide) (by decide) (by decide) (by decide) h72, gk 7 60 5 (by decide) (by decide) (by decide) (by decide) (by decide) h75⟩,
    ⟨gk 8 60 0 (by decide) (by decide) (by decide) (by decide) (by decide) h80, gk 8 60 2 (by decide) (by decide) (by decide) (by decide) (by decide) h82⟩,
    ⟨gk 26 62 0 (by decide) (by decide) (by decide) (by decide) (by decide) h90, gk 26 60 3 (by decide) (by decide) (by decide) (by decide) (by decide) h93⟩,
    fun c hc => ⟨gk 10 (200 + c) _ (by decide) (by omega) (by omega) (by omega) (by decide) (h10 c hc).1, gk 11 (210 + c) _ (by decide) (by omega) (by omega) (by omega) (by decide) (h10 c hc).2.1, gk 32 (220 + c) _ (by decide) (by omega) (by omega) (by omega) (by decide) (h10 c hc).2.2⟩,
    fun l hl => gk 21 (240 + l) _ (by decide) (by omega) (by omega) (by omega) (by decide) (h11 l hl)⟩
  rw [gr 3 _ (by decide) (by omega) (by omega) (by decide), h3 l i a b c d]
  by_cases hc : mCell n l i
  · rw [if_pos hc, if_pos hc, ga _ (cT_lt hn hc)]
  · rw [if_neg hc, if_neg hc]
theorem lgM.fr {ρ ρ' τ τ' : y_S} (h : lgM ρ τ) (hn : ρ 60 0 ≤ 6) (he : lgE ρ ρ') (ht : ∀ t : Nat, (t = 61 ∨ t = 1 ∨ (100 ≤ t ∧ t < 172)) → τ' t = τ t) (ht6 : ∀ k : Int, (k = 2 ∨ k = 4 ∨ k = 29) → τ' 60 k = τ 60 k) : lgM ρ' τ' := by
  obtain ⟨h1, h2, h3, h4, h5⟩ := h
  have e : ∀ k : Int, k ≠ 31 → k ≠ 32 → k ≠ 33 → k ≠ 34 → ρ' 60 k = ρ 60 k := he.2
  have r : ∀ t : Nat, t ∉ [8, 9, 10, 12, 22, 24, 25, 26, 27, 28, 29, 45, 51, 60] → ρ' t = ρ t := he.1
  refine ⟨by rw [ht6 2 (by decide), e 0 (by decide) (by decide) (by decide) (by decide)]; exact h1, by rw [ht6 4 (by decide), e 7 (by decide) (by decide) (by decide) (by decide)]; exact h2, by rw [ht6 29 (by decide), e 42 (by decide) (by decide) (by decide) (by decide)]; exact h3, fun k a b => ?_, fun l i hc => ?_⟩
  · rw [ht 61 (Or.inl rfl), ht 1 (Or.inr (Or.inl rfl)), r 1 (by decide), r 2 (by decide)]; exact h4 k a b
  · rw [e 0 (by decide) (by decide) (by decide) (by decide)] at hc
    have hx := cT_ix hn hc
    rw [ht (cT l i) (by omega), r 3 (by decide), r 4 (by decide), r 5 (by decide), r 6 (by decide)]
    exact h5 l i hc
theorem lgX.fr {ρ ρ' τ τ' : y_S} (h : lgX ρ τ) (hn : ρ 60 0 ≤ 6) (he : lgE ρ ρ') (ht : ∀ t : Nat, ((200 ≤ t ∧ t < 206) ∨ t = 12 ∨ t = 13 ∨ t = 14 ∨ t = 18 ∨ t = 19 ∨ t = 24) → τ' t = τ t) (ht6 : ∀ k : Int, (k = 15 ∨ k = 16 ∨ k = 17 ∨ k = 20 ∨ k = 25 ∨ k = 31) → τ' 60 k = τ 60 k) : lgX ρ' τ' := by
  have e : ∀ k : Int, k ≠ 31 → k ≠ 32 → k ≠ 33 → k ≠ 34 → ρ' 60 k = ρ 60 k := he.2
  have r : ∀ t : Nat, t ∉ [8, 9, 10, 12, 22, 24, 25, 26, 27, 28, 29, 45, 51, 60] → ρ' t = ρ t := he.1
  obtain ⟨h1, h2, h3, h4, h5, h6, h7⟩ := h
  unfold lgX
  rw [e 0 (by decide) (by decide) (by decide) (by decide), e 16 (by decide) (by decide) (by decide) (by decide), e 17 (by decide) (by decide) (by decide) (by decide), e 18 (by decide) (by decide) (by decide) (by decide), e 21 (by decide) (by decide) (by decide) (by decide), e 30 (by decide) (by decide) (by decide) (by decide), e 49 (by decide) (by decide) (by decide) (by decide), r 11 (by decide), r 13 (by decide), r 14 (by decide), r 15 (by decide), r 19 (by decide), r 20 (by decide), r 23 (by decide),
    ht6 15 (by decide), ht6 16 (by decide), ht6 17 (by decide), ht6 20 (by decide), ht6 25 (by decide), ht6 31 (by decide), ht 12 (by omega), ht 13 (by omega), ht 14 (by omega), ht 18 (by omega), ht 19 (by omega), ht 24 (by omega)]
  exact ⟨fun c k a b d => by rw [ht (200 + c) (by omega)]; exact h1 c k a b d, h2, h3, h4, h5, h6, h7⟩
theorem lLs.fr {tl ta : Nat} {N : Int} {f f' : Int → Nat} {G G' : y_G} {τ τ' : y_S} (h : lLs tl ta N f G τ) (ht : τ' tl = τ tl) (hk : G'.1 ta = G.1 ta) (ha : G'.2.2 ta = G.2.2 ta) (h0 : G'.2.2 0 = G.2.2 0) (hr : G'.2.1 tl = G.2.1 tl) (hr2 : G'.2.1 ta = G.2.1 ta) (hf : ∀ i : Int, 0 ≤ i → i < N → f' i = f i) : lLs tl ta N f' G' τ' := by
  unfold lLs
  rw [ht, hk, ha, h0, hr, hr2]
  refine ⟨h.1, ?_⟩
  rcases h.2 with h | ⟨cap, a, b, c, d, e, g⟩
  · exact Or.inl h
  · exact Or.inr ⟨cap, a, b, c, d, e, fun i i0 i1 => by rw [hf i i0 i1]; exact g i i0 i1⟩
theorem lgD.fr {ρ ρ' τ τ' : y_S} {G G' : y_G} (h : lgD ρ G τ) (hO : mOk ρ) (he : lgE ρ ρ') (ht : ∀ t : Nat, (t = 27 ∨ t = 28 ∨ t = 30 ∨ (1000 ≤ t ∧ (t : Int) < 1000 + 4 * ρ 60 41) ∨ (2000 ≤ t ∧ (t : Int) < 2000 + ρ 60 43) ∨ (3000 ≤ t ∧ (t : Int) < 3000 + ρ 60 48)) → τ' t = τ t) (hG : lgG G G') : lgD ρ' G' τ' := by
  have e : ∀ k : Int, k ≠ 31 → k ≠ 32 → k ≠ 33 → k ≠ 34 → ρ' 60 k = ρ 60 k := he.2
  have r : ∀ t : Nat, t ∉ [8, 9, 10, 12, 22, 24, 25, 26, 27, 28, 29, 45, 51, 60] → ρ' t = ρ t := he.1
  have ga : ∀ t : Nat, t < 10000 → G'.2.2 t = G.2.2 t := fun t ht => (hG.1 t ht).2.1
  have gc : ∀ t : Nat, t < 10000 → G'.1 t = G.1 t := fun t ht => (hG.1 t ht).1
  have gr : ∀ t : Nat, t < 10000 → t ≠ 7 → t ≠ 8 → t ≠ 62 → G'.2.1 t = G.2.1 t := fun t ht a b c => funext fun k => (hG.1 t ht).2.2 k (fun q => a q.1) (fun q => b q.1) c
  have hrn := hO.rn
  have hfe := hO.fe
  have hhy := hO.h48
  obtain ⟨⟨h1, h2⟩, ⟨h3, h4⟩, ⟨h5, h6, h7⟩, h8⟩ := h
  unfold lgD
  rw [e 0 (by decide) (by decide) (by decide) (by decide), e 41 (by decide) (by decide) (by decide) (by decide), e 43 (by decide) (by decide) (by decide) (by decide), e 47 (by decide) (by decide) (by decide) (by decide), e 48 (by decide) (by decide) (by decide) (by decide), r 44 (by decide)]
  refine ⟨⟨h1.fr (ht 27 (by omega)) (gc _ (by decide)) (ga _ (by decide)) (ga _ (by decide)) (gr _ (by decide) (by decide) (by decide) (by decide)) (gr _ (by decide) (by decide) (by decide) (by decide)) (fun i a b => ga _ (by omega)), fun q hq => ?_⟩,
    ⟨h3.fr (ht 28 (by omega)) (gc _ (by decide)) (ga _ (by decide)) (ga _ (by decide)) (gr _ (by decide) (by decide) (by decide) (by decide)) (gr _ (by decide) (by decide) (by decide) (by decide)) (fun i a b => ga _ (by omega)), fun q hq => ?_⟩,
    ⟨h5.fr (ht 30 (by omega)) (gc _ (by decide)) (ga _ (by decide)) (ga _ (by decide)) (gr _ (by decide) (by decide) (by decide) (by decide)) (gr _ (by decide) (by decide) (by decide) (by decide)) (fun i a b => ga _ (by omega)), fun q hq => ?_, h7⟩, fun t q => ?_⟩
  · have h := h2 q hq
    unfold lRu at h ⊢
    rw [e 0 (by decide) (by decide) (by decide) (by decide), gc (1000 + 4 * q) (by omega), gc (1001 + 4 * q) (by omega), gc (1002 + 4 * q) (by omega), gc (1003 + 4 * q) (by omega), ga (1001 + 4 * q) (by omega), ga (1002 + 4 * q) (by omega), ga (1003 + 4 * q) (by omega), ga 60 (by decide), gr (1000 + 4 * q) (by omega) (by omega) (by omega) (by omega), r 35 (by decide), r 36 (by decide), r 37 (by decide), ht (1000 + 4 * q) (by omega), ht (1001 + 4 * q) (by omega), ht (1002 + 4 * q) (by omega), ht (1003 + 4 * q) (by omega)]
    exact h
  · have h := h4 q hq
    have hc := h.2.1.2.1
    unfold lFi at h ⊢
    rw [e 0 (by decide) (by decide) (by decide) (by decide), gc (2000 + q) (by omega), r 38 (by decide), ga (100 + (ρ 38 (q : Int)).toNat) (by omega), gr (2000 + q) (by omega) (by omega) (by omega) (by omega), r 39 (by decide), r 40 (by decide), ht (2000 + q) (by omega)]
    exact h
  · have h := h6 q hq
    unfold lHy at h ⊢
    have hq2 : q = 0 ∨ (ρ 44 (((q : Int) - 1) / 4)).toNat < 72 := by
      by_cases q0 : q = 0
      · exact Or.inl q0
      · have hh := hO.hy
        have := (h7 (((q : Int) - 1) / 4) (by omega) (by omega)).2.1
        exact Or.inr (by omega)
    rw [gc (3000 + q) (by omega), r 44 (by decide), gr (3000 + q) (by omega) (by omega) (by omega) (by omega), r 46 (by decide), ht (3000 + q) (by omega)]
    refine ⟨h.1, ?_, h.2.2⟩
    rw [h.2.1]
    rcases hq2 with q0 | q1
    · rw [if_pos q0, if_pos q0]
    · rw [ga _ (by omega)]
  · rcases Nat.lt_or_ge t 10000 with a | a
    · rw [gc t a]; exact h8 t q
    · exact hG.2 t a
/-- nothing changes but what nothing is said of -/
theorem lgR.fr {E : y_E} {ρ ρ' τ τ' : y_S} {G G' : y_G} (h : lgR E ρ G τ) (hk : mOk ρ') (he : lgE ρ ρ') (ht : ∀ t : Nat, lgT ρ t → τ' t = τ t) (ht6 : ∀ k : Int, k ≠ 22 → k ≠ 23 → τ' 60 k = τ 60 k) (hG : lgG G G') : lgR E ρ' G' τ' := by
  obtain ⟨h1, h2, h3, h4, h5, h6⟩ := h
  have hn := h1.n.2
  exact ⟨hk, by rw [he.2 0 (by decide) (by decide) (by decide) (by decide)]; exact h2.fr hn hG, h3.fr hn he (fun t q => ht t (by unfold lgT; omega)) (fun k q => ht6 k (by omega) (by omega)), h4.fr hn he (fun t q => ht t (by unfold lgT; omega)) (fun k q => ht6 k (by omega) (by omega)), h5.fr h1 he (fun t q => ht t (by unfold lgT; omega)) hG, by rw [(hG.1 0 (by decide)).2.1]; exact h6⟩
theorem lgR.g {E : y_E} {ρ τ : y_S} {G : y_G} (h : lgR E ρ G τ) : lgG G G := ⟨fun _ _ => ⟨rfl, rfl, fun _ _ _ _ => rfl⟩, fun t ht => h.2.2.2.2.1.2.2.2 t (Or.inr (Or.inr (Or.inr ht)))⟩
/-- the reference's scratch changes -/
theorem lgR.rho {E : y_E} {ρ ρ' τ : y_S} {G : y_G} (h : lgR E ρ G τ) (hk : mOk ρ') (he : lgE ρ ρ') : lgR E ρ' G τ := h.fr hk he (fun _ _ => rfl) (fun _ _ _ => rfl) h.g
/-- the class's scratch changes -/
theorem lgR.tau {E : y_E} {ρ τ τ' : y_S} {G : y_G} (h : lgR E ρ G τ) (ht : ∀ t : Nat, lgT ρ t → τ' t = τ t) (ht6 : τ' 60 = τ 60) : lgR E ρ G τ' := h.fr h.1 lgE.rf ht (fun k _ _ => by rw [ht6]) h.g
theorem lgR.uT {E : y_E} {ρ τ : y_S} {G : y_G} (h : lgR E ρ G τ) {t : Nat} {f : Int → Int} (ht : ¬ lgT ρ t) (h6 : t ≠ 60) : lgR E ρ G (upT τ t f) := h.tau (fun u hu => upT_n _ _ (fun q => ht (q ▸ hu))) (upT_n _ _ (Ne.symm h6))
theorem lgR.u2 {E : y_E} {ρ τ : y_S} {G : y_G} (h : lgR E ρ G τ) {t : Nat} {i v : Int} (ht : ¬ lgT ρ t) (h6 : t ≠ 60) : lgR E ρ G (up2 τ t i v) := h.tau (fun u hu => up2_n _ _ _ (fun q => ht (q ▸ hu))) (up2_n _ _ _ (Ne.symm h6))
theorem lgR.u60 {E : y_E} {ρ τ : y_S} {G : y_G} (h : lgR E ρ G τ) {i v : Int} (hi : i = 22 ∨ i = 23) : lgR E ρ G (up2 τ 60 i v) := h.fr h.1 lgE.rf (fun u hu => up2_n _ _ _ (fun q => by subst q; unfold lgT at hu; omega)) (fun k a b => by rw [up2_s, up1_n _ _ (by omega)]) h.g
/-- a reference of a look changes -/
theorem lgR.ref {E : y_E} {ρ τ : y_S} {G : y_G} (h : lgR E ρ G τ) {t : Nat} {k : Int} {v : Option Nat} (ht : (t = 7 ∧ k = 3) ∨ (t = 8 ∧ k = 1)) : lgR E ρ (G.1, up2 G.2.1 t k v, G.2.2) τ := h.fr h.1 lgE.rf (fun _ _ => rfl) (fun _ _ _ => rfl) ⟨fun u _ => ⟨rfl, rfl, fun j a b _ => by
    show up2 G.2.1 t k v u j = _
    by_cases e : u = t
    · subst e; rw [up2_s, up1_n _ _ (by omega)]
    · rw [up2_n _ _ _ e]⟩, h.g.2⟩
section GCC
variable {p : Program} {l : Launch} {e : Env} {R : Room} {s : State} {m : MethodId} {args : Array Value} {below : List Frame} {meth : Method} {c : Code} {H : Heap} {locs : List Loc} {cells slots mc ms : Nat} {Q : State → Prop} {pc : Nat} {ls : Array Slot} {rest st0 : List Value}
variable {E : y_E} {A : Nat → Prop} {G : y_G} {σ : y_S} {a : Array Value}
/-- a call that gives a reference or null, by a condition -/
theorem g_callc (hM : gM E A G σ s.heap H locs) (hA : ∀ q, s.heap.size ≤ q → A q) {P : Prop} [Decidable P] {b : Nat} {G1 : y_G} {σ1 : y_S} (hr : va_Run p l e R s m args below meth c H locs cells slots mc ms (F0 m pc ls st0) rest (gQ E G H.size (gR (some (va_rf (if P then some b else none))) G1 σ1) a) (gA G H.size))
    (k1 : P → ∀ (H : Heap) (locs : List Loc), gM E A G1 σ1 s.heap H locs → W p l e R s m args below meth c H locs (cells + mc) (slots + ms) Q (F0 m (pc + 3) ls (.ref b :: rest)))
    (k0 : ¬ P → ∀ (H : Heap) (locs : List Loc), gM E A G1 σ1 s.heap H locs → W p l e R s m args below meth c H locs (cells + mc) (slots + ms) Q (F0 m (pc + 3) ls (.null :: rest))) : W p l e R s m args below meth c H locs cells slots Q (F0 m pc ls st0) :=
  g_callq hM hA hr (fun H locs hM => by
    by_cases h : P
    · rw [if_pos h]; exact k1 h H locs hM
    · rw [if_neg h]; exact k0 h H locs hM)
end GCC
/-- an op's end: the reference's answer, and its memory is shown -/
def lPo (E : y_E) (o : Int × y_S) : Option Value → y_G → y_S → Prop := fun v G' τ' => v = some (.int (jI o.1)) ∧ lgR E o.2 G' τ'
theorem lPo_i {E : y_E} {o : Int × y_S} {r : Int} {G : y_G} {τ : y_S} (e : o.1 = r) (h : lgR E o.2 G τ) : lPo E o (some (.int (jI r))) G τ := ⟨by rw [e], h⟩
