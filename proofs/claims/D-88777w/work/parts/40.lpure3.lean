/-! USERS, COUNTS, THE TAPE -/
theorem and_shl (a i : Nat) : a &&& (3 <<< i) = ((a >>> i) &&& 3) <<< i := by
  apply Nat.eq_of_testBit_eq
  intro j
  rw [Nat.testBit_and, Nat.testBit_shiftLeft, Nat.testBit_shiftLeft, Nat.testBit_and, Nat.testBit_shiftRight]
  by_cases h : i ≤ j
  · rw [show i + (j - i) = j by omega]
    cases a.testBit j <;> simp [h]
  · simp [h]
theorem and_shl0 {a i : Nat} : a &&& (3 <<< i) = 0 ↔ (a >>> i) &&& 3 = 0 := by
  rw [and_shl, Nat.shiftLeft_eq]
  constructor
  · intro h
    rcases Nat.mul_eq_zero.mp h with h | h
    · exact h
    · exact absurd h (by have := Nat.two_pow_pos i; omega)
  · intro h
    rw [h, Nat.zero_mul]
def meP (u : Int → Int) (q : Nat × Nat) (ps : List (Int × Int)) : Nat × Nat := ps.foldl (fun q p => meS u p.1 p.2.toNat q) q
theorem meP_a {u : Int → Int} {q : Nat × Nat} {ps : List (Int × Int)} {p : Int × Int} : meP u q (ps ++ [p]) = meS u p.1 p.2.toNat (meP u q ps) := by
  unfold meP
  rw [List.foldl_append]
  rfl
theorem meI_f {n l : Int} {u : Int → Int} : ∀ (f i : Nat) (q : Nat × Nat), meI n u l f i q = meP u q (cI n l f (i : Int))
  | 0, _, _ => rfl
  | f + 1, i, q => by
    rw [meI, cI]
    by_cases h : (i : Int) < n - 1
    · rw [if_pos h, if_pos h, meI_f f]
      rfl
    · rw [if_neg h, if_neg h]
      rfl
theorem meL_f {n : Int} {u : Int → Int} : ∀ (f l : Nat) (q : Nat × Nat), meL n u f l q = meP u q (cL n f (l : Int))
  | 0, _, _ => rfl
  | f + 1, l, q => by
    rw [meL, cL]
    by_cases h : l < 12
    · rw [if_pos h, if_pos (by omega), meL_f f, meI_f]
      unfold meP
      rw [List.foldl_append]
      rw [show ((l % 2 : Nat) : Int) = (l : Int) % 2 by omega, show ((l + 1 : Nat) : Int) = (l : Int) + 1 by omega]
    · rw [if_neg h, if_neg (by omega)]
      rfl
theorem mMeet_J {ρ : y_S} (hn : mN ρ) {lane : Nat} : mMeet ρ lane = ((meP (ρ 5) (2 ^ lane, 0) (cJ (ρ 60 0) (12 * (ρ 60 0).toNat))).2 : Int) := by
  unfold mMeet
  rw [meL_f, cJ_K hn.1 hn.2, ← cL_K hn.1 hn.2]
  rfl
theorem meP_r {n : Int} {u : Int → Int} (hn : n ≤ 6) (hu : ∀ k : Int, 0 ≤ k → k < 72 → u k ≤ 1) : ∀ (ps : List (Int × Int)) (q : Nat × Nat), (∀ p ∈ ps, mCell n p.1 p.2) → q.1 < 64 → q.2 < 4 → (meP u q ps).1 < 64 ∧ (meP u q ps).2 < 4
  | [], _, _, h1, h2 => ⟨h1, h2⟩
  | p :: ps, q, hp, h1, h2 => by
    have hc := hp p List.mem_cons_self
    have hx := cell_ix hc hn
    have h3 := meS_r (u := u) (l := p.1) (i := p.2.toNat) (q := q) (by rw [Int.toNat_of_nonneg hc.2.2.1]; exact hu _ hx.2.2.1 hx.2.2.2) (by omega) h1 h2
    exact meP_r hn hu ps _ (fun z hz => hp z (List.mem_cons_of_mem _ hz)) h3.1 h3.2
theorem cJ_in {n : Int} : ∀ (j : Nat) (p : Int × Int), p ∈ cJ n j → mCell n p.1 p.2
  | 0, p, h => by cases h
  | j + 1, p, h => by
    rw [cJ] at h
    rcases List.mem_append.mp h with h | h
    · exact cJ_in j p h
    · by_cases hc : mCell n ((j : Int) / n) ((j : Int) % n)
      · rw [if_pos hc, List.mem_singleton] at h
        rw [h]; exact hc
      · rw [if_neg hc] at h
        cases h
def deP (f : Int → Int) (ps : List (Int × Int)) : Int := ps.foldl (fun a p => a + if f (6 * p.1 + p.2) < 0 then 0 else 1) 0
theorem deP_a {f : Int → Int} {ps : List (Int × Int)} {p : Int × Int} : deP f (ps ++ [p]) = deP f ps + if f (6 * p.1 + p.2) < 0 then 0 else 1 := by
  unfold deP
  rw [List.foldl_append]
  rfl
theorem deC_f {n : Int} {f : Int → Int} (h : ∀ k : Int, 0 ≤ k → k < 72 → ¬ mCell n (k / 6) (k % 6) → f k < 0) : ∀ k : Nat, k ≤ 72 → deC f k = deP f (cK n k)
  | 0, _ => rfl
  | k + 1, hk => by
    rw [deC, deC_f h k (by omega)]
    by_cases hc : mCell n ((k : Int) / 6) ((k : Int) % 6)
    · rw [cK_y hc, deP_a]
      show _ = _ + if f (6 * ((k : Int) / 6) + (k : Int) % 6) < 0 then 0 else 1
      rw [show 6 * ((k : Int) / 6) + (k : Int) % 6 = (k : Int) by omega]
    · rw [cK_n hc, if_pos (h k (by omega) (by omega) hc)]
      omega
theorem deP_r (f : Int → Int) : ∀ (n : Int) (j : Nat), 0 ≤ deP f (cJ n j) ∧ deP f (cJ n j) ≤ (j : Int)
  | n, 0 => ⟨Int.le_refl _, Int.le_refl _⟩
  | n, j + 1 => by
    have := deP_r f n j
    by_cases hc : mCell n ((j : Int) / n) ((j : Int) % n)
    · rw [cJ_y hc, deP_a]
      split <;> omega
    · rw [cJ_n hc]
      omega
/-- a layer is used by one of its cells -/
theorem luU_c {ρ : y_S} (h : mOk ρ) {l : Int} (h0 : 0 ≤ l) (h1 : l < 12) : luU ρ l ↔ ∃ i : Int, mCell (ρ 60 0) l i ∧ (0 < ρ 3 (6 * l + i) ∨ ρ 4 (6 * l + i) ≠ -1) := by
  have hn := h.n
  constructor
  · rintro ⟨k, a, b, c⟩
    by_cases hc : mCell (ρ 60 0) (k / 6) (k % 6)
    · have e : k / 6 = l := by omega
      rw [e] at hc
      refine ⟨k % 6, hc, ?_⟩
      rw [show 6 * l + k % 6 = k by omega]
      rcases c with c | c
      · exact Or.inl c
      · exact Or.inr (by omega)
    · have := h.2.2.1 k (by omega) (by omega) hc
      omega
  · rintro ⟨i, hc, hu⟩
    have hp := h.p (6 * l + i) (by omega) (by omega)
    exact ⟨6 * l + i, by omega, by omega, by omega⟩
section XOB
variable {p : Program} {l : Launch} {e : Env} {R : Room} {s : State} {m : MethodId} {args : Array Value} {below : List Frame} {meth : Method} {c : Code} {H : Heap} {locs : List Loc} {cells slots : Nat} {Q : State → Prop} {cc : ByteArray} {pc : Nat} {ls : Array Slot} {rest : List Value}
theorem x_orB1 (hx : p.tables.exec = Jvm.exec) (hb : c.code = cc) {P : Prop} [Decidable P] (hdg : decode cc pc = .ok (.ior, 1)) (k : W p l e R s m args below meth c H locs cells slots Q (F0 m (pc + 1) ls (.int (jI 1) :: rest))) : W p l e R s m args below meth c H locs cells slots Q (F0 m pc ls (.int (jI 1) :: .int (jI (if P then 1 else 0)) :: rest)) := by
  refine lv_ior hx hb hdg ?_
  have e : jI (if P then 1 else 0) ||| jI 1 = jI 1 := by by_cases h : P <;> simp only [h, if_true, if_false] <;> decide
  rw [e]; exact k
theorem x_orB0 (hx : p.tables.exec = Jvm.exec) (hb : c.code = cc) {P : Prop} [Decidable P] (hdg : decode cc pc = .ok (.ior, 1)) (k : W p l e R s m args below meth c H locs cells slots Q (F0 m (pc + 1) ls (.int (jI (if P then 1 else 0)) :: rest))) : W p l e R s m args below meth c H locs cells slots Q (F0 m pc ls (.int (jI 0) :: .int (jI (if P then 1 else 0)) :: rest)) := by
  refine lv_ior hx hb hdg ?_
  have e : jI (if P then 1 else 0) ||| jI 0 = jI (if P then 1 else 0) := by by_cases h : P <;> simp only [h, if_true, if_false] <;> decide
  rw [e]; exact k
end XOB
theorem fA_cg {f f' g g' : Int → Int} {a n : Int} {φ : Int → Int} (hf : ∀ k : Int, 0 ≤ k → k < a → f' k = φ (f k)) (hg : ∀ k : Int, 0 ≤ k → k < n → g' k = φ (g k)) : ∀ k : Int, 0 ≤ k → k < a + n → fillA f' g' a n k = φ (fillA f g a n k) := by
  intro k a0 b0
  by_cases h : a ≤ k
  · rw [fillA_in h b0, fillA_in h b0]; exact hg _ (by omega) (by omega)
  · rw [fillA_out (by omega), fillA_out (by omega)]; exact hf k a0 (by omega)
/-- the class's tape behind i bytes -/
def lfe (σ : y_S) (x n i : Int) : y_S := upT (up2 σ 60 25 (σ 60 25 + i)) 24 (fillA (σ 24) (fun q => (btL x (n - 1 - q)).bmod 256) (σ 60 25) i)
theorem lfe_0 (σ : y_S) (x n : Int) : σ = lfe σ x n 0 := by
  unfold lfe
  rw [fillA_0, Int.add_zero, up2_id, upT_self]
theorem lfe_s {σ : y_S} {x n i v : Int} (h : 0 ≤ i) (hv : v = (btL x (n - 1 - i)).bmod 256) : up2 (up2 (lfe σ x n i) 60 25 (σ 60 25 + i + 1)) 24 (σ 60 25 + i) v = lfe σ x n (i + 1) := by
  unfold lfe
  rw [up2_cT _ (by decide), up2_up2, up2_fillA h hv, show σ 60 25 + i + 1 = σ 60 25 + (i + 1) by omega]
theorem lgR_feed {E : y_E} {ρ τ : y_S} {G : y_G} (h : lgR E ρ G τ) {x n : Int} (hn1 : 0 ≤ n) (hk : mOk (feS ρ x n n)) : lgR E (feS ρ x n n) G (lfe τ x n n) := by
  obtain ⟨h1, h2, h3, h4, h5, h6⟩ := h
  have hn := h1.n.2
  have e25 : τ 60 25 = ρ 60 30 := h4.2.2.2.2.2.1.1
  have e : ∀ t : Nat, t ≠ 24 → t ≠ 60 → lfe τ x n n t = τ t := fun t a b => by unfold lfe; rw [upT_n _ _ a, up2_n _ _ _ b]
  have e6 : ∀ k : Int, k ≠ 25 → lfe τ x n n 60 k = τ 60 k := fun k hk => by unfold lfe; rw [upT_n _ _ (by decide), up2_s, up1_n _ _ hk]
  have hM : lgM ρ (lfe τ x n n) := h3.fr hn lgE.rf (fun t ht => e t (by omega) (by omega)) (fun q hq => e6 q (by omega))
  have hD : lgD ρ G (lfe τ x n n) := h5.fr h1 lgE.rf (fun t ht => e t (by omega) (by omega)) ⟨fun _ _ => ⟨rfl, rfl, fun _ _ _ _ => rfl⟩, fun t ht => h5.2.2.2 t (Or.inr (Or.inr (Or.inr ht)))⟩
  have hX : lgX (feS ρ x n n) (lfe τ x n n) := by
    have x1 := lgX_1 (τ' := lfe τ x n n) h4 (fun c hc => e _ (by omega) (by omega)) hn
    obtain ⟨-, x2, x3, x4, x5, x6, x7⟩ := h4
    refine ⟨x1, x2, x3, x4, x5, ⟨?_, fun k a b => ?_⟩, x7⟩
    · show τ 60 25 + n = ρ 60 30 + n
      rw [e25]
    · have b : k < ρ 60 30 + n := b
      show fillA (τ 24) (fun q => (btL x (n - 1 - q)).bmod 256) (τ 60 25) n k = (fillA (ρ 23) (fun q => btL x (n - 1 - q)) (ρ 60 30) n k).bmod 256
      rw [e25]
      exact fA_cg (φ := fun z => z.bmod 256) x6.2 (fun _ _ _ => rfl) k a b
  exact ⟨hk, h2, hM, hX, hD, h6⟩
