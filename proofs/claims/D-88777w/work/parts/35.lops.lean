/-! CHANGES OFF THE CELLS THAT BOTH SIDES MAKE -/
theorem lgX_t {ρ τ τ' : y_S} (h : lgX ρ τ) (e60 : τ' 60 = τ 60) (e : ∀ t : Nat, t < 200 → τ' t = τ t) (h1 : ∀ (c : Nat) (r : Int), (c : Int) < ρ 60 0 → 0 ≤ r → r < ρ 60 0 → τ' (200 + c) r = ρ 11 (6 * r + (c : Int))) : lgX ρ τ' := by
  obtain ⟨-, h2, h3, h4, h5, h6, h7⟩ := h
  unfold lgX
  rw [e60, e 12 (by decide), e 13 (by decide), e 14 (by decide), e 18 (by decide), e 19 (by decide), e 24 (by decide)]
  exact ⟨h1, h2, h3, h4, h5, h6, h7⟩
theorem lgR_told {E : y_E} {ρ τ : y_S} {G : y_G} (h : lgR E ρ G τ) {r c v : Int} (hr0 : 0 ≤ r) (hr1 : r < ρ 60 0) (hc0 : 0 ≤ c) (hc1 : c < ρ 60 0) (hk : mOk (up2 ρ 11 (6 * r + c) v)) : lgR E (up2 ρ 11 (6 * r + c) v) G (up2 τ (200 + c.toNat) r v) := by
  have hg := h.g
  obtain ⟨h1, h2, h3, h4, h5, h6⟩ := h
  have hn := h1.n
  have e : ∀ t : Nat, (t < 200 ∨ 206 ≤ t) → up2 τ (200 + c.toNat) r v t = τ t := fun t ht => up2_n _ _ _ (by omega)
  have hM : lgM ρ (up2 τ (200 + c.toNat) r v) := h3.fr hn.2 lgE.rf (fun t ht => e t (by omega)) (fun k _ => by rw [e 60 (by decide)])
  have hD : lgD ρ G (up2 τ (200 + c.toNat) r v) := h5.fr h1 lgE.rf (fun t ht => e t (by omega)) hg
  have hX : lgX (up2 ρ 11 (6 * r + c) v) (up2 τ (200 + c.toNat) r v) := by
    obtain ⟨x1, x2⟩ := h4
    refine ⟨fun d q a b c' => ?_, ?_⟩
    · have a : (d : Int) < ρ 60 0 := a
      have c' : q < ρ 60 0 := c'
      show up2 τ (200 + c.toNat) r v (200 + d) q = up1 (ρ 11) (6 * r + c) v (6 * q + (d : Int))
      by_cases hd : d = c.toNat
      · subst hd
        rw [up2_s]
        by_cases hq : q = r
        · subst hq
          rw [up1_s, show 6 * q + ((c.toNat : Nat) : Int) = 6 * q + c by omega, up1_s]
        · rw [up1_n _ _ hq, up1_n _ _ (by omega)]
          exact x1 _ _ a b c'
      · rw [up2_n _ _ _ (by omega), up1_n _ _ (by omega)]
        exact x1 _ _ a b c'
    · rw [e 60 (by decide), e 12 (by decide), e 13 (by decide), e 14 (by decide), e 18 (by decide), e 19 (by decide), e 24 (by decide)]
      exact x2
  exact ⟨hk, h2, hM, hX, hD, h6⟩
theorem lgX.s {ρ τ : y_S} (h : lgX ρ τ) (hn : ρ 60 0 ≤ 6) {i v : Int} (hi : ¬ (i = 15 ∨ i = 16 ∨ i = 17 ∨ i = 20 ∨ i = 25 ∨ i = 31)) : lgX ρ (up2 τ 60 i v) := h.fr hn lgE.rf (fun t ht => up2_n _ _ _ (by omega)) (fun k hk => by rw [up2_s, up1_n _ _ (by omega)])
theorem lgM.s {ρ τ : y_S} (h : lgM ρ τ) (hn : ρ 60 0 ≤ 6) {i v : Int} (hi : ¬ (i = 2 ∨ i = 4 ∨ i = 29)) : lgM ρ (up2 τ 60 i v) := h.fr hn lgE.rf (fun t ht => up2_n _ _ _ (by omega)) (fun k hk => by rw [up2_s, up1_n _ _ (by omega)])
theorem lgD.s {ρ τ : y_S} {G : y_G} (h : lgD ρ G τ) (hO : mOk ρ) {i v : Int} : lgD ρ G (up2 τ 60 i v) := h.fr hO lgE.rf (fun t ht => up2_n _ _ _ (by omega)) ⟨fun _ _ => ⟨rfl, rfl, fun _ _ _ _ => rfl⟩, fun t ht => h.2.2.2 t (Or.inr (Or.inr (Or.inr ht)))⟩
