/-! THE READER'S CONTRACTS: leaves, names, faults -/
theorem thW_mk {E : y_E} {G G0 : y_G} {σ σ0 : y_S} {x : Nat} {kd pl pl' : Int} (h : rdK G0 σ0 G σ) (e : pl' = pl) : thW G0 σ0 kd pl x (upT G.1 98 (some (.inl 9)), thR E (upT G.2.1 98 (fun _ => none)) 98 (upT G.2.2 98 x 98), upT G.2.2 98 x) (up2 (up2 (upT σ 98 (fun _ => 0)) 98 6 kd) 98 7 pl') := by
  subst e
  refine ⟨⟨rfl, rfl, rfl, rfl⟩, fun t h1 h2 => ?_⟩
  have e : t ≠ 98 := by omega
  have q := h t h1 h2
  exact ⟨(upT_n _ _ e).trans q.1, (upT_n _ _ e).trans q.2.1, fun z => ((thR_n e).trans (upT_n _ _ e)).trans (q.2.2.1 z), fun z => by rw [up2_n _ _ _ e, up2_n _ _ _ e, upT_n _ _ e]; exact q.2.2.2 z⟩
theorem lgP.nm {E : y_E} {ρ τ : y_S} {G : y_G} {A : Nat → Prop} {N u : Nat} {a lk k : Int} {nm : rM} {L : List Int} (h : lgP E ρ G τ A N a lk nm) (hd : ndV ρ G τ A a.toNat u L) : lgP E ρ (G.1, up2 G.2.1 62 k (some (G.2.2 u)), G.2.2) τ A N a lk (up1 nm k (some L)) := by
  obtain ⟨b1, b2, b3, b4, b5, b6⟩ := h
  have ag : agA A G τ (G.1, up2 G.2.1 62 k (some (G.2.2 u)), G.2.2) τ := fun t ht => ⟨rfl, rfl, up2_n _ _ _ (by have := b3.2.2.2 t ht; omega), rfl⟩
  refine ⟨b1.fr (fun t _ => ⟨rfl, rfl, fun j z => by show up2 G.2.1 62 k _ t j = _; rw [up2_n _ _ _ z]⟩) rfl rfl, b2, b3, b4, fun j j0 j1 => ?_, b6⟩
  show match up1 nm k (some L) j with
    | none => up2 G.2.1 62 k (some (G.2.2 u)) 62 j = none
    | some L => ∃ u' : Nat, up2 G.2.1 62 k (some (G.2.2 u)) 62 j = some (G.2.2 u') ∧ ndV ρ (G.1, up2 G.2.1 62 k (some (G.2.2 u)), G.2.2) τ A a.toNat u' L
  rw [up2_s]
  by_cases c : j = k
  · subst c
    rw [up1_s, up1_s]
    exact ⟨u, rfl, ndV.fr ag rfl rfl (fun _ z => z) _ _ _ hd⟩
  · rw [up1_n _ _ c, up1_n _ _ c]
    have q := b5 j j0 j1
    rcases hm : nm j with _ | M
    · rw [hm] at q; exact q
    · rw [hm] at q
      obtain ⟨v, q1, q2⟩ := q
      exact ⟨v, q1, ndV.fr ag rfl rfl (fun _ z => z) _ _ _ q2⟩
theorem ndV.lf {ρ : y_S} {G : y_G} {τ : y_S} {A : Nat → Prop} {x ci h : Nat} {i k v : Int} (hA : A x) (hc : ci = 10 ∨ ci = 11 ∨ ci = 12) (hk : G.1 x = some (.inl ci)) (h3 : G.2.1 x 3 = some (G.2.2 60)) (t1 : τ x 1 = i) (t2 : τ x 2 = k) (i0 : 0 ≤ i ∧ i ≤ ρ 60 0 - 2) (k0 : 0 ≤ k ∧ k ≤ 95) (k1 : ci = 12 → k = 24) (hh : 1 ≤ h) (hv : v = 100 * i + (if ci = 10 then k else if ci = 11 then (96 - k) % 96 else 24)) : ndV ρ G τ A h x [v] := by
  have q : ndV ρ G τ A 1 x [v] := ⟨hA, Or.inl ⟨ci, hc, hk, h3, by rw [t1]; exact i0, by rw [t2]; exact k0, by rw [t2]; exact k1, by rw [t1, t2, hv]⟩⟩
  exact q.le hh
theorem rNu_n {ρ : y_S} {a m : Int} (h : rNu ρ a m = none) : (nxR ρ a ≠ 32 ∧ rNp ρ a m = a) ∨ (nxR ρ a = 32 ∧ ¬ dgR ρ (a + 1) ∧ rNp ρ a m = a + 1) ∨ (nxR ρ a = 32 ∧ dgR ρ (a + 1) ∧ m < nxR ρ (a + 1) - 48 ∧ rNp ρ a m = a + 1) ∨ (nxR ρ a = 32 ∧ dgR ρ (a + 1) ∧ nxR ρ (a + 1) - 48 ≤ m ∧ dgR ρ (a + 2) ∧ nxR ρ (a + 1) - 48 ≠ 0 ∧ m < 10 * (nxR ρ (a + 1) - 48) + nxR ρ (a + 2) - 48 ∧ rNp ρ a m = a + 2) := by
  unfold rNu at h
  unfold rNp
  by_cases c1 : nxR ρ a ≠ 32
  · rw [if_pos c1]; exact Or.inl ⟨c1, rfl⟩
  · rw [if_neg c1] at h ⊢
    by_cases c2 : ¬ dgR ρ (a + 1)
    · rw [if_pos (Or.inl c2)]; exact Or.inr (Or.inl ⟨by omega, c2, rfl⟩)
    · have c2' : dgR ρ (a + 1) := Classical.not_not.mp c2
      by_cases c3 : m < nxR ρ (a + 1) - 48
      · rw [if_pos (Or.inr c3)]; exact Or.inr (Or.inr (Or.inl ⟨by omega, c2', c3, rfl⟩))
      · have c4 : ¬ (¬ dgR ρ (a + 1) ∨ m < nxR ρ (a + 1) - 48) := fun q => q.elim c2 c3
        rw [if_neg c4] at h ⊢
        by_cases c5 : ¬ dgR ρ (a + 2) ∨ nxR ρ (a + 1) - 48 = 0
        · rw [if_pos c5] at h; cases h
        · rw [if_neg c5] at h
          by_cases c6 : m < 10 * (nxR ρ (a + 1) - 48) + nxR ρ (a + 2) - 48
          · exact Or.inr (Or.inr (Or.inr ⟨by omega, c2', by omega, Decidable.byContradiction (fun z => c5 (Or.inl z)), fun z => c5 (Or.inr z), c6, rfl⟩))
          · rw [if_neg c6] at h; cases h
/-- eleven cases of a statement -/
theorem rSt_d {ρ : y_S} {f : Nat} {a lk : Int} {nm : rM} {R : rR} (h : rSt ρ (f + 1) a lk nm = some R) :
    (nxR ρ a = -1 ∧ R = .inl a) ∨ ((97 ≤ nxR ρ a ∧ nxR ρ a < 103) ∧ ∃ p1, rNa ρ (rSt ρ f) (nxR ρ a - 97) (a + 1) lk nm = some (.inl p1) ∧ R = .inl p1) ∨
    ((97 ≤ nxR ρ a ∧ nxR ρ a < 103) ∧ ∃ (a1 lk1 : Int) (nm1 : rM) (L1 : List Int), rNa ρ (rSt ρ f) (nxR ρ a - 97) (a + 1) lk nm = some (.inr (a1, lk1, nm1, L1)) ∧ R = .inr (a1, lk1, nm1, L1)) ∨
    ((48 ≤ nxR ρ a ∧ nxR ρ a ≤ 57) ∧ ∃ p1, rBr ρ (rSt ρ f) (a + 1) lk nm = some (.inl p1) ∧ R = .inl p1) ∨
    ((48 ≤ nxR ρ a ∧ nxR ρ a ≤ 57) ∧ ∃ (a1 lk1 : Int) (nm1 : rM) (L1 : List Int), rBr ρ (rSt ρ f) (a + 1) lk nm = some (.inr (a1, lk1, nm1, L1)) ∧ R = .inr (a1, lk1, nm1, rdRep (nxR ρ a - 48).toNat L1)) ∨
    ((nxR ρ a ≠ -1 ∧ ¬ (97 ≤ nxR ρ a ∧ nxR ρ a < 103) ∧ ¬ (48 ≤ nxR ρ a ∧ nxR ρ a ≤ 57) ∧ (nxR ρ a ≠ 116 ∧ nxR ρ a ≠ 115 ∧ nxR ρ a ≠ 117)) ∧ R = .inl a) ∨
    ((nxR ρ a = 116 ∨ nxR ρ a = 115 ∨ nxR ρ a = 117) ∧ rNu ρ (a + 1) (ρ 60 0 - 2) = none ∧ R = .inl (rNp ρ (a + 1) (ρ 60 0 - 2))) ∨
    (nxR ρ a = 115 ∧ ∃ i a1 : Int, rNu ρ (a + 1) (ρ 60 0 - 2) = some (i, a1) ∧ R = .inr (a1, lk, nm, [100 * i + 24])) ∨
    ((nxR ρ a = 116 ∨ nxR ρ a = 117) ∧ ∃ i a1 : Int, rNu ρ (a + 1) (ρ 60 0 - 2) = some (i, a1) ∧ rNu ρ a1 95 = none ∧ R = .inl (rNp ρ a1 95)) ∨
    (nxR ρ a = 116 ∧ ∃ i a1 k a2 : Int, rNu ρ (a + 1) (ρ 60 0 - 2) = some (i, a1) ∧ rNu ρ a1 95 = some (k, a2) ∧ R = .inr (a2, lk, nm, [100 * i + k])) ∨
    (nxR ρ a = 117 ∧ ∃ i a1 k a2 : Int, rNu ρ (a + 1) (ρ 60 0 - 2) = some (i, a1) ∧ rNu ρ a1 95 = some (k, a2) ∧ R = .inr (a2, lk, nm, [100 * i + (96 - k) % 96])) := by
  rcases rSt_c h with q | ⟨c, q⟩ | ⟨c, R1, q, ⟨p, rfl, e⟩ | ⟨a1, lk1, nm1, L, rfl, e⟩⟩ | ⟨c1, c2, c3, c4, e⟩ | ⟨c, ⟨q, e⟩ | ⟨i, a1, q, ⟨c2, e⟩ | ⟨c2, ⟨q2, e⟩ | ⟨k, a2, q2, e⟩⟩⟩⟩
  · exact Or.inl q
  · rcases R with p | ⟨a1, lk1, nm1, L⟩
    · exact Or.inr (Or.inl ⟨c, p, q, rfl⟩)
    · exact Or.inr (Or.inr (Or.inl ⟨c, a1, lk1, nm1, L, q, rfl⟩))
  · exact Or.inr (Or.inr (Or.inr (Or.inl ⟨c, p, q, e⟩)))
  · exact Or.inr (Or.inr (Or.inr (Or.inr (Or.inl ⟨c, a1, lk1, nm1, L, q, e⟩))))
  · exact Or.inr (Or.inr (Or.inr (Or.inr (Or.inr (Or.inl ⟨⟨c1, c2, c3, c4⟩, e⟩)))))
  · exact Or.inr (Or.inr (Or.inr (Or.inr (Or.inr (Or.inr (Or.inl ⟨c, q, e⟩))))))
  · exact Or.inr (Or.inr (Or.inr (Or.inr (Or.inr (Or.inr (Or.inr (Or.inl ⟨c2, i, a1, q, e⟩)))))))
  · exact Or.inr (Or.inr (Or.inr (Or.inr (Or.inr (Or.inr (Or.inr (Or.inr (Or.inl ⟨by omega, i, a1, q, q2, e⟩))))))))
  · by_cases c9 : nxR ρ a = 116
    · rw [if_pos c9] at e
      exact Or.inr (Or.inr (Or.inr (Or.inr (Or.inr (Or.inr (Or.inr (Or.inr (Or.inr (Or.inl ⟨c9, i, a1, k, a2, q, q2, e⟩)))))))))
    · rw [if_neg c9] at e
      exact Or.inr (Or.inr (Or.inr (Or.inr (Or.inr (Or.inr (Or.inr (Or.inr (Or.inr (Or.inr ⟨by omega, i, a1, k, a2, q, q2, e⟩)))))))))
