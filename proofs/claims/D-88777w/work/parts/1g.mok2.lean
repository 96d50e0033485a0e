/-! WHAT HOLDS OF THE REFERENCE'S MEMORY (2): split, undo, lay, feed, program -/
theorem ok_spJ (k r : Int) : ∀ (f : Nat) (j : Int) (σ : y_S), mOk σ → mOk (spJ k r f j σ) ∧ spJ k r f j σ 60 = σ 60
  | 0, _, _, h => ⟨h, rfl⟩
  | f + 1, j, σ, h => by
    rw [spJ]
    split
    · exact ok_spJ k r f _ _ (ok_n2 (ok_n2 h (t := 12) rfl (by decide)) (t := 12) rfl (by decide))
    · exact ⟨h, rfl⟩
theorem ok_spR {col n : Int} (h0 : 0 ≤ col) (h1 : col ≤ n - 1) : ∀ (f : Nat) (r : Int) (σ : y_S), mOk σ → σ 60 0 = n → col ≤ r → r ≤ n - 1 → r - col ≤ (f : Int) → 2 * σ 60 16 = col * (2 * n - 1 - col) + 2 * (n - 1 - r) → mOk (spR col f r σ).2 ∧ (spR col f r σ).2 60 0 = n ∧ ((spR col f r σ).1 ≠ 1 → 2 * (spR col f r σ).2 60 16 = (col + 1) * (2 * n - 1 - (col + 1)))
  | 0, r, σ, h, hn, h2, h3, hf, hs => ⟨h, hn, fun _ => by
      have e : r = col := by omega
      subst e
      rw [← spNext h1]; exact hs⟩
  | f + 1, r, σ, h, hn, h2, h3, hf, hs => by
    rw [spR]
    split
    · rename_i hlt
      have hc := spCount (by have := h.n; omega) h0 h2 h3 hs
      split
      · refine ⟨?_, hn, fun q => absurd rfl q⟩
        obtain ⟨a1, a2, a3, a4, a5, a6, a7, a8, a9, a10, a11, a12⟩ := h.2.1
        exact ok_60 h (by decide) ⟨a1, a2, a3, a4, a5, a6, a7, a8, a9, a10, a11, Or.inr rfl⟩
      · rename_i hk
        have hj := ok_spJ (spK σ col r) r 6 0 σ h
        have hcl : 0 ≤ spK σ col r ∧ spK σ col r ≤ 96 := mClr_r σ _ _
        have hnn := h.n
        have g1 := ok_u2 (ok_u2 hj.1 (t := 13) (i := spJ (spK σ col r) r 6 0 σ 60 16) (v := r - 1) rfl (by decide) (by decide) (show 0 ≤ r - 1 by omega) (show r - 1 ≤ 4 by omega)) (t := 14) (i := spJ (spK σ col r) r 6 0 σ 60 16) (v := spK σ col r) rfl (by decide) (by decide) hcl.1 (show spK σ col r ≤ 95 by omega)
        have e6 : spJ (spK σ col r) r 6 0 σ 60 16 = σ 60 16 := congrFun hj.2 16
        have g2 : mOk (spN (spJ (spK σ col r) r 6 0 σ) (spK σ col r) r) := by
          obtain ⟨a1, a2, a3, a4⟩ := g1.2.1
          exact ok_60 g1 (by decide) ⟨a1, a2, ⟨show 0 ≤ spJ (spK σ col r) r 6 0 σ 60 16 + 1 by omega, show spJ (spK σ col r) r 6 0 σ 60 16 + 1 ≤ 15 by have := hc.2.2 hlt; omega⟩, a4⟩
        exact ok_spR h0 h1 f (r - 1) _ g2 (by show spJ (spK σ col r) r 6 0 σ 60 0 = n; rw [hj.2]; exact hn) (by omega) (by omega) (by omega) (by show 2 * (spJ (spK σ col r) r 6 0 σ 60 16 + 1) = _; omega)
    · refine ⟨h, hn, fun _ => ?_⟩
      have e : r = col := by omega
      subst e
      rw [← spNext h1]; exact hs
theorem ok_spC {n : Int} : ∀ (f : Nat) (col : Int) (σ : y_S), mOk σ → σ 60 0 = n → 0 ≤ col → col ≤ n - 1 → 2 * σ 60 16 = col * (2 * n - 1 - col) → mOk (spC f col σ).2
  | 0, _, _, h, _, _, _, _ => h
  | f + 1, col, σ, h, hn, h0, h1, hs => by
    rw [spC]
    split
    · rename_i hlt
      have hnn := h.n
      have hr := ok_spR (n := n) h0 (by omega) 6 (σ 60 0 - 1) σ h hn (by omega) (by omega) (by omega) (by rw [hs]; omega)
      split
      · exact hr.1
      · rename_i hne
        exact ok_spC f (col + 1) _ hr.1 hr.2.1 (by omega) (by omega) (hr.2.2 hne)
    · exact h
theorem ok_sp0 {σ : y_S} (h : mOk σ) : mOk (sp0 σ) := by
  have g := ok_nT h (t := 12) (r := fillN (σ 12) (σ 11) 36) rfl (by decide)
  obtain ⟨b1, ⟨a1, a2, a3, a4, a5, a6, a7, a8, a9, a10, a11, a12⟩, b3⟩ := g
  exact ⟨((b1.n2 rfl).n2 rfl).n2 rfl, ⟨a1, a2, ⟨show (0 : Int) ≤ 0 by decide, show (0 : Int) ≤ 15 by decide⟩, a4, a5, a6, a7, a8, a9, a10, Or.inr rfl, Or.inl rfl⟩, b3⟩
theorem ok_split {σ : y_S} (h : mOk σ) : mOk (oSplit σ).2 := by
  have hc := ok_spC (n := σ 60 0) 6 0 (sp0 σ) (ok_sp0 h) rfl (by decide) (by have := h.n; omega) (by show 2 * (0 : Int) = 0 * _; rw [Int.zero_mul]; rfl)
  unfold oSplit
  split
  · exact hc
  · exact ok_nT hc (t := 15) rfl (by decide)
theorem ok_unW : ∀ (k : Nat) (σ : y_S), mOk σ → k ≤ 15 → σ 60 21 + unC (σ 14) k ≤ 10 → mOk (unW k σ)
  | 0, _, h, _, _ => h
  | k + 1, σ, h, hk, hc => by
    rw [unW]
    rw [unC] at hc
    have h2 := h.st2 (k : Int) (by omega) (by omega)
    have hw := h.wk
    have hu := unC_r (σ 14) k
    split
    · rename_i e
      rw [if_neg (by omega)] at hc
      exact ok_unW k σ h (by omega) (by omega)
    · rename_i e
      rw [if_pos (by omega)] at hc
      have g1 := ok_u2 (ok_u2 h (t := 19) (i := σ 60 21) (v := σ 13 (k : Int)) rfl (by decide) (by decide) h2.1.1 h2.1.2) (t := 20) (i := σ 60 21) (v := 96 - σ 14 (k : Int)) rfl (by decide) (by decide) (show 0 ≤ 96 - σ 14 (k : Int) by omega) (show 96 - σ 14 (k : Int) ≤ 95 by omega)
      obtain ⟨a1, a2, a3, a4, a5⟩ := g1.2.1
      have g2 := ok_60 g1 (k := 21) (v := σ 60 21 + 1) (by decide) ⟨a1, a2, a3, ⟨show 0 ≤ σ 60 21 + 1 by omega, show σ 60 21 + 1 ≤ 10 by omega⟩, a5⟩
      exact ok_unW k _ g2 (by omega) (by show σ 60 21 + 1 + unC (σ 14) k ≤ 10; omega)
theorem ok_undo {σ : y_S} (h : mOk σ) : mOk (oUndo σ).2 := by
  unfold oUndo
  split
  · exact h
  · split
    · exact h
    · have hs := h.st
      obtain ⟨a1, a2, a3, a4, a5⟩ := h.2.1
      have g2 := ok_60 h (k := 21) (v := 0) (by decide) ⟨a1, a2, a3, ⟨show (0 : Int) ≤ 0 by decide, show (0 : Int) ≤ 10 by decide⟩, a5⟩
      exact ok_unW _ _ g2 (by omega) (by show 0 + unC (σ 14) _ ≤ 10; omega)
theorem ok_feed {σ : y_S} (h : mOk σ) (x n : Int) : mOk (oFeed σ x n).2 := by
  unfold oFeed
  split
  · exact h
  · split
    · exact h
    · have ht := h.tp
      obtain ⟨a1, a2, a3, a4, a5, a6⟩ := h.2.1
      have g := ok_60 h (k := 30) (v := σ 60 30 + n) (by decide) ⟨a1, a2, a3, a4, ⟨show 0 ≤ σ 60 30 + n by omega, show σ 60 30 + n ≤ 100 by omega⟩, a6⟩
      exact ok_uT g (t := 23) rfl (by decide) (by decide) (rgI.fA (h.1 23 _ rfl) (fun k _ _ => by show 0 ≤ btL _ _ ∧ btL _ _ ≤ 255; unfold btL; omega))
