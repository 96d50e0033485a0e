/-! A CELL'S FIELD AND THE REFERENCE'S ROW CHANGE TOGETHER -/
theorem lgM_cell {ρ τ : y_S} (h : lgM ρ τ) (hn : ρ 60 0 ≤ 6) {l i v : Int} (hc : mCell (ρ 60 0) l i) {f : Int} {r : Nat} (hfr : (f = 2 ∧ r = 3) ∨ (f = 3 ∧ r = 4) ∨ (f = 4 ∧ r = 6) ∨ (f = 5 ∧ r = 5)) : lgM (up2 ρ r (6 * l + i) v) (up2 τ (cT l i) f v) := by
  obtain ⟨h1, h2, h3, h4, h5⟩ := h
  have hr : r ≠ 60 ∧ r ≠ 1 ∧ r ≠ 2 := by omega
  have e60 : up2 ρ r (6 * l + i) v 60 = ρ 60 := up2_n _ _ _ (Ne.symm hr.1)
  have c60 : up2 τ (cT l i) f v 60 = τ 60 := up2_n _ _ _ (Ne.symm (cT_ne (by decide)))
  refine ⟨by rw [c60, e60]; exact h1, by rw [c60, e60]; exact h2, by rw [c60, e60]; exact h3, fun k a b => ?_, fun l' i' hc' => ?_⟩
  · rw [up2_n _ _ _ (Ne.symm (cT_ne (by decide))), up2_n _ _ _ (Ne.symm (cT_ne (by decide))), up2_n _ _ _ (Ne.symm hr.2.1), up2_n _ _ _ (Ne.symm hr.2.2)]; exact h4 k a b
  · rw [e60] at hc'
    have g := h5 l' i' hc'
    by_cases e : cT l' i' = cT l i
    · obtain ⟨rfl, rfl⟩ := cT_inj hn hc' hc e
      rw [up2_s]
      obtain ⟨g0, g1, g2, g3, g4, g5⟩ := g
      rcases hfr with ⟨rfl, rfl⟩ | ⟨rfl, rfl⟩ | ⟨rfl, rfl⟩ | ⟨rfl, rfl⟩
      · exact ⟨g0, g1, by rw [up1_s, up2_ss], g3, g4, g5⟩
      · exact ⟨g0, g1, g2, by rw [up1_s, up2_ss], g4, g5⟩
      · exact ⟨g0, g1, g2, g3, by rw [up1_s, up2_ss], g5⟩
      · exact ⟨g0, g1, g2, g3, g4, by rw [up1_s, up2_ss]⟩
    · rw [up2_n _ _ _ e]
      have hk : ∀ t : Nat, up2 ρ r (6 * l + i) v t (6 * l' + i') = ρ t (6 * l' + i') := fun t => by
        by_cases et : t = r
        · subst et
          rw [up2_s, up1_n]
          intro q
          exact e (by unfold cT; rw [q])
        · rw [up2_n _ _ _ et]
      rw [hk, hk, hk, hk]
      exact g
theorem lgR.cell {E : y_E} {ρ τ : y_S} {G : y_G} (h : lgR E ρ G τ) {l i v : Int} (hc : mCell (ρ 60 0) l i) {f : Int} {r : Nat} (hfr : (f = 2 ∧ r = 3) ∨ (f = 3 ∧ r = 4) ∨ (f = 4 ∧ r = 6) ∨ (f = 5 ∧ r = 5)) (hk : mOk (up2 ρ r (6 * l + i) v)) : lgR E (up2 ρ r (6 * l + i) v) G (up2 τ (cT l i) f v) := by
  obtain ⟨h1, h2, h3, h4, h5, h6⟩ := h
  have hn := h1.n.2
  have hx := cT_ix hn hc
  have hX : lgX ρ (up2 τ (cT l i) f v) := h4.fr hn lgE.rf (fun t ht => up2_n _ _ _ (by omega)) (fun k _ => by rw [up2_n _ _ _ (Ne.symm (cT_ne (by decide)))])
  have hD : lgD ρ G (up2 τ (cT l i) f v) := h5.fr h1 lgE.rf (fun t ht => up2_n _ _ _ (by omega)) ⟨fun _ _ => ⟨rfl, rfl, fun _ _ _ _ => rfl⟩, fun t ht => h5.2.2.2 t (Or.inr (Or.inr (Or.inr ht)))⟩
  have hM := lgM_cell (v := v) h3 hn hc hfr
  rcases hfr with ⟨rfl, rfl⟩ | ⟨rfl, rfl⟩ | ⟨rfl, rfl⟩ | ⟨rfl, rfl⟩ <;> exact ⟨hk, h2, hM, hX, hD, h6⟩
theorem lgS.th {n : Int} {G : y_G} (h : lgS n G) {t : Nat} {k : Int} (hh : (t = 5 ∧ (k = 0 ∨ k = 1)) ∨ (t = 6 ∧ (k = 0 ∨ k = 1 ∨ k = 2)) ∨ (t = 7 ∧ (k = 0 ∨ k = 1 ∨ k = 2 ∨ k = 5)) ∨ (t = 8 ∧ (k = 0 ∨ k = 2)) ∨ (t = 26 ∧ k = 3)) : G.2.1 t k = some (G.2.2 60) := by
  obtain ⟨-, -, -, -, ⟨h50, h51⟩, ⟨h60, h61, h62⟩, ⟨h70, h71, h72, h75⟩, ⟨h80, h82⟩, ⟨-, h93⟩, -⟩ := h
  rcases hh with ⟨rfl, rfl | rfl⟩ | ⟨rfl, rfl | rfl | rfl⟩ | ⟨rfl, rfl | rfl | rfl | rfl⟩ | ⟨rfl, rfl | rfl⟩ | ⟨rfl, rfl⟩ <;> assumption
theorem lgG.rf {E : y_E} {ρ τ : y_S} {G : y_G} (h : lgR E ρ G τ) : lgG G G := h.g
theorem lgR_set {E : y_E} {ρ τ : y_S} {G : y_G} (h : lgR E ρ G τ) {l i v : Int} (hc : mCell (ρ 60 0) l i) (hk : mOk (up2 (up2 ρ 3 (6 * l + i) v) 60 42 (ρ 60 42 + 1))) : lgR E (up2 (up2 ρ 3 (6 * l + i) v) 60 42 (ρ 60 42 + 1)) G (up2 (up2 τ 60 29 (τ 60 29 + 1)) (cT l i) 2 v) := by
  have hg := h.g
  obtain ⟨h1, h2, ⟨hm1, hm2, hm3, hm4, hm5⟩, h4, h5, h6⟩ := h
  have hn := h1.n.2
  have hx := cT_ix hn hc
  have a : lgM (up2 ρ 60 42 (ρ 60 42 + 1)) (up2 τ 60 29 (τ 60 29 + 1)) := ⟨hm1, hm2, by show τ 60 29 + 1 = ρ 60 42 + 1; rw [hm3], hm4, fun l i hc => by rw [up2_n _ _ _ (cT_ne (by decide))]; exact hm5 l i hc⟩
  have b := lgM_cell (v := v) a hn hc (f := 2) (r := 3) (by decide)
  have x0 : lgX ρ (up2 τ 60 29 (τ 60 29 + 1)) := h4.fr hn lgE.rf (fun t ht => up2_n _ _ _ (by omega)) (fun k hk => by rw [up2_s, up1_n _ _ (by omega)])
  have hX : lgX ρ (up2 (up2 τ 60 29 (τ 60 29 + 1)) (cT l i) 2 v) := x0.fr hn lgE.rf (fun t ht => up2_n _ _ _ (by omega)) (fun k _ => by rw [up2_n _ _ _ (Ne.symm (cT_ne (by decide)))])
  have hD : lgD ρ G (up2 (up2 τ 60 29 (τ 60 29 + 1)) (cT l i) 2 v) := h5.fr h1 lgE.rf (fun t ht => by rw [up2_n _ _ _ (by omega), up2_n _ _ _ (by omega)]) hg
  exact ⟨hk, h2, b, hX, hD, h6⟩
