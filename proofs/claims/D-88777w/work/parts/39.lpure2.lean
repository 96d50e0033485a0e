theorem mHe_now {ρ : y_S} (hn : mN ρ) {l i : Int} (hc : mCell (ρ 60 0) l i) (hp : -1 ≤ ρ 4 (6 * l + i)) : mHe (mNow ρ) l i = if (if ρ 4 (6 * l + i) ≠ -1 then ρ 4 (6 * l + i) else ρ 3 (6 * l + i)) < 96 - (if ρ 4 (6 * l + i) ≠ -1 then ρ 4 (6 * l + i) else ρ 3 (6 * l + i)) then (if ρ 4 (6 * l + i) ≠ -1 then ρ 4 (6 * l + i) else ρ 3 (6 * l + i)) else 96 - (if ρ 4 (6 * l + i) ≠ -1 then ρ 4 (6 * l + i) else ρ 3 (6 * l + i)) := by
  refine mHe_k (κ := mNow ρ) (ρ := ρ) rfl rfl hc hp ?_
  by_cases hq : ρ 4 (6 * l + i) = -1
  · refine Or.inr ⟨hq, ?_⟩
    rw [if_neg (fun z => z hq)]
    have h := lCk_c hn.2 hc
    exact (fillN_in (f := ρ 8) (g := ρ 3) h.1 h.2.1).symm
  · exact Or.inl ⟨hq, if_pos hq⟩
theorem or_01 {o : Nat} (h : o ≤ 1) : o ||| 1 = 1 := by
  rcases (by omega : o = 0 ∨ o = 1) with e | e <;> subst e <;> rfl
theorem ok_lack {σ : y_S} (h : mOk σ) : mOk (up2 σ 60 18 1) := by
  obtain ⟨a1, a2, a3, a4, a5, a6, a7, a8, a9, a10, a11, a12⟩ := h.2.1
  exact ok_60 h (by decide) ⟨a1, a2, a3, a4, a5, a6, a7, a8, a9, a10, a11, Or.inr rfl⟩
theorem ok_spN {σ : y_S} (h : mOk σ) {k r : Int} (hk0 : 0 ≤ k) (hk1 : k ≤ 95) (hr0 : 0 ≤ r - 1) (hr1 : r - 1 ≤ 4) (hs0 : 0 ≤ σ 60 16) (hs1 : σ 60 16 ≤ 14) : mOk (spN σ k r) := by
  have g1 := ok_u2 (ok_u2 h (t := 13) (i := σ 60 16) (v := r - 1) rfl (by decide) (by decide) hr0 hr1) (t := 14) (i := σ 60 16) (v := k) rfl (by decide) (by decide) hk0 hk1
  obtain ⟨a1, a2, a3, a4⟩ := g1.2.1
  exact ok_60 g1 (by decide) ⟨a1, a2, ⟨show 0 ≤ σ 60 16 + 1 by omega, show σ 60 16 + 1 ≤ 15 by omega⟩, a4⟩
theorem ok_wk0 {σ : y_S} (h : mOk σ) : mOk (up2 σ 60 21 0) := by
  obtain ⟨a1, a2, a3, a4, a5⟩ := h.2.1
  exact ok_60 h (k := 21) (v := 0) (by decide) ⟨a1, a2, a3, ⟨show (0 : Int) ≤ 0 by decide, show (0 : Int) ≤ 10 by decide⟩, a5⟩
theorem ok_wk1 {σ : y_S} (h : mOk σ) {w a b : Int} (ha0 : 0 ≤ a) (ha1 : a ≤ 4) (hb0 : 0 ≤ b) (hb1 : b ≤ 95) (hw0 : 0 ≤ w) (hw1 : w < 10) : mOk (up2 (up2 (up2 σ 19 w a) 20 w b) 60 21 (w + 1)) := by
  have g1 := ok_u2 (ok_u2 h (t := 19) (i := w) (v := a) rfl (by decide) (by decide) ha0 ha1) (t := 20) (i := w) (v := b) rfl (by decide) (by decide) hb0 hb1
  obtain ⟨a1, a2, a3, a4, a5⟩ := g1.2.1
  exact ok_60 g1 (k := 21) (v := w + 1) (by decide) ⟨a1, a2, a3, ⟨show 0 ≤ w + 1 by omega, show w + 1 ≤ 10 by omega⟩, a5⟩
/-- the table that is left: by columns, by rows -/
def lfR (n : Int) (κ τ : y_S) : Prop := ∀ (d : Nat) (r : Int), (d : Int) < n → 0 ≤ r → r < n → τ (210 + d) r = κ 12 (6 * r + (d : Int))
theorem lfR_v {n : Int} {κ τ : y_S} (h : lfR n κ τ) (hn : n ≤ 6) {k r : Int} {d : Nat} (hr0 : 1 ≤ r) (hr1 : r ≤ n - 1) (hd : (d : Int) < n) : lfR n (spV κ k r (d : Int)) (upT τ (210 + d) (tRow (κ 1) (κ 2) (τ (210 + d)) (r - 1) k)) := by
  intro d' r' a b c
  have e1 := h d (r - 1) hd (by omega) (by omega)
  have e2 := h d (r - 1 + 1) hd (by omega) (by omega)
  rw [show r - 1 + 1 = r by omega] at e2
  show _ = up1 (up1 (κ 12) (6 * (r - 1) + (d : Int)) ((κ 1 k * κ 12 (6 * (r - 1) + (d : Int)) - κ 2 k * κ 12 (6 * r + (d : Int))) % 97)) (6 * r + (d : Int)) ((κ 2 k * κ 12 (6 * (r - 1) + (d : Int)) + κ 1 k * κ 12 (6 * r + (d : Int))) % 97) (6 * r' + (d' : Int))
  by_cases hd' : d' = d
  · subst hd'
    rw [upT_s]
    unfold tRow
    rw [show r - 1 + 1 = r by omega, e1, e2]
    by_cases h1 : r' = r
    · subst h1
      rw [up1_s, up1_s]
    · by_cases h2 : r' = r - 1
      · subst h2
        rw [up1_n _ _ (by omega), up1_s, up1_n _ _ (by omega), up1_s]
      · rw [up1_n _ _ h1, up1_n _ _ h2, up1_n _ _ (by omega), up1_n _ _ (by omega)]
        exact h d' r' a b c
  · rw [upT_n _ _ (by omega), up1_n _ _ (by omega), up1_n _ _ (by omega)]
    exact h d' r' a b c
theorem lfR_fr {n : Int} {κ κ' τ τ' : y_S} (h : lfR n κ τ) (hn : n ≤ 6) (e : κ' 12 = κ 12) (ht : ∀ d : Nat, d < 6 → τ' (210 + d) = τ (210 + d)) : lfR n κ' τ' := fun d r a b c => by rw [ht d (by omega), e]; exact h d r a b c
theorem spV_97 {κ : y_S} (h : m97 36 (κ 12)) (k r j : Int) : m97 36 (spV κ k r j 12) := (m97.u2 (t := 12) (σ := up2 κ 12 _ _) (h.u2 (by omega) (by omega)) (by omega) (by omega))
theorem ok_spV {κ : y_S} (h : mOk κ) (k r j : Int) : mOk (spV κ k r j) := ok_n2 (ok_n2 h rfl (by decide)) rfl (by decide)
theorem lgE_12 {κ : y_S} {i v : Int} : lgE κ (up2 κ 12 i v) := lgE.of (mSame.rf.u2 (by decide))
theorem lgE.tr {a b c : y_S} (h : lgE a b) (h2 : lgE b c) : lgE a c := ⟨h.1.tr h2.1, fun k x y z w => (h2.2 k x y z w).trans (h.2 k x y z w)⟩
theorem lgE_spV {κ : y_S} {k r j : Int} : lgE κ (spV κ k r j) := lgE_12.tr lgE_12
theorem takeI_y {col : Int} {f : Nat} {r o : Int} {σ : y_S} (h : r < σ 60 0) (h2 : σ 11 (6 * r + col) = mTab σ col 10 r) : takeI col (f + 1) r o σ = takeI col f (r + 1) o (up2 (mTab σ col) 11 (6 * r + col) (mTab σ col 10 r)) := by
  rw [takeI_s h, if_pos (show mTab σ col 11 (6 * r + col) = mTab σ col 10 r from h2)]
theorem takeI_x {col : Int} {f : Nat} {r o : Int} {σ : y_S} (h : r < σ 60 0) (h2 : ¬ σ 11 (6 * r + col) = mTab σ col 10 r) : takeI col (f + 1) r o σ = takeI col f (r + 1) 1 (up2 (mTab σ col) 11 (6 * r + col) (mTab σ col 10 r)) := by
  rw [takeI_s h, if_neg (show ¬ mTab σ col 11 (6 * r + col) = mTab σ col 10 r from h2)]
theorem told_tab {E : y_E} {κ τ : y_S} {G : y_G} (h : lgR E κ G τ) {r co : Nat} (hr : (r : Int) < κ 60 0) (hc : (co : Int) < κ 60 0) : lgR E (up2 (mTab κ (co : Int)) 11 (6 * (r : Int) + (co : Int)) (mTab κ (co : Int) 10 (r : Int))) G (up2 τ (200 + co) (r : Int) (mTab κ (co : Int) 10 (r : Int))) := by
  have hmt := mTab_r κ (co : Int) (r := (r : Int)) (by omega) hr
  generalize hv : mTab κ (co : Int) 10 (r : Int) = v at hmt ⊢
  have h1 : lgR E (mTab κ (co : Int)) G τ := h.rho (ok_tab h.1 (co : Int)) (lgE.s3 (mTab_same κ (co : Int)))
  have e6 : mTab κ (co : Int) 60 0 = κ 60 0 := rfl
  generalize mTab κ (co : Int) = μ at h1 e6 ⊢
  have h2 := lgR_told h1 (r := (r : Int)) (c := (co : Int)) (v := v) (by omega) (by omega) (by omega) (by omega) (ok_u2 h1.1 (t := 11) rfl (by decide) (by decide) hmt.1 hmt.2)
  rw [Int.toNat_natCast] at h2
  exact h2
theorem tab_told {κ : y_S} (hn : mN κ) {co r v : Int} : ∀ j : Int, 0 ≤ j → j < κ 60 0 → mTab (up2 (mTab κ co) 11 r v) co 10 j = mTab κ co 10 j := by
  have e : ∀ t : Nat, t ∉ [8, 9, 10, 11] → up2 (mTab κ co) 11 r v t = κ t := fun t ht => by
    rw [up2_n _ _ _ (fun q => ht (by rw [q]; decide))]
    exact mTab_same κ co t (fun q => ht (by simp only [List.mem_cons, List.not_mem_nil, or_false] at q ⊢; omega))
  generalize up2 (mTab κ co) 11 r v = μ at e ⊢
  exact mTab_cg hn (by rw [e 60 (by decide)]) (e 1 (by decide)) (e 2 (by decide)) (e 3 (by decide)) (e 4 (by decide))
