/-! WHAT THE READER READS IS WHAT THE REFERENCE READS -/
def rSame (ρ σ : y_S) : Prop := (∀ t : Nat, t ≠ 24 → t ≠ 25 → t ≠ 26 → t ≠ 27 → t ≠ 28 → t ≠ 29 → t ≠ 60 → σ t = ρ t) ∧ ∀ k : Int, k ≠ 31 → k ≠ 32 → k ≠ 33 → k ≠ 34 → σ 60 k = ρ 60 k
def rNm (σ : y_S) (nm : rM) : Prop := ∀ k : Int, 0 ≤ k → k < 6 → match nm k with
  | none => σ 29 k = 0
  | some L => σ 29 k ≠ 0 ∧ l11 (σ 27) (11 * k) (σ 28 k) L
def rV (ρ σ : y_S) (a lk : Int) (nm : rM) (d : Int) (acc : List Int) : Prop := pOk σ ∧ rSame ρ σ ∧ (σ 60 31 = a ∧ σ 60 32 = d ∧ σ 60 33 = lk ∧ rLo lk) ∧ rNm σ nm ∧ l11 (σ 24) (13 * d) (σ 25 d) acc
/-- what lies at less depth is kept -/
def kp (d : Int) (σ τ : y_S) : Prop := (∀ j : Int, 0 ≤ j → j < d → τ 25 j = σ 25 j ∧ ∀ i : Int, 0 ≤ i → i < 13 → τ 24 (13 * j + i) = σ 24 (13 * j + i)) ∧ ∀ j : Int, 0 ≤ j → j ≤ d → τ 26 j = σ 26 j
theorem kp.rf {d : Int} {σ : y_S} : kp d σ σ := ⟨fun _ _ _ => ⟨rfl, fun _ _ _ => rfl⟩, fun _ _ _ => rfl⟩
theorem kp.tr {d : Int} {σ τ υ : y_S} (h : kp d σ τ) (k : kp d τ υ) : kp d σ υ := ⟨fun j a b => ⟨(k.1 j a b).1.trans (h.1 j a b).1, fun i x y => ((k.1 j a b).2 i x y).trans ((h.1 j a b).2 i x y)⟩, fun j a b => (k.2 j a b).trans (h.2 j a b)⟩
theorem kp.of {d : Int} {σ τ : y_S} (h : qA d σ τ) : kp d σ τ := ⟨fun j a b => ⟨h.2.1 j (by omega), fun i x y => h.2.2 _ (by omega)⟩, fun j _ _ => by rw [h.1 26 (by decide) (by decide)]⟩
theorem kp.six {d : Int} {σ τ : y_S} (h : ∀ t : Nat, t ≠ 60 → τ t = σ t) : kp d σ τ := ⟨fun j _ _ => ⟨by rw [h 25 (by decide)], fun i _ _ => by rw [h 24 (by decide)]⟩, fun j _ _ => by rw [h 26 (by decide)]⟩
section RV
variable {ρ σ τ : y_S} {a lk d : Int} {nm : rM} {acc : List Int}
theorem rV.sg (h : rV ρ σ a lk nm d acc) : (mSig σ = nxR ρ a ∧ mSig σ ≤ 127) ∨ (128 ≤ mSig σ ∧ nxR ρ a < -1) ∨ (mSig σ = 255 ∧ nxR ρ a = -1) := by
  obtain ⟨hp, hs, ⟨ha, -⟩, -⟩ := h
  have h23 := hs.1 23 (by decide) (by decide) (by decide) (by decide) (by decide) (by decide) (by decide)
  have h30 := hs.2 30 (by decide) (by decide) (by decide) (by decide)
  have hb := hp.2.1
  unfold mSig nxR
  rw [h30, ha, h23]
  by_cases c : a < ρ 60 30
  · rw [if_pos c, if_pos c]
    have hy := hp.2.2.2.2.2.2.1 a (by omega) (by omega)
    rw [h23] at hy
    have e : (ρ 23 a).bmod 256 = if ρ 23 a < 128 then ρ 23 a else ρ 23 a - 256 := by
      rw [Int.bmod_def]
      split <;> split <;> omega
    rw [e]
    split <;> omega
  · rw [if_neg c, if_neg c]; omega
theorem rV.on (h : rV ρ σ a lk nm d acc) (hs : mSig σ ≠ -1) : rV ρ (aOn σ) (a + 1) lk nm d acc := by
  obtain ⟨hp, h1, ⟨h2, h3, h4, h5⟩, h6, h7⟩ := h
  refine ⟨pOk_on hp (mSig_ne rfl hs), ⟨fun t a b c d e f g => ?_, fun k a b c d => ?_⟩, ⟨?_, h3, h4, h5⟩, h6, h7⟩
  · exact (up2_n _ _ _ g).trans (h1.1 t a b c d e f g)
  · show up2 σ 60 31 _ 60 k = _
    rw [up2_s, up1_n _ _ a]
    exact h1.2 k a b c d
  · show σ 60 31 + 1 = _
    rw [h2]
theorem rV.n34 (h : rV ρ σ a lk nm d acc) (v : Int) : rV ρ (up2 σ 60 34 v) a lk nm d acc := by
  obtain ⟨hp, h1, h2, h6, h7⟩ := h
  refine ⟨pOk_34 hp v, ⟨fun t a b c d e f g => ?_, fun k a b c d => ?_⟩, h2, h6, h7⟩
  · exact (up2_n _ _ _ g).trans (h1.1 t a b c d e f g)
  · rw [up2_s, up1_n _ _ d]
    exact h1.2 k a b c d
theorem rV.le (h : rV ρ σ a lk nm d acc) : 0 ≤ a ∧ a ≤ ρ 60 30 ∧ ρ 60 30 ≤ 100 ∧ 0 ≤ d ∧ 2 * d ≤ a := by
  obtain ⟨hp, hs, ⟨ha, hd, -⟩, -⟩ := h
  have h30 := hs.2 30 (by decide) (by decide) (by decide) (by decide)
  have h1 := hp.2.1
  have h2 := hp.2.2.1
  omega
theorem nu_v (h : rV ρ σ a lk nm d acc) (m : Int) : (∀ v a2 : Int, rNu ρ a m = some (v, a2) → (nuF σ m).1 ≠ 0 ∧ (nuF σ m).2 60 34 = v ∧ rV ρ (nuF σ m).2 a2 lk nm d acc ∧ ∀ t : Nat, t ≠ 60 → (nuF σ m).2 t = σ t) ∧ (rNu ρ a m = none → (nuF σ m).1 = 0 ∧ (nuF σ m).2 60 31 = rNp ρ a m ∧ rSame ρ (nuF σ m).2) := by
  have s0 := h.sg
  unfold nuF rNu rNp
  by_cases c1 : mSig σ ≠ 32
  · have c1' : nxR ρ a ≠ 32 := by omega
    rw [if_pos c1, if_pos c1', if_pos c1']
    exact ⟨fun v a2 q => (by cases q), fun _ => ⟨rfl, h.2.2.1.1, h.2.1⟩⟩
  · have c1' : ¬ nxR ρ a ≠ 32 := by omega
    rw [if_neg c1, if_neg c1', if_neg c1']
    have v1 := h.on (by omega)
    have s1 := v1.sg
    by_cases c2 : ¬ isDg (mSig (aOn σ)) ∨ m < mSig (aOn σ) - 48
    · have c2' : ¬ dgR ρ (a + 1) ∨ m < nxR ρ (a + 1) - 48 := by unfold dgR; omega
      rw [if_pos c2, if_pos c2', if_pos c2']
      exact ⟨fun v a2 q => (by cases q), fun _ => ⟨rfl, v1.2.2.1.1, v1.2.1⟩⟩
    · have c2' : ¬ (¬ dgR ρ (a + 1) ∨ m < nxR ρ (a + 1) - 48) := by unfold dgR; omega
      rw [if_neg c2, if_neg c2', if_neg c2']
      have e1 : mSig (aOn σ) = nxR ρ (a + 1) := by omega
      rw [e1]
      have v2 := (v1.n34 (nxR ρ (a + 1) - 48)).on (show mSig (aOn σ) ≠ -1 by omega)
      rw [show a + 1 + 1 = a + 2 by omega] at v2
      have s2 := v2.sg
      by_cases c3 : ¬ isDg (mSig (aOn (up2 (aOn σ) 60 34 (nxR ρ (a + 1) - 48)))) ∨ nxR ρ (a + 1) - 48 = 0
      · have c3' : ¬ dgR ρ (a + 2) ∨ nxR ρ (a + 1) - 48 = 0 := by unfold dgR; omega
        rw [if_pos c3, if_pos c3']
        refine ⟨fun v a2 q => ?_, fun q => by cases q⟩
        cases q
        exact ⟨show (1 : Int) ≠ 0 by decide, rfl, v2, fun t ht => by show up2 (up2 (up2 σ 60 31 _) 60 34 _) 60 31 _ t = _; rw [up2_n _ _ _ ht, up2_n _ _ _ ht, up2_n _ _ _ ht]⟩
      · have c3' : ¬ (¬ dgR ρ (a + 2) ∨ nxR ρ (a + 1) - 48 = 0) := by unfold dgR; omega
        rw [if_neg c3, if_neg c3']
        have e2 : mSig (aOn (up2 (aOn σ) 60 34 (nxR ρ (a + 1) - 48))) = nxR ρ (a + 2) := by omega
        rw [e2]
        by_cases c4 : m < 10 * (nxR ρ (a + 1) - 48) + nxR ρ (a + 2) - 48
        · rw [if_pos c4, if_pos c4]
          exact ⟨fun v a2 q => (by cases q), fun _ => ⟨rfl, v2.2.2.1.1, v2.2.1⟩⟩
        · rw [if_neg c4, if_neg c4]
          have v3 := (v2.n34 (10 * (nxR ρ (a + 1) - 48) + nxR ρ (a + 2) - 48)).on (show mSig (aOn (up2 (aOn σ) 60 34 (nxR ρ (a + 1) - 48))) ≠ -1 by omega)
          rw [show a + 2 + 1 = a + 3 by omega] at v3
          refine ⟨fun v a2 q => ?_, fun q => by cases q⟩
          cases q
          exact ⟨show (1 : Int) ≠ 0 by decide, rfl, v3, fun t ht => by show up2 (up2 (up2 (up2 (up2 σ 60 31 _) 60 34 _) 60 31 _) 60 34 _) 60 31 _ t = _; rw [up2_n _ _ _ ht, up2_n _ _ _ ht, up2_n _ _ _ ht, up2_n _ _ _ ht, up2_n _ _ _ ht]⟩
theorem rSame.q (h : rSame ρ σ) (q : qA d σ τ) : rSame ρ τ := ⟨fun t a b c d e f g => (q.1 t a b).trans (h.1 t a b c d e f g), fun k a b c d => by rw [q.1 60 (by decide) (by decide)]; exact h.2 k a b c d⟩
theorem rNm.cg (h : rNm σ nm) (h27 : τ 27 = σ 27) (h28 : τ 28 = σ 28) (h29 : τ 29 = σ 29) : rNm τ nm := fun k a b => by rw [h27, h28, h29]; exact h k a b
/-- works are added at this depth -/
theorem rV.q {acc' : List Int} (h : rV ρ σ a lk nm d acc) (q : qA d σ τ) (hp : pOk τ) (hl : l11 (τ 24) (13 * d) (τ 25 d) acc') : rV ρ τ a lk nm d acc' := by
  obtain ⟨_, h1, h2, h6, h7⟩ := h
  refine ⟨hp, h1.q q, by rw [q.1 60 (by decide) (by decide)]; exact h2, h6.cg (q.1 27 (by decide) (by decide)) (q.1 28 (by decide) (by decide)) (q.1 29 (by decide) (by decide)), hl⟩
theorem rV.add (h : rV ρ σ a lk nm d acc) {v : Int} (h0 : 0 ≤ v) (h1 : v ≤ 499) : rV ρ (aAdd σ v) a lk nm d (acc ++ [v]) ∧ qA d σ (aAdd σ v) := by
  have q := aAdd_q h.2.2.1.2.1 h.2.2.2.2 v
  exact ⟨h.q q.1 (pOk_add h.1 h0 h1) q.2, q.1⟩
/-- a turn's statement -/
theorem tu_v (hn : mN ρ) (h : rV ρ σ a lk nm d acc) (ht : isTu (mSig σ)) : (∀ (a1 : Int) (L : List Int), rLf ρ (nxR ρ a) a = .inr (a1, L) → (stT σ).1 ≠ 0 ∧ rV ρ (stT σ).2 a1 lk nm d (acc ++ L) ∧ kp d σ (stT σ).2) ∧ (∀ p : Int, rLf ρ (nxR ρ a) a = .inl p → (stT σ).1 = 0 ∧ (stT σ).2 60 31 = p ∧ rSame ρ (stT σ).2) := by
  have s0 := h.sg
  have e0 : mSig σ = nxR ρ a := by omega
  have v1 := h.on (by omega)
  have hlt := mSig_ne (σ := σ) rfl (by omega)
  have e60 : σ 60 0 = ρ 60 0 := h.2.1.2 0 (by decide) (by decide) (by decide) (by decide)
  have n1 := nu_v v1 (σ 60 0 - 2)
  unfold stT stV
  have hN : stN σ = nuF (aOn σ) (σ 60 0 - 2) := rfl
  have hM : stM σ = nuF (stN σ).2 95 := rfl
  have hk1 := stN_ok h.1 hlt
  have hk2 := stM_ok h.1 hlt
  unfold rLf
  rw [e60] at n1 hN
  rcases hr : rNu ρ (a + 1) (ρ 60 0 - 2) with _ | ⟨i, a1⟩
  · have b := n1.2 hr
    rw [hN, if_pos b.1]
    refine ⟨fun _ _ q => (by cases q), fun p q => ?_⟩
    cases q
    exact ⟨rfl, b.2⟩
  · have b := n1.1 i a1 hr
    rw [← hN] at b
    have hi := hk1.2.2.2.2 b.1
    rw [b.2.1] at hi
    have hn2 : ρ 60 0 ≤ 6 := hn.2
    rw [if_neg b.1]
    dsimp only
    have hk : kp d σ (stN σ).2 := kp.six (fun t ht => (b.2.2.2 t ht).trans (up2_n _ _ _ ht))
    by_cases c1 : mSig σ = 115
    · rw [if_pos c1, if_pos (by omega)]
      refine ⟨fun _ _ q => ?_, fun p q => by cases q⟩
      cases q
      rw [b.2.1]
      have z := b.2.2.1.add (v := 100 * i + 24) (by omega) (by omega)
      exact ⟨show (1 : Int) ≠ 0 by decide, z.1, hk.tr (kp.of z.2)⟩
    · rw [if_neg c1, if_neg (by omega)]
      have n2 := nu_v b.2.2.1 95
      rw [← hM] at n2
      rcases hr2 : rNu ρ a1 95 with _ | ⟨k, a2⟩
      · have b2 := n2.2 hr2
        rw [if_pos b2.1]
        refine ⟨fun _ _ q => (by cases q), fun p q => ?_⟩
        cases q
        exact ⟨rfl, b2.2⟩
      · have b2 := n2.1 k a2 hr2
        have hj := hk2.2.2.2.2 b2.1
        rw [b2.2.1] at hj
        rw [if_neg b2.1]
        refine ⟨fun _ _ q => ?_, fun p q => by cases q⟩
        cases q
        rw [b.2.1, b2.2.1]
        have e9 : (if mSig σ = 116 then k else (96 - k) % 96) = (if nxR ρ a = 116 then k else (96 - k) % 96) := by rw [e0]
        have hv : 0 ≤ 100 * i + (if nxR ρ a = 116 then k else (96 - k) % 96) ∧ 100 * i + (if nxR ρ a = 116 then k else (96 - k) % 96) ≤ 499 := by split <;> omega
        have z := b2.2.2.1.add (v := 100 * i + (if nxR ρ a = 116 then k else (96 - k) % 96)) hv.1 hv.2
        rw [e9]
        exact ⟨show (1 : Int) ≠ 0 by decide, z.1, hk.tr ((kp.six b2.2.2.2).tr (kp.of z.2))⟩
/-- a name is used -/
theorem us_v (h : rV ρ σ a lk nm d acc) (h2 : 1 ≤ a) {k : Int} (h0 : 0 ≤ k) (h1 : k < 6) : (∀ L : List Int, nm k = some L → rV ρ (aUse σ k) a lk nm d (acc ++ L) ∧ kp d σ (aUse σ k)) ∧ (nm k = none → rV ρ (aUse σ k) a (if lk = -1 then a - 1 else lk) nm d acc ∧ kp d σ (aUse σ k)) := by
  have hq := h.2.2.2.1 k h0 h1
  have hle := h.le
  obtain ⟨ha, hd, hlk, hlo⟩ := h.2.2.1
  constructor
  · intro L e
    rw [e] at hq
    have hq : σ 29 k ≠ 0 ∧ l11 (σ 27) (11 * k) (σ 28 k) L := hq
    have hl : (σ 28 k).toNat = (L.take 11).length := by have := hq.2.1; omega
    have b := aAddF_q (t := 27) (a := 11 * k) (d := d) (Or.inl rfl) (L.take 11) 0 σ acc hd (Int.le_refl _) (fun i hi => by rw [Int.add_zero]; exact hq.2.2 i hi) h.2.2.2.2
    have hp := pOk_use h.1 h0 (by omega)
    have e2 : aUse σ k = aAddF 27 (11 * k) (L.take 11).length 0 σ := by unfold aUse; rw [if_neg hq.1, hl]
    rw [e2] at hp ⊢
    exact ⟨h.q b.1 hp (b.2.tk (tk_app rfl)), kp.of b.1⟩
  · intro e
    rw [e] at hq
    have hq : σ 29 k = 0 := hq
    have hp := pOk_use h.1 h0 (by omega)
    unfold aUse at hp ⊢
    rw [if_pos hq] at hp ⊢
    unfold rLo at hlo
    by_cases c : σ 60 33 < 0
    · rw [if_pos c] at hp ⊢
      have c2 : lk = -1 := by omega
      rw [if_pos c2]
      obtain ⟨_, z1, z2, z6, z7⟩ := h
      refine ⟨⟨hp, ⟨fun t a b c d e f g => ?_, fun k a b c d => ?_⟩, ⟨ha, hd, ?_, Or.inr ?_⟩, z6, z7⟩, kp.six (fun t ht => up2_n _ _ _ ht)⟩
      · exact (up2_n _ _ _ g).trans (z1.1 t a b c d e f g)
      · rw [up2_s, up1_n _ _ c]; exact z1.2 k a b c d
      · rw [up2_s, up1_s, ha]
      · omega
    · rw [if_neg c]
      rw [if_neg (by omega)]
      exact ⟨h, kp.rf⟩
end RV
