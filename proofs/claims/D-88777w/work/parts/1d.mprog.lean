/-! THE REFERENCE IN PURE WORDS (8): programs -/
theorem pOk_deep {σ : y_S} (h : pOk σ) {d : Int} (h0 : 0 ≤ d) (h1 : 2 * d ≤ σ 60 31) : pOk (up2 σ 60 32 d) := by
  obtain ⟨a1, a2, a3, a4⟩ := h
  exact ⟨a1, a2, ⟨h0, h1⟩, a4⟩
theorem pOk_on {σ : y_S} (h : pOk σ) (h1 : σ 60 31 < σ 60 30) : pOk (aOn σ) := by
  obtain ⟨a1, a2, a3, a4⟩ := h
  exact ⟨a1, ⟨show 0 ≤ σ 60 31 + 1 by omega, show σ 60 31 + 1 ≤ σ 60 30 by omega, a2.2.2⟩, ⟨a3.1, show 2 * σ 60 32 ≤ σ 60 31 + 1 by omega⟩, a4⟩
theorem pOk_34 {σ : y_S} (h : pOk σ) (v : Int) : pOk (up2 σ 60 34 v) := h
theorem pOk_33 {σ : y_S} (h : pOk σ) (v : Int) : pOk (up2 σ 60 33 v) := h
theorem pOk_open {σ : y_S} (h : pOk σ) (h1 : 2 * σ 60 32 + 2 ≤ σ 60 31) {w : Int} (h2 : 0 ≤ w) (h3 : w ≤ 15) : pOk (aOpen σ w) := by
  obtain ⟨a1, a2, a3, a4, a5, a6⟩ := h
  refine ⟨a1, a2, ⟨show 0 ≤ σ 60 32 + 1 by omega, show 2 * (σ 60 32 + 1) ≤ σ 60 31 by omega⟩, ?_, ?_, a6⟩
  · have : rgI 100 0 11 (up1 (σ 25) (σ 60 32 + 1) 0) := rgI.up a4 (by decide) (by decide)
    exact this
  · have : rgI 100 0 15 (up1 (σ 26) (σ 60 32 + 1) w) := rgI.up a5 h2 h3
    exact this
theorem aAddF_60 {t : Nat} {a : Int} : ∀ (f : Nat) (k : Int) (σ : y_S), aAddF t a f k σ 60 = σ 60
  | 0, _, _ => rfl
  | f + 1, k, σ => by rw [aAddF, aAddF_60 f, aAdd_60]
theorem aAddF_25 {t : Nat} {a : Int} {q : Int} : ∀ (f : Nat) (k : Int) (σ : y_S), q ≠ σ 60 32 → aAddF t a f k σ 25 q = σ 25 q
  | 0, _, _, _ => rfl
  | f + 1, k, σ, h => by rw [aAddF, aAddF_25 f _ _ (by rw [aAdd_60]; exact h), aAdd_25 _ _ h]
theorem pOk_rou {a : Int} {N : Nat} (ha : 0 ≤ a) (hN : a + (N : Int) ≤ 1300) : ∀ (r : Nat) (σ : y_S), pOk σ → pOk (aRou a N r σ)
  | 0, _, h => h
  | r + 1, σ, h => by
    rw [aRou]
    exact pOk_rou ha hN r _ (pOk_addF (Or.inl rfl) ha N 0 σ h (by decide) (fun _ => by omega) (fun q => absurd q (by decide)))
theorem aRou_60 {a : Int} {N : Nat} : ∀ (r : Nat) (σ : y_S), aRou a N r σ 60 = σ 60
  | 0, _ => rfl
  | r + 1, σ => by rw [aRou, aRou_60 r, aAddF_60]
theorem pOk_close {σ : y_S} (h : pOk σ) (hd : 1 ≤ σ 60 32) : pOk (aClose σ) := by
  have h1 : pOk (up2 σ 60 32 (σ 60 32 - 1)) := pOk_deep h (by omega) (by have := h.2.2.1; omega)
  obtain ⟨a1, a2, a3, a4, a5, a6, a7, a8, a9⟩ := h
  have h25 := a4 (σ 60 32) (by omega) (by omega)
  have h26 := a5 (σ 60 32) (by omega) (by omega)
  unfold aClose
  split
  · obtain ⟨b1, b2, b3, b4, b5, b6, b7, b8, b9⟩ := h1
    refine ⟨b1, b2, b3, b4, b5, ?_, b7, b8, ?_⟩
    · have : rgI 6 0 11 (up1 (σ 28) (σ 26 (σ 60 32) - 10) (σ 25 (σ 60 32))) := rgI.up a6 h25.1 h25.2
      exact this
    · have : rgI 66 0 499 (fillA (σ 27) (fun k => σ 24 (13 * σ 60 32 + k)) (11 * (σ 26 (σ 60 32) - 10)) (σ 25 (σ 60 32))) := rgI.fA a9 (fun k x y => a8 _ (by omega) (by omega))
      exact this
  · exact pOk_rou (by omega) (by omega) _ _ h1
theorem aClose_at (σ : y_S) : aClose σ 60 31 = σ 60 31 ∧ aClose σ 60 30 = σ 60 30 ∧ aClose σ 60 32 = σ 60 32 - 1 := by
  unfold aClose
  split
  · exact ⟨rfl, rfl, rfl⟩
  · rw [aRou_60]; exact ⟨rfl, rfl, rfl⟩
theorem pOk_use {σ : y_S} (h : pOk σ) {nm : Int} (h0 : 0 ≤ nm) (h1 : nm ≤ 5) : pOk (aUse σ nm) := by
  unfold aUse
  split
  · split
    · exact pOk_33 h _
    · exact h
  · have a6 := h.2.2.2.2.2.1 nm h0 (by omega)
    exact pOk_addF (Or.inr rfl) (by omega) _ 0 σ h (by decide) (fun q => absurd q (by decide)) (fun _ => by omega)
theorem aUse_at (σ : y_S) (nm : Int) : aUse σ nm 60 31 = σ 60 31 ∧ aUse σ nm 60 30 = σ 60 30 ∧ aUse σ nm 60 32 = σ 60 32 := by
  unfold aUse
  split
  · split <;> exact ⟨rfl, rfl, rfl⟩
  · rw [aAddF_60]; exact ⟨rfl, rfl, rfl⟩
theorem mSig_ne {σ : y_S} {b : Int} (h : mSig σ = b) (hb : b ≠ -1) : σ 60 31 < σ 60 30 := by
  unfold mSig at h
  split at h
  · assumption
  · exact absurd h.symm hb
/-- what a number leaves -/
theorem nuF_ok {σ : y_S} (h : pOk σ) {m : Int} : pOk (nuF σ m).2 ∧ σ 60 31 ≤ (nuF σ m).2 60 31 ∧ (nuF σ m).2 60 32 = σ 60 32 ∧ (nuF σ m).2 60 30 = σ 60 30 ∧ ((nuF σ m).1 ≠ 0 → 0 ≤ (nuF σ m).2 60 34 ∧ (nuF σ m).2 60 34 ≤ m) := by
  unfold nuF
  by_cases c1 : mSig σ ≠ 32
  · rw [if_pos c1]; exact ⟨h, Int.le_refl _, rfl, rfl, fun q => absurd rfl q⟩
  · rw [if_neg c1]
    have g1 := mSig_ne (Classical.not_not.mp c1) (by decide)
    have p1 := pOk_on h g1
    by_cases c2 : ¬ isDg (mSig (aOn σ)) ∨ m < mSig (aOn σ) - 48
    · rw [if_pos c2]; exact ⟨p1, by show _ ≤ σ 60 31 + 1; omega, rfl, rfl, fun q => absurd rfl q⟩
    · rw [if_neg c2]
      have g2 := mSig_ne (σ := aOn σ) rfl (by omega)
      have p2 : pOk (aOn (up2 (aOn σ) 60 34 (mSig (aOn σ) - 48))) := pOk_on (pOk_34 p1 _) g2
      by_cases c3 : ¬ isDg (mSig (aOn (up2 (aOn σ) 60 34 (mSig (aOn σ) - 48)))) ∨ mSig (aOn σ) - 48 = 0
      · rw [if_pos c3]
        exact ⟨p2, by show _ ≤ σ 60 31 + 1 + 1; omega, rfl, rfl, fun _ => ⟨show 0 ≤ mSig (aOn σ) - 48 by omega, show mSig (aOn σ) - 48 ≤ m by omega⟩⟩
      · rw [if_neg c3]
        by_cases c4 : m < 10 * (mSig (aOn σ) - 48) + mSig (aOn (up2 (aOn σ) 60 34 (mSig (aOn σ) - 48))) - 48
        · rw [if_pos c4]
          exact ⟨p2, by show _ ≤ σ 60 31 + 1 + 1; omega, rfl, rfl, fun q => absurd rfl q⟩
        · rw [if_neg c4]
          have g3 := mSig_ne (σ := aOn (up2 (aOn σ) 60 34 (mSig (aOn σ) - 48))) rfl (by omega)
          exact ⟨pOk_on (pOk_34 p2 _) g3, by show _ ≤ σ 60 31 + 1 + 1 + 1; omega, rfl, rfl, fun _ => ⟨show 0 ≤ 10 * (mSig (aOn σ) - 48) + mSig (aOn (up2 (aOn σ) 60 34 (mSig (aOn σ) - 48))) - 48 by omega, by show 10 * (mSig (aOn σ) - 48) + mSig (aOn (up2 (aOn σ) 60 34 (mSig (aOn σ) - 48))) - 48 ≤ m; omega⟩⟩
/-- a turn's statement -/
def stN (σ : y_S) : Int × y_S := nuF (aOn σ) (σ 60 0 - 2)
def stM (σ : y_S) : Int × y_S := nuF (stN σ).2 95
def stV (σ : y_S) : Int := 100 * (stN σ).2 60 34 + (if mSig σ = 116 then (stM σ).2 60 34 else (96 - (stM σ).2 60 34) % 96)
def stT (σ : y_S) : Int × y_S :=
  if (stN σ).1 = 0 then (0, (stN σ).2) else
  if mSig σ = 115 then (1, aAdd (stN σ).2 (100 * (stN σ).2 60 34 + 24)) else
  if (stM σ).1 = 0 then (0, (stM σ).2) else (1, aAdd (stM σ).2 (stV σ))
abbrev isTu (b : Int) : Prop := b = 116 ∨ b = 117 ∨ b = 115
def stE (σ : y_S) : y_S := if isNm (mSig σ) then aOn (aOn σ) else aOn σ
def stH (b : Int) : Int := if isNm b then 10 + b - 97 else b - 48
def stF : Nat → y_S → Int × y_S
  | 0, σ => (0, σ)
  | f + 1, σ =>
    if isTu (mSig σ) then stT σ else
    if ¬ isDg (mSig σ) ∧ ¬ isNm (mSig σ) then (0, σ) else
    if isNm (mSig σ) ∧ mSig (aOn σ) ≠ 61 then (1, aUse (aOn σ) (mSig σ - 97)) else
    if mSig (stE σ) ≠ 40 then (0, stE σ) else stF f (aOpen (aOn (stE σ)) (stH (mSig σ)))
def clF : Nat → y_S → y_S
  | 0, σ => σ
  | f + 1, σ => if mSig σ = 41 ∧ 0 < σ 60 32 then clF f (aClose (aOn σ)) else σ
def paF : Nat → y_S → Int × y_S
  | 0, σ => (0, σ)
  | f + 1, σ =>
    if (stF 101 σ).1 = 0 then (0, (stF 101 σ).2) else
    if mSig (clF 101 (stF 101 σ).2) = -1 ∧ clF 101 (stF 101 σ).2 60 32 = 0 then (1, clF 101 (stF 101 σ).2) else
    if mSig (clF 101 (stF 101 σ).2) ≠ 59 then (0, clF 101 (stF 101 σ).2) else paF f (aOn (clF 101 (stF 101 σ).2))
def paS (σ : y_S) : y_S := upT (up2 (up2 (up2 (up2 σ 60 31 0) 60 32 0) 25 0 0) 60 33 (-1)) 29 (fillN (σ 29) (fun _ => 0) 6)
def oParse (σ : y_S) : Int × y_S := paF 101 (paS σ)
def prT (σ : y_S) : y_S := up2 (oParse σ).2 60 30 0
def prW (τ : y_S) : y_S := upT (upT (up2 τ 60 21 (τ 25 0)) 19 (fillN (τ 19) (fun k => τ 24 k / 100) (τ 25 0))) 20 (fillN (τ 20) (fun k => τ 24 k % 100) (τ 25 0))
def oProgram (σ : y_S) : Int × y_S :=
  if (oParse σ).1 = 0 then (-1000 - prT σ 60 31, prT σ) else
  if 0 ≤ prT σ 60 33 then (-2000 - prT σ 60 33, prT σ) else
  if 10 < prT σ 25 0 then (-3000, prT σ) else (prT σ 25 0, prW (prT σ))
theorem stN_ok {σ : y_S} (h : pOk σ) (h1 : σ 60 31 < σ 60 30) : pOk (stN σ).2 ∧ σ 60 31 < (stN σ).2 60 31 ∧ (stN σ).2 60 32 = σ 60 32 ∧ (stN σ).2 60 30 = σ 60 30 ∧ ((stN σ).1 ≠ 0 → 0 ≤ (stN σ).2 60 34 ∧ (stN σ).2 60 34 ≤ σ 60 0 - 2) := by
  have a := nuF_ok (m := σ 60 0 - 2) (pOk_on h h1)
  exact ⟨a.1, by have := a.2.1; rw [show aOn σ 60 31 = σ 60 31 + 1 from rfl] at this; unfold stN; omega, a.2.2⟩
theorem stM_ok {σ : y_S} (h : pOk σ) (h1 : σ 60 31 < σ 60 30) : pOk (stM σ).2 ∧ σ 60 31 < (stM σ).2 60 31 ∧ (stM σ).2 60 32 = σ 60 32 ∧ (stM σ).2 60 30 = σ 60 30 ∧ ((stM σ).1 ≠ 0 → 0 ≤ (stM σ).2 60 34 ∧ (stM σ).2 60 34 ≤ 95) := by
  have b := stN_ok h h1
  have a := nuF_ok (m := 95) b.1
  exact ⟨a.1, Int.lt_of_lt_of_le b.2.1 a.2.1, a.2.2.1.trans b.2.2.1, a.2.2.2.1.trans b.2.2.2.1, a.2.2.2.2⟩
theorem stT_ok {σ : y_S} (h : pOk σ) (h1 : σ 60 31 < σ 60 30) : pOk (stT σ).2 ∧ σ 60 31 < (stT σ).2 60 31 ∧ (stT σ).2 60 32 = σ 60 32 ∧ (stT σ).2 60 30 = σ 60 30 := by
  have a := stN_ok h h1
  have b := stM_ok h h1
  have hn := h.1
  unfold stT
  by_cases c1 : (stN σ).1 = 0
  · rw [if_pos c1]; exact ⟨a.1, a.2.1, a.2.2.1, a.2.2.2.1⟩
  · rw [if_neg c1]
    have e := a.2.2.2.2 c1
    by_cases c2 : mSig σ = 115
    · rw [if_pos c2]
      refine ⟨pOk_add a.1 (by omega) (by omega), ?_, ?_, ?_⟩
      · show _ < aAdd _ _ 60 31; rw [aAdd_60]; exact a.2.1
      · show aAdd _ _ 60 32 = _; rw [aAdd_60]; exact a.2.2.1
      · show aAdd _ _ 60 30 = _; rw [aAdd_60]; exact a.2.2.2.1
    · rw [if_neg c2]
      by_cases c3 : (stM σ).1 = 0
      · rw [if_pos c3]; exact ⟨b.1, b.2.1, b.2.2.1, b.2.2.2.1⟩
      · rw [if_neg c3]
        have e2 := b.2.2.2.2 c3
        refine ⟨pOk_add b.1 ?_ ?_, ?_, ?_, ?_⟩
        · unfold stV; split <;> omega
        · unfold stV; split <;> omega
        · show _ < aAdd _ _ 60 31; rw [aAdd_60]; exact b.2.1
        · show aAdd _ _ 60 32 = _; rw [aAdd_60]; exact b.2.2.1
        · show aAdd _ _ 60 30 = _; rw [aAdd_60]; exact b.2.2.2.1
theorem stE_ok {σ : y_S} (h : pOk σ) (hb : isDg (mSig σ) ∨ isNm (mSig σ)) (hq : ¬ (isNm (mSig σ) ∧ mSig (aOn σ) ≠ 61)) : pOk (stE σ) ∧ σ 60 31 < stE σ 60 31 ∧ stE σ 60 32 = σ 60 32 ∧ stE σ 60 30 = σ 60 30 := by
  have g1 := mSig_ne (σ := σ) rfl (by omega)
  have p1 := pOk_on h g1
  unfold stE
  by_cases c : isNm (mSig σ)
  · rw [if_pos c]
    have e : mSig (aOn σ) = 61 := Classical.not_not.mp (fun q => hq ⟨c, q⟩)
    exact ⟨pOk_on p1 (mSig_ne e (by decide)), by show _ < σ 60 31 + 1 + 1; omega, rfl, rfl⟩
  · rw [if_neg c]
    exact ⟨p1, by show _ < σ 60 31 + 1; omega, rfl, rfl⟩
theorem stO_ok {σ : y_S} (h : pOk σ) (hb : isDg (mSig σ) ∨ isNm (mSig σ)) (hq : ¬ (isNm (mSig σ) ∧ mSig (aOn σ) ≠ 61)) (h40 : mSig (stE σ) = 40) : pOk (aOn (stE σ)) ∧ pOk (aOpen (aOn (stE σ)) (stH (mSig σ))) ∧ σ 60 31 + 2 ≤ aOpen (aOn (stE σ)) (stH (mSig σ)) 60 31 ∧ aOpen (aOn (stE σ)) (stH (mSig σ)) 60 30 = σ 60 30 ∧ 0 ≤ stH (mSig σ) ∧ stH (mSig σ) ≤ 15 := by
  have a := stE_ok h hb hq
  have p1 := pOk_on a.1 (mSig_ne h40 (by decide))
  have hw : 0 ≤ stH (mSig σ) ∧ stH (mSig σ) ≤ 15 := by unfold stH; split <;> omega
  have h3 := h.2.2.1
  refine ⟨p1, pOk_open p1 ?_ hw.1 hw.2, ?_, a.2.2.2, hw.1, hw.2⟩
  · show 2 * stE σ 60 32 + 2 ≤ stE σ 60 31 + 1; omega
  · show σ 60 31 + 2 ≤ stE σ 60 31 + 1; omega
theorem stF_ok : ∀ (f : Nat) (σ : y_S), pOk σ → pOk (stF f σ).2 ∧ σ 60 31 ≤ (stF f σ).2 60 31 ∧ ((stF f σ).1 ≠ 0 → σ 60 31 < (stF f σ).2 60 31) ∧ (stF f σ).2 60 30 = σ 60 30
  | 0, σ, h => ⟨h, Int.le_refl _, fun q => absurd rfl q, rfl⟩
  | f + 1, σ, h => by
    rw [stF]
    by_cases c1 : isTu (mSig σ)
    · rw [if_pos c1]
      have a := stT_ok h (mSig_ne (σ := σ) rfl (by omega))
      exact ⟨a.1, Int.le_of_lt a.2.1, fun _ => a.2.1, a.2.2.2⟩
    · rw [if_neg c1]
      by_cases c2 : ¬ isDg (mSig σ) ∧ ¬ isNm (mSig σ)
      · rw [if_pos c2]; exact ⟨h, Int.le_refl _, fun q => absurd rfl q, rfl⟩
      · rw [if_neg c2]
        have hb : isDg (mSig σ) ∨ isNm (mSig σ) := by omega
        have g1 := mSig_ne (σ := σ) rfl (by omega)
        by_cases c3 : isNm (mSig σ) ∧ mSig (aOn σ) ≠ 61
        · rw [if_pos c3]
          have a := aUse_at (aOn σ) (mSig σ - 97)
          have e : aOn σ 60 31 = σ 60 31 + 1 := rfl
          exact ⟨pOk_use (pOk_on h g1) (by omega) (by omega), by show σ 60 31 ≤ aUse _ _ 60 31; omega, fun _ => by show σ 60 31 < aUse _ _ 60 31; omega, a.2.1⟩
        · rw [if_neg c3]
          by_cases c4 : mSig (stE σ) ≠ 40
          · rw [if_pos c4]
            have a := stE_ok h hb c3
            exact ⟨a.1, Int.le_of_lt a.2.1, fun q => absurd rfl q, a.2.2.2⟩
          · rw [if_neg c4]
            have a := stO_ok h hb c3 (Classical.not_not.mp c4)
            have b := stF_ok f _ a.2.1
            exact ⟨b.1, by omega, fun _ => by omega, b.2.2.2.trans a.2.2.2.1⟩
theorem clF_ok : ∀ (f : Nat) (σ : y_S), pOk σ → pOk (clF f σ) ∧ σ 60 31 ≤ clF f σ 60 31 ∧ clF f σ 60 30 = σ 60 30
  | 0, σ, h => ⟨h, Int.le_refl _, rfl⟩
  | f + 1, σ, h => by
    rw [clF]
    split
    · rename_i c
      have g1 := mSig_ne c.1 (by decide)
      have p1 := pOk_on h g1
      have a := aClose_at (aOn σ)
      have e : aOn σ 60 31 = σ 60 31 + 1 := rfl
      have b := clF_ok f _ (pOk_close p1 (by show 1 ≤ σ 60 32; omega))
      exact ⟨b.1, by omega, b.2.2.trans a.2.1⟩
    · exact ⟨h, Int.le_refl _, rfl⟩
theorem paF_ok : ∀ (f : Nat) (σ : y_S), pOk σ → pOk (paF f σ).2
  | 0, σ, h => h
  | f + 1, σ, h => by
    have a := stF_ok 101 σ h
    have b := clF_ok 101 _ a.1
    rw [paF]
    split
    · exact a.1
    · split
      · exact b.1
      · split
        · exact b.1
        · rename_i c
          exact paF_ok f _ (pOk_on b.1 (mSig_ne (Classical.not_not.mp c) (by decide)))
/-- what a program asks: the lists' ranges -/
def pLs (σ : y_S) : Prop := mN σ ∧ (0 ≤ σ 60 30 ∧ σ 60 30 ≤ 100) ∧ (∀ k : Int, 0 ≤ k → k < 100 → 0 ≤ σ 25 k ∧ σ 25 k ≤ 11) ∧ (∀ k : Int, 0 ≤ k → k < 100 → 0 ≤ σ 26 k ∧ σ 26 k ≤ 15) ∧ (∀ k : Int, 0 ≤ k → k < 6 → 0 ≤ σ 28 k ∧ σ 28 k ≤ 11) ∧ (∀ k : Int, 0 ≤ k → k < 100 → 0 ≤ σ 23 k ∧ σ 23 k ≤ 255) ∧ (∀ k : Int, 0 ≤ k → k < 1300 → 0 ≤ σ 24 k ∧ σ 24 k ≤ 499) ∧ (∀ k : Int, 0 ≤ k → k < 66 → 0 ≤ σ 27 k ∧ σ 27 k ≤ 499)
theorem pLs_pa {σ : y_S} (h : pLs σ) : pOk (paS σ) := by
  obtain ⟨a1, a2, a4, a5⟩ := h
  refine ⟨a1, ⟨Int.le_refl _, a2.1, a2.2⟩, ⟨Int.le_refl _, Int.le_refl _⟩, ?_, a5⟩
  have : rgI 100 0 11 (up1 (σ 25) 0 0) := rgI.up a4 (by decide) (by decide)
  exact this
theorem oParse_ok {σ : y_S} (h : pLs σ) : pOk (oParse σ).2 := paF_ok 101 _ (pLs_pa h)
theorem stT_01 (σ : y_S) : (stT σ).1 = 0 ∨ (stT σ).1 = 1 := by
  unfold stT
  (repeat' split) <;> first | exact Or.inl rfl | exact Or.inr rfl
theorem stF_01 : ∀ (f : Nat) (σ : y_S), (stF f σ).1 = 0 ∨ (stF f σ).1 = 1
  | 0, _ => Or.inl rfl
  | f + 1, σ => by
    rw [stF]
    split
    · exact stT_01 σ
    · (repeat' split) <;> first | exact Or.inl rfl | exact Or.inr rfl | exact stF_01 f _
theorem paF_01 : ∀ (f : Nat) (σ : y_S), (paF f σ).1 = 0 ∨ (paF f σ).1 = 1
  | 0, _ => Or.inl rfl
  | f + 1, σ => by
    rw [paF]
    (repeat' split) <;> first | exact Or.inl rfl | exact Or.inr rfl | exact paF_01 f _
