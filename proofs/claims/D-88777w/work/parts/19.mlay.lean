/-! THE REFERENCE IN PURE WORDS (4): lay -/
def wkN (σ : y_S) : Nat := (σ 60 21).toNat
/-- work w may be done in layer l, those in D being done -/
def mOk1 (σ : y_S) (l : Int) (D w : Nat) : Prop := mCell (σ 60 0) l (σ 19 (w : Int)) ∧ (0 ≤ σ 4 (6 * l + σ 19 (w : Int)) → σ 4 (6 * l + σ 19 (w : Int)) = σ 20 (w : Int)) ∧ ∀ v : Nat, v < w → (-1 ≤ σ 19 (v : Int) - σ 19 (w : Int) ∧ σ 19 (v : Int) - σ 19 (w : Int) ≤ 1) → D.testBit v = true
def mMay (σ : y_S) (l : Int) (S D : Nat) : Prop := S &&& D = 0 ∧ (∀ w : Nat, w < wkN σ → S.testBit w = true → mOk1 σ l D w) ∧ ∀ i : Int, mCell (σ 60 0) l i → 0 < σ 4 (6 * l + i) → ∃ w : Nat, w < wkN σ ∧ S.testBit w = true ∧ σ 19 (w : Int) = i
noncomputable def pB (P : Prop) : Bool := @decide P (Classical.propDecidable P)
theorem pB_t {P : Prop} : pB P = true ↔ P := @decide_eq_true_iff P (Classical.propDecidable P)
theorem pB_f {P : Prop} : pB P = false ↔ ¬ P := @decide_eq_false_iff_not P (Classical.propDecidable P)
noncomputable def mMayB (σ : y_S) (l : Int) (S D : Nat) : Bool := pB (mMay σ l S D)
def mBare (σ : y_S) (l : Int) : Prop := ∀ i : Int, mCell (σ 60 0) l i → σ 4 (6 * l + i) ≤ 0
noncomputable def mBareB (σ : y_S) (l : Int) : Bool := pB (mBare σ l)
/-- d layers are left of L; those in D are done: all can be done -/
def mCan (σ : y_S) (L : Int) : Nat → Nat → Prop
  | 0, D => D = 2 ^ wkN σ - 1
  | d + 1, D => ∃ S : Nat, S &&& frS (wkN σ) D = S ∧ mMay σ (L - (d : Int) - 1) S D ∧ mCan σ L d (D ||| S)
theorem pw_pos (w : Nat) : 0 < 2 ^ w := Nat.two_pow_pos w
theorem pw10 {w : Nat} (h : w ≤ 10) : 2 ^ w ≤ 1024 := Nat.pow_le_pow_right (by decide) h
theorem sub_lt {S F w : Nat} (h : S &&& F = S) (hF : F < 2 ^ w) : S < 2 ^ w := Nat.lt_of_le_of_lt (by rw [← h]; exact Nat.and_le_right) hF
theorem or_lt {D S w : Nat} (hD : D < 2 ^ w) (hS : S &&& frS w D = S) : D ||| S < 2 ^ w := Nat.or_lt_two_pow hD (sub_lt hS frS_lt)
theorem pB_n {P : Prop} (h : ¬ P) : ¬ pB P = true := fun q => h (pB_t.mp q)
/-- what stands in the table for place j -/
noncomputable def cVal (σ : y_S) (L j : Int) : Int := if pB (mCan σ L (L - j / 1024).toNat (j % 1024).toNat) = true then 1 else 0
/-- the table, filled for the layers above l0, and in l0 up to d0 -/
noncomputable def cRow (σ : y_S) (L l0 d0 : Int) : Int → Int := fun j => if 0 ≤ j ∧ j % 1024 < ((2 ^ wkN σ : Nat) : Int) ∧ ((l0 < j / 1024 ∧ j / 1024 ≤ L) ∨ (j / 1024 = l0 ∧ j % 1024 < d0)) then cVal σ L j else σ 22 j
theorem cRow_in {σ : y_S} {L l0 d0 l d : Int} (h0 : 0 ≤ l) (h1 : l0 < l) (h2 : l ≤ L) (hd0 : 0 ≤ d) (hd : d < ((2 ^ wkN σ : Nat) : Int)) (hw : wkN σ ≤ 10) : cRow σ L l0 d0 (1024 * l + d) = if pB (mCan σ L (L - l).toNat d.toNat) = true then 1 else 0 := by
  have hp := pw10 hw
  have hd2 : d < 1024 := by omega
  have e1 : (1024 * l + d) / 1024 = l := by omega
  have e2 : (1024 * l + d) % 1024 = d := by omega
  unfold cRow cVal
  rw [e1, e2, if_pos ⟨by omega, hd, Or.inl ⟨h1, h2⟩⟩]
theorem cRow_s {σ : y_S} {L l0 d v : Int} (h0 : 0 ≤ l0) (h2 : l0 ≤ L) (hd0 : 0 ≤ d) (hd : d < ((2 ^ wkN σ : Nat) : Int)) (hw : wkN σ ≤ 10) (hv : v = if pB (mCan σ L (L - l0).toNat d.toNat) = true then 1 else 0) : up1 (cRow σ L l0 d) (1024 * l0 + d) v = cRow σ L l0 (d + 1) := by
  have hp := pw10 hw
  have hd2 : d < 1024 := by omega
  funext j
  unfold up1
  by_cases h : j = 1024 * l0 + d
  · have e1 : j / 1024 = l0 := by omega
    have e2 : j % 1024 = d := by omega
    rw [if_pos h]
    unfold cRow cVal
    rw [e1, e2, if_pos ⟨by omega, hd, Or.inr ⟨rfl, by omega⟩⟩, hv]
  · rw [if_neg h]
    unfold cRow
    by_cases h3 : 0 ≤ j ∧ j % 1024 < ((2 ^ wkN σ : Nat) : Int) ∧ ((l0 < j / 1024 ∧ j / 1024 ≤ L) ∨ (j / 1024 = l0 ∧ j % 1024 < d))
    · rw [if_pos h3, if_pos ⟨h3.1, h3.2.1, by omega⟩]
    · rw [if_neg h3, if_neg (fun q => h3 ⟨q.1, q.2.1, by omega⟩)]
theorem cRow_n {σ : y_S} {L l0 d : Int} (h2 : l0 ≤ L) (hd : d = ((2 ^ wkN σ : Nat) : Int)) : cRow σ L l0 d = cRow σ L (l0 - 1) 0 := by
  funext j
  unfold cRow
  by_cases h3 : 0 ≤ j ∧ j % 1024 < ((2 ^ wkN σ : Nat) : Int) ∧ ((l0 < j / 1024 ∧ j / 1024 ≤ L) ∨ (j / 1024 = l0 ∧ j % 1024 < d))
  · rw [if_pos h3, if_pos ⟨h3.1, h3.2.1, by omega⟩]
  · rw [if_neg h3, if_neg (fun q => h3 ⟨q.1, q.2.1, by have := q.2.1; omega⟩)]
theorem cRow_0 {σ : y_S} {L : Int} : cRow σ L L 0 = σ 22 := by
  funext j
  unfold cRow
  rw [if_neg (fun q => by omega)]
noncomputable def mFill (σ : y_S) (L : Int) : y_S := upT σ 22 (cRow σ L (-1) 0)
theorem mFill_at {σ : y_S} {L l d : Int} (h0 : 0 ≤ l) (h2 : l ≤ L) (hd0 : 0 ≤ d) (hd : d < ((2 ^ wkN σ : Nat) : Int)) (hw : wkN σ ≤ 10) : mFill σ L 22 (1024 * l + d) = if pB (mCan σ L (L - l).toNat d.toNat) = true then 1 else 0 := cRow_in h0 (by omega) h2 hd0 hd hw
/-- T is a set that may be done in layer l0, and then all can be done -/
def cP (σ : y_S) (L l0 : Int) (D T : Nat) : Prop := T &&& frS (wkN σ) D = T ∧ mMay σ l0 T D ∧ mCan σ L (L - (l0 + 1)).toNat (D ||| T)
theorem mCan_s {σ : y_S} {L l0 : Int} {D : Nat} (h : l0 < L) : mCan σ L (L - l0).toNat D ↔ ∃ T, cP σ L l0 D T := by
  have e : (L - l0).toNat = (L - (l0 + 1)).toNat + 1 := by omega
  have e2 : L - ((L - (l0 + 1)).toNat : Int) - 1 = l0 := by omega
  rw [e, mCan, e2]
  exact Iff.rfl
theorem mCan_0 {σ : y_S} {L : Int} {D : Nat} : mCan σ L (L - L).toNat D ↔ D = 2 ^ wkN σ - 1 := by
  rw [show (L - L).toNat = 0 by omega, mCan]
theorem cStep {σ : y_S} {L l0 : Int} {D S : Nat} (hSF : S &&& frS (wkN σ) D = S) (hall : ∀ T, cP σ L l0 D T → T ≤ S) (hno : ¬ cP σ L l0 D S) (hS : S ≠ 0) : ∀ T, cP σ L l0 D T → T ≤ nxS S (frS (wkN σ) D) := by
  intro T hT
  have h1 := hall T hT
  have h2 : T ≠ S := fun q => hno (q ▸ hT)
  unfold nxS
  rw [if_neg hS]
  exact nxS_max S _ T hSF hT.1 (by omega)
theorem cLast {σ : y_S} {L l0 : Int} {D S : Nat} (hall : ∀ T, cP σ L l0 D T → T ≤ S) (hno : ¬ cP σ L l0 D S) (hS : S = 0) : ∀ T, ¬ cP σ L l0 D T := by
  intro T hT
  have h1 := hall T hT
  exact hno ((show T = S by omega) ▸ hT)
theorem cEnd {σ : y_S} {L l0 : Int} {D : Nat} {iz : Bool} (h : l0 < L) (hi : iz = true → ∃ T, cP σ L l0 D T) (hn : ¬ iz = true → ∀ T, ¬ cP σ L l0 D T) : (if iz = true then (1 : Int) else 0) = if pB (mCan σ L (L - l0).toNat D) = true then 1 else 0 := by
  have e : iz = pB (mCan σ L (L - l0).toNat D) := by
    refine Bool.eq_iff_iff.mpr ⟨fun q => pB_t.mpr ((mCan_s h).mpr (hi q)), fun q => ?_⟩
    obtain ⟨T, hT⟩ := (mCan_s h).mp (pB_t.mp q)
    by_cases z : iz = true
    · exact z
    · exact absurd hT (hn z T)
  rw [e]
theorem mCan_c {σ : y_S} {r : Int → Int} {L : Int} : ∀ (d D : Nat), mCan (upT σ 22 r) L d D ↔ mCan σ L d D
  | 0, D => Iff.rfl
  | d + 1, D => by
    rw [mCan, mCan]
    refine exists_congr fun S => ?_
    rw [mCan_c d (D ||| S)]
    exact Iff.rfl
theorem cVal_c {σ : y_S} {r : Int → Int} {L j : Int} : cVal (upT σ 22 r) L j = cVal σ L j := by
  unfold cVal
  rw [show pB (mCan (upT σ 22 r) L (L - j / 1024).toNat (j % 1024).toNat) = pB (mCan σ L (L - j / 1024).toNat (j % 1024).toNat) from congrArg pB (propext (mCan_c _ _))]
theorem cP_c {σ : y_S} {r : Int → Int} {L l0 : Int} {D T : Nat} : cP (upT σ 22 r) L l0 D T ↔ cP σ L l0 D T := by
  unfold cP
  rw [mCan_c]
  exact Iff.rfl
theorem mFill_fill {σ : y_S} {K L : Int} (h : K ≤ L) : mFill (mFill σ K) L = mFill σ L := by
  unfold mFill
  rw [upT_upT]
  congr 1
  funext j
  have e : cRow (upT σ 22 (cRow σ K (-1) 0)) L (-1) 0 j = (if 0 ≤ j ∧ j % 1024 < ((2 ^ wkN σ : Nat) : Int) ∧ ((-1 < j / 1024 ∧ j / 1024 ≤ L) ∨ (j / 1024 = -1 ∧ j % 1024 < 0)) then cVal σ L j else cRow σ K (-1) 0 j) := by
    rw [← cVal_c (r := cRow σ K (-1) 0)]
    rfl
  rw [e]
  unfold cRow
  by_cases h3 : 0 ≤ j ∧ j % 1024 < ((2 ^ wkN σ : Nat) : Int) ∧ ((-1 < j / 1024 ∧ j / 1024 ≤ L) ∨ (j / 1024 = -1 ∧ j % 1024 < 0))
  · rw [if_pos h3, if_pos h3]
  · rw [if_neg h3, if_neg h3, if_neg (fun q => h3 ⟨q.1, q.2.1, by omega⟩)]
def mFit (σ : y_S) (L : Int) : Prop := mCan σ L L.toNat 0
theorem mFill_0 {σ : y_S} {L : Int} (h : 0 ≤ L) (hw : wkN σ ≤ 10) : mFill σ L 22 0 = if pB (mFit σ L) = true then 1 else 0 := by
  have h1 := mFill_at (σ := σ) (L := L) (l := 0) (d := 0) (by decide) h (by decide) (by have := pw_pos (wkN σ); omega) hw
  rw [show (1024 * (0 : Int) + 0) = 0 from rfl, show L - 0 = L by omega] at h1
  exact h1
/-- the least number of layers above which all are bare -/
noncomputable def leastB (σ : y_S) : Nat → Nat
  | 0 => 0
  | k + 1 => if mBareB σ (k : Int) = true then leastB σ k else k + 1
noncomputable def layF (σ : y_S) : Nat → Int → Int
  | 0, _ => -5
  | f + 1, L => if pB (mFit σ L) = true then L else layF σ f (L + 1)
theorem layF_y {σ : y_S} {f : Nat} {L : Int} (h : pB (mFit σ L) = true) : layF σ (f + 1) L = L := by rw [layF, if_pos h]
theorem layF_n {σ : y_S} {f : Nat} {L : Int} (h : ¬ pB (mFit σ L) = true) : layF σ (f + 1) L = layF σ f (L + 1) := by rw [layF, if_neg h]
def mGr (P : Nat → Prop) (S : Nat) : Prop := P S ∧ ∀ T, P T → T ≤ S
noncomputable def grS (P : Nat → Prop) : Nat := @dite _ (∃ S, mGr P S) (Classical.propDecidable _) (fun h => Classical.choose h) (fun _ => 0)
theorem grS_eq {P : Nat → Prop} {S : Nat} (h : mGr P S) : grS P = S := by
  unfold grS
  have h2 : ∃ S, mGr P S := ⟨S, h⟩
  rw [dif_pos h2]
  have h3 := Classical.choose_spec h2
  have a := h.2 _ h3.1
  have b := h3.2 _ h.1
  omega
def laW (σ : y_S) (l : Int) (S : Nat) : Nat → (Int → Int) → (Int → Int)
  | 0, r => r
  | w + 1, r => if S.testBit w = true ∧ σ 4 (6 * l + σ 19 (w : Int)) < 0 then up1 (laW σ l S w r) (6 * l + σ 19 (w : Int)) (σ 20 (w : Int)) else laW σ l S w r
theorem laW_y {σ : y_S} {l : Int} {S w : Nat} {r : Int → Int} (h : S.testBit w = true) (h2 : σ 4 (6 * l + σ 19 (w : Int)) < 0) : laW σ l S (w + 1) r = up1 (laW σ l S w r) (6 * l + σ 19 (w : Int)) (σ 20 (w : Int)) := by rw [laW, if_pos ⟨h, h2⟩]
theorem laW_n {σ : y_S} {l : Int} {S w : Nat} {r : Int → Int} (h : ¬ (S.testBit w = true ∧ σ 4 (6 * l + σ 19 (w : Int)) < 0)) : laW σ l S (w + 1) r = laW σ l S w r := by rw [laW, if_neg h]
def la0 (σ : y_S) : Int → Int := fillN (σ 3) (fun k => if σ 4 k < 0 then 0 else σ 3 k) 72
noncomputable def laL (σ : y_S) (L : Int) : Nat → Nat × (Int → Int)
  | 0 => (0, la0 σ)
  | l + 1 => ((laL σ L l).1 ||| grS (cP σ L (l : Int) (laL σ L l).1), laW σ (l : Int) (grS (cP σ L (l : Int) (laL σ L l).1)) (wkN σ) (laL σ L l).2)
noncomputable def layL (σ : y_S) : Int := layF σ (13 - leastB σ 12) (leastB σ 12 : Int)
noncomputable def oLay (σ : y_S) : Int × y_S := if layL σ = -5 then (-5, mFill σ 12) else (layL σ, upT (mFill σ (layL σ)) 3 (laL σ (layL σ) (layL σ).toNat).2)
theorem oLay_n {σ : y_S} (h : layL σ = -5) : oLay σ = (-5, mFill σ 12) := by unfold oLay; rw [if_pos h]
theorem oLay_y {σ : y_S} {L : Int} (h : layL σ = L) (h2 : L ≠ -5) : oLay σ = (L, upT (mFill σ L) 3 (laL σ L L.toNat).2) := by subst h; unfold oLay; rw [if_neg h2]
theorem mWl_same {σ τ : y_S} (e1 : τ 19 = σ 19) (e2 : τ 20 = σ 20) (h : mWl σ) : mWl τ := fun k h0 h1 => by rw [e1, e2]; exact h k h0 h1
