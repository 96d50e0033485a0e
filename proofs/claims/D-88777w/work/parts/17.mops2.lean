/-! THE REFERENCE IN PURE WORDS (3): split, undo -/
theorem mPl_same {σ τ : y_S} (e : τ 4 = σ 4) (h : mPl σ) : mPl τ := fun k h0 h1 => by rw [e]; exact h k h0 h1
theorem mSt_same {σ τ : y_S} (e3 : τ 3 = σ 3) (e6 : τ 6 = σ 6) (h : mSt σ) : mSt τ := fun k h0 h1 => by rw [e3, e6]; exact h k h0 h1
theorem mTr_same {σ τ : y_S} (e1 : τ 1 = σ 1) (e2 : τ 2 = σ 2) (h : mTr (σ 1) (σ 2)) : mTr (τ 1) (τ 2) := by rw [e1, e2]; exact h
theorem oTable_in {σ : y_S} {r col : Int} (h : mLane σ r ∧ mLane σ col) : oTable σ r col = (mTab σ col 10 r, mTab σ col) := by unfold oTable; rw [if_neg (fun q => q h)]
def m97 (n : Int) (f : Int → Int) : Prop := ∀ k : Int, 0 ≤ k → k < n → 0 ≤ f k ∧ f k ≤ 96
theorem m97.up {n : Int} {f : Int → Int} (h : m97 n f) {i v : Int} (h0 : 0 ≤ v) (h1 : v ≤ 96) : m97 n (up1 f i v) := by
  intro k a b
  by_cases e : k = i
  · subst e; rw [up1_s]; exact ⟨h0, h1⟩
  · rw [up1_n _ _ e]; exact h k a b
theorem m97.u2 {n : Int} {σ : y_S} {t : Nat} (h : m97 n (σ t)) {i v : Int} (h0 : 0 ≤ v) (h1 : v ≤ 96) : m97 n (up2 σ t i v t) := by rw [up2_s]; exact h.up h0 h1
def spV (σ : y_S) (k r j : Int) : y_S := up2 (up2 σ 12 (6 * (r - 1) + j) ((σ 1 k * σ 12 (6 * (r - 1) + j) - σ 2 k * σ 12 (6 * r + j)) % 97)) 12 (6 * r + j) ((σ 2 k * σ 12 (6 * (r - 1) + j) + σ 1 k * σ 12 (6 * r + j)) % 97)
def spJ (k r : Int) : Nat → Int → y_S → y_S
  | 0, _, σ => σ
  | f + 1, j, σ => if j < σ 60 0 then spJ k r f (j + 1) (spV σ k r j) else σ
theorem spJ_s {k r : Int} {f : Nat} {j : Int} {σ : y_S} (h : j < σ 60 0) : spJ k r (f + 1) j σ = spJ k r f (j + 1) (spV σ k r j) := by rw [spJ, if_pos h]
theorem spJ_e {k r : Int} {f : Nat} {j : Int} {σ : y_S} (h : ¬ j < σ 60 0) : spJ k r f j σ = σ := by
  cases f with
  | zero => rfl
  | succ f => rw [spJ, if_neg h]
def spK (σ : y_S) (col r : Int) : Int := mClr σ (σ 12 (6 * (r - 1) + col)) (σ 12 (6 * r + col))
def spN (τ : y_S) (k r : Int) : y_S := up2 (up2 (up2 τ 13 (τ 60 16) (r - 1)) 14 (τ 60 16) k) 60 16 (τ 60 16 + 1)
def spR (col : Int) : Nat → Int → y_S → Int × y_S
  | 0, _, σ => (0, σ)
  | f + 1, r, σ => if col < r then (if spK σ col r = 96 then (1, up2 σ 60 18 1) else spR col f (r - 1) (spN (spJ (spK σ col r) r 6 0 σ) (spK σ col r) r)) else (0, σ)
theorem spR_s {col : Int} {f : Nat} {r : Int} {σ : y_S} (h : col < r) (h2 : spK σ col r ≠ 96) : spR col (f + 1) r σ = spR col f (r - 1) (spN (spJ (spK σ col r) r 6 0 σ) (spK σ col r) r) := by rw [spR, if_pos h, if_neg h2]
theorem spR_x {col : Int} {f : Nat} {r : Int} {σ : y_S} (h : col < r) (h2 : spK σ col r = 96) : spR col (f + 1) r σ = (1, up2 σ 60 18 1) := by rw [spR, if_pos h, if_pos h2]
theorem spR_e {col : Int} {f : Nat} {r : Int} {σ : y_S} (h : ¬ col < r) : spR col f r σ = (0, σ) := by
  cases f with
  | zero => rfl
  | succ f => rw [spR, if_neg h]
def spC : Nat → Int → y_S → Int × y_S
  | 0, _, σ => (0, σ)
  | f + 1, col, σ => if col < σ 60 0 - 1 then (if (spR col 6 (σ 60 0 - 1) σ).1 = 1 then spR col 6 (σ 60 0 - 1) σ else spC f (col + 1) (spR col 6 (σ 60 0 - 1) σ).2) else (0, σ)
theorem spC_s {f : Nat} {col : Int} {σ υ : y_S} (h : col < σ 60 0 - 1) (h2 : spR col 6 (σ 60 0 - 1) σ = (0, υ)) : spC (f + 1) col σ = spC f (col + 1) υ := by
  rw [spC, if_pos h, h2, if_neg (show ¬ (0 : Int) = 1 by decide)]
theorem spC_x {f : Nat} {col : Int} {σ υ : y_S} (h : col < σ 60 0 - 1) (h2 : spR col 6 (σ 60 0 - 1) σ = (1, υ)) : spC (f + 1) col σ = (1, υ) := by
  rw [spC, if_pos h, h2, if_pos rfl]
theorem spC_e {f : Nat} {col : Int} {σ : y_S} (h : ¬ col < σ 60 0 - 1) : spC f col σ = (0, σ) := by
  cases f with
  | zero => rfl
  | succ f => rw [spC, if_neg h]
def sp0 (σ : y_S) : y_S := up2 (up2 (up2 (upT σ 12 (fillN (σ 12) (σ 11) 36)) 60 16 0) 60 17 1) 60 18 0
def spF (q : y_S) : y_S := upT q 15 (fillN (q 15) (fun l => q 12 (7 * l)) (q 60 0))
def oSplit (σ : y_S) : Int × y_S := if (spC 6 0 (sp0 σ)).1 = 1 then (-10 - (spC 6 0 (sp0 σ)).2 60 16, (spC 6 0 (sp0 σ)).2) else ((spC 6 0 (sp0 σ)).2 60 16, spF (spC 6 0 (sp0 σ)).2)
theorem oSplit_x {σ υ : y_S} (h : spC 6 0 (sp0 σ) = (1, υ)) : oSplit σ = (-10 - υ 60 16, υ) := by unfold oSplit; rw [h, if_pos rfl]
theorem oSplit_e {σ υ : y_S} (h : spC 6 0 (sp0 σ) = (0, υ)) : oSplit σ = (υ 60 16, spF υ) := by unfold oSplit; rw [h, if_neg (show ¬ (0 : Int) = 1 by decide)]
theorem spCount {n col r st : Int} (hn : n ≤ 6) (h0 : 0 ≤ col) (h1 : col ≤ r) (h2 : r ≤ n - 1) (h : 2 * st = col * (2 * n - 1 - col) + 2 * (n - 1 - r)) : 0 ≤ st ∧ st ≤ 15 ∧ (col < r → st ≤ 14) := by
  rcases (by omega : col = 0 ∨ col = 1 ∨ col = 2 ∨ col = 3 ∨ col = 4 ∨ col = 5) with e | e | e | e | e | e <;> subst e <;> omega
theorem spNext {n col : Int} (h : col ≤ n - 1) : col * (2 * n - 1 - col) + 2 * (n - 1 - col) = (col + 1) * (2 * n - 1 - (col + 1)) := by
  grind
/-- the steps that turn -/
def unC (f : Int → Int) : Nat → Int
  | 0 => 0
  | k + 1 => unC f k + if 0 < f (k : Int) then 1 else 0
theorem unC_r (f : Int → Int) : ∀ k : Nat, 0 ≤ unC f k ∧ unC f k ≤ (k : Int)
  | 0 => ⟨Int.le_refl _, Int.le_refl _⟩
  | k + 1 => by
    have := unC_r f k
    rw [unC]
    split <;> omega
def unW : Nat → y_S → y_S
  | 0, σ => σ
  | k + 1, σ => if σ 14 (k : Int) = 0 then unW k σ else unW k (up2 (up2 (up2 σ 19 (σ 60 21) (σ 13 (k : Int))) 20 (σ 60 21) (96 - σ 14 (k : Int))) 60 21 (σ 60 21 + 1))
def oUndo (σ : y_S) : Int × y_S := if σ 60 17 = 0 ∨ σ 60 18 ≠ 0 then (-3, σ) else if 10 < unC (σ 14) (σ 60 16).toNat then (-4, σ) else ((unW (σ 60 16).toNat (up2 σ 60 21 0)) 60 21, unW (σ 60 16).toNat (up2 σ 60 21 0))
