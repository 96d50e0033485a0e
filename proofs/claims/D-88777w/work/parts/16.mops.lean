/-! THE REFERENCE IN PURE WORDS (2): the ops -/
def oTurn (σ : y_S) (k w : Int) : Int × y_S := (if w = 0 then σ 1 (k % 96) else if w = 1 then σ 2 (k % 96) else -1, σ)
def oSet (σ : y_S) (l i k : Int) : Int × y_S := if ¬ mCell (σ 60 0) l i then (-1, σ) else if ¬ (0 ≤ k ∧ k ≤ 95) then (-2, σ) else if σ 60 42 = 60 then (-4, σ) else (σ 3 (6 * l + i), up2 (up2 σ 3 (6 * l + i) k) 60 42 (σ 60 42 + 1))
def oDies (σ : y_S) (l i k : Int) : Int × y_S := if ¬ mCell (σ 60 0) l i then (-1, σ) else if ¬ (0 ≤ k ∧ k ≤ 95) then (-2, σ) else (if σ 4 (6 * l + i) < 0 then 1 else 0, up2 σ 4 (6 * l + i) k)
def oMend (σ : y_S) (l i : Int) : Int × y_S := if ¬ mCell (σ 60 0) l i then (-1, σ) else if σ 4 (6 * l + i) < 0 then (-3, σ) else (σ 4 (6 * l + i), up2 σ 4 (6 * l + i) (-1))
def oCell (σ : y_S) (l i w : Int) : Int × y_S := if ¬ mCell (σ 60 0) l i then (-1, σ) else (if w = 0 then σ 3 (6 * l + i) else if w = 1 then σ 4 (6 * l + i) else if w = 2 then mHe (mNow σ) l i else if w = 3 then mTt (mNow σ) l i else if w = 4 then σ 5 (6 * l + i) else -1, mNow σ)
abbrev mLane (σ : y_S) (i : Int) : Prop := 0 ≤ i ∧ i < σ 60 0
def mTab (σ : y_S) (col : Int) : y_S := mGo (mEnt (mNow σ) col) 0
def oTable (σ : y_S) (r col : Int) : Int × y_S := if ¬ (mLane σ r ∧ mLane σ col) then (-1, σ) else (mTab σ col 10 r, mTab σ col)
def oEntry (σ : y_S) (r col v : Int) : Int × y_S := if ¬ (mLane σ r ∧ mLane σ col) then (-1, σ) else if ¬ (0 ≤ v ∧ v ≤ 96) then (-2, σ) else (σ 11 (6 * r + col), up2 σ 11 (6 * r + col) v)
def oCreep (σ : y_S) (n : Int) : Int × y_S := if ¬ (1 ≤ n ∧ n ≤ 99) then (-2, σ) else (σ 60 7, up2 σ 60 7 n)
def oOffset (σ : y_S) (l i n : Int) : Int × y_S := if ¬ mCell (σ 60 0) l i then (-1, σ) else if ¬ (-8 ≤ n ∧ n ≤ 8) then (-2, σ) else (σ 6 (6 * l + i), up2 σ 6 (6 * l + i) n)
def oClaim (σ : y_S) (u l i : Int) : Int × y_S := if ¬ (mCell (σ 60 0) l i ∧ -1 ≤ u ∧ u ≤ 1) then (-5, σ) else if 0 ≤ u ∧ σ 5 (6 * l + i) = 1 - u then (-3, σ) else (σ 5 (6 * l + i), up2 σ 5 (6 * l + i) u)
def oStep (σ : y_S) (i w : Int) : Int × y_S := (if σ 60 17 = 0 ∨ ¬ (0 ≤ w ∧ w ≤ 2) then -1 else if w = 2 then (if σ 60 18 ≠ 0 ∨ ¬ mLane σ i then -1 else σ 15 i) else if ¬ (0 ≤ i ∧ i ≤ σ 60 16 - 1) then -1 else if w = 0 then σ 13 i else σ 14 i, σ)
def oWork (σ : y_S) (i w : Int) : Int × y_S := (if ¬ (0 ≤ i ∧ i ≤ σ 60 21 - 1) then -1 else if w = 0 then σ 19 i else if w = 1 then σ 20 i else -1, σ)
def oOut (σ : y_S) (r i : Int) : Int × y_S := (if (0 ≤ r ∧ r < σ 60 41) ∧ mLane σ i then σ 36 (6 * r + i) else -1, σ)
def oFound (σ : y_S) (l i n tk : Int) : Int × y_S := if ¬ mCell (σ 60 0) l i then (-1, σ) else if ¬ (-8 ≤ n ∧ n ≤ 8) ∨ ¬ (0 ≤ tk ∧ tk ≤ σ 60 41) then (-2, σ) else if σ 60 42 = 60 then (-4, σ) else (σ 60 42 + 1, up2 (up2 (up2 (up2 (up2 σ 38 (σ 60 43) (6 * l + i)) 39 (σ 60 43) n) 40 (σ 60 43) tk) 60 43 (σ 60 43 + 1)) 60 42 (σ 60 42 + 1))
def mSt (σ : y_S) : Prop := ∀ k : Int, 0 ≤ k → k < 72 → (0 ≤ σ 3 k ∧ σ 3 k ≤ 95) ∧ (-8 ≤ σ 6 k ∧ σ 6 k ≤ 8)
def mWl (σ : y_S) : Prop := ∀ k : Int, 0 ≤ k → k < 11 → (0 ≤ σ 19 k ∧ σ 19 k ≤ 4) ∧ (0 ≤ σ 20 k ∧ σ 20 k ≤ 95)
def mTd (σ : y_S) : Prop := ∀ k : Int, 0 ≤ k → k < 36 → 0 ≤ σ 11 k ∧ σ 11 k ≤ 96
def mSig (σ : y_S) : Int := if σ 60 31 < σ 60 30 then σ 23 (σ 60 31) else -1
theorem mBy_now {σ : y_S} (h : mSt σ) : mBy (mNow σ) := by
  intro k h0 h1
  have a := h k h0 h1
  have e1 : mNow σ 8 k = σ 3 k := fillN_in h0 h1
  have e2 : mNow σ 9 k = σ 6 k := fillN_in h0 h1
  rw [e1, e2]
  omega
theorem mLi_ent (σ : y_S) (lane : Int) : mLi (σ 60 0) (mEnt σ lane 10) := by
  intro i h0 h1
  have e1 : mEnt σ lane 10 i = if i = lane then 1 else 0 := fillN_in (f := σ 10) (g := fun i => if i = lane then 1 else 0) h0 h1
  rw [e1]
  split <;> omega
theorem mLi_go {σ : y_S} (h : mLi (σ 60 0) (σ 10)) (tr : Int) : mLi (σ 60 0) (mGo σ tr 10) := goL_r _ _ _ h
theorem mTab_r (σ : y_S) (col : Int) {r : Int} (h0 : 0 ≤ r) (h1 : r < σ 60 0) : 0 ≤ mTab σ col 10 r ∧ mTab σ col 10 r ≤ 96 := mLi_go (σ := mEnt (mNow σ) col) (mLi_ent (mNow σ) col) 0 r h0 h1
/-- the sum of products of two columns -/
def sumR (f : Int → Int) (a b : Int) : Nat → Int
  | 0 => 0
  | k + 1 => sumR f a b k + f (6 * (k : Int) + a) * f (6 * (k : Int) + b)
theorem sumR_r {σ : y_S} (hTd : mTd σ) {a b : Int} (ha0 : 0 ≤ a) (ha : a < 6) (hb0 : 0 ≤ b) (hb : b < 6) : ∀ k : Nat, k ≤ 6 → 0 ≤ sumR (σ 11) a b k ∧ sumR (σ 11) a b k ≤ 9216 * (k : Int)
  | 0, _ => ⟨Int.le_refl _, by show (0 : Int) ≤ _; omega⟩
  | k + 1, h => by
    have ih := sumR_r hTd ha0 ha hb0 hb k (by omega)
    have h1 := mul96 (hTd (6 * (k : Int) + a) (by omega) (by omega)) (hTd (6 * (k : Int) + b) (by omega) (by omega))
    rw [sumR]
    omega
def mRt (σ : y_S) : Prop := ∀ a b : Int, 0 ≤ a → a < σ 60 0 → 0 ≤ b → b < σ 60 0 → sumR (σ 11) a b (σ 60 0).toNat % 97 = if a = b then 1 else 0
noncomputable def oRight (σ : y_S) : Int × y_S := (@ite _ (mRt σ) (Classical.propDecidable _) 1 0, σ)
theorem oRight_1 {σ : y_S} (h : mRt σ) : oRight σ = (1, σ) := by unfold oRight; rw [if_pos h]
theorem oRight_0 {σ : y_S} (h : ¬ mRt σ) : oRight σ = (0, σ) := by unfold oRight; rw [if_neg h]
/-- the least turn that clears the lower of two; 96: none -/
def clr (c s : Int → Int) (x y : Int) : Nat → Int → Int
  | 0, k => k
  | f + 1, k => if k < 96 ∧ (s k * x + c k * y) % 97 ≠ 0 then clr c s x y f (k + 1) else k
theorem clr_s {c s : Int → Int} {x y : Int} {f : Nat} {k : Int} (h : k < 96) (h2 : (s k * x + c k * y) % 97 ≠ 0) : clr c s x y (f + 1) k = clr c s x y f (k + 1) := by
  rw [clr, if_pos ⟨h, h2⟩]
theorem clr_e {c s : Int → Int} {x y : Int} {f : Nat} {k : Int} (h : ¬ (k < 96 ∧ (s k * x + c k * y) % 97 ≠ 0)) : clr c s x y f k = k := by
  cases f with
  | zero => rfl
  | succ f => rw [clr, if_neg h]
def mClr (σ : y_S) (x y : Int) : Int := clr (σ 1) (σ 2) x y 96 0
theorem clr_r {c s : Int → Int} {x y : Int} : ∀ (f : Nat) (k : Int), 0 ≤ k → k ≤ 96 → 0 ≤ clr c s x y f k ∧ clr c s x y f k ≤ 96
  | 0, k, h0, h1 => ⟨h0, h1⟩
  | f + 1, k, h0, h1 => by
    rw [clr]
    split
    · exact clr_r f (k + 1) (by omega) (by omega)
    · exact ⟨h0, h1⟩
theorem mClr_r (σ : y_S) (x y : Int) : 0 ≤ mClr σ x y ∧ mClr σ x y ≤ 96 := clr_r 96 0 (by decide) (by decide)
def takeI (col : Int) : Nat → Int → Int → y_S → Int × y_S
  | 0, _, o, σ => (o, σ)
  | f + 1, r, o, σ => if r < σ 60 0 then takeI col f (r + 1) (if mTab σ col 11 (6 * r + col) = mTab σ col 10 r then o else 1) (up2 (mTab σ col) 11 (6 * r + col) (mTab σ col 10 r)) else (o, σ)
def takeO : Nat → Int → Int → y_S → Int × y_S
  | 0, _, o, σ => (o, σ)
  | f + 1, col, o, σ => if col < σ 60 0 then takeO f (col + 1) (takeI col 6 0 o σ).1 (takeI col 6 0 o σ).2 else (o, σ)
def oTake (σ : y_S) : Int × y_S := takeO 6 0 0 σ
theorem takeI_s {col : Int} {f : Nat} {r o : Int} {σ : y_S} (h : r < σ 60 0) : takeI col (f + 1) r o σ = takeI col f (r + 1) (if mTab σ col 11 (6 * r + col) = mTab σ col 10 r then o else 1) (up2 (mTab σ col) 11 (6 * r + col) (mTab σ col 10 r)) := by rw [takeI, if_pos h]
theorem takeI_e {col : Int} {f : Nat} {r o : Int} {σ : y_S} (h : ¬ r < σ 60 0) : takeI col f r o σ = (o, σ) := by
  cases f with
  | zero => rfl
  | succ f => rw [takeI, if_neg h]
theorem takeO_s {f : Nat} {col o : Int} {σ : y_S} (h : col < σ 60 0) : takeO (f + 1) col o σ = takeO f (col + 1) (takeI col 6 0 o σ).1 (takeI col 6 0 o σ).2 := by rw [takeO, if_pos h]
theorem takeO_e {f : Nat} {col o : Int} {σ : y_S} (h : ¬ col < σ 60 0) : takeO f col o σ = (o, σ) := by
  cases f with
  | zero => rfl
  | succ f => rw [takeO, if_neg h]
/-- two memories that differ in some rows alone -/
def mSame (ts : List Nat) (σ τ : y_S) : Prop := ∀ t : Nat, t ∉ ts → τ t = σ t
theorem mSame.rf {ts : List Nat} {σ : y_S} : mSame ts σ σ := fun _ _ => rfl
theorem mSame.tr {ts : List Nat} {σ τ υ : y_S} (h : mSame ts σ τ) (h2 : mSame ts τ υ) : mSame ts σ υ := fun t ht => (h2 t ht).trans (h t ht)
theorem mSame.u2 {ts : List Nat} {σ τ : y_S} (h : mSame ts σ τ) {t : Nat} {i v : Int} (ht : t ∈ ts) : mSame ts σ (up2 τ t i v) := fun u hu => by
  have q : u ≠ t := fun q => hu (by rw [q]; exact ht)
  rw [up2_n _ _ _ q]; exact h u hu
theorem mSame.uT {ts : List Nat} {σ τ : y_S} (h : mSame ts σ τ) {t : Nat} {r : Int → Int} (ht : t ∈ ts) : mSame ts σ (upT τ t r) := fun u hu => by
  have q : u ≠ t := fun q => hu (by rw [q]; exact ht)
  rw [upT_n _ _ q]; exact h u hu
theorem mSame.tab {σ τ : y_S} (h : mSame [8, 9, 10, 11] σ τ) (col : Int) : mSame [8, 9, 10, 11] σ (mTab τ col) :=
  (((h.uT (t := 8) (by decide)).uT (t := 9) (by decide)).uT (t := 10) (by decide)).uT (t := 10) (by decide)
