/-! THE REFERENCE IN PURE WORDS (5): findings, runs, probes -/
def kBest (fc ff : Int → Int) (cell tick : Int) : Nat → Int
  | 0 => -1
  | k + 1 => if fc (k : Int) = cell ∧ ff (k : Int) ≤ tick ∧ (kBest fc ff cell tick k < 0 ∨ ff (kBest fc ff cell tick k) ≤ ff (k : Int)) then (k : Int) else kBest fc ff cell tick k
theorem kBest_r (fc ff : Int → Int) (cell tick : Int) : ∀ k : Nat, -1 ≤ kBest fc ff cell tick k ∧ kBest fc ff cell tick k < (k : Int)
  | 0 => ⟨Int.le_refl _, by show (-1 : Int) < 0; decide⟩
  | k + 1 => by
    have := kBest_r fc ff cell tick k
    rw [kBest]
    split <;> omega
def mKn (σ : y_S) (cell tick : Int) : Int := if kBest (σ 38) (σ 40) cell tick (σ 60 43).toNat < 0 then 0 else σ 39 (kBest (σ 38) (σ 40) cell tick (σ 60 43).toNat)
def mFa (σ : y_S) : Prop := (0 ≤ σ 60 43 ∧ σ 60 43 ≤ 60) ∧ ∀ k : Int, 0 ≤ k → k < 60 → -8 ≤ σ 39 k ∧ σ 39 k ≤ 8
theorem mKn_r {σ : y_S} (h : mFa σ) (cell tick : Int) : -8 ≤ mKn σ cell tick ∧ mKn σ cell tick ≤ 8 := by
  have a := kBest_r (σ 38) (σ 40) cell tick (σ 60 43).toNat
  unfold mKn
  split
  · omega
  · exact h.2 _ (by omega) (by have := h.1; omega)
theorem mFa_same {σ τ : y_S} (e6 : τ 60 = σ 60) (e : τ 39 = σ 39) (h : mFa σ) : mFa τ := by unfold mFa; rw [e6, e]; exact h
/-- places from a on are g's -/
def fillA (f g : Int → Int) (a n : Int) : Int → Int := fun i => if a ≤ i ∧ i < a + n then g (i - a) else f i
theorem fillA_0 (f g : Int → Int) (a : Int) : fillA f g a 0 = f := by
  funext i; unfold fillA; rw [if_neg (by omega)]
theorem fillA_s {f g : Int → Int} {a n v : Int} (h : 0 ≤ n) (hv : v = g n) : up1 (fillA f g a n) (a + n) v = fillA f g a (n + 1) := by
  funext i
  unfold up1 fillA
  by_cases h1 : i = a + n
  · subst h1; rw [if_pos rfl, if_pos (by omega), hv, show a + n - a = n by omega]
  · rw [if_neg h1]
    by_cases h2 : a ≤ i ∧ i < a + n
    · rw [if_pos h2, if_pos (by omega)]
    · rw [if_neg h2, if_neg (by omega)]
theorem fillA_in {f g : Int → Int} {a n i : Int} (h0 : a ≤ i) (h1 : i < a + n) : fillA f g a n i = g (i - a) := by unfold fillA; rw [if_pos ⟨h0, h1⟩]
theorem fillA_out {f g : Int → Int} {a n i : Int} (h : ¬ (a ≤ i ∧ i < a + n)) : fillA f g a n i = f i := by unfold fillA; rw [if_neg h]
theorem up2_fillA {σ : y_S} {t : Nat} {f g : Int → Int} {a i v : Int} (h : 0 ≤ i) (hv : v = g i) : up2 (upT σ t (fillA f g a i)) t (a + i) v = upT σ t (fillA f g a (i + 1)) := by
  rw [up2_T, fillA_s h hv]
theorem fillA_00 {σ : y_S} {t : Nat} {g : Int → Int} {a : Int} : σ = upT σ t (fillA (σ t) g a 0) := by rw [fillA_0, upT_self]
def mRw0 (σ : y_S) (run : Int) : y_S := upT (upT σ 8 (fillN (σ 8) (fun k => σ 37 (72 * run + k)) 72)) 9 (fillN (σ 9) (fun k => mKn σ k run) 72)
def mRw1 (σ : y_S) (run : Int) : y_S := upT (mRw0 σ run) 10 (fillN (σ 10) (fun l => σ 35 (6 * run + l)) (σ 60 0))
def mRew (σ : y_S) (run : Int) : y_S := mGo (mRw1 σ run) 1
/-- what a rework asks -/
def mRwOk (σ : y_S) : Prop := mN σ ∧ mCr σ ∧ mTr (σ 1) (σ 2) ∧ mPl σ ∧ mFa σ ∧ (0 ≤ σ 60 41 ∧ σ 60 41 ≤ 40) ∧ (∀ k : Int, 0 ≤ k → k < 2880 → 0 ≤ σ 37 k ∧ σ 37 k ≤ 95) ∧ ∀ k : Int, 0 ≤ k → k < 240 → 0 ≤ σ 35 k ∧ σ 35 k ≤ 96
theorem mRwOk.same {σ τ : y_S} (h : mRwOk σ) (hs : mSame [8, 9, 10] σ τ) : mRwOk τ := by
  unfold mRwOk at h ⊢
  unfold mN mCr mPl mFa at h ⊢
  rw [hs 60 (by decide), hs 1 (by decide), hs 2 (by decide), hs 4 (by decide), hs 39 (by decide), hs 37 (by decide), hs 35 (by decide)]
  exact h
theorem mBy_rw0 {σ : y_S} (h : mRwOk σ) {run : Int} (h0 : 0 ≤ run) (h1 : run < 40) : mBy (mRw0 σ run) := by
  intro k a b
  obtain ⟨-, -, -, -, hF, -, hr, -⟩ := h
  have e1 : mRw0 σ run 8 k = σ 37 (72 * run + k) := fillN_in (f := σ 8) (g := fun k => σ 37 (72 * run + k)) a b
  have e2 : mRw0 σ run 9 k = mKn σ k run := fillN_in (f := σ 9) (g := fun k => mKn σ k run) a b
  rw [e1, e2]
  have c1 := hr (72 * run + k) (by omega) (by omega)
  have c2 := mKn_r hF k run
  omega
theorem mLi_rw1 {σ : y_S} (h : mRwOk σ) {run : Int} (h0 : 0 ≤ run) (h1 : run < 40) : mLi (σ 60 0) (mRw1 σ run 10) := by
  intro i a b
  obtain ⟨hN, -, -, -, -, -, -, hr⟩ := h
  have e1 : mRw1 σ run 10 i = σ 35 (6 * run + i) := fillN_in (f := σ 10) (g := fun l => σ 35 (6 * run + l)) a b
  rw [e1]
  exact hr _ (by omega) (by omega)
theorem mSame.rew {σ τ : y_S} (h : mSame [8, 9, 10] σ τ) (run : Int) : mSame [8, 9, 10] σ (mRew τ run) :=
  (((h.uT (t := 8) (by decide)).uT (t := 9) (by decide)).uT (t := 10) (by decide)).uT (t := 10) (by decide)
theorem mRew_r {σ : y_S} (h : mRwOk σ) {run : Int} (h0 : 0 ≤ run) (h1 : run < 40) : mLi (σ 60 0) (mRew σ run 10) := mLi_go (σ := mRw1 σ run) (mLi_rw1 h h0 h1) 1
def oReworked (σ : y_S) (r i : Int) : Int × y_S := if ¬ ((0 ≤ r ∧ r < σ 60 41) ∧ mLane σ i) then (-1, σ) else (mRew σ r 10 i, mRew σ r)
def sinOk (τ : y_S) (r : Int) : Prop := ∀ l : Int, 0 ≤ l → l < τ 60 0 → τ 10 l = τ 36 (6 * r + l)
noncomputable def sinF : Nat → Int → y_S → Int × y_S
  | 0, _, σ => (-5, σ)
  | f + 1, r, σ => if r < σ 60 41 then (if pB (sinOk (mRew σ r) r) = true then sinF f (r + 1) (mRew σ r) else (r, mRew σ r)) else (-5, σ)
theorem sinF_s {f : Nat} {r : Int} {σ : y_S} (h : r < σ 60 41) (h2 : sinOk (mRew σ r) r) : sinF (f + 1) r σ = sinF f (r + 1) (mRew σ r) := by rw [sinF, if_pos h, if_pos (pB_t.mpr h2)]
theorem sinF_x {f : Nat} {r : Int} {σ : y_S} (h : r < σ 60 41) (h2 : ¬ sinOk (mRew σ r) r) : sinF (f + 1) r σ = (r, mRew σ r) := by rw [sinF, if_pos h, if_neg (pB_n h2)]
theorem sinF_e {f : Nat} {r : Int} {σ : y_S} (h : ¬ r < σ 60 41) : sinF f r σ = (-5, σ) := by
  cases f with
  | zero => rfl
  | succ f => rw [sinF, if_neg h]
noncomputable def oSince (σ : y_S) : Int × y_S := sinF 40 0 σ
/-- a long's digits to the base 97 -/
def rq (x : Int) : Nat → Int
  | 0 => x
  | k + 1 => (rq x k).tdiv 97
theorem tdiv97_b {a : Int} (h : R64 a) : R64 (a.tdiv 97) := by
  by_cases h0 : 0 ≤ a
  · rw [Int.tdiv_eq_ediv_of_nonneg h0]; omega
  · have e : a.tdiv 97 = -((-a) / 97) := by rw [← Int.tdiv_eq_ediv_of_nonneg (by omega), Int.neg_tdiv, Int.neg_neg]
    rw [e]; omega
theorem rq_r {x : Int} (h : R64 x) : ∀ k : Nat, R64 (rq x k)
  | 0 => h
  | k + 1 => tdiv97_b (rq_r h k)
theorem rq_0 {x : Int} (h : 0 ≤ x) : ∀ k : Nat, 0 ≤ rq x k
  | 0 => h
  | k + 1 => by rw [rq, Int.tdiv_eq_ediv_of_nonneg (rq_0 h k)]; have := rq_0 h k; omega
def rIn (x : Int) : Int → Int := fun l => (rq x l.toNat).tmod 97
def mRun0 (σ : y_S) (x : Int) : y_S := upT σ 10 (fillN (σ 10) (rIn x) (σ 60 0))
def mRun1 (σ : y_S) (x : Int) : y_S := upT (upT (mRun0 σ x) 35 (fillA (σ 35) (mRun0 σ x 10) (6 * σ 60 41) (σ 60 0))) 37 (fillA (σ 37) (σ 3) (72 * σ 60 41) 72)
def mRun2 (σ : y_S) (x : Int) : y_S := mGo (mNow (mRun1 σ x)) 1
def oRun (σ : y_S) (x : Int) : Int × y_S := if x < 0 ∨ rq x (σ 60 0).toNat ≠ 0 then (-2, mRun0 σ x) else if σ 60 41 = 40 then (-4, mRun0 σ x) else (σ 60 41, up2 (upT (mRun2 σ x) 36 (fillA (σ 36) (mRun2 σ x 10) (6 * σ 60 41) (σ 60 0))) 60 41 (σ 60 41 + 1))
theorem rIn_r {x : Int} (h : 0 ≤ x) (l : Int) : 0 ≤ rIn x l ∧ rIn x l ≤ 96 := by
  unfold rIn
  rw [Int.tmod_eq_emod_of_nonneg (rq_0 h _)]
  omega
theorem mLi_run {σ : y_S} {x : Int} (h : 0 ≤ x) : mLi (σ 60 0) (mRun0 σ x 10) := by
  intro i a b
  have e1 : mRun0 σ x 10 i = rIn x i := fillN_in a b
  rw [e1]
  exact rIn_r h i
