/-! THE REFERENCE IN PURE WORDS (6): probes, users, counts -/
def moF (w : Int) : Int := if w < 2 then w - 2 else w - 1
def mCm0 (σ : y_S) : y_S := upT (upT σ 8 (fillN (σ 8) (σ 3) 72)) 9 (fillN (σ 9) (fun k => mKn σ k (σ 60 41)) 72)
def mCm1 (σ : y_S) (h : Int) : y_S := if h ≤ 0 then mCm0 σ else up2 (mCm0 σ) 9 (σ 44 ((h - 1) / 4)) (mCm0 σ 9 (σ 44 ((h - 1) / 4)) + moF ((h - 1) % 4))
def mCom (σ : y_S) (h j : Int) : y_S := mGo (mEnt (mCm1 σ h) j) 1
/-- what a hypothesis' run asks -/
def mCmOk (σ : y_S) : Prop := mN σ ∧ mCr σ ∧ mTr (σ 1) (σ 2) ∧ mPl σ ∧ mSt σ ∧ mFa σ ∧ (0 ≤ σ 60 41 ∧ σ 60 41 ≤ 40) ∧ (∀ k : Int, 0 ≤ k → k < 72 → 0 ≤ σ 44 k ∧ σ 44 k ≤ 71) ∧ (0 ≤ σ 60 47 ∧ σ 60 47 ≤ 72 ∧ (σ 60 48 = 0 ∨ σ 60 48 = 1 + 4 * σ 60 47))
theorem mCmOk.same {σ τ : y_S} (h : mCmOk σ) (hs : mSame [8, 9, 10, 46, 51] σ τ) : mCmOk τ := by
  unfold mCmOk at h ⊢
  unfold mN mCr mPl mSt mFa at h ⊢
  rw [hs 60 (by decide), hs 1 (by decide), hs 2 (by decide), hs 4 (by decide), hs 3 (by decide), hs 6 (by decide), hs 39 (by decide), hs 44 (by decide)]
  exact h
theorem moF_r {w : Int} (h0 : 0 ≤ w) (h1 : w < 4) : -2 ≤ moF w ∧ moF w ≤ 2 := by unfold moF; split <;> omega
theorem mCm0_8 {σ : y_S} {k : Int} (h0 : 0 ≤ k) (h1 : k < 72) : mCm0 σ 8 k = σ 3 k := fillN_in h0 h1
theorem mCm0_9 {σ : y_S} {k : Int} (h0 : 0 ≤ k) (h1 : k < 72) : mCm0 σ 9 k = mKn σ k (σ 60 41) := fillN_in (f := σ 9) (g := fun k => mKn σ k (σ 60 41)) h0 h1
theorem mCm1_8 {σ : y_S} (h : Int) : mCm1 σ h 8 = mCm0 σ 8 := by
  unfold mCm1
  split
  · rfl
  · rw [up2_n _ _ _ (by decide)]
theorem mBy_cm1 {σ : y_S} (hc : mCmOk σ) {h : Int} (h0 : 0 ≤ h) (h1 : h < σ 60 48) : mBy (mCm1 σ h) := by
  obtain ⟨-, -, -, -, hS, hF, -, hM, hH⟩ := hc
  intro k a b
  have c1 := hS k a b
  have c2 := mKn_r hF k (σ 60 41)
  rw [mCm1_8, mCm0_8 a b]
  refine ⟨c1.1, ?_⟩
  unfold mCm1
  by_cases q : h ≤ 0
  · rw [if_pos q, mCm0_9 a b]; omega
  · rw [if_neg q, up2_s]
    have c3 := moF_r (w := (h - 1) % 4) (by omega) (by omega)
    have c4 := hM ((h - 1) / 4) (by omega) (by omega)
    by_cases q2 : k = σ 44 ((h - 1) / 4)
    · rw [q2, up1_s, mCm0_9 (by omega) (by omega)]
      have c5 := mKn_r hF (σ 44 ((h - 1) / 4)) (σ 60 41)
      omega
    · rw [up1_n _ _ q2, mCm0_9 a b]; omega
theorem mCm1_t {σ : y_S} (h : Int) {t : Nat} (h8 : t ≠ 8) (h9 : t ≠ 9) : mCm1 σ h t = σ t := by
  have e : mCm0 σ t = σ t := by unfold mCm0; rw [upT_n _ _ h9, upT_n _ _ h8]
  unfold mCm1
  split
  · exact e
  · rw [up2_n _ _ _ h9, e]
theorem mSame.com {ts : List Nat} {σ τ : y_S} (h : mSame ts σ τ) (h8 : 8 ∈ ts) (h9 : 9 ∈ ts) (h10 : 10 ∈ ts) (x j : Int) : mSame ts σ (mCom τ x j) := by
  have e : mSame ts σ (mCm1 τ x) := fun t ht => by
    have q8 : t ≠ 8 := fun q => ht (by rw [q]; exact h8)
    have q9 : t ≠ 9 := fun q => ht (by rw [q]; exact h9)
    rw [mCm1_t x q8 q9]; exact h t ht
  exact (e.uT (t := 10) h10).uT (t := 10) h10
theorem mCom_t {σ : y_S} (h j : Int) {t : Nat} (h8 : t ≠ 8) (h9 : t ≠ 9) (h10 : t ≠ 10) : mCom σ h j t = σ t := by
  have e : mCom σ h j t = mCm1 σ h t := by unfold mCom mGo mEnt; rw [upT_n _ _ h10, upT_n _ _ h10]
  rw [e, mCm1_t h h8 h9]
theorem mCom_r {σ : y_S} (h j : Int) {i : Int} (h0 : 0 ≤ i) (h1 : i < σ 60 0) : 0 ≤ mCom σ h j 10 i ∧ mCom σ h j 10 i ≤ 96 := by
  have e : mCm1 σ h 60 0 = σ 60 0 := by rw [mCm1_t h (by decide) (by decide)]
  have := mLi_go (σ := mEnt (mCm1 σ h) j) (mLi_ent (mCm1 σ h) j) 1 i h0 (by show i < mCm1 σ h 60 0; omega)
  exact this
/-- the cells that may be off -/
def prb (σ : y_S) : Nat → Int × (Int → Int)
  | 0 => (0, σ 44)
  | k + 1 => if mCell (σ 60 0) ((k : Int) / 6) ((k : Int) % 6) ∧ σ 4 (k : Int) < 0 then ((prb σ k).1 + 1, up1 (prb σ k).2 (prb σ k).1 (k : Int)) else prb σ k
theorem prb_y {σ : y_S} {k : Nat} (h : mCell (σ 60 0) ((k : Int) / 6) ((k : Int) % 6)) (h2 : σ 4 (k : Int) < 0) : prb σ (k + 1) = ((prb σ k).1 + 1, up1 (prb σ k).2 (prb σ k).1 (k : Int)) := by rw [prb, if_pos ⟨h, h2⟩]
theorem prb_n {σ : y_S} {k : Nat} (h : ¬ (mCell (σ 60 0) ((k : Int) / 6) ((k : Int) % 6) ∧ σ 4 (k : Int) < 0)) : prb σ (k + 1) = prb σ k := by rw [prb, if_neg h]
theorem prb_r (σ : y_S) : ∀ k : Nat, 0 ≤ (prb σ k).1 ∧ (prb σ k).1 ≤ (k : Int)
  | 0 => ⟨Int.le_refl _, Int.le_refl _⟩
  | k + 1 => by
    have := prb_r σ k
    rw [prb]
    split
    · show 0 ≤ (prb σ k).1 + 1 ∧ (prb σ k).1 + 1 ≤ _; omega
    · omega
def prS (σ : y_S) : y_S := upT (up2 σ 60 47 (prb σ 72).1) 44 (prb σ 72).2
def oProbing (σ : y_S) : Int × y_S := (1 + 4 * (prb σ 72).1, up2 (up2 (upT (up2 (prS σ) 60 48 (1 + 4 * (prb σ 72).1)) 46 (fillN (σ 46) (fun _ => 1) (1 + 4 * (prb σ 72).1))) 60 50 1) 60 49 0)
def prF (j i seen : Int) : Nat → Int → y_S → y_S
  | 0, _, σ => σ
  | f + 1, h, σ => if h < σ 60 48 then (if σ 46 h = 0 then prF j i seen f (h + 1) σ else prF j i seen f (h + 1) (up2 (mCom σ h j) 46 h (if mCom σ h j 10 i = seen then 1 else 0))) else σ
theorem prF_0 {j i seen : Int} {f : Nat} {h : Int} {σ : y_S} (h1 : h < σ 60 48) (h2 : σ 46 h = 0) : prF j i seen (f + 1) h σ = prF j i seen f (h + 1) σ := by rw [prF, if_pos h1, if_pos h2]
theorem prF_1 {j i seen : Int} {f : Nat} {h : Int} {σ : y_S} (h1 : h < σ 60 48) (h2 : σ 46 h ≠ 0) : prF j i seen (f + 1) h σ = prF j i seen f (h + 1) (up2 (mCom σ h j) 46 h (if mCom σ h j 10 i = seen then 1 else 0)) := by rw [prF, if_pos h1, if_neg h2]
theorem prF_e {j i seen : Int} {f : Nat} {h : Int} {σ : y_S} (h1 : ¬ h < σ 60 48) : prF j i seen f h σ = σ := by
  cases f with
  | zero => rfl
  | succ f => rw [prF, if_neg h1]
def mSeen (σ : y_S) (j : Int) : y_S := mGo (mEnt (mNow σ) j) 1
theorem mSame.seen {ts : List Nat} {σ : y_S} (h8 : 8 ∈ ts) (h9 : 9 ∈ ts) (h10 : 10 ∈ ts) (j : Int) : mSame ts σ (mSeen σ j) :=
  (((mSame.rf.uT (t := 8) h8).uT (t := 9) h9).uT (t := 10) h10).uT (t := 10) h10
def oProbe (σ : y_S) (j i : Int) : Int × y_S := if ¬ (mLane σ j ∧ mLane σ i) then (-1, σ) else if σ 60 50 = 0 then (-3, σ) else if σ 60 49 = 20 then (-4, σ) else (mSeen σ j 10 i, up2 (prF j i (mSeen σ j 10 i) 289 0 (mSeen σ j)) 60 49 (σ 60 49 + 1))
/-- the i-th of the held ones, or their number -/
def hlF (f : Int → Int) (i N : Int) : Nat → Int → Int → Int
  | 0, _, n => if i = -1 then n else -1
  | q + 1, h, n => if h < N then (if f h = 0 then hlF f i N q (h + 1) n else if n = i then h else hlF f i N q (h + 1) (n + 1)) else (if i = -1 then n else -1)
theorem hlF_0 {f : Int → Int} {i N : Int} {q : Nat} {h n : Int} (h1 : h < N) (h2 : f h = 0) : hlF f i N (q + 1) h n = hlF f i N q (h + 1) n := by rw [hlF, if_pos h1, if_pos h2]
theorem hlF_x {f : Int → Int} {i N : Int} {q : Nat} {h n : Int} (h1 : h < N) (h2 : f h ≠ 0) (h3 : n = i) : hlF f i N (q + 1) h n = h := by rw [hlF, if_pos h1, if_neg h2, if_pos h3]
theorem hlF_1 {f : Int → Int} {i N : Int} {q : Nat} {h n : Int} (h1 : h < N) (h2 : f h ≠ 0) (h3 : n ≠ i) : hlF f i N (q + 1) h n = hlF f i N q (h + 1) (n + 1) := by rw [hlF, if_pos h1, if_neg h2, if_neg h3]
theorem hlF_e {f : Int → Int} {i N : Int} {q : Nat} {h n : Int} (h1 : ¬ h < N) : hlF f i N q h n = if i = -1 then n else -1 := by
  cases q with
  | zero => rfl
  | succ q => rw [hlF, if_neg h1]
def oHeld (σ : y_S) (i : Int) : Int × y_S := (if σ 60 50 = 0 then -3 else hlF (σ 46) i (σ 60 48) 289 0 0, σ)
def nxH (j i : Int) : Nat → Int → Int → y_S → Int × y_S
  | 0, _, mo, σ => (mo, σ)
  | f + 1, h, mo, σ => if h < σ 60 48 then (if σ 46 h = 0 then nxH j i f (h + 1) mo σ else nxH j i f (h + 1) (if mo < mCom σ h j 51 (mCom σ h j 10 i) + 1 then mCom σ h j 51 (mCom σ h j 10 i) + 1 else mo) (up2 (mCom σ h j) 51 (mCom σ h j 10 i) (mCom σ h j 51 (mCom σ h j 10 i) + 1))) else (mo, σ)
theorem nxH_0 {j i : Int} {f : Nat} {h mo : Int} {σ : y_S} (h1 : h < σ 60 48) (h2 : σ 46 h = 0) : nxH j i (f + 1) h mo σ = nxH j i f (h + 1) mo σ := by rw [nxH, if_pos h1, if_pos h2]
theorem nxH_1 {j i : Int} {f : Nat} {h mo : Int} {σ : y_S} (h1 : h < σ 60 48) (h2 : σ 46 h ≠ 0) : nxH j i (f + 1) h mo σ = nxH j i f (h + 1) (if mo < mCom σ h j 51 (mCom σ h j 10 i) + 1 then mCom σ h j 51 (mCom σ h j 10 i) + 1 else mo) (up2 (mCom σ h j) 51 (mCom σ h j 10 i) (mCom σ h j 51 (mCom σ h j 10 i) + 1)) := by rw [nxH, if_pos h1, if_neg h2]
theorem nxH_e {j i : Int} {f : Nat} {h mo : Int} {σ : y_S} (h1 : ¬ h < σ 60 48) : nxH j i f h mo σ = (mo, σ) := by
  cases f with
  | zero => rfl
  | succ f => rw [nxH, if_neg h1]
def nx0 (σ : y_S) : y_S := upT σ 51 (fillN (σ 51) (fun _ => 0) 97)
/-- best, least, memory -/
def nxM (j : Int) : Nat → Int → Int → Int → y_S → Int × Int × y_S
  | 0, _, be, le, σ => (be, le, σ)
  | f + 1, i, be, le, σ => if i < σ 60 0 then (if le ≤ (nxH j i 289 0 0 (nx0 σ)).1 then nxM j f (i + 1) be le (nxH j i 289 0 0 (nx0 σ)).2 else nxM j f (i + 1) (10 * j + i) (nxH j i 289 0 0 (nx0 σ)).1 (nxH j i 289 0 0 (nx0 σ)).2) else (be, le, σ)
theorem nxM_0 {j : Int} {f : Nat} {i be le mo : Int} {σ τ : y_S} (h1 : i < σ 60 0) (h2 : nxH j i 289 0 0 (nx0 σ) = (mo, τ)) (h3 : le ≤ mo) : nxM j (f + 1) i be le σ = nxM j f (i + 1) be le τ := by rw [nxM, if_pos h1, h2, if_pos h3]
theorem nxM_1 {j : Int} {f : Nat} {i be le mo : Int} {σ τ : y_S} (h1 : i < σ 60 0) (h2 : nxH j i 289 0 0 (nx0 σ) = (mo, τ)) (h3 : ¬ le ≤ mo) : nxM j (f + 1) i be le σ = nxM j f (i + 1) (10 * j + i) mo τ := by rw [nxM, if_pos h1, h2, if_neg h3]
theorem nxM_e {j : Int} {f : Nat} {i be le : Int} {σ : y_S} (h1 : ¬ i < σ 60 0) : nxM j f i be le σ = (be, le, σ) := by
  cases f with
  | zero => rfl
  | succ f => rw [nxM, if_neg h1]
def nxJ : Nat → Int → Int → Int → y_S → Int × Int × y_S
  | 0, _, be, le, σ => (be, le, σ)
  | f + 1, j, be, le, σ => if j < σ 60 0 then nxJ f (j + 1) (nxM j 6 0 be le σ).1 (nxM j 6 0 be le σ).2.1 (nxM j 6 0 be le σ).2.2 else (be, le, σ)
theorem nxJ_s {f : Nat} {j be le be2 le2 : Int} {σ τ : y_S} (h1 : j < σ 60 0) (h2 : nxM j 6 0 be le σ = (be2, le2, τ)) : nxJ (f + 1) j be le σ = nxJ f (j + 1) be2 le2 τ := by rw [nxJ, if_pos h1, h2]
theorem nxJ_e {f : Nat} {j be le : Int} {σ : y_S} (h1 : ¬ j < σ 60 0) : nxJ f j be le σ = (be, le, σ) := by
  cases f with
  | zero => rfl
  | succ f => rw [nxJ, if_neg h1]
def oNext (σ : y_S) : Int × y_S := if σ 60 50 = 0 ∨ (oHeld σ (-1)).1 = 0 then (-3, σ) else ((nxJ 6 0 (-1) 1000 σ).1, (nxJ 6 0 (-1) 1000 σ).2.2)
/-- light spreads from a lane; users that it meets -/
def meS (u : Int → Int) (l : Int) (i : Nat) (q : Nat × Nat) : Nat × Nat := if (q.1 >>> i) &&& 3 = 0 then q else (q.1 ||| (3 <<< i), if u (6 * l + (i : Int)) < 0 then q.2 else q.2 ||| 2 ^ (u (6 * l + (i : Int))).toNat)
theorem meS_0 {u : Int → Int} {l : Int} {i a b : Nat} (h : (a >>> i) &&& 3 = 0) : meS u l i (a, b) = (a, b) := by unfold meS; rw [if_pos h]
theorem meS_1 {u : Int → Int} {l : Int} {i a b : Nat} (h : (a >>> i) &&& 3 ≠ 0) (h2 : u (6 * l + (i : Int)) < 0) : meS u l i (a, b) = (a ||| (3 <<< i), b) := by unfold meS; rw [if_neg h, if_pos h2]
theorem meS_2 {u : Int → Int} {l : Int} {i a b : Nat} (h : (a >>> i) &&& 3 ≠ 0) (h2 : ¬ u (6 * l + (i : Int)) < 0) : meS u l i (a, b) = (a ||| (3 <<< i), b ||| 2 ^ (u (6 * l + (i : Int))).toNat) := by unfold meS; rw [if_neg h, if_neg h2]
def meI (n : Int) (u : Int → Int) (l : Int) : Nat → Nat → Nat × Nat → Nat × Nat
  | 0, _, q => q
  | f + 1, i, q => if (i : Int) < n - 1 then meI n u l f (i + 2) (meS u l i q) else q
def meL (n : Int) (u : Int → Int) : Nat → Nat → Nat × Nat → Nat × Nat
  | 0, _, q => q
  | f + 1, l, q => if l < 12 then meL n u f (l + 1) (meI n u (l : Int) 3 (l % 2) q) else q
theorem meI_s {n : Int} {u : Int → Int} {l : Int} {f i : Nat} {q : Nat × Nat} (h : (i : Int) < n - 1) : meI n u l (f + 1) i q = meI n u l f (i + 2) (meS u l i q) := by rw [meI, if_pos h]
theorem meI_e {n : Int} {u : Int → Int} {l : Int} {f i : Nat} {q : Nat × Nat} (h : ¬ (i : Int) < n - 1) : meI n u l f i q = q := by
  cases f with
  | zero => rfl
  | succ f => rw [meI, if_neg h]
theorem meL_s {n : Int} {u : Int → Int} {f l : Nat} {q : Nat × Nat} (h : l < 12) : meL n u (f + 1) l q = meL n u f (l + 1) (meI n u (l : Int) 3 (l % 2) q) := by rw [meL, if_pos h]
theorem meL_e {n : Int} {u : Int → Int} {f l : Nat} {q : Nat × Nat} (h : ¬ l < 12) : meL n u f l q = q := by
  cases f with
  | zero => rfl
  | succ f => rw [meL, if_neg h]
def mMeet (σ : y_S) (lane : Nat) : Int := ((meL (σ 60 0) (σ 5) 12 0 (2 ^ lane, 0)).2 : Int)
def mUs (σ : y_S) : Prop := ∀ k : Int, 0 ≤ k → k < 72 → -1 ≤ σ 5 k ∧ σ 5 k ≤ 1
theorem meS_r {u : Int → Int} {l : Int} {i : Nat} {q : Nat × Nat} (hu : u (6 * l + (i : Int)) ≤ 1) (hi : i ≤ 4) (h1 : q.1 < 64) (h2 : q.2 < 4) : (meS u l i q).1 < 64 ∧ (meS u l i q).2 < 4 := by
  unfold meS
  split
  · exact ⟨h1, h2⟩
  · refine ⟨Nat.or_lt_two_pow (n := 6) h1 ?_, ?_⟩
    · rcases (by omega : i = 0 ∨ i = 1 ∨ i = 2 ∨ i = 3 ∨ i = 4) with e | e | e | e | e <;> subst e <;> decide
    · show (if _ then _ else _) < 4
      split
      · exact h2
      · refine Nat.or_lt_two_pow (n := 2) h2 ?_
        rcases (by omega : (u (6 * l + (i : Int))).toNat = 0 ∨ (u (6 * l + (i : Int))).toNat = 1) with e | e <;> rw [e] <;> decide
def meF (σ : y_S) : Nat → Nat → Int
  | 0, _ => -5
  | f + 1, l => if (l : Int) < σ 60 0 then (if mMeet σ l = 3 then (l : Int) else meF σ f (l + 1)) else -5
theorem meF_x {σ : y_S} {f l : Nat} (h : (l : Int) < σ 60 0) (h2 : mMeet σ l = 3) : meF σ (f + 1) l = (l : Int) := by rw [meF, if_pos h, if_pos h2]
theorem meF_s {σ : y_S} {f l : Nat} (h : (l : Int) < σ 60 0) (h2 : mMeet σ l ≠ 3) : meF σ (f + 1) l = meF σ f (l + 1) := by rw [meF, if_pos h, if_neg h2]
theorem meF_e {σ : y_S} {f l : Nat} (h : ¬ (l : Int) < σ 60 0) : meF σ f l = -5 := by
  cases f with
  | zero => rfl
  | succ f => rw [meF, if_neg h]
def oMeeting (σ : y_S) : Int × y_S := (meF σ 6 0, σ)
def luU (σ : y_S) (l : Int) : Prop := ∃ k : Int, 6 * l ≤ k ∧ k < 6 * l + 6 ∧ (0 < σ 3 k ∨ 0 ≤ σ 4 k)
noncomputable def luF (σ : y_S) : Nat → Int
  | 0 => 0
  | l + 1 => luF σ l + if pB (luU σ (l : Int)) = true then 1 else 0
theorem luF_r (σ : y_S) : ∀ l : Nat, 0 ≤ luF σ l ∧ luF σ l ≤ (l : Int)
  | 0 => ⟨Int.le_refl _, Int.le_refl _⟩
  | l + 1 => by
    have := luF_r σ l
    rw [luF]
    split <;> omega
def deC (f : Int → Int) : Nat → Int
  | 0 => 0
  | k + 1 => deC f k + if f (k : Int) < 0 then 0 else 1
theorem deC_r (f : Int → Int) : ∀ k : Nat, 0 ≤ deC f k ∧ deC f k ≤ (k : Int)
  | 0 => ⟨Int.le_refl _, Int.le_refl _⟩
  | k + 1 => by
    have := deC_r f k
    rw [deC]
    split <;> omega
noncomputable def oCount (σ : y_S) (w : Int) : Int × y_S := (if w = 0 then σ 60 0 else if w = 1 then deC (σ 4) 72 else if w = 2 then σ 60 21 else if w = 3 then σ 60 41 else if w = 4 then σ 60 42 else if w = 5 then σ 60 30 else if w = 6 then luF σ 12 else if w = 7 then σ 60 7 else -1, σ)
theorem up2_up2 (σ : y_S) (t : Nat) (i v w : Int) : up2 (up2 σ t i v) t i w = up2 σ t i w := by
  rw [up2_2, up2_upT]
  congr 1
  funext j
  unfold up1
  split <;> rfl
theorem prb_up (σ : y_S) (a r : Int → Int) (c k d : Int) : up2 (up2 (upT (up2 σ 60 47 c) 44 r) 44 c k) 60 47 d = upT (up2 σ 60 47 d) 44 (up1 r c k) := by
  rw [up2_T, up2_cT _ (by decide), up2_up2]
theorem grp_up {σ : y_S} {h v x : Int} (hg : ∀ u : Int, 0 ≤ u → u < 97 → 0 ≤ σ 51 u ∧ σ 51 u ≤ h) (hx0 : 0 ≤ x) (hx : x ≤ h + 1) : ∀ u : Int, 0 ≤ u → u < 97 → 0 ≤ up2 σ 51 v x 51 u ∧ up2 σ 51 v x 51 u ≤ h + 1 := by
  intro u h0 h1
  have := hg u h0 h1
  rw [up2_s]
  by_cases q : u = v
  · rw [q, up1_s]; exact ⟨hx0, hx⟩
  · rw [up1_n _ _ q]; omega
theorem meI_r {n : Int} {u : Int → Int} {l : Int} (hn : n ≤ 6) (hu : ∀ i : Int, 0 ≤ i → i ≤ 4 → u (6 * l + i) ≤ 1) : ∀ (f i : Nat) (q : Nat × Nat), q.1 < 64 → q.2 < 4 → (meI n u l f i q).1 < 64 ∧ (meI n u l f i q).2 < 4
  | 0, _, _, h1, h2 => ⟨h1, h2⟩
  | f + 1, i, q, h1, h2 => by
    rw [meI]
    split
    · have := meS_r (q := q) (hu (i : Int) (by omega) (by omega)) (show i ≤ 4 by omega) h1 h2
      exact meI_r hn hu f _ _ this.1 this.2
    · exact ⟨h1, h2⟩
theorem meL_r {n : Int} {u : Int → Int} (hn : n ≤ 6) (hu : ∀ k : Int, 0 ≤ k → k < 72 → u k ≤ 1) : ∀ (f l : Nat) (q : Nat × Nat), q.1 < 64 → q.2 < 4 → (meL n u f l q).1 < 64 ∧ (meL n u f l q).2 < 4
  | 0, _, _, h1, h2 => ⟨h1, h2⟩
  | f + 1, l, q, h1, h2 => by
    rw [meL]
    split
    · have := meI_r (l := (l : Int)) hn (fun i h0 h3 => hu _ (by omega) (by omega)) 3 (l % 2) q h1 h2
      exact meL_r hn hu f _ _ this.1 this.2
    · exact ⟨h1, h2⟩
theorem mMeet_r {σ : y_S} (hN : mN σ) (hUs : mUs σ) {lane : Nat} (h : lane ≤ 5) : 0 ≤ mMeet σ lane ∧ mMeet σ lane ≤ 3 := by
  have h5 : 2 ^ lane ≤ 2 ^ 5 := Nat.pow_le_pow_right (by decide) h
  have := (meL_r (n := σ 60 0) (u := σ 5) hN.2 (fun k h0 h1 => (hUs k h0 h1).2) 12 0 (2 ^ lane, 0) (show 2 ^ lane < 64 by omega) (show 0 < 4 by decide)).2
  unfold mMeet
  omega
theorem hlF_r {f : Int → Int} {N : Int} : ∀ (q : Nat) (h n : Int), 0 ≤ h → 0 ≤ n → -1 ≤ hlF f (-1) N q h n ∧ hlF f (-1) N q h n ≤ h + n + 2 * (q : Int)
  | 0, h, n, h0, n0 => by rw [hlF]; split <;> omega
  | q + 1, h, n, h0, n0 => by
    have a := hlF_r (f := f) (N := N) q (h + 1) n (by omega) n0
    have b := hlF_r (f := f) (N := N) q (h + 1) (n + 1) (by omega) (by omega)
    rw [hlF]
    split
    · split
      · omega
      · split <;> omega
    · split <;> omega
theorem oHeld_r (σ : y_S) : -3 ≤ (oHeld σ (-1)).1 ∧ (oHeld σ (-1)).1 ≤ 578 := by
  have := hlF_r (f := σ 46) (N := σ 60 48) 289 0 0 (by decide) (by decide)
  unfold oHeld
  show -3 ≤ (if _ then _ else _) ∧ (if _ then _ else _) ≤ _
  split <;> omega
