/-! WHAT HOLDS OF THE REFERENCE'S MEMORY BETWEEN CALLS -/
def mRange : Nat → Option (Int × Int × Int)
  | 1 => some (96, 0, 96)
  | 2 => some (96, 0, 96)
  | 3 => some (72, 0, 95)
  | 4 => some (72, -1, 95)
  | 5 => some (72, -1, 1)
  | 6 => some (72, -8, 8)
  | 11 => some (36, 0, 96)
  | 13 => some (15, 0, 4)
  | 14 => some (15, 0, 95)
  | 19 => some (11, 0, 4)
  | 20 => some (11, 0, 95)
  | 23 => some (100, 0, 255)
  | 24 => some (1300, 0, 499)
  | 25 => some (100, 0, 11)
  | 26 => some (100, 0, 15)
  | 27 => some (66, 0, 499)
  | 28 => some (6, 0, 11)
  | 35 => some (240, 0, 96)
  | 36 => some (240, 0, 96)
  | 37 => some (2880, 0, 95)
  | 39 => some (60, -8, 8)
  | 44 => some (72, 0, 71)
  | 46 => some (289, 0, 1)
  | _ => none
def mRg (σ : y_S) : Prop := ∀ (t : Nat) (q : Int × Int × Int), mRange t = some q → rgI q.1 q.2.1 q.2.2 (σ t)
theorem mRg.u2 {σ : y_S} (h : mRg σ) {t : Nat} {i v : Int} {q : Int × Int × Int} (hq : mRange t = some q) (h0 : q.2.1 ≤ v) (h1 : v ≤ q.2.2) : mRg (up2 σ t i v) := by
  intro u p hp
  by_cases e : u = t
  · subst e
    cases hq.symm.trans hp
    rw [up2_s]
    exact (h u _ hp).up h0 h1
  · rw [up2_n _ _ _ e]; exact h u p hp
theorem mRg.n2 {σ : y_S} (h : mRg σ) {t : Nat} {i v : Int} (hq : mRange t = none) : mRg (up2 σ t i v) := by
  intro u p hp
  by_cases e : u = t
  · subst e; cases hq.symm.trans hp
  · rw [up2_n _ _ _ e]; exact h u p hp
theorem mRg.uT {σ : y_S} (h : mRg σ) {t : Nat} {r : Int → Int} {q : Int × Int × Int} (hq : mRange t = some q) (hr : rgI q.1 q.2.1 q.2.2 r) : mRg (upT σ t r) := by
  intro u p hp
  by_cases e : u = t
  · subst e
    cases hq.symm.trans hp
    rw [upT_s]
    exact hr
  · rw [upT_n _ _ e]; exact h u p hp
theorem mRg.nT {σ : y_S} (h : mRg σ) {t : Nat} {r : Int → Int} (hq : mRange t = none) : mRg (upT σ t r) := by
  intro u p hp
  by_cases e : u = t
  · subst e; cases hq.symm.trans hp
  · rw [upT_n _ _ e]; exact h u p hp
def mSc (f : Int → Int) : Prop := (2 ≤ f 0 ∧ f 0 ≤ 6) ∧ (1 ≤ f 7 ∧ f 7 ≤ 99) ∧ (0 ≤ f 16 ∧ f 16 ≤ 15) ∧ (0 ≤ f 21 ∧ f 21 ≤ 10) ∧ (0 ≤ f 30 ∧ f 30 ≤ 100) ∧ (0 ≤ f 41 ∧ f 41 ≤ 40) ∧ (0 ≤ f 43 ∧ f 43 ≤ f 42 ∧ f 42 ≤ 60) ∧ (0 ≤ f 47 ∧ f 47 ≤ 72 ∧ (f 48 = 0 ∨ f 48 = 1 + 4 * f 47)) ∧ (0 ≤ f 49 ∧ f 49 ≤ 20) ∧ ((f 50 = 0 ∧ f 48 = 0) ∨ (f 50 = 1 ∧ f 48 = 1 + 4 * f 47)) ∧ (f 17 = 0 ∨ f 17 = 1) ∧ (f 18 = 0 ∨ f 18 = 1)
/-- places that are no cells: never set, never stuck -/
def mNc (n : Int) (a b : Int → Int) : Prop := ∀ k : Int, 0 ≤ k → k < 72 → ¬ mCell n (k / 6) (k % 6) → a k = 0 ∧ b k = -1
/-- what the lists hold: turns are below 96 -/
def pV (a b : Int → Int) : Prop := ∀ k : Int, a k % 100 ≤ 95 ∧ b k % 100 ≤ 95
def mOk (σ : y_S) : Prop := mRg σ ∧ mSc (σ 60) ∧ mNc (σ 60 0) (σ 3) (σ 4) ∧ pV (σ 24) (σ 27)
theorem mOk.same {σ τ : y_S} (h : mOk σ) {ts : List Nat} (hs : mSame ts σ τ) (ht : ∀ t ∈ ts, mRange t = none ∧ t ≠ 60) : mOk τ := by
  have e : ∀ t, mRange t ≠ none ∨ t = 60 → τ t = σ t := fun t q => hs t (fun z => by
    have := ht t z
    rcases q with q | q
    · exact q this.1
    · exact this.2 q)
  refine ⟨fun t q hq => ?_, ?_, ?_, ?_⟩
  · rw [e t (Or.inl (by rw [hq]; exact fun z => by cases z))]; exact h.1 t q hq
  · rw [e 60 (Or.inr rfl)]; exact h.2.1
  · rw [e 60 (Or.inr rfl), e 3 (Or.inl (by decide)), e 4 (Or.inl (by decide))]; exact h.2.2.1
  · rw [e 24 (Or.inl (by decide)), e 27 (Or.inl (by decide))]; exact h.2.2.2
section OK
variable {σ : y_S}
theorem mOk.n (h : mOk σ) : mN σ := h.2.1.1
theorem mOk.cr (h : mOk σ) : mCr σ := h.2.1.2.1
theorem mOk.t (h : mOk σ) : mTr (σ 1) (σ 2) := fun k a b => ⟨h.1 1 _ rfl k a b, h.1 2 _ rfl k a b⟩
theorem mOk.p (h : mOk σ) : mPl σ := fun k a b => h.1 4 _ rfl k a b
theorem mOk.s (h : mOk σ) : mSt σ := fun k a b => ⟨h.1 3 _ rfl k a b, h.1 6 _ rfl k a b⟩
theorem mOk.wl (h : mOk σ) : mWl σ := fun k a b => ⟨h.1 19 _ rfl k a b, h.1 20 _ rfl k a b⟩
theorem mOk.td (h : mOk σ) : mTd σ := fun k a b => h.1 11 _ rfl k a b
theorem mOk.us (h : mOk σ) : mUs σ := fun k a b => h.1 5 _ rfl k a b
theorem mOk.wk (h : mOk σ) : 0 ≤ σ 60 21 ∧ σ 60 21 ≤ 10 := h.2.1.2.2.2.1
theorem mOk.st (h : mOk σ) : 0 ≤ σ 60 16 ∧ σ 60 16 ≤ 15 := h.2.1.2.2.1
theorem mOk.st2 (h : mOk σ) : ∀ k : Int, 0 ≤ k → k < 15 → (0 ≤ σ 13 k ∧ σ 13 k ≤ 4) ∧ (0 ≤ σ 14 k ∧ σ 14 k ≤ 95) := fun k a b => ⟨h.1 13 _ rfl k a b, h.1 14 _ rfl k a b⟩
theorem mOk.tp (h : mOk σ) : 0 ≤ σ 60 30 ∧ σ 60 30 ≤ 100 := h.2.1.2.2.2.2.1
theorem mOk.rn (h : mOk σ) : 0 ≤ σ 60 41 ∧ σ 60 41 ≤ 40 := h.2.1.2.2.2.2.2.1
theorem mOk.fe (h : mOk σ) : 0 ≤ σ 60 43 ∧ σ 60 43 ≤ σ 60 42 ∧ σ 60 42 ≤ 60 := h.2.1.2.2.2.2.2.2.1
theorem mOk.e (h : mOk σ) : 0 ≤ σ 60 42 ∧ σ 60 42 ≤ 60 := by have := h.fe; omega
theorem mOk.fa (h : mOk σ) : mFa σ := ⟨by have := h.fe; omega, fun k a b => h.1 39 _ rfl k a b⟩
theorem mOk.hy (h : mOk σ) : 0 ≤ σ 60 47 ∧ σ 60 47 ≤ 72 ∧ (σ 60 48 = 0 ∨ σ 60 48 = 1 + 4 * σ 60 47) := h.2.1.2.2.2.2.2.2.2.1
theorem mOk.pr (h : mOk σ) : 0 ≤ σ 60 49 ∧ σ 60 49 ≤ 20 := h.2.1.2.2.2.2.2.2.2.2.1
theorem mOk.h48 (h : mOk σ) : 0 ≤ σ 60 48 ∧ σ 60 48 ≤ 289 := by have := h.hy; omega
theorem mOk.hz (h : mOk σ) : ∀ k : Int, 0 ≤ k → k < 289 → σ 46 k = 0 ∨ σ 46 k = 1 := fun k a b => by
  have : 0 ≤ σ 46 k ∧ σ 46 k ≤ 1 := h.1 46 _ rfl k a b
  omega
theorem mOk.rw (h : mOk σ) : mRwOk σ := ⟨h.n, h.cr, h.t, h.p, h.fa, h.rn, fun k a b => h.1 37 _ rfl k a b, fun k a b => h.1 35 _ rfl k a b⟩
theorem mOk.cm (h : mOk σ) : mCmOk σ := ⟨h.n, h.cr, h.t, h.p, h.s, h.fa, h.rn, fun k a b => h.1 44 _ rfl k a b, h.hy⟩
theorem mOk.pl (h : mOk σ) : pLs σ := ⟨h.n, h.tp, fun k a b => h.1 25 _ rfl k a b, fun k a b => h.1 26 _ rfl k a b, fun k a b => h.1 28 _ rfl k a b, fun k a b => h.1 23 _ rfl k a b, fun k a b => h.1 24 _ rfl k a b, fun k a b => h.1 27 _ rfl k a b⟩
theorem cell_ix {n l i : Int} (h : mCell n l i) (hn : n ≤ 6) : (6 * l + i) / 6 = l ∧ (6 * l + i) % 6 = i ∧ 0 ≤ 6 * l + i ∧ 6 * l + i < 72 := by omega
theorem mNc.u3 {n : Int} {a b : Int → Int} (h : mNc n a b) (hn : n ≤ 6) {l i v : Int} (hc : mCell n l i) : mNc n (up1 a (6 * l + i) v) b := by
  intro k h0 h1 hk
  have e := cell_ix hc hn
  have q : k ≠ 6 * l + i := fun q => hk (by rw [q, e.1, e.2.1]; exact hc)
  rw [up1_n _ _ q]; exact h k h0 h1 hk
theorem mNc.u4 {n : Int} {a b : Int → Int} (h : mNc n a b) (hn : n ≤ 6) {l i v : Int} (hc : mCell n l i) : mNc n a (up1 b (6 * l + i) v) := by
  intro k h0 h1 hk
  have e := cell_ix hc hn
  have q : k ≠ 6 * l + i := fun q => hk (by rw [q, e.1, e.2.1]; exact hc)
  rw [up1_n _ _ q]; exact h k h0 h1 hk
theorem ok_set (h : mOk σ) (l i k : Int) : mOk (oSet σ l i k).2 := by
  unfold oSet
  by_cases c1 : ¬ mCell (σ 60 0) l i
  · rw [if_pos c1]; exact h
  · rw [if_neg c1]
    by_cases c2 : ¬ (0 ≤ k ∧ k ≤ 95)
    · rw [if_pos c2]; exact h
    · rw [if_neg c2]
      by_cases c3 : σ 60 42 = 60
      · rw [if_pos c3]; exact h
      · rw [if_neg c3]
        obtain ⟨hr, ⟨a1, a2, a3, a4, a5, a6, a7, a8⟩, hn, hv⟩ := h
        refine ⟨(hr.u2 (t := 3) rfl (show 0 ≤ k by omega) (show k ≤ 95 by omega)).n2 rfl, ⟨a1, a2, a3, a4, a5, a6, ⟨a7.1, show σ 60 43 ≤ σ 60 42 + 1 by omega, show σ 60 42 + 1 ≤ 60 by omega⟩, a8⟩, ?_, hv⟩
        have := hn.u3 (v := k) a1.2 (Classical.not_not.mp c1)
        exact this
theorem ok_dies (h : mOk σ) (l i k : Int) : mOk (oDies σ l i k).2 := by
  unfold oDies
  by_cases c1 : ¬ mCell (σ 60 0) l i
  · rw [if_pos c1]; exact h
  · rw [if_neg c1]
    by_cases c2 : ¬ (0 ≤ k ∧ k ≤ 95)
    · rw [if_pos c2]; exact h
    · rw [if_neg c2]
      refine ⟨h.1.u2 (t := 4) rfl (show -1 ≤ k by omega) (show k ≤ 95 by omega), h.2.1, ?_, h.2.2.2⟩
      have := h.2.2.1.u4 (v := k) h.n.2 (Classical.not_not.mp c1)
      exact this
theorem ok_mend (h : mOk σ) (l i : Int) : mOk (oMend σ l i).2 := by
  unfold oMend
  by_cases c1 : ¬ mCell (σ 60 0) l i
  · rw [if_pos c1]; exact h
  · rw [if_neg c1]
    by_cases c2 : σ 4 (6 * l + i) < 0
    · rw [if_pos c2]; exact h
    · rw [if_neg c2]
      refine ⟨h.1.u2 (t := 4) rfl (show (-1 : Int) ≤ -1 by decide) (show (-1 : Int) ≤ 95 by decide), h.2.1, ?_, h.2.2.2⟩
      have := h.2.2.1.u4 (v := -1) h.n.2 (Classical.not_not.mp c1)
      exact this
theorem ok_n2 (h : mOk σ) {t : Nat} {i v : Int} (hq : mRange t = none) (h6 : t ≠ 60) : mOk (up2 σ t i v) := h.same (ts := [t]) (mSame.rf.u2 (by simp)) (fun u hu => by rw [List.mem_singleton.mp hu]; exact ⟨hq, h6⟩)
theorem ok_nT (h : mOk σ) {t : Nat} {r : Int → Int} (hq : mRange t = none) (h6 : t ≠ 60) : mOk (upT σ t r) := h.same (ts := [t]) (mSame.rf.uT (by simp)) (fun u hu => by rw [List.mem_singleton.mp hu]; exact ⟨hq, h6⟩)
theorem ok_u2 (h : mOk σ) {t : Nat} {i v : Int} {q : Int × Int × Int} (hq : mRange t = some q) (h3 : t ≠ 3) (h4 : t ≠ 4) (h0 : q.2.1 ≤ v) (h1 : v ≤ q.2.2) (h24 : t ≠ 24 := by decide) (h27 : t ≠ 27 := by decide) : mOk (up2 σ t i v) := by
  have h6 : t ≠ 60 := fun e => by subst e; cases hq
  refine ⟨h.1.u2 hq h0 h1, ?_, ?_, by rw [up2_n _ _ _ (Ne.symm h24), up2_n _ _ _ (Ne.symm h27)]; exact h.2.2.2⟩
  · rw [up2_n _ _ _ (Ne.symm h6)]; exact h.2.1
  · rw [up2_n _ _ _ (Ne.symm h6), up2_n _ _ _ (Ne.symm h3), up2_n _ _ _ (Ne.symm h4)]; exact h.2.2.1
theorem ok_uT (h : mOk σ) {t : Nat} {r : Int → Int} {q : Int × Int × Int} (hq : mRange t = some q) (h3 : t ≠ 3) (h4 : t ≠ 4) (hr : rgI q.1 q.2.1 q.2.2 r) (h24 : t ≠ 24 := by decide) (h27 : t ≠ 27 := by decide) : mOk (upT σ t r) := by
  have h6 : t ≠ 60 := fun e => by subst e; cases hq
  refine ⟨h.1.uT hq hr, ?_, ?_, by rw [upT_n _ _ (Ne.symm h24), upT_n _ _ (Ne.symm h27)]; exact h.2.2.2⟩
  · rw [upT_n _ _ (Ne.symm h6)]; exact h.2.1
  · rw [upT_n _ _ (Ne.symm h6), upT_n _ _ (Ne.symm h3), upT_n _ _ (Ne.symm h4)]; exact h.2.2.1
/-- a scalar changes -/
theorem ok_60 (h : mOk σ) {k v : Int} (hk : k ≠ 0) (hs : mSc (up1 (σ 60) k v)) : mOk (up2 σ 60 k v) := by
  refine ⟨h.1.n2 rfl, ?_, ?_, h.2.2.2⟩
  · rw [up2_s]; exact hs
  · rw [up2_s, up1_n _ _ (Ne.symm hk), up2_n _ _ _ (by decide), up2_n _ _ _ (by decide)]; exact h.2.2.1
theorem ok_now (h : mOk σ) : mOk (mNow σ) := ok_nT (ok_nT h (t := 8) rfl (by decide)) (t := 9) rfl (by decide)
theorem ok_ent (h : mOk σ) (j : Int) : mOk (mEnt σ j) := ok_nT h rfl (by decide)
theorem ok_go (h : mOk σ) (tr : Int) : mOk (mGo σ tr) := ok_nT h rfl (by decide)
theorem ok_cell (h : mOk σ) (l i w : Int) : mOk (oCell σ l i w).2 := by
  unfold oCell
  split
  · exact h
  · exact ok_now h
theorem ok_tab (h : mOk σ) (col : Int) : mOk (mTab σ col) := ok_go (ok_ent (ok_now h) col) 0
theorem ok_table (h : mOk σ) (r col : Int) : mOk (oTable σ r col).2 := by
  unfold oTable
  split
  · exact h
  · exact ok_tab h col
theorem ok_entry (h : mOk σ) (r col v : Int) : mOk (oEntry σ r col v).2 := by
  unfold oEntry
  split
  · exact h
  · split
    · exact h
    · exact ok_u2 h (t := 11) rfl (by decide) (by decide) (show 0 ≤ v by omega) (show v ≤ 96 by omega)
theorem ok_creep (h : mOk σ) (n : Int) : mOk (oCreep σ n).2 := by
  unfold oCreep
  split
  · exact h
  · obtain ⟨a1, a2, a3⟩ := h.2.1
    exact ok_60 h (by decide) ⟨a1, ⟨show 1 ≤ n by omega, show n ≤ 99 by omega⟩, a3⟩
theorem ok_offset (h : mOk σ) (l i n : Int) : mOk (oOffset σ l i n).2 := by
  unfold oOffset
  split
  · exact h
  · split
    · exact h
    · exact ok_u2 h (t := 6) rfl (by decide) (by decide) (show -8 ≤ n by omega) (show n ≤ 8 by omega)
theorem ok_claim (h : mOk σ) (u l i : Int) : mOk (oClaim σ u l i).2 := by
  unfold oClaim
  split
  · exact h
  · split
    · exact h
    · exact ok_u2 h (t := 5) rfl (by decide) (by decide) (show -1 ≤ u by omega) (show u ≤ 1 by omega)
theorem ok_takeI (col : Int) : ∀ (f : Nat) (r o : Int) (σ : y_S), 0 ≤ r → mOk σ → mOk (takeI col f r o σ).2
  | 0, _, _, _, _, h => h
  | f + 1, r, o, σ, h0, h => by
    rw [takeI]
    split
    · rename_i h1
      have := mTab_r σ col h0 h1
      exact ok_takeI col f (r + 1) _ _ (by omega) (ok_u2 (ok_tab h col) (t := 11) rfl (by decide) (by decide) this.1 this.2)
    · exact h
theorem ok_takeO : ∀ (f : Nat) (c o : Int) (σ : y_S), mOk σ → mOk (takeO f c o σ).2
  | 0, _, _, _, h => h
  | f + 1, c, o, σ, h => by
    rw [takeO]
    split
    · exact ok_takeO f _ _ _ (ok_takeI c 6 0 o σ (by decide) h)
    · exact h
theorem ok_take (h : mOk σ) : mOk (oTake σ).2 := ok_takeO 6 0 0 σ h
theorem ok_reworked (h : mOk σ) (r i : Int) : mOk (oReworked σ r i).2 := by
  unfold oReworked
  split
  · exact h
  · exact ok_go (ok_nT (ok_nT (ok_nT h (t := 8) rfl (by decide)) (t := 9) rfl (by decide)) (t := 10) rfl (by decide)) 1
theorem ok_rew (h : mOk σ) (r : Int) : mOk (mRew σ r) := ok_go (ok_nT (ok_nT (ok_nT h (t := 8) rfl (by decide)) (t := 9) rfl (by decide)) (t := 10) rfl (by decide)) 1
theorem ok_sinF : ∀ (f : Nat) (r : Int) (σ : y_S), mOk σ → mOk (sinF f r σ).2
  | 0, _, _, h => h
  | f + 1, r, σ, h => by
    rw [sinF]
    split
    · split
      · exact ok_sinF f _ _ (ok_rew h r)
      · exact ok_rew h r
    · exact h
theorem ok_since (h : mOk σ) : mOk (oSince σ).2 := ok_sinF 40 0 σ h
theorem ok_found (h : mOk σ) (l i n tk : Int) : mOk (oFound σ l i n tk).2 := by
  unfold oFound
  split
  · exact h
  · split
    · exact h
    · split
      · exact h
      · have h1 := ok_n2 (ok_u2 (ok_n2 h (t := 38) (i := σ 60 43) (v := 6 * l + i) rfl (by decide)) (t := 39) (i := σ 60 43) (v := n) rfl (by decide) (by decide) (show -8 ≤ n by omega) (show n ≤ 8 by omega)) (t := 40) (i := σ 60 43) (v := tk) rfl (by decide)
        obtain ⟨a1, a2, a3, a4, a5, a6, a7, a8⟩ := h.2.1
        obtain ⟨b1, b2, b3⟩ := h1
        refine ⟨(b1.n2 rfl).n2 rfl, ?_, b3⟩
        exact ⟨a1, a2, a3, a4, a5, a6, ⟨show 0 ≤ σ 60 43 + 1 by omega, show σ 60 43 + 1 ≤ σ 60 42 + 1 by omega, show σ 60 42 + 1 ≤ 60 by omega⟩, a8⟩
end OK
