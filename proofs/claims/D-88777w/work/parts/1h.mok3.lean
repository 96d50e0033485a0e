/-! WHAT HOLDS OF THE REFERENCE'S MEMORY (3): lay, run, probes, programs, the start -/
theorem grS_P {P : Nat → Prop} {w : Nat} (h : (grS P).testBit w = true) : P (grS P) := by
  by_cases q : ∃ S, mGr P S
  · obtain ⟨S, hS⟩ := q
    rw [grS_eq hS]; exact hS.1
  · have e : grS P = 0 := by unfold grS; rw [dif_neg q]
    rw [e, Nat.zero_testBit] at h
    exact absurd h Bool.false_ne_true
theorem laW_ok {σ : y_S} (h : mOk σ) {l : Int} {S : Nat} (hS : ∀ w : Nat, w < wkN σ → S.testBit w = true → mCell (σ 60 0) l (σ 19 (w : Int))) : ∀ (w : Nat) (r : Int → Int), w ≤ wkN σ → rgI 72 0 95 r → mNc (σ 60 0) r (σ 4) → rgI 72 0 95 (laW σ l S w r) ∧ mNc (σ 60 0) (laW σ l S w r) (σ 4)
  | 0, r, _, h1, h2 => ⟨h1, h2⟩
  | w + 1, r, hw, h1, h2 => by
    have ih := laW_ok h hS w r (by omega) h1 h2
    rw [laW]
    split
    · rename_i c
      have hwk := h.wk
      have h20 := (h.wl (w : Int) (by omega) (by have : wkN σ = (σ 60 21).toNat := rfl; omega)).2
      exact ⟨ih.1.up h20.1 h20.2, ih.2.u3 h.n.2 (hS w (by omega) c.1)⟩
    · exact ih
theorem laL_ok {σ : y_S} (h : mOk σ) (L : Int) : ∀ l : Nat, rgI 72 0 95 (laL σ L l).2 ∧ mNc (σ 60 0) (laL σ L l).2 (σ 4)
  | 0 => by
    show rgI 72 0 95 (la0 σ) ∧ mNc (σ 60 0) (la0 σ) (σ 4)
    refine ⟨fun k a b => ?_, fun k a b c => ?_⟩
    · have := (h.s k a b).1
      unfold la0
      rw [fillN_in a b]
      split <;> omega
    · have := h.2.2.1 k a b c
      unfold la0
      rw [fillN_in a b, if_pos (by omega)]
      exact ⟨rfl, this.2⟩
  | l + 1 => by
    have ih := laL_ok h L l
    rw [laL]
    exact laW_ok h (fun w hw ht => (((grS_P ht).2.1).2.1 w hw ht).1) (wkN σ) _ (Nat.le_refl _) ih.1 ih.2
theorem ok_lay {σ : y_S} (h : mOk σ) : mOk (oLay σ).2 := by
  have hf : ∀ L, mOk (mFill σ L) := fun L => ok_nT h (t := 22) rfl (by decide)
  unfold oLay
  split
  · exact hf 12
  · have hl := laL_ok h (layL σ) (layL σ).toNat
    refine ⟨(hf _).1.uT (t := 3) rfl hl.1, (hf (layL σ)).2.1, ?_, h.2.2.2⟩
    exact hl.2
theorem ok_run {σ : y_S} (h : mOk σ) (x : Int) : mOk (oRun σ x).2 := by
  have h0 : mOk (mRun0 σ x) := ok_nT h (t := 10) rfl (by decide)
  unfold oRun
  split
  · exact h0
  · rename_i hx
    split
    · exact h0
    · have hr := h.rn
      have hn := h.n
      have hl : mLi (σ 60 0) (mRun0 σ x 10) := mLi_run (by omega)
      have g1 : mOk (mRun1 σ x) := ok_uT (ok_uT h0 (t := 35) rfl (by decide) (by decide) (rgI.fA (h.1 35 _ rfl) (fun k a b => hl k a b))) (t := 37) rfl (by decide) (by decide) (rgI.fA (h.1 37 _ rfl) (fun k a b => (h.s k a b).1))
      have g2 : mOk (mRun2 σ x) := ok_go (ok_now g1) 1
      have hl2 : mLi (σ 60 0) (mRun2 σ x 10) := mLi_go (σ := mNow (mRun1 σ x)) hl 1
      have g3 := ok_uT g2 (t := 36) rfl (by decide) (by decide) (rgI.fA (s := 6 * σ 60 41) (c := σ 60 0) (g := mRun2 σ x 10) (h.1 36 _ rfl) (fun k a b => hl2 k a b))
      obtain ⟨a1, a2, a3, a4, a5, a6, a7⟩ := g3.2.1
      exact ok_60 g3 (k := 41) (by decide) ⟨a1, a2, a3, a4, a5, ⟨show 0 ≤ σ 60 41 + 1 by omega, show σ 60 41 + 1 ≤ 40 by omega⟩, a7⟩
theorem prb_ok {σ : y_S} (h : mOk σ) : ∀ k : Nat, k ≤ 72 → rgI 72 0 71 (prb σ k).2
  | 0, _ => h.1 44 _ rfl
  | k + 1, hk => by
    have ih := prb_ok h k (by omega)
    rw [prb]
    split
    · exact ih.up (by omega) (by omega)
    · exact ih
theorem ok_probing {σ : y_S} (h : mOk σ) : mOk (oProbing σ).2 := by
  have hr := prb_r σ 72
  obtain ⟨b1, ⟨a1, a2, a3, a4, a5, a6, a7, a8, a9, a10, a11⟩, b3⟩ := h
  refine ⟨?_, ?_, b3⟩
  · exact (((((b1.n2 rfl).uT (t := 44) rfl (prb_ok ⟨b1, ⟨a1, a2, a3, a4, a5, a6, a7, a8, a9, a10, a11⟩, b3⟩ 72 (by decide))).n2 rfl).uT (t := 46) rfl (fun k a b => by
      show 0 ≤ fillN (σ 46) (fun _ => 1) _ k ∧ fillN (σ 46) (fun _ => 1) _ k ≤ 1
      have := b1 46 _ rfl k a b
      unfold fillN
      split
      · show (0 : Int) ≤ 1 ∧ (1 : Int) ≤ 1; decide
      · exact this)).n2 rfl).n2 rfl
  · exact ⟨a1, a2, a3, a4, a5, a6, a7, ⟨hr.1, by show (prb σ 72).1 ≤ 72; omega, Or.inr rfl⟩, ⟨show (0 : Int) ≤ 0 by decide, show (0 : Int) ≤ 20 by decide⟩, Or.inr ⟨rfl, rfl⟩, a11⟩
theorem ok_com {σ : y_S} (h : mOk σ) (x j : Int) : mOk (mCom σ x j) := h.same (mSame.com (ts := [8, 9, 10]) mSame.rf (by decide) (by decide) (by decide) x j) (by decide)
theorem ok_prF (j i seen : Int) : ∀ (f : Nat) (x : Int) (σ : y_S), mOk σ → mOk (prF j i seen f x σ) ∧ prF j i seen f x σ 60 = σ 60
  | 0, _, _, h => ⟨h, rfl⟩
  | f + 1, x, σ, h => by
    rw [prF]
    split
    · split
      · exact ok_prF j i seen f _ σ h
      · have g := ok_u2 (ok_com h x j) (t := 46) (i := x) (v := if mCom σ x j 10 i = seen then 1 else 0) rfl (by decide) (by decide) (by show (0 : Int) ≤ _; split <;> decide) (by show _ ≤ (1 : Int); split <;> decide)
        have ih := ok_prF j i seen f (x + 1) _ g
        refine ⟨ih.1, ih.2.trans ?_⟩
        show mCom σ x j 60 = σ 60
        rw [mCom_t x j (by decide) (by decide) (by decide)]
    · exact ⟨h, rfl⟩
theorem ok_seen {σ : y_S} (h : mOk σ) (j : Int) : mOk (mSeen σ j) := ok_go (ok_ent (ok_now h) j) 1
theorem ok_probe {σ : y_S} (h : mOk σ) (j i : Int) : mOk (oProbe σ j i).2 := by
  unfold oProbe
  split
  · exact h
  · split
    · exact h
    · split
      · exact h
      · have hp := ok_prF j i (mSeen σ j 10 i) 289 0 _ (ok_seen h j)
        have hq := h.pr
        obtain ⟨a1, a2, a3, a4, a5, a6, a7, a8, a9, a10⟩ := hp.1.2.1
        exact ok_60 hp.1 (k := 49) (by decide) ⟨a1, a2, a3, a4, a5, a6, a7, a8, ⟨show 0 ≤ σ 60 49 + 1 by omega, show σ 60 49 + 1 ≤ 20 by omega⟩, a10⟩
theorem ok_nxH (j i : Int) : ∀ (f : Nat) (x mo : Int) (σ : y_S), mOk σ → mOk (nxH j i f x mo σ).2
  | 0, _, _, _, h => h
  | f + 1, x, mo, σ, h => by
    rw [nxH]
    split
    · split
      · exact ok_nxH j i f _ _ σ h
      · exact ok_nxH j i f _ _ _ (ok_n2 (ok_com h x j) (t := 51) rfl (by decide))
    · exact h
theorem ok_nxM (j : Int) : ∀ (f : Nat) (i be le : Int) (σ : y_S), mOk σ → mOk (nxM j f i be le σ).2.2
  | 0, _, _, _, _, h => h
  | f + 1, i, be, le, σ, h => by
    have g := ok_nxH j i 289 0 0 _ (show mOk (nx0 σ) from ok_nT h (t := 51) rfl (by decide))
    rw [nxM]
    split
    · split
      · exact ok_nxM j f _ _ _ _ g
      · exact ok_nxM j f _ _ _ _ g
    · exact h
theorem ok_nxJ : ∀ (f : Nat) (j be le : Int) (σ : y_S), mOk σ → mOk (nxJ f j be le σ).2.2
  | 0, _, _, _, _, h => h
  | f + 1, j, be, le, σ, h => by
    rw [nxJ]
    split
    · exact ok_nxJ f _ _ _ _ (ok_nxM j 6 0 be le σ h)
    · exact h
theorem ok_next {σ : y_S} (h : mOk σ) : mOk (oNext σ).2 := by
  unfold oNext
  split
  · exact h
  · exact ok_nxJ 6 0 (-1) 1000 σ h
/-- what a program leaves as it was -/
def pSm (σ τ : y_S) : Prop := mSame [24, 25, 26, 27, 28, 29, 60] σ τ ∧ ∀ k : Int, k ≠ 31 → k ≠ 32 → k ≠ 33 → k ≠ 34 → τ 60 k = σ 60 k
theorem pSm.rf {σ : y_S} : pSm σ σ := ⟨mSame.rf, fun _ _ _ _ _ => rfl⟩
theorem pSm.tr {σ τ υ : y_S} (h : pSm σ τ) (h2 : pSm τ υ) : pSm σ υ := ⟨h.1.tr h2.1, fun k a b c d => (h2.2 k a b c d).trans (h.2 k a b c d)⟩
theorem pSm.u2 {σ τ : y_S} (h : pSm σ τ) {t : Nat} {i v : Int} (ht : t ∈ [24, 25, 26, 27, 28, 29, 60]) (h6 : t ≠ 60) : pSm σ (up2 τ t i v) := ⟨h.1.u2 ht, fun k a b c d => by rw [up2_n _ _ _ (Ne.symm h6)]; exact h.2 k a b c d⟩
theorem pSm.uT {σ τ : y_S} (h : pSm σ τ) {t : Nat} {r : Int → Int} (ht : t ∈ [24, 25, 26, 27, 28, 29, 60]) (h6 : t ≠ 60) : pSm σ (upT τ t r) := ⟨h.1.uT ht, fun k a b c d => by rw [upT_n _ _ (Ne.symm h6)]; exact h.2 k a b c d⟩
theorem pSm.s {σ τ : y_S} (h : pSm σ τ) {i v : Int} (hi : i = 31 ∨ i = 32 ∨ i = 33 ∨ i = 34) : pSm σ (up2 τ 60 i v) := ⟨h.1.u2 (by decide), fun k a b c d => by rw [up2_s, up1_n _ _ (by omega)]; exact h.2 k a b c d⟩
theorem pSm_add {σ τ : y_S} (h : pSm σ τ) (v : Int) : pSm σ (aAdd τ v) := by
  unfold aAdd
  split
  · exact h
  · exact (h.u2 (t := 24) (by decide) (by decide)).u2 (t := 25) (by decide) (by decide)
theorem pSm_on {σ τ : y_S} (h : pSm σ τ) : pSm σ (aOn τ) := h.s (Or.inl rfl)
theorem pSm_open {σ τ : y_S} (h : pSm σ τ) (w : Int) : pSm σ (aOpen τ w) := ((h.s (i := 32) (by decide)).u2 (t := 25) (by decide) (by decide)).u2 (t := 26) (by decide) (by decide)
theorem pSm_addF {σ : y_S} {t : Nat} {a : Int} : ∀ (f : Nat) (k : Int) (τ : y_S), pSm σ τ → pSm σ (aAddF t a f k τ)
  | 0, _, _, h => h
  | f + 1, k, τ, h => by rw [aAddF]; exact pSm_addF f _ _ (pSm_add h _)
theorem pSm_rou {σ : y_S} {a : Int} {N : Nat} : ∀ (r : Nat) (τ : y_S), pSm σ τ → pSm σ (aRou a N r τ)
  | 0, _, h => h
  | r + 1, τ, h => by rw [aRou]; exact pSm_rou r _ (pSm_addF N 0 τ h)
theorem pSm_close {σ τ : y_S} (h : pSm σ τ) : pSm σ (aClose τ) := by
  unfold aClose
  split
  · exact (((h.s (i := 32) (by decide)).u2 (t := 29) (by decide) (by decide)).u2 (t := 28) (by decide) (by decide)).uT (t := 27) (by decide) (by decide)
  · exact pSm_rou _ _ (h.s (i := 32) (by decide))
theorem pSm_use {σ τ : y_S} (h : pSm σ τ) (nm : Int) : pSm σ (aUse τ nm) := by
  unfold aUse
  split
  · split
    · exact h.s (i := 33) (by decide)
    · exact h
  · exact pSm_addF _ _ _ h
theorem pSm_nu {σ τ : y_S} (h : pSm σ τ) (m : Int) : pSm σ (nuF τ m).2 := by
  have h1 := pSm_on h
  have h2 : pSm σ (aOn (up2 (aOn τ) 60 34 (mSig (aOn τ) - 48))) := pSm_on (h1.s (i := 34) (by decide))
  unfold nuF
  split
  · exact h
  · split
    · exact h1
    · split
      · exact h2
      · split
        · exact h2
        · exact pSm_on (h2.s (i := 34) (by decide))
theorem pSm_stT {σ τ : y_S} (h : pSm σ τ) : pSm σ (stT τ).2 := by
  have h1 : pSm σ (stN τ).2 := pSm_nu (pSm_on h) _
  have h2 : pSm σ (stM τ).2 := pSm_nu h1 _
  unfold stT
  split
  · exact h1
  · split
    · exact pSm_add h1 _
    · split
      · exact h2
      · exact pSm_add h2 _
theorem pSm_stE {σ τ : y_S} (h : pSm σ τ) : pSm σ (stE τ) := by
  unfold stE
  split
  · exact pSm_on (pSm_on h)
  · exact pSm_on h
theorem pSm_stF {σ : y_S} : ∀ (f : Nat) (τ : y_S), pSm σ τ → pSm σ (stF f τ).2
  | 0, _, h => h
  | f + 1, τ, h => by
    rw [stF]
    split
    · exact pSm_stT h
    · split
      · exact h
      · split
        · exact pSm_use (pSm_on h) _
        · split
          · exact pSm_stE h
          · exact pSm_stF f _ (pSm_open (pSm_on (pSm_stE h)) _)
theorem pSm_clF {σ : y_S} : ∀ (f : Nat) (τ : y_S), pSm σ τ → pSm σ (clF f τ)
  | 0, _, h => h
  | f + 1, τ, h => by
    rw [clF]
    split
    · exact pSm_clF f _ (pSm_close (pSm_on h))
    · exact h
theorem pSm_paF {σ : y_S} : ∀ (f : Nat) (τ : y_S), pSm σ τ → pSm σ (paF f τ).2
  | 0, _, h => h
  | f + 1, τ, h => by
    have h1 := pSm_stF 101 τ h
    have h2 := pSm_clF 101 _ h1
    rw [paF]
    split
    · exact h1
    · split
      · exact h2
      · split
        · exact h2
        · exact pSm_paF f _ (pSm_on h2)
theorem pSm_parse (σ : y_S) : pSm σ (oParse σ).2 := pSm_paF 101 _ ((((pSm.rf.s (i := 31) (by decide)).s (i := 32) (by decide)).u2 (t := 25) (by decide) (by decide)).s (i := 33) (by decide) |>.uT (t := 29) (by decide) (by decide))
theorem pV_add {τ : y_S} (h : pV (τ 24) (τ 27)) {v : Int} (hv : v % 100 ≤ 95) : pV (aAdd τ v 24) (aAdd τ v 27) := by
  unfold aAdd
  split
  · exact h
  · intro k
    refine ⟨?_, (h k).2⟩
    show up1 (τ 24) _ v k % 100 ≤ 95
    unfold up1
    split
    · exact hv
    · exact (h k).1
theorem pV_addF {t : Nat} {a : Int} (ht : t = 24 ∨ t = 27) : ∀ (f : Nat) (k : Int) (τ : y_S), pV (τ 24) (τ 27) → pV (aAddF t a f k τ 24) (aAddF t a f k τ 27)
  | 0, _, _, h => h
  | f + 1, k, τ, h => by
    rw [aAddF]
    refine pV_addF ht f _ _ (pV_add h ?_)
    rcases ht with e | e <;> subst e
    · exact (h _).1
    · exact (h _).2
theorem pV_rou {a : Int} {N : Nat} : ∀ (r : Nat) (τ : y_S), pV (τ 24) (τ 27) → pV (aRou a N r τ 24) (aRou a N r τ 27)
  | 0, _, h => h
  | r + 1, τ, h => by rw [aRou]; exact pV_rou r _ (pV_addF (Or.inl rfl) N 0 τ h)
theorem pV_close {τ : y_S} (h : pV (τ 24) (τ 27)) : pV (aClose τ 24) (aClose τ 27) := by
  unfold aClose
  split
  · intro k
    refine ⟨(h k).1, ?_⟩
    rw [upT_s]
    unfold fillA
    split
    · exact (h _).1
    · exact (h k).2
  · exact pV_rou _ _ h
theorem pV_use {τ : y_S} (h : pV (τ 24) (τ 27)) (nm : Int) : pV (aUse τ nm 24) (aUse τ nm 27) := by
  unfold aUse
  split
  · split
    · exact h
    · exact h
  · exact pV_addF (Or.inr rfl) _ _ _ h
theorem nuF_t (τ : y_S) (m : Int) {t : Nat} (h : t ≠ 60) : (nuF τ m).2 t = τ t := by
  unfold nuF aOn
  (repeat' split) <;> first | rfl | (simp only [up2_n _ _ _ h])
theorem pV_stT {τ : y_S} (h : pV (τ 24) (τ 27)) (hp : pOk τ) (h1 : τ 60 31 < τ 60 30) : pV ((stT τ).2 24) ((stT τ).2 27) := by
  have e1 : pV ((stN τ).2 24) ((stN τ).2 27) := by unfold stN; rw [nuF_t _ _ (by decide), nuF_t _ _ (by decide)]; exact h
  have e2 : pV ((stM τ).2 24) ((stM τ).2 27) := by unfold stM; rw [nuF_t _ _ (by decide), nuF_t _ _ (by decide)]; exact e1
  have b := stM_ok hp h1
  unfold stT
  split
  · exact e1
  · split
    · exact pV_add e1 (by omega)
    · split
      · exact e2
      · rename_i c3
        have := b.2.2.2.2 c3
        refine pV_add e2 ?_
        unfold stV
        split <;> omega
theorem pV_stF : ∀ (f : Nat) (τ : y_S), pV (τ 24) (τ 27) → pOk τ → pV ((stF f τ).2 24) ((stF f τ).2 27)
  | 0, _, h, _ => h
  | f + 1, τ, h, hp => by
    rw [stF]
    split
    · exact pV_stT h hp (mSig_ne (σ := τ) rfl (by omega))
    · split
      · exact h
      · split
        · exact pV_use (τ := aOn τ) h _
        · have hE : pV (stE τ 24) (stE τ 27) := by
            unfold stE
            split <;> exact h
          split
          · exact hE
          · rename_i c1 c2 c3 c4
            have a := stO_ok hp (by omega) c3 (Classical.not_not.mp c4)
            exact pV_stF f _ hE a.2.1
theorem pV_clF : ∀ (f : Nat) (τ : y_S), pV (τ 24) (τ 27) → pV (clF f τ 24) (clF f τ 27)
  | 0, _, h => h
  | f + 1, τ, h => by
    rw [clF]
    split
    · exact pV_clF f _ (pV_close (τ := aOn τ) h)
    · exact h
theorem pV_paF : ∀ (f : Nat) (τ : y_S), pV (τ 24) (τ 27) → pOk τ → pV ((paF f τ).2 24) ((paF f τ).2 27)
  | 0, _, h, _ => h
  | f + 1, τ, h, hp => by
    have a := stF_ok 101 τ hp
    have b := clF_ok 101 _ a.1
    have h1 := pV_stF 101 τ h hp
    have h2 := pV_clF 101 _ h1
    rw [paF]
    split
    · exact h1
    · split
      · exact h2
      · split
        · exact h2
        · rename_i c
          exact pV_paF f _ h2 (pOk_on b.1 (mSig_ne (Classical.not_not.mp c) (by decide)))
theorem ok_parse {σ : y_S} (h : mOk σ) : mOk (oParse σ).2 := by
  have hp := pSm_parse σ
  have hpv : pV ((oParse σ).2 24) ((oParse σ).2 27) := pV_paF 101 (paS σ) h.2.2.2 (pLs_pa h.pl)
  obtain ⟨c1, c2, c3, c4, c5, c6, c7, c8, c9⟩ := oParse_ok h.pl
  generalize (oParse σ).2 = τ at *
  have e : ∀ k : Int, k ≠ 31 → k ≠ 32 → k ≠ 33 → k ≠ 34 → τ 60 k = σ 60 k := hp.2
  refine ⟨fun t q hq => ?_, ?_, ?_, hpv⟩
  · by_cases ht : t ∈ [24, 25, 26, 27, 28, 29, 60]
    · simp only [List.mem_cons, List.mem_nil_iff, or_false] at ht
      rcases ht with ht | ht | ht | ht | ht | ht | ht <;> subst ht <;> cases hq
      · exact c8
      · exact c4
      · exact c5
      · exact c9
      · exact c6
    · rw [hp.1 t ht]; exact h.1 t q hq
  · have hs := h.2.1
    unfold mSc at hs ⊢
    rw [e 0 (by decide) (by decide) (by decide) (by decide), e 7 (by decide) (by decide) (by decide) (by decide), e 16 (by decide) (by decide) (by decide) (by decide), e 21 (by decide) (by decide) (by decide) (by decide), e 30 (by decide) (by decide) (by decide) (by decide), e 41 (by decide) (by decide) (by decide) (by decide), e 42 (by decide) (by decide) (by decide) (by decide), e 43 (by decide) (by decide) (by decide) (by decide), e 47 (by decide) (by decide) (by decide) (by decide), e 48 (by decide) (by decide) (by decide) (by decide), e 49 (by decide) (by decide) (by decide) (by decide), e 50 (by decide) (by decide) (by decide) (by decide), e 17 (by decide) (by decide) (by decide) (by decide), e 18 (by decide) (by decide) (by decide) (by decide)]
    exact hs
  · rw [e 0 (by decide) (by decide) (by decide) (by decide), hp.1 3 (by decide), hp.1 4 (by decide)]; exact h.2.2.1
theorem ok_program {σ : y_S} (h : mOk σ) : mOk (oProgram σ).2 := by
  have g0 := ok_parse h
  have g : mOk (prT σ) := by
    obtain ⟨a1, a2, a3, a4, a5, a6⟩ := g0.2.1
    exact ok_60 g0 (k := 30) (by decide) ⟨a1, a2, a3, a4, ⟨show (0 : Int) ≤ 0 by decide, show (0 : Int) ≤ 100 by decide⟩, a6⟩
  unfold oProgram
  split
  · exact g
  · split
    · exact g
    · split
      · exact g
      · rename_i hn
        have h25 := g.pl.2.2.1 0 (by decide) (by decide)
        obtain ⟨a1, a2, a3, a4, a5⟩ := g.2.1
        have g1 := ok_60 g (k := 21) (v := prT σ 25 0) (by decide) ⟨a1, a2, a3, ⟨h25.1, show prT σ 25 0 ≤ 10 by omega⟩, a5⟩
        refine ok_uT (ok_uT g1 (t := 19) rfl (by decide) (by decide) (fun k a b => ?_)) (t := 20) rfl (by decide) (by decide) (fun k a b => ?_)
        · show 0 ≤ fillN (prT σ 19) _ _ k ∧ fillN (prT σ 19) _ _ k ≤ 4
          have h24 : 0 ≤ prT σ 24 k ∧ prT σ 24 k ≤ 499 := g.1 24 _ rfl k a (by show k < 1300; have : k < 11 := b; omega)
          have h19 : 0 ≤ prT σ 19 k ∧ prT σ 19 k ≤ 4 := g.1 19 _ rfl k a b
          unfold fillN
          split
          · show 0 ≤ prT σ 24 k / 100 ∧ prT σ 24 k / 100 ≤ 4; omega
          · exact h19
        · show 0 ≤ fillN (prT σ 20) _ _ k ∧ fillN (prT σ 20) _ _ k ≤ 95
          have h20 : 0 ≤ prT σ 20 k ∧ prT σ 20 k ≤ 95 := g.1 20 _ rfl k a b
          unfold fillN
          split
          · have hq := (g.2.2.2 k).1
            show 0 ≤ prT σ 24 k % 100 ∧ prT σ 24 k % 100 ≤ 95; omega
          · exact h20
theorem ok_init (x : Int) : mOk (oInit x) := by
  have hz : mRg z0 := fun t q hq => by
    intro k _ _
    show q.2.1 ≤ 0 ∧ 0 ≤ q.2.2
    unfold mRange at hq
    split at hq <;> first | (cases hq; decide) | cases hq
  have hcs : rgI 96 0 96 (fillN zR csC 96) := fun k a b => by rw [fillN_in a b]; exact (csN_r k.toNat).1
  have hss : rgI 96 0 96 (fillN zR csS 96) := fun k a b => by rw [fillN_in a b]; exact (csN_r k.toNat).2
  have h4 : rgI 72 (-1) 95 (fillN zR (fun _ => -1) 72) := fun k a b => by rw [fillN_in a b]; decide
  have h5 : rgI 72 (-1) 1 (fillN zR (fun _ => -1) 72) := fun k a b => by rw [fillN_in a b]; decide
  refine ⟨((((((hz.n2 rfl).n2 rfl).uT (t := 1) rfl hcs).uT (t := 2) rfl hss).uT (t := 4) rfl h4).uT (t := 5) rfl h5), ?_, ?_, fun k => ⟨by show (0 : Int) % 100 ≤ 95; decide, by show (0 : Int) % 100 ≤ 95; decide⟩⟩
  · refine ⟨⟨show 2 ≤ x % 5 + 2 by omega, show x % 5 + 2 ≤ 6 by omega⟩, ⟨show (1 : Int) ≤ 99 by decide, show (99 : Int) ≤ 99 by decide⟩, ?_⟩
    show ((0 : Int) ≤ 0 ∧ (0 : Int) ≤ 15) ∧ ((0 : Int) ≤ 0 ∧ (0 : Int) ≤ 10) ∧ ((0 : Int) ≤ 0 ∧ (0 : Int) ≤ 100) ∧ ((0 : Int) ≤ 0 ∧ (0 : Int) ≤ 40) ∧ ((0 : Int) ≤ 0 ∧ (0 : Int) ≤ 0 ∧ (0 : Int) ≤ 60) ∧ ((0 : Int) ≤ 0 ∧ (0 : Int) ≤ 72 ∧ ((0 : Int) = 0 ∨ (0 : Int) = 1 + 4 * 0)) ∧ ((0 : Int) ≤ 0 ∧ (0 : Int) ≤ 20) ∧ (((0 : Int) = 0 ∧ (0 : Int) = 0) ∨ ((0 : Int) = 1 ∧ (0 : Int) = 1 + 4 * 0)) ∧ ((0 : Int) = 0 ∨ (0 : Int) = 1) ∧ ((0 : Int) = 0 ∨ (0 : Int) = 1)
    decide
  · intro k a b _
    refine ⟨rfl, ?_⟩
    show fillN zR (fun _ => -1) 72 k = -1
    rw [fillN_in a b]
