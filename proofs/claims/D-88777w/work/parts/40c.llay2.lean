theorem nx_all {P : Nat → Prop} {A S : Nat} (hsub : ∀ T, P T → T &&& A = T) (hSA : S &&& A = S) (hall : ∀ T, P T → T ≤ S) (hno : ¬ P S) (hS : S ≠ 0) : ∀ T, P T → T ≤ nxS S A := fun T hT => by
  have h1 := hall T hT
  have h2 : T < S := Nat.lt_of_le_of_ne h1 (fun q => hno (q ▸ hT))
  unfold nxS
  rw [if_neg hS]
  exact nxS_max S A T hSA (hsub T hT) h2
theorem and_le {T A : Nat} (h : T &&& A = T) : T ≤ A := by rw [← h]; exact Nat.and_le_right
/-- the layers from L on are bare -/
def bAb (ρ : y_S) (L : Nat) : Prop := ∀ l : Int, (L : Int) ≤ l → l < 12 → mBare ρ l
theorem leastB_le (ρ : y_S) : ∀ k : Nat, leastB ρ k ≤ k
  | 0 => Nat.le_refl _
  | k + 1 => by
    rw [leastB]
    split
    · exact Nat.le_trans (leastB_le ρ k) (Nat.le_succ k)
    · exact Nat.le_refl _
theorem leastB_b (ρ : y_S) : ∀ (k : Nat) (l : Nat), leastB ρ k ≤ l → l < k → mBare ρ (l : Int)
  | 0, _, _, h => by omega
  | k + 1, l, h1, h2 => by
    rw [leastB] at h1
    by_cases hb : mBareB ρ (k : Int) = true
    · rw [if_pos hb] at h1
      by_cases e : l = k
      · subst e; exact pB_t.mp hb
      · exact leastB_b ρ k l h1 (by omega)
    · rw [if_neg hb] at h1
      omega
theorem leastB_n (ρ : y_S) : ∀ (k : Nat), leastB ρ k ≠ 0 → ¬ mBare ρ ((leastB ρ k - 1 : Nat) : Int)
  | 0, h => absurd rfl h
  | k + 1, h => by
    rw [leastB] at h ⊢
    by_cases hb : mBareB ρ (k : Int) = true
    · rw [if_pos hb] at h ⊢
      exact leastB_n ρ k h
    · rw [if_neg hb]
      exact fun q => hb (pB_t.mpr q)
theorem bAb_iff (ρ : y_S) {L : Nat} (hL : L ≤ 12) : bAb ρ L ↔ leastB ρ 12 ≤ L := by
  have h12 := leastB_le ρ 12
  constructor
  · intro h
    apply Nat.le_of_not_lt
    intro q
    exact leastB_n ρ 12 (by omega) (h _ (by omega) (by omega))
  · intro h l a b
    have := leastB_b ρ 12 l.toNat (by omega) (by omega)
    rw [Int.toNat_of_nonneg (by omega)] at this
    exact this
theorem layF_sk {ρ : y_S} : ∀ (f d : Nat) (L : Int), d ≤ f → (∀ q : Nat, q < d → ¬ mFit ρ (L + (q : Int))) → layF ρ f L = layF ρ (f - d) (L + (d : Int))
  | f, 0, L, _, _ => by rw [Nat.sub_zero]; simp
  | 0, d + 1, L, h, _ => by omega
  | f + 1, d + 1, L, h, hq => by
    rw [layF, if_neg (pB_n (by have := hq 0 (by omega); simpa using this)), layF_sk f d (L + 1) (by omega) (fun q hq2 => by have := hq (q + 1) (by omega); rw [show L + 1 + (q : Int) = L + ((q + 1 : Nat) : Int) by omega]; exact this), Nat.succ_sub_succ, show L + 1 + (d : Int) = L + ((d + 1 : Nat) : Int) by omega]
theorem layL_y {ρ : y_S} {L : Nat} (hL : L ≤ 12) (hno : ∀ q : Nat, q < L → ¬ (bAb ρ q ∧ mFit ρ (q : Int))) (hb : bAb ρ L) (hf : mFit ρ (L : Int)) : layL ρ = (L : Int) := by
  have h1 := (bAb_iff ρ hL).mp hb
  unfold layL
  rw [layF_sk (13 - leastB ρ 12) (L - leastB ρ 12) _ (by omega) (fun q hq z => hno (leastB ρ 12 + q) (by omega) ⟨(bAb_iff ρ (by omega)).mpr (by omega), by rw [show ((leastB ρ 12 + q : Nat) : Int) = (leastB ρ 12 : Int) + (q : Int) by omega]; exact z⟩)]
  rw [show (leastB ρ 12 : Int) + ((L - leastB ρ 12 : Nat) : Int) = (L : Int) by omega, show 13 - leastB ρ 12 - (L - leastB ρ 12) = (12 - L) + 1 by omega, layF_y (pB_t.mpr hf)]
theorem layL_n {ρ : y_S} (hno : ∀ q : Nat, q < 13 → ¬ (bAb ρ q ∧ mFit ρ (q : Int))) : layL ρ = -5 := by
  have h12 := leastB_le ρ 12
  unfold layL
  rw [layF_sk (13 - leastB ρ 12) (13 - leastB ρ 12) _ (by omega) (fun q hq z => hno (leastB ρ 12 + q) (by omega) ⟨(bAb_iff ρ (by omega)).mpr (by omega), by rw [show ((leastB ρ 12 + q : Nat) : Int) = (leastB ρ 12 : Int) + (q : Int) by omega]; exact z⟩), Nat.sub_self]
  rfl
/-! SETTINGS ARE WRITTEN -/
def stR (ρ σ τ : y_S) (r : Int → Int) : Prop := (∀ t : Nat, t ≠ 60 → ¬ (100 ≤ t ∧ t < 172) → τ t = σ t) ∧ (∀ k : Int, k ≠ 22 → k ≠ 23 → τ 60 k = σ 60 k) ∧ ∀ l i : Int, mCell (ρ 60 0) l i → (∀ k : Int, k ≠ 2 → τ (cT l i) k = σ (cT l i) k) ∧ τ (cT l i) 2 = r (6 * l + i)
theorem stR_0 {E : y_E} {ρ σ : y_S} {G : y_G} (h : lgR E ρ G σ) : stR ρ σ σ (ρ 3) := ⟨fun _ _ _ => rfl, fun _ _ _ => rfl, fun l i hc => ⟨fun _ _ => rfl, (h.2.2.1.2.2.2.2 l i hc).2.2.1⟩⟩
theorem stR_s {ρ σ τ : y_S} {r : Int → Int} (hn : ρ 60 0 ≤ 6) (h : stR ρ σ τ r) {l i v : Int} (hc : mCell (ρ 60 0) l i) : stR ρ σ (up2 τ (cT l i) 2 v) (up1 r (6 * l + i) v) := by
  have hx := cT_ix hn hc
  refine ⟨fun t a b => by rw [up2_n _ _ _ (by omega)]; exact h.1 t a b, fun k a b => by rw [up2_n _ _ _ (by omega)]; exact h.2.1 k a b, fun l' i' hc' => ?_⟩
  by_cases e : cT l' i' = cT l i
  · obtain ⟨rfl, rfl⟩ := cT_inj hn hc' hc e
    rw [up2_s]
    exact ⟨fun k hk => by rw [up1_n _ _ hk]; exact (h.2.2 _ _ hc').1 k hk, by rw [up1_s, up1_s]⟩
  · rw [up2_n _ _ _ e, up1_n _ _ (fun q => e (by unfold cT; rw [q]))]
    exact h.2.2 _ _ hc'
theorem stR_60 {ρ σ τ : y_S} {r : Int → Int} (h : stR ρ σ τ r) {a b : Int} : stR ρ σ (up2 (up2 τ 60 22 a) 60 23 b) r := by
  refine ⟨fun t x y => by rw [up2_n _ _ _ x, up2_n _ _ _ x]; exact h.1 t x y, fun k x y => by rw [up2_s, up1_n _ _ y, up2_s, up1_n _ _ x]; exact h.2.1 k x y, fun l i hc => ?_⟩
  rw [up2_n _ _ _ (cT_ne (by decide)), up2_n _ _ _ (cT_ne (by decide))]
  exact h.2.2 l i hc
theorem stR.w {E : y_E} {ρ σ τ : y_S} {G : y_G} {r : Int → Int} (hL : lgR E ρ G σ) (h : stR ρ σ τ r) : lgW ρ G τ := by
  obtain ⟨h1, h2, h3, h4, h5⟩ := hL.w
  refine ⟨h1, h2, by rw [h.2.1 2 (by decide) (by decide)]; exact h3, by rw [h.2.1 20 (by decide) (by decide), h.1 18 (by decide) (by decide), h.1 19 (by decide) (by decide)]; exact h4, fun l i hc => ?_⟩
  rw [(h.2.2 l i hc).1 0 (by decide), (h.2.2 l i hc).1 1 (by decide), (h.2.2 l i hc).1 3 (by decide)]
  exact h5 l i hc
theorem stR.rw {ρ σ τ : y_S} {r : Int → Int} (h : stR ρ σ τ r) {L : Int} {l : Nat} (hr : cRw ρ L l σ) : cRw ρ L l τ := fun D hD => by rw [h.1 _ (by omega) (by omega)]; exact hr D hD
theorem stR.L {E : y_E} {ρ σ τ : y_S} {G : y_G} {r : Int → Int} (hL : lgR E ρ G σ) (h : stR ρ σ τ r) (hk : mOk (upT ρ 3 r)) : lgR E (upT ρ 3 r) G τ := by
  have hg := hL.g
  obtain ⟨h1, h2, ⟨m1, m2, m3, m4, m5⟩, h4, h5, h6⟩ := hL
  have hn := h1.n.2
  have hM : lgM (upT ρ 3 r) τ := by
    refine ⟨by rw [h.2.1 2 (by decide) (by decide)]; exact m1, by rw [h.2.1 4 (by decide) (by decide)]; exact m2, by rw [h.2.1 29 (by decide) (by decide)]; exact m3, by rw [h.1 61 (by decide) (by decide), h.1 1 (by decide) (by decide)]; exact m4, fun l i hc => ?_⟩
    have hc : mCell (ρ 60 0) l i := hc
    have q := h.2.2 l i hc
    have z := m5 l i hc
    exact ⟨by rw [q.1 0 (by decide)]; exact z.1, by rw [q.1 1 (by decide)]; exact z.2.1, q.2, by rw [q.1 3 (by decide)]; exact z.2.2.2.1, by rw [q.1 4 (by decide)]; exact z.2.2.2.2.1, by rw [q.1 5 (by decide)]; exact z.2.2.2.2.2⟩
  have hX : lgX ρ τ := h4.fr hn lgE.rf (fun t ht => h.1 t (by omega) (by omega)) (fun k hk => h.2.1 k (by omega) (by omega))
  have hD : lgD ρ G τ := h5.fr h1 lgE.rf (fun t ht => h.1 t (by omega) (by omega)) hg
  exact ⟨hk, h2, hM, hX, hD, h6⟩
/-- all that are not dead are set to 0 -/
def zeP (ρ : y_S) (r : Int → Int) (ps : List (Int × Int)) : Int → Int := ps.foldl (fun r p => if ρ 4 (6 * p.1 + p.2) < 0 then up1 r (6 * p.1 + p.2) 0 else r) r
theorem zeP_a {ρ : y_S} {r : Int → Int} {ps : List (Int × Int)} {p : Int × Int} : zeP ρ r (ps ++ [p]) = if ρ 4 (6 * p.1 + p.2) < 0 then up1 (zeP ρ r ps) (6 * p.1 + p.2) 0 else zeP ρ r ps := by
  unfold zeP
  rw [List.foldl_append]
  rfl
theorem zeP_K {ρ : y_S} (h : mOk ρ) : ∀ k : Nat, k ≤ 72 → zeP ρ (ρ 3) (cK (ρ 60 0) k) = fillN (ρ 3) (fun k => if ρ 4 k < 0 then 0 else ρ 3 k) (k : Int)
  | 0, _ => (fillN_0 _ _).symm
  | k + 1, hk => by
    have ih := zeP_K h k (by omega)
    have hs := fillN_s (f := ρ 3) (g := fun k => if ρ 4 k < 0 then 0 else ρ 3 k) (n := (k : Int)) (by omega) rfl
    rw [show ((k + 1 : Nat) : Int) = (k : Int) + 1 by omega, ← hs]
    by_cases hc : mCell (ρ 60 0) ((k : Int) / 6) ((k : Int) % 6)
    · rw [cK_y hc, zeP_a]
      show (if ρ 4 (6 * ((k : Int) / 6) + (k : Int) % 6) < 0 then up1 _ (6 * ((k : Int) / 6) + (k : Int) % 6) 0 else _) = _
      rw [show 6 * ((k : Int) / 6) + (k : Int) % 6 = (k : Int) by omega, ih]
      by_cases h4 : ρ 4 (k : Int) < 0
      · rw [if_pos h4]
        show _ = up1 _ _ (if ρ 4 (k : Int) < 0 then 0 else ρ 3 (k : Int))
        rw [if_pos h4]
      · rw [if_neg h4]
        show _ = up1 _ _ (if ρ 4 (k : Int) < 0 then 0 else ρ 3 (k : Int))
        rw [if_neg h4]
        funext j
        unfold up1
        split
        · rename_i e; rw [e, fillN_out (by omega)]
        · rfl
    · have hz := h.2.2.1 (k : Int) (by omega) (by omega) hc
      rw [cK_n hc, ih]
      show _ = up1 _ _ (if ρ 4 (k : Int) < 0 then 0 else ρ 3 (k : Int))
      rw [if_pos (by omega)]
      funext j
      unfold up1
      split
      · rename_i e; rw [e, fillN_out (by omega)]; exact hz.1
      · rfl
theorem zeP_la {ρ : y_S} (h : mOk ρ) : zeP ρ (ρ 3) (cJ (ρ 60 0) (12 * (ρ 60 0).toNat)) = la0 ρ := by
  rw [cJ_K h.n.1 h.n.2, zeP_K h 72 (by decide)]
  rfl
theorem ok_la {ρ : y_S} (h : mOk ρ) (L : Int) (l : Nat) : mOk (upT ρ 3 (laL ρ L l).2) := by
  have q := laL_ok h L l
  exact ⟨h.1.uT (t := 3) rfl q.1, h.2.1, q.2, h.2.2.2⟩
theorem cR_x {ρ : y_S} {L : Int} {D : Nat} {P : Prop} (h : mCan ρ L (L - L).toNat D ↔ P) (v : Int) (hv : v = if pB (mCan ρ L (L - L).toNat D) = true then 1 else 0) : True := trivial
theorem lgE_22 {κ : y_S} {f : Int → Int} : lgE κ (upT κ 22 f) := lgE.of (mSame.rf.uT (by decide))
theorem or_l10 {W A w : Nat} (hW : W ≤ 10) (hA : A < 2 ^ W) (hw : w < W) : A ||| 2 ^ w < 1024 := Nat.lt_of_lt_of_le (Nat.or_lt_two_pow hA (Nat.pow_lt_pow_right (by decide) hw)) (pw10 hW)
theorem fits_L {ρ σ : y_S} {L : Nat} {D : Int} (hD : D = ((2 ^ wkN ρ : Nat) : Int)) : ∀ l2 : Nat, L ≤ l2 → l2 ≤ L → cRw ρ (L : Int) l2 (upT σ (240 + L) (fillN (σ (240 + L)) (fun z => if z = ((2 ^ wkN ρ - 1 : Nat) : Int) then 1 else 0) D)) := by
  intro l2 a b D2 hD2
  have e : l2 = L := by omega
  subst e
  rw [upT_s, fillN_in (by omega) (by omega)]
  show (if (D2 : Int) = ((2 ^ wkN ρ - 1 : Nat) : Int) then (1 : Int) else 0) = _
  by_cases h : D2 = 2 ^ wkN ρ - 1
  · rw [if_pos (by omega), if_pos (pB_t.mpr (mCan_0.mpr h))]
  · rw [if_neg (by omega), if_neg (pB_n (fun z => h (mCan_0.mp z)))]
