/-! A RUN IS ADDED -/
def ruE (ρ ρ' : y_S) : Prop := mSame [8, 9, 10, 35, 36, 37, 60] ρ ρ' ∧ (∀ k : Int, k ≠ 41 → ρ' 60 k = ρ 60 k) ∧ ρ' 60 41 = ρ 60 41 + 1 ∧ (∀ u i : Int, 0 ≤ u → u < ρ 60 41 → 0 ≤ i → i < 6 → ρ' 35 (6 * u + i) = ρ 35 (6 * u + i) ∧ ρ' 36 (6 * u + i) = ρ 36 (6 * u + i)) ∧ ∀ u k : Int, 0 ≤ u → u < ρ 60 41 → 0 ≤ k → k < 72 → ρ' 37 (72 * u + k) = ρ 37 (72 * u + k)
theorem lgR_run {E : y_E} {ρ ρ' τ τ' : y_S} {G G' : y_G} (h : lgR E ρ G τ) (hk : mOk ρ') (he : ruE ρ ρ') {q : Nat} (hq : (q : Int) = ρ 60 41) (ha : ∀ t : Nat, t ≠ 27 → t ≠ 63 → (t < 1000 + 4 * q ∨ 1004 + 4 * q ≤ t) → t < 90 ∨ 100 ≤ t → gAg G τ G' τ' t) (h27 : G'.1 27 = G.1 27 ∧ G'.2.2 27 = G.2.2 27) (hru : lRu ρ' G' τ' q) (hls : lLs 27 63 (ρ 60 41 + 1) (fun i => G'.2.2 (1000 + 4 * i.toNat)) G' τ') : lgR E ρ' G' τ' := by
  obtain ⟨o, h2, h3, h4, ⟨⟨d1, d2⟩, ⟨d3, d4⟩, ⟨d5, d6, d7⟩, d8⟩, h6⟩ := h
  obtain ⟨e1, e2, e3, e4, e5⟩ := he
  have hn := o.n.2
  have hr := o.rn
  have hf := o.fe
  have hh := o.h48
  have hy := o.hy
  have r : ∀ t : Nat, t ∉ [8, 9, 10, 35, 36, 37, 60] → ρ' t = ρ t := e1
  have n0 : ρ' 60 0 = ρ 60 0 := e2 0 (by decide)
  have gc : ∀ t : Nat, 100 ≤ t → t < 172 → G'.2.2 t = G.2.2 t := fun t a b => (ha t (by omega) (by omega) (by omega) (Or.inr a)).2.1
  have a6 := ha 60 (by decide) (by decide) (by omega) (Or.inl (by decide))
  have a0 := ha 0 (by decide) (by decide) (by omega) (Or.inl (by decide))
  refine ⟨hk, ?_, ?_, ?_, ⟨⟨by rw [e3]; exact hls, fun u hu => ?_⟩, ⟨?_, fun u hu => ?_⟩, ⟨?_, fun u hu => ?_, ?_⟩, fun t ht => ?_⟩, by rw [a0.2.1]; exact h6⟩
  · rw [n0]
    refine h2.fr2 hn (fun t ht => ?_)
    unfold gdT at ht
    by_cases e : t = 27
    · subst e; exact ⟨h27.1, h27.2, fun k _ _ _ z => absurd (Or.inl rfl) z⟩
    · have a := ha t e (by omega) (by omega) ht.2.1
      exact ⟨a.1, a.2.1, fun k _ _ _ _ => by rw [a.2.2.1]⟩
  · obtain ⟨m1, m2, m3, m4, m5⟩ := h3
    refine ⟨by rw [a6.2.2.2, n0]; exact m1, by rw [a6.2.2.2, e2 7 (by decide)]; exact m2, by rw [a6.2.2.2, e2 42 (by decide)]; exact m3, fun k a b => ?_, fun l i hc => ?_⟩
    · rw [(ha 61 (by decide) (by decide) (by omega) (by decide)).2.2.2, (ha 1 (by decide) (by decide) (by omega) (by decide)).2.2.2, r 1 (by decide), r 2 (by decide)]
      exact m4 k a b
    · rw [n0] at hc
      have hcx := cT_ix hn hc
      rw [(ha (cT l i) (by omega) (by omega) (by omega) (by omega)).2.2.2, r 3 (by decide), r 4 (by decide), r 5 (by decide), r 6 (by decide)]
      exact m5 l i hc
  · obtain ⟨x1, ⟨x2, x3, x4⟩, x5, x6, ⟨x7, x8⟩, ⟨x9, x10⟩, x11⟩ := h4
    have t : ∀ u : Nat, u < 90 → u ≠ 27 → u ≠ 63 → τ' u = τ u := fun u a b c => (ha u b c (by omega) (Or.inl a)).2.2.2
    refine ⟨fun c y a b d => ?_, ⟨?_, ?_, fun z => ?_⟩, fun k a b => ?_, fun k a b => ?_, ⟨?_, fun k a b => ?_⟩, ⟨?_, fun k a b => ?_⟩, ?_⟩
    · rw [n0] at a d
      rw [(ha (200 + c) (by omega) (by omega) (by omega) (by omega)).2.2.2, r 11 (by decide)]
      exact x1 c y a b d
    · rw [a6.2.2.2, e2 16 (by decide)]; exact x2
    · rw [a6.2.2.2, e2 17 (by decide)]; exact x3
    · rw [e2 17 (by decide)] at z
      rw [a6.2.2.2, e2 18 (by decide)]; exact x4 z
    · rw [t 12 (by decide) (by decide) (by decide), t 13 (by decide) (by decide) (by decide), r 13 (by decide), r 14 (by decide)]; exact x5 k a b
    · rw [n0] at b
      rw [t 14 (by decide) (by decide) (by decide), r 15 (by decide)]; exact x6 k a b
    · rw [a6.2.2.2, e2 21 (by decide)]; exact x7
    · rw [e2 21 (by decide)] at b
      rw [t 18 (by decide) (by decide) (by decide), t 19 (by decide) (by decide) (by decide), r 19 (by decide), r 20 (by decide)]; exact x8 k a b
    · rw [a6.2.2.2, e2 30 (by decide)]; exact x9
    · rw [e2 30 (by decide)] at b
      rw [t 24 (by decide) (by decide) (by decide), r 23 (by decide)]; exact x10 k a b
    · rw [a6.2.2.2, e2 49 (by decide)]; exact x11
  · rw [e3] at hu
    by_cases e : u = q
    · subst e; exact hru
    · have z := (d2 u (by omega)).tr (ha _ (by omega) (by omega) (by omega) (by omega)) (ha _ (by omega) (by omega) (by omega) (by omega)) (ha _ (by omega) (by omega) (by omega) (by omega)) (ha _ (by omega) (by omega) (by omega) (by omega)) a6.2.1
      unfold lRu at z ⊢
      rw [n0]
      refine ⟨z.1, z.2.1, z.2.2.1, fun i i0 i1 => ?_, fun l i hc => ?_⟩
      · have w := e4 (u : Int) i (by omega) (by omega) i0 (by omega)
        rw [w.1, w.2]
        exact z.2.2.2.1 i i0 i1
      · have hcx := cell_ix hc hn
        rw [e5 (u : Int) (6 * l + i) (by omega) (by omega) hcx.2.2.1 hcx.2.2.2]
        exact z.2.2.2.2 l i hc
  · rw [e2 43 (by decide)]
    have b := ha 64 (by decide) (by decide) (by omega) (by decide)
    exact d3.tr (ha 28 (by decide) (by decide) (by omega) (by decide)) b.1 b.2.1 b.2.2.1 a0.2.1 (fun i i0 i1 => (ha _ (by omega) (by omega) (by omega) (by omega)).2.1)
  · rw [e2 43 (by decide)] at hu
    have z := (d4 u hu).tr (ha _ (by omega) (by omega) (by omega) (by omega)) gc
    unfold lFi at z ⊢
    rw [n0, r 38 (by decide), r 39 (by decide), r 40 (by decide)]
    exact z
  · rw [e2 48 (by decide)]
    have b := ha 65 (by decide) (by decide) (by omega) (by decide)
    exact d5.tr (ha 30 (by decide) (by decide) (by omega) (by decide)) b.1 b.2.1 b.2.2.1 a0.2.1 (fun i i0 i1 => (ha _ (by omega) (by omega) (by omega) (by omega)).2.1)
  · rw [e2 48 (by decide)] at hu
    have z := (d6 u hu).tr (ha _ (by omega) (by omega) (by omega) (by omega)) (by
      by_cases q0 : u = 0
      · exact Or.inl q0
      · exact Or.inr (d7 _ (by omega) (by omega))) gc
    unfold lHy at z ⊢
    rw [r 44 (by decide), r 46 (by decide)]
    exact z
  · rw [n0, e2 47 (by decide), r 44 (by decide)]; exact d7
  · rw [e3, e2 43 (by decide), e2 48 (by decide)] at ht
    rw [(ha t (by omega) (by omega) (by omega) (by omega)).1]
    exact d8 t (by omega)
/-- the scratch room's run goes to its place -/
def swR (q : Nat) (t : Nat) : Nat := sw 90 (1000 + 4 * q) (sw 91 (1001 + 4 * q) (sw 92 (1002 + 4 * q) (sw 93 (1003 + 4 * q) t)))
theorem swR_i {q : Nat} : ∀ t u : Nat, swR q t = swR q u → t = u := fun t u h => sw_i _ _ (sw_i _ _ (sw_i _ _ (sw_i _ _ h)))
theorem swR_n {q t : Nat} (h1 : t < 90 ∨ 94 ≤ t) (h2 : t < 1000 + 4 * q ∨ 1004 + 4 * q ≤ t) : swR q t = t := by
  unfold swR
  rw [sw_n (t := t) (a := 93) (by omega) (by omega), sw_n (t := t) (a := 92) (by omega) (by omega), sw_n (t := t) (a := 91) (by omega) (by omega), sw_n (t := t) (a := 90) (by omega) (by omega)]
theorem swR_0 (q : Nat) : swR q (1000 + 4 * q) = 90 := by
  unfold swR
  rw [sw_n (a := 93) (by omega) (by omega), sw_n (a := 92) (by omega) (by omega), sw_n (a := 91) (by omega) (by omega), sw_b]
theorem swR_1 (q : Nat) : swR q (1001 + 4 * q) = 91 := by
  unfold swR
  rw [sw_n (a := 93) (by omega) (by omega), sw_n (a := 92) (by omega) (by omega), sw_b, sw_n (by decide) (by omega)]
theorem swR_2 (q : Nat) : swR q (1002 + 4 * q) = 92 := by
  unfold swR
  rw [sw_n (a := 93) (by omega) (by omega), sw_b, sw_n (a := 91) (t := 92) (by decide) (by omega), sw_n (a := 90) (t := 92) (by decide) (by omega)]
theorem swR_3 (q : Nat) : swR q (1003 + 4 * q) = 93 := by
  unfold swR
  rw [sw_b, sw_n (a := 92) (t := 93) (by decide) (by omega), sw_n (a := 91) (t := 93) (by decide) (by omega), sw_n (a := 90) (t := 93) (by decide) (by omega)]
/-- what the reference makes of a run -/
theorem run_rest {ρ : y_S} {x : Int} : ruE ρ (oRun ρ x).2 ∨ ∃ f : Int → Int, (oRun ρ x).2 = upT ρ 10 f := by
  unfold oRun
  split
  · exact Or.inr ⟨_, rfl⟩
  · split
    · exact Or.inr ⟨_, rfl⟩
    · refine Or.inl ⟨fun t ht => ?_, fun k hk => ?_, rfl, fun u i u0 u1 i0 i1 => ⟨?_, ?_⟩, fun u k u0 u1 k0 k1 => ?_⟩
      · have q8 : t ≠ 8 := fun z => ht (by rw [z]; decide)
        have q9 : t ≠ 9 := fun z => ht (by rw [z]; decide)
        have q10 : t ≠ 10 := fun z => ht (by rw [z]; decide)
        have q35 : t ≠ 35 := fun z => ht (by rw [z]; decide)
        have q36 : t ≠ 36 := fun z => ht (by rw [z]; decide)
        have q37 : t ≠ 37 := fun z => ht (by rw [z]; decide)
        have q60 : t ≠ 60 := fun z => ht (by rw [z]; decide)
        show up2 (upT (mRun2 ρ x) 36 _) 60 41 _ t = ρ t
        rw [up2_n _ _ _ q60, upT_n _ _ q36]
        unfold mRun2 mGo mNow mRun1 mRun0
        rw [upT_n _ _ q10, upT_n _ _ q9, upT_n _ _ q8, upT_n _ _ q37, upT_n _ _ q35, upT_n _ _ q10]
      · show up1 (ρ 60) 41 _ k = ρ 60 k
        rw [up1_n _ _ hk]
      · show fillA (ρ 35) (mRun0 ρ x 10) (6 * ρ 60 41) (ρ 60 0) (6 * u + i) = _
        rw [fillA_out (by omega)]
      · show fillA (ρ 36) (mRun2 ρ x 10) (6 * ρ 60 41) (ρ 60 0) (6 * u + i) = _
        rw [fillA_out (by omega)]
      · show fillA (ρ 37) (ρ 3) (72 * ρ 60 41) 72 (72 * u + k) = _
        rw [fillA_out (by omega)]
theorem run_came {ρ : y_S} (hn : mN ρ) {x : Int} {f : Int → Int} (hf : ∀ i : Int, 0 ≤ i → i < ρ 60 0 → f i = rIn x i) : ∀ i : Int, 0 ≤ i → i < ρ 60 0 → goR (ρ 60 0) (ρ 1) (ρ 2) (mTf (mNow ρ) 1) f i = mRun2 ρ x 10 i := by
  show ∀ i : Int, 0 ≤ i → i < ρ 60 0 → goR (ρ 60 0) (ρ 1) (ρ 2) (mTf (mNow ρ) 1) f i = goR (ρ 60 0) (ρ 1) (ρ 2) (mTf (mNow (mRun1 ρ x)) 1) (fillN (ρ 10) (rIn x) (ρ 60 0)) i
  refine goR_cg hn.1 hn.2 (fun l i hc => ?_) (fun i a b => by rw [fillN_in a b]; exact hf i a b)
  exact mTf_cg (a := mNow ρ) (b := mNow (mRun1 ρ x)) rfl rfl rfl hn.2 (fun k hk => by
    have e1 : mNow ρ 8 k = ρ 3 k := fillN_in (f := ρ 8) (g := ρ 3) hk.1 hk.2.1
    have e2 : mNow ρ 9 k = ρ 6 k := fillN_in (f := ρ 9) (g := ρ 6) hk.1 hk.2.1
    have e3 : mNow (mRun1 ρ x) 8 k = ρ 3 k := fillN_in (f := ρ 8) (g := ρ 3) hk.1 hk.2.1
    have e4 : mNow (mRun1 ρ x) 9 k = ρ 6 k := fillN_in (f := ρ 9) (g := ρ 6) hk.1 hk.2.1
    exact ⟨by rw [e1, e3], by rw [e2, e4]⟩) hc
theorem lgR_run2 {E : y_E} {ρ σ τ1 τ2 : y_S} {G G1 G2 : y_G} {x : Int} (h : lgR E ρ G σ) (hx : ¬ (x < 0 ∨ rq x (ρ 60 0).toNat ≠ 0)) (h40 : ρ 60 41 ≠ 40) (ht : ∀ t : Nat, t < 90 ∨ 100 ≤ t → gAg G σ G1 τ1 t) (hk1 : G1.1 90 = some (.inl 13) ∧ G1.1 91 = some (.inr (0, 6)) ∧ G1.1 92 = some (.inr (0, 6)) ∧ G1.1 93 = some (.inr (0, 12 * (ρ 60 0).toNat))) (hr1 : G1.2.1 90 1 = some (G1.2.2 91) ∧ G1.2.1 90 2 = some (G1.2.2 92) ∧ G1.2.1 90 3 = some (G1.2.2 93) ∧ G1.2.1 90 4 = some (G1.2.2 60)) (htk : τ1 90 0 = ρ 60 41) (hin : ∀ i : Int, 0 ≤ i → i < ρ 60 0 → τ1 91 i = rIn x i) (hou : ∀ i : Int, 0 ≤ i → i < ρ 60 0 → τ1 92 i = mRun2 ρ x 10 i) (hse : ∀ l i : Int, mCell (ρ 60 0) l i → τ1 93 (l * ρ 60 0 + i) = ρ 3 (6 * l + i))
    (hp : lAd 27 63 99 (ρ 60 41) (fun i => G1.2.2 (1000 + 4 * i.toNat)) (G1.2.2 90) G1 τ1 G2 τ2) : lgR E (oRun ρ x).2 (rtG (swR (ρ 60 41).toNat) G2) (rtS (swR (ρ 60 41).toNat) τ2) := by
  have hr := h.1.rn
  have hn := h.1.n
  obtain ⟨q, hq⟩ : ∃ q : Nat, (q : Int) = ρ 60 41 := ⟨(ρ 60 41).toNat, by omega⟩
  have hqn : (ρ 60 41).toNat = q := by omega
  rw [hqn]
  obtain ⟨p1, p2, p3⟩ := hp
  have eo : (oRun ρ x).2 = up2 (upT (mRun2 ρ x) 36 (fillA (ρ 36) (mRun2 ρ x 10) (6 * ρ 60 41) (ρ 60 0))) 60 41 (ρ 60 41 + 1) := by unfold oRun; rw [if_neg hx, if_neg h40]
  have hE : ruE ρ (oRun ρ x).2 := by
    rcases run_rest (ρ := ρ) (x := x) with z | ⟨f, z⟩
    · exact z
    · exfalso
      have z2 := congrFun (congrFun z 60) 41
      rw [eo] at z2
      have z2 : ρ 60 41 + 1 = ρ 60 41 := z2
      omega
  have r35 : (oRun ρ x).2 35 = fillA (ρ 35) (mRun0 ρ x 10) (6 * ρ 60 41) (ρ 60 0) := by rw [eo]; rfl
  have r36 : (oRun ρ x).2 36 = fillA (ρ 36) (mRun2 ρ x 10) (6 * ρ 60 41) (ρ 60 0) := by rw [eo]; rfl
  have r37 : (oRun ρ x).2 37 = fillA (ρ 37) (ρ 3) (72 * ρ 60 41) 72 := by rw [eo]; rfl
  have n0 := hE.2.1 0 (by decide)
  have rt : ∀ t u : Nat, swR q t = u → u ≠ 63 → u ≠ 99 → u ≠ 27 → gAg G1 τ1 (G1.1, G1.2.1, fun _ => G1.2.2 u) τ1 u → rtG (swR q) G2 = rtG (swR q) G2 := fun _ _ _ _ _ _ _ => rfl
  have b : ∀ u : Nat, u ≠ 63 → u ≠ 99 → u ≠ 27 → G2.1 u = G1.1 u ∧ G2.2.2 u = G1.2.2 u ∧ G2.2.1 u = G1.2.1 u ∧ τ2 u = τ1 u := fun u a c d => by
    have z := p2 u a c
    exact ⟨p1 u a, z.1, funext fun k => z.2.1 k (by omega), z.2.2 d⟩
  have e6 := b 60 (by decide) (by decide) (by decide)
  have b0 := b 90 (by decide) (by decide) (by decide)
  have b1 := b 91 (by decide) (by decide) (by decide)
  have b2 := b 92 (by decide) (by decide) (by decide)
  have b3 := b 93 (by decide) (by decide) (by decide)
  have s6 : swR q 60 = 60 := swR_n (by decide) (by omega)
  refine lgR_run h (ok_run h.1 x) hE hq (fun t t27 t63 tq t9 => ?_) ?_ ?_ ?_
  · have e := swR_n (q := q) (t := t) (by omega) tq
    have z := b t t63 (by omega) t27
    have y := ht t t9
    refine ⟨?_, ?_, ?_, ?_⟩
    · show G2.1 (swR q t) = _
      rw [e, z.1]; exact y.1
    · show G2.2.2 (swR q t) = _
      rw [e, z.2.1]; exact y.2.1
    · show G2.2.1 (swR q t) = _
      rw [e, z.2.2.1]; exact y.2.2.1
    · show τ2 (swR q t) = _
      rw [e, z.2.2.2]; exact y.2.2.2
  · have e := swR_n (q := q) (t := 27) (by decide) (by omega)
    have y := ht 27 (by decide)
    refine ⟨?_, ?_⟩
    · show G2.1 (swR q 27) = _
      rw [e, p1 27 (by decide)]; exact y.1
    · show G2.2.2 (swR q 27) = _
      rw [e, (p2 27 (by decide) (by decide)).1]; exact y.2.1
  · unfold lRu
    rw [n0]
    show (G2.1 (swR q (1000 + 4 * q)) = _ ∧ G2.1 (swR q (1001 + 4 * q)) = _ ∧ G2.1 (swR q (1002 + 4 * q)) = _ ∧ G2.1 (swR q (1003 + 4 * q)) = _) ∧ (G2.2.1 (swR q (1000 + 4 * q)) 1 = some (G2.2.2 (swR q (1001 + 4 * q))) ∧ G2.2.1 (swR q (1000 + 4 * q)) 2 = some (G2.2.2 (swR q (1002 + 4 * q))) ∧ G2.2.1 (swR q (1000 + 4 * q)) 3 = some (G2.2.2 (swR q (1003 + 4 * q))) ∧ G2.2.1 (swR q (1000 + 4 * q)) 4 = some (G2.2.2 (swR q 60))) ∧ τ2 (swR q (1000 + 4 * q)) 0 = _ ∧ (∀ i : Int, 0 ≤ i → i < ρ 60 0 → τ2 (swR q (1001 + 4 * q)) i = _ ∧ τ2 (swR q (1002 + 4 * q)) i = _) ∧ ∀ l i : Int, mCell (ρ 60 0) l i → τ2 (swR q (1003 + 4 * q)) (l * ρ 60 0 + i) = _
    rw [swR_0, swR_1, swR_2, swR_3, s6, b0.1, b1.1, b2.1, b3.1, b0.2.2.1, b1.2.1, b2.2.1, b3.2.1, e6.2.1, b0.2.2.2, b1.2.2.2, b2.2.2.2, b3.2.2.2, r35, r36, r37, hq]
    refine ⟨hk1, hr1, htk, fun i i0 i1 => ⟨?_, ?_⟩, fun l i hc => ?_⟩
    · rw [fillA_in (by omega) (by omega), show 6 * ρ 60 41 + i - 6 * ρ 60 41 = i by omega]
      show _ = fillN (ρ 10) (rIn x) (ρ 60 0) i
      rw [fillN_in i0 i1]
      exact hin i i0 i1
    · rw [fillA_in (by omega) (by omega), show 6 * ρ 60 41 + i - 6 * ρ 60 41 = i by omega]
      exact hou i i0 i1
    · have hcx := cell_ix hc hn.2
      rw [fillA_in (by omega) (by omega), show 72 * ρ 60 41 + (6 * l + i) - 72 * ρ 60 41 = 6 * l + i by omega]
      exact hse l i hc
  · have e27 := rt_ag (π := swR q) (G := G2) (σ := τ2) (t := 27) (swR_n (by decide) (by omega))
    have e63 := rt_ag (π := swR q) (G := G2) (σ := τ2) (t := 63) (swR_n (by decide) (by omega))
    have e0 := rt_ag (π := swR q) (G := G2) (σ := τ2) (t := 0) (swR_n (by decide) (by omega))
    refine p3.tr e27 e63.1 e63.2.1 e63.2.2.1 e0.2.1 (fun i i0 i1 => ?_)
    show G2.2.2 (swR q (1000 + 4 * i.toNat)) = if i = ρ 60 41 then G1.2.2 90 else G1.2.2 (1000 + 4 * i.toNat)
    by_cases e : i = ρ 60 41
    · rw [if_pos e, show 1000 + 4 * i.toNat = 1000 + 4 * q by omega, swR_0, b0.2.1]
    · rw [if_neg e, swR_n (by omega) (by omega), (b _ (by omega) (by omega) (by omega)).2.1]
