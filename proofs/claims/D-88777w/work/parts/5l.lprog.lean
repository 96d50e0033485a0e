/-! A PROGRAM: both sides' ends -/
theorem gvS_lt {k : Int} : ∀ (L : List Int) (σ : y_S), k < σ 60 20 → gvS L σ 18 k = σ 18 k ∧ gvS L σ 19 k = σ 19 k
  | [], _, _ => ⟨rfl, rfl⟩
  | v :: L, σ, h => by
    have e : advW σ v 60 20 = σ 60 20 + 1 := rfl
    have q := gvS_lt (k := k) L (advW σ v) (by omega)
    have e8 : advW σ v 18 k = σ 18 k := by
      unfold advW
      rw [up2_n _ _ _ (by decide), up2_n _ _ _ (by decide), up2_s, up1_n _ _ (by omega)]
    have e9 : advW σ v 19 k = σ 19 k := by
      unfold advW
      rw [up2_s, up1_n _ _ (by omega), up2_n _ _ _ (by decide), up2_n _ _ _ (by decide)]
    exact ⟨q.1.trans e8, q.2.trans e9⟩
theorem gvS_row : ∀ (L : List Int) (σ : y_S) (j : Nat), j < L.length → gvS L σ 18 (σ 60 20 + (j : Int)) = L.getD j 0 / 100 ∧ gvS L σ 19 (σ 60 20 + (j : Int)) = L.getD j 0 % 100
  | [], _, _, h => absurd h (Nat.not_lt_zero _)
  | v :: L, σ, 0, _ => by
    have q := gvS_lt (k := σ 60 20 + ((0 : Nat) : Int)) L (advW σ v) (by show _ < σ 60 20 + 1; omega)
    show gvS L (advW σ v) 18 _ = v / 100 ∧ gvS L (advW σ v) 19 _ = v % 100
    rw [q.1, q.2, show σ 60 20 + ((0 : Nat) : Int) = σ 60 20 by omega]
    unfold advW
    refine ⟨?_, ?_⟩
    · rw [up2_n _ _ _ (by decide), up2_n _ _ _ (by decide), up2_s, up1_s]
    · rw [up2_s, up1_s]
  | v :: L, σ, j + 1, h => by
    have q := gvS_row L (advW σ v) j (Nat.lt_of_succ_lt_succ h)
    have e : advW σ v 60 20 = σ 60 20 + 1 := rfl
    rw [e, show σ 60 20 + 1 + (j : Int) = σ 60 20 + ((j + 1 : Nat) : Int) by omega] at q
    exact q
theorem rSame.ge {ρ σ : y_S} (h : rSame ρ σ) : lgE ρ σ := ⟨fun t ht => h.1 t (fun q => ht (by rw [q]; decide)) (fun q => ht (by rw [q]; decide)) (fun q => ht (by rw [q]; decide)) (fun q => ht (by rw [q]; decide)) (fun q => ht (by rw [q]; decide)) (fun q => ht (by rw [q]; decide)) (fun q => ht (by rw [q]; decide)), h.2⟩
/-- what a program answers and leaves -/
theorem oProgram_c {ρ : y_S} (hO : mOk ρ) {R : rR} (hR : rPr ρ = some R) : (∀ kd pl : Int, rFl ρ R = some (kd, pl) → oProgram ρ = (-1000 * kd - pl, prT ρ)) ∧ (∀ (a1 lk1 : Int) (nm1 : rM) (L : List Int), R = .inr (a1, lk1, nm1, L) → rFl ρ R = none → L.length ≤ 10 ∧ oProgram ρ = ((L.length : Int), prW (prT ρ)) ∧ prT ρ 25 0 = (L.length : Int) ∧ ∀ j : Nat, j < L.length → prT ρ 24 (j : Int) = L.getD j 0) ∧ rSame ρ (oParse ρ).2 := by
  have hT := hO.tp
  have q := rPr_t hO.n hO.pl hR
  have pos := rPr_pos hT hR
  have e31 : prT ρ 60 31 = (oParse ρ).2 60 31 := rfl
  have e33 : prT ρ 60 33 = (oParse ρ).2 60 33 := rfl
  have e25 : prT ρ 25 = (oParse ρ).2 25 := rfl
  have e24 : prT ρ 24 = (oParse ρ).2 24 := rfl
  rcases R with p | ⟨a1, lk1, nm1, L⟩
  · have q : (oParse ρ).1 = 0 ∧ (oParse ρ).2 60 31 = p ∧ rSame ρ (oParse ρ).2 := q
    refine ⟨fun kd pl h => ?_, fun _ _ _ _ h => (by cases h), q.2.2⟩
    cases h
    unfold oProgram
    rw [if_pos q.1, e31, q.2.1]
    refine Prod.ext ?_ rfl
    show -1000 - p = -1000 * 1 - p
    omega
  · have pos : 0 < a1 ∧ a1 ≤ ρ 60 30 ∧ rLo lk1 := pos
    dsimp only at q
    by_cases c1 : a1 < ρ 60 30
    · rw [if_pos c1] at q
      refine ⟨fun kd pl h => ?_, fun _ _ _ _ _ h => ?_, q.2.2⟩
      · unfold rFl at h
        dsimp only at h
        rw [if_pos c1] at h
        cases h
        unfold oProgram
        rw [if_pos q.1, e31, q.2.1]
        refine Prod.ext ?_ rfl
        show -1000 - a1 = -1000 * 1 - a1
        omega
      · unfold rFl at h
        dsimp only at h
        rw [if_pos c1] at h
        cases h
    · rw [if_neg c1] at q
      obtain ⟨q1, q2, q3, q4⟩ := q
      have n0 : ¬ (oParse ρ).1 = 0 := by omega
      have lo := pos.2.2
      unfold rLo at lo
      have l4 := q4.1
      have lt : (L.take 11).length = min 11 L.length := List.length_take
      by_cases c2 : lk1 ≠ -1
      · refine ⟨fun kd pl h => ?_, fun _ _ _ _ _ h => ?_, q3⟩
        · unfold rFl at h
          dsimp only at h
          rw [if_neg c1, if_pos c2] at h
          cases h
          unfold oProgram
          rw [if_neg n0, e33, q2, if_pos (by omega)]
          refine Prod.ext ?_ rfl
          show -2000 - lk1 = -1000 * 2 - lk1
          omega
        · unfold rFl at h
          dsimp only at h
          rw [if_neg c1, if_pos c2] at h
          cases h
      · by_cases c3 : 10 < mny L
        · refine ⟨fun kd pl h => ?_, fun _ _ _ _ _ h => ?_, q3⟩
          · unfold rFl at h
            dsimp only at h
            rw [if_neg c1, if_neg c2, if_pos c3] at h
            cases h
            unfold oProgram
            have : 10 < L.length := by unfold mny at c3; split at c3 <;> omega
            rw [if_neg n0, e33, q2, if_neg (by omega), e25, if_pos (by omega)]
            refine Prod.ext ?_ rfl
            show (-3000 : Int) = -1000 * 3 - 0
            decide
          · unfold rFl at h
            dsimp only at h
            rw [if_neg c1, if_neg c2, if_pos c3] at h
            cases h
        · have ll : L.length ≤ 10 := by unfold mny at c3; split at c3 <;> omega
          have et : L.take 11 = L := List.take_of_length_le (by omega)
          rw [et] at l4
          refine ⟨fun kd pl h => ?_, fun x1 x2 x3 x4 e _ => ?_, q3⟩
          · unfold rFl at h
            dsimp only at h
            rw [if_neg c1, if_neg c2, if_neg c3] at h
            cases h
          · cases e
            refine ⟨ll, ?_, by rw [e25]; exact l4, fun j hj => ?_⟩
            · unfold oProgram
              rw [if_neg n0, e33, q2, if_neg (by omega), e25, if_neg (by omega), l4]
            · rw [e24]
              have := q4.2 j (by rw [et]; exact hj)
              rw [et, Int.zero_add] at this
              exact this
/-- the memory behind a program shows the reference's -/
theorem lgR_prog {E : y_E} {ρ ρ' σ τ : y_S} {G G' : y_G} (h : lgR E ρ G σ) (hk : mOk ρ') (h1 : ∀ t : Nat, t ≠ 19 → t ≠ 20 → t ≠ 24 → t ≠ 25 → t ≠ 26 → t ≠ 27 → t ≠ 28 → t ≠ 29 → t ≠ 60 → ρ' t = ρ t) (h2 : ∀ k : Int, k ≠ 21 → k ≠ 30 → k ≠ 31 → k ≠ 32 → k ≠ 33 → k ≠ 34 → ρ' 60 k = ρ 60 k) (h3 : ρ' 60 30 = 0)
    (g1 : ∀ t : Nat, t < 10000 → t < 90 ∨ 100 ≤ t → G'.1 t = G.1 t ∧ G'.2.2 t = G.2.2 t ∧ (t ≠ 62 → G'.2.1 t = G.2.1 t)) (g2 : ∀ t : Nat, 10000 ≤ t → G'.1 t = none) (t1 : ∀ t : Nat, t < 10000 → t < 90 ∨ 100 ≤ t → t ≠ 26 → t ≠ 18 → t ≠ 19 → t ≠ 60 → τ t = σ t) (t2 : ∀ k : Int, k ≠ 20 → k ≠ 25 → τ 60 k = σ 60 k) (t3 : τ 60 25 = 0) (t4 : τ 60 20 = ρ' 60 21) (t5 : ∀ k : Int, 0 ≤ k → k < ρ' 60 21 → τ 18 k = ρ' 19 k ∧ τ 19 k = ρ' 20 k) : lgR E ρ' G' τ := by
  have hn := h.1.n.2
  have hr := h.1.rn
  have hf := h.1.fe
  have hh := h.1.h48
  have hy := h.1.hy
  have r0 : ρ' 60 0 = ρ 60 0 := h2 0 (by decide) (by decide) (by decide) (by decide) (by decide) (by decide)
  let G1 : y_G := (fun t => if 90 ≤ t ∧ t < 100 then G'.1 t else G.1 t, fun t => if 90 ≤ t ∧ t < 100 then G'.2.1 t else G.2.1 t, fun t => if 90 ≤ t ∧ t < 100 then G'.2.2 t else G.2.2 t)
  have b : lgR E ρ G1 σ := h.n9 (fun t ht => ⟨if_neg (by omega), if_neg (by omega), if_neg (by omega), rfl⟩)
  have hG : lgG G1 G' := by
    refine ⟨fun t ht => ?_, g2⟩
    by_cases c : 90 ≤ t ∧ t < 100
    · exact ⟨(if_pos c).symm, (if_pos c).symm, fun k _ _ _ => congrFun (if_pos c : (if 90 ≤ t ∧ t < 100 then G'.2.1 t else G.2.1 t) = _).symm k⟩
    · have q := g1 t ht (by omega)
      exact ⟨q.1.trans (if_neg c).symm, q.2.1.trans (if_neg c).symm, fun k _ _ z => (congrFun (q.2.2 z) k).trans (congrFun (if_neg c : (if 90 ≤ t ∧ t < 100 then G'.2.1 t else G.2.1 t) = _).symm k)⟩
  let ρ1 : y_S := up2 (up2 (upT (upT ρ' 19 (ρ 19)) 20 (ρ 20)) 60 21 (ρ 60 21)) 60 30 (ρ 60 30)
  have he : lgE ρ ρ1 := by
    refine ⟨fun t ht => ?_, fun k a b c d => ?_⟩
    · have e60 : t ≠ 60 := fun q => ht (by rw [q]; decide)
      show up2 (up2 (upT (upT ρ' 19 (ρ 19)) 20 (ρ 20)) 60 21 (ρ 60 21)) 60 30 (ρ 60 30) t = ρ t
      rw [up2_n _ _ _ e60, up2_n _ _ _ e60]
      by_cases c20 : t = 20
      · rw [c20, upT_s]
      · rw [upT_n _ _ c20]
        by_cases c19 : t = 19
        · rw [c19, upT_s]
        · rw [upT_n _ _ c19]
          exact h1 t c19 c20 (fun q => ht (by rw [q]; decide)) (fun q => ht (by rw [q]; decide)) (fun q => ht (by rw [q]; decide)) (fun q => ht (by rw [q]; decide)) (fun q => ht (by rw [q]; decide)) (fun q => ht (by rw [q]; decide)) e60
    · show up2 (up2 (upT (upT ρ' 19 (ρ 19)) 20 (ρ 20)) 60 21 (ρ 60 21)) 60 30 (ρ 60 30) 60 k = ρ 60 k
      rw [up2_s]
      by_cases c30 : k = 30
      · rw [c30, up1_s]
      · rw [up1_n _ _ c30, up2_s]
        by_cases c21 : k = 21
        · rw [c21, up1_s]
        · rw [up1_n _ _ c21]
          exact h2 k c21 c30 a b c d
  obtain ⟨o, m2, m3, m4, m5, m6⟩ := b
  have hD : lgD ρ1 G' τ := m5.fr o he (fun t ht => t1 t (by omega) (by omega) (by omega) (by omega) (by omega) (by omega)) hG
  have hM : lgM ρ1 τ := m3.fr hn he (fun t ht => t1 t (by omega) (by omega) (by omega) (by omega) (by omega) (by omega)) (fun k z => t2 k (by omega) (by omega))
  obtain ⟨x1, x2, x3, x4, x5, x6, x7⟩ := m4
  have r11 : ρ' 11 = ρ 11 := h1 11 (by decide) (by decide) (by decide) (by decide) (by decide) (by decide) (by decide) (by decide) (by decide)
  have r13 : ρ' 13 = ρ 13 := h1 13 (by decide) (by decide) (by decide) (by decide) (by decide) (by decide) (by decide) (by decide) (by decide)
  have r14 : ρ' 14 = ρ 14 := h1 14 (by decide) (by decide) (by decide) (by decide) (by decide) (by decide) (by decide) (by decide) (by decide)
  have r15 : ρ' 15 = ρ 15 := h1 15 (by decide) (by decide) (by decide) (by decide) (by decide) (by decide) (by decide) (by decide) (by decide)
  have rk : ∀ k : Int, k = 16 ∨ k = 17 ∨ k = 18 ∨ k = 49 → ρ' 60 k = ρ 60 k := fun k z => h2 k (by omega) (by omega) (by omega) (by omega) (by omega) (by omega)
  refine ⟨hk, ?_, hM, ⟨fun c r c0 c1 c2 => ?_, ⟨?_, ?_, fun z => ?_⟩, fun k k0 k1 => ?_, fun k k0 k1 => ?_, ⟨t4, t5⟩, ⟨t3.trans h3.symm, fun k k0 k1 => absurd k1 (by omega)⟩, ?_⟩, hD, ?_⟩
  · rw [r0]; exact m2.fr hn hG
  · rw [r0] at c0 c2
    rw [r11, t1 (200 + c) (by omega) (by omega) (by omega) (by omega) (by omega) (by omega)]
    exact x1 c r c0 c1 c2
  · rw [rk 16 (by decide), t2 15 (by decide) (by decide)]; exact x2.1
  · rw [rk 17 (by decide), t2 17 (by decide) (by decide)]; exact x2.2.1
  · rw [rk 17 (by decide)] at z
    rw [rk 18 (by decide), t2 16 (by decide) (by decide)]
    exact x2.2.2 z
  · rw [r13, r14, t1 12 (by decide) (by decide) (by decide) (by decide) (by decide) (by decide), t1 13 (by decide) (by decide) (by decide) (by decide) (by decide) (by decide)]
    exact x3 k k0 k1
  · rw [r0] at k1
    rw [r15, t1 14 (by decide) (by decide) (by decide) (by decide) (by decide) (by decide)]
    exact x4 k k0 k1
  · rw [rk 49 (by decide), t2 31 (by decide) (by decide)]; exact x7
  · rw [(hG.1 0 (by decide)).2.1]; exact m6
