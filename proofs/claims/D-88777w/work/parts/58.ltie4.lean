/-! WHAT THE READER READS IS WHAT THE REFERENCE READS (2): brackets, statements -/
section RV2
variable {ρ σ τ : y_S} {a lk d w : Int} {nm : rM} {acc L : List Int}
theorem op_v (h : rV ρ σ a lk nm d acc) (hs : mSig σ = 40) (hd : 2 * d + 1 ≤ a) (h0 : 0 ≤ w) (h1 : w ≤ 15) : rV ρ (aOpen (aOn σ) w) (a + 1) lk nm (d + 1) [] ∧ aOpen (aOn σ) w 26 (d + 1) = w ∧ kp d σ (aOpen (aOn σ) w) ∧ l11 (aOpen (aOn σ) w 24) (13 * d) (aOpen (aOn σ) w 25 d) acc := by
  have v := h.on (by omega)
  obtain ⟨hp, z1, ⟨z2, z3, z4, z5⟩, z6, z7⟩ := v
  have e32 : aOn σ 60 32 = d := z3
  have e24 : aOpen (aOn σ) w 24 = aOn σ 24 := rfl
  have e25 : aOpen (aOn σ) w 25 = up1 (aOn σ 25) (d + 1) 0 := by unfold aOpen; rw [e32]; rfl
  have e26 : aOpen (aOn σ) w 26 = up1 (aOn σ 26) (d + 1) w := by unfold aOpen; rw [e32]; rfl
  refine ⟨⟨pOk_open hp (by omega) h0 h1, ⟨fun t a b c d e f g => ?_, fun k a b c d => ?_⟩, ⟨z2, ?_, z4, z5⟩, z6, ?_⟩, ?_, ⟨fun j j0 j1 => ⟨?_, fun i _ _ => ?_⟩, fun j j0 j1 => ?_⟩, ?_⟩
  · refine Eq.trans ?_ (z1.1 t a b c d e f g)
    unfold aOpen
    rw [up2_n _ _ _ c, up2_n _ _ _ b, up2_n _ _ _ g]
  · refine Eq.trans ?_ (z1.2 k a b c d)
    show up2 (aOn σ) 60 32 _ 60 k = _
    rw [up2_s, up1_n _ _ b]
  · show aOn σ 60 32 + 1 = _
    rw [e32]
  · rw [e25, up1_s]
    exact l11_0 _ _
  · rw [e26, up1_s]
  · rw [e25, up1_n _ _ (by omega)]; rfl
  · rfl
  · rw [e26, up1_n _ _ (by omega)]; rfl
  · rw [e24, e25, up1_n _ _ (by omega)]
    exact z7
/-- one depth less -/
theorem dp_v (h : rV ρ τ a lk nm (d + 1) L) (h0 : 0 ≤ d) (hl : l11 (τ 24) (13 * d) (τ 25 d) acc) : rV ρ (up2 τ 60 32 d) a lk nm d acc := by
  have hle := h.le
  obtain ⟨hp, z1, ⟨z2, z3, z4, z5⟩, z6, z7⟩ := h
  refine ⟨pOk_deep hp h0 (by omega), ⟨fun t a b c d e f g => ?_, fun k a b c d => ?_⟩, ⟨z2, ?_, z4, z5⟩, z6, hl⟩
  · exact (up2_n _ _ _ g).trans (z1.1 t a b c d e f g)
  · rw [up2_s, up1_n _ _ b]; exact z1.2 k a b c d
  · rw [up2_s, up1_s]
theorem cl_d (h : rV ρ τ a lk nm (d + 1) L) (hs : mSig τ = 41) (h0 : 0 ≤ d) (hw : τ 26 (d + 1) = w) (w0 : 0 ≤ w) (w1 : w < 10) (hl : l11 (τ 24) (13 * d) (τ 25 d) acc) : rV ρ (aClose (aOn τ)) (a + 1) lk nm d (acc ++ rdRep w.toNat L) ∧ kp d τ (aClose (aOn τ)) := by
  have v := h.on (by omega)
  have e32 : aOn τ 60 32 = d + 1 := v.2.2.1.2.1
  have hp := pOk_close v.1 (by omega)
  have x := dp_v v h0 (acc := acc) hl
  have e26 : aOn τ 26 (d + 1) = w := hw
  have e1 : aClose (aOn τ) = aRou (13 * (d + 1)) (L.take 11).length w.toNat (up2 (aOn τ) 60 32 d) := by
    unfold aClose
    rw [e32, e26, if_neg (by omega), show d + 1 - 1 = d by omega]
    have : (aOn τ 25 (d + 1)).toNat = (L.take 11).length := by have := h.2.2.2.2.1; show (τ 25 (d + 1)).toNat = _; omega
    rw [this]
  rw [e1] at hp ⊢
  have q := aRou_q (d := d) (a := 13 * (d + 1)) (by omega) (L.take 11) w.toNat (up2 (aOn τ) 60 32 d) acc x.2.2.1.2.1 (fun i hi => h.2.2.2.2.2 i hi) x.2.2.2.2
  exact ⟨x.q q.1 hp (q.2.tk (tk_rep _)), (kp.six (fun t ht => (up2_n _ _ _ ht).trans (up2_n _ _ _ ht))).tr (kp.of q.1)⟩
theorem cl_n {k : Int} (h : rV ρ τ a lk nm (d + 1) L) (hs : mSig τ = 41) (h0 : 0 ≤ d) (hw : τ 26 (d + 1) = 10 + k) (w0 : 0 ≤ k) (w1 : k < 6) (hl : l11 (τ 24) (13 * d) (τ 25 d) acc) : rV ρ (aClose (aOn τ)) (a + 1) lk (up1 nm k (some L)) d acc ∧ kp d τ (aClose (aOn τ)) := by
  have v := h.on (by omega)
  have e32 : aOn τ 60 32 = d + 1 := v.2.2.1.2.1
  have hp := pOk_close v.1 (by omega)
  have x := dp_v v h0 (acc := acc) hl
  have e26 : aOn τ 26 (d + 1) = 10 + k := hw
  have e25 : aOn τ 25 (d + 1) = τ 25 (d + 1) := rfl
  have e24 : aOn τ 24 = τ 24 := rfl
  have e27 : aOn τ 27 = τ 27 := rfl
  have e1 : aClose (aOn τ) = upT (up2 (up2 (up2 (aOn τ) 60 32 d) 29 k 1) 28 k (τ 25 (d + 1))) 27 (fillA (τ 27) (fun i => τ 24 (13 * (d + 1) + i)) (11 * k) (τ 25 (d + 1))) := by
    unfold aClose
    rw [e32, e26, if_pos (by omega), show d + 1 - 1 = d by omega, show 10 + k - 10 = k by omega, e25, e24, e27]
  have hle := h.2.2.2.2.le
  rw [e1] at hp ⊢
  obtain ⟨_, z1, z2, z6, z7⟩ := x
  refine ⟨⟨hp, ⟨fun t a b c d e f g => ?_, fun k a b c d => z1.2 k a b c d⟩, z2, fun j j0 j1 => ?_, z7⟩, ⟨fun j _ _ => ⟨rfl, fun i _ _ => rfl⟩, fun j _ _ => rfl⟩⟩
  · refine Eq.trans ?_ (z1.1 t a b c d e f g)
    rw [upT_n _ _ d, up2_n _ _ _ e, up2_n _ _ _ f]
  · have y27 : upT (up2 (up2 (up2 (aOn τ) 60 32 d) 29 k 1) 28 k (τ 25 (d + 1))) 27 (fillA (τ 27) (fun i => τ 24 (13 * (d + 1) + i)) (11 * k) (τ 25 (d + 1))) 27 = fillA (τ 27) (fun i => τ 24 (13 * (d + 1) + i)) (11 * k) (τ 25 (d + 1)) := rfl
    have y28 : upT (up2 (up2 (up2 (aOn τ) 60 32 d) 29 k 1) 28 k (τ 25 (d + 1))) 27 (fillA (τ 27) (fun i => τ 24 (13 * (d + 1) + i)) (11 * k) (τ 25 (d + 1))) 28 = up1 (τ 28) k (τ 25 (d + 1)) := rfl
    have y29 : upT (up2 (up2 (up2 (aOn τ) 60 32 d) 29 k 1) 28 k (τ 25 (d + 1))) 27 (fillA (τ 27) (fun i => τ 24 (13 * (d + 1) + i)) (11 * k) (τ 25 (d + 1))) 29 = up1 (τ 29) k 1 := rfl
    rw [y27, y28, y29]
    by_cases c : j = k
    · subst c
      rw [up1_s, up1_s, up1_s]
      refine ⟨by decide, h.2.2.2.2.cg rfl (fun i i0 i1 => ?_)⟩
      rw [fillA_in (by omega) (by omega), show 11 * j + i - 11 * j = i by omega]
    · rw [up1_n _ _ c, up1_n _ _ c, up1_n _ _ c]
      have hq := h.2.2.2.1 j j0 j1
      rcases hm : nm j with _ | M
      · rw [hm] at hq; exact hq
      · rw [hm] at hq
        have hq : τ 29 j ≠ 0 ∧ l11 (τ 27) (11 * j) (τ 28 j) M := hq
        refine ⟨hq.1, hq.2.cg rfl (fun i i0 i1 => ?_)⟩
        have := hq.2.le
        exact fillA_out (by omega)
/-- what a reading tells of the reference's -/
def tR (ρ σ : y_S) (d : Int) (acc : List Int) (R : rR) : Prop := match R with
  | .inl p => ∃ τ, Mach true σ (0, τ) ∧ τ 60 31 = p ∧ rSame ρ τ
  | .inr (a1, lk1, nm1, L) => ∃ τ, rV ρ τ a1 lk1 nm1 d (acc ++ L) ∧ kp d σ τ ∧ ∀ r, Mach false τ r → Mach true σ r
def tGd (ρ : y_S) (S : Int → Int → rM → Option rR) : Prop := ∀ (a lk : Int) (nm : rM) (R : rR) (σ : y_S) (d : Int) (acc : List Int), S a lk nm = some R → rV ρ σ a lk nm d acc → tR ρ σ d acc R
def tR2 (ρ σ : y_S) (d : Int) (R : rR) : Prop := match R with
  | .inl p => ∃ τ, Mach true σ (0, τ) ∧ τ 60 31 = p ∧ rSame ρ τ
  | .inr (a1, lk1, nm1, L) => ∃ τ, rV ρ τ a1 lk1 nm1 d L ∧ kp d σ τ ∧ nxR ρ a1 ≠ 59 ∧ ∀ r, Mach false τ r → Mach true σ r
theorem tSs {S : Int → Int → rM → Option rR} (hS : tGd ρ S) : ∀ (g : Nat) (a lk : Int) (nm : rM) (acc : List Int) (R : rR) (σ : y_S), rSs ρ S g a lk nm acc = some R → rV ρ σ a lk nm d acc → tR2 ρ σ d R
  | 0, _, _, _, _, _, _, h, _ => by cases h
  | g + 1, a, lk, nm, acc, R, σ, h, hv => by
    rw [rSs] at h
    rcases hs : S a lk nm with _ | (p | ⟨a1, lk1, nm1, L⟩)
    · rw [hs] at h; cases h
    · rw [hs] at h; cases h; exact hS _ _ _ _ _ _ _ hs hv
    · rw [hs] at h
      obtain ⟨τ, h1, h2, h3⟩ := hS _ _ _ _ _ _ _ hs hv
      dsimp only at h
      have sg := h1.sg
      by_cases c : nxR ρ a1 = 59
      · rw [if_pos c] at h
        have z := tSs hS g (a1 + 1) lk1 nm1 _ R (aOn τ) h (h1.on (by omega))
        have hk : kp d σ (aOn τ) := h2.tr (kp.six (fun t ht => up2_n _ _ _ ht))
        rcases R with p | ⟨a2, lk2, nm2, L2⟩
        · obtain ⟨υ, y1, y2⟩ := z
          exact ⟨υ, h3 _ (M_s (by omega) y1), y2⟩
        · obtain ⟨υ, y1, y2, y3, y4⟩ := z
          exact ⟨υ, y1, hk.tr y2, y3, fun r hr => h3 _ (M_s (by omega) (y4 r hr))⟩
      · rw [if_neg c] at h
        cases h
        exact ⟨τ, h1, h2, c, h3⟩
def tR3 (ρ σ : y_S) (d w : Int) (acc : List Int) (R : rR) : Prop := match R with
  | .inl p => ∃ τ, Mach true (aOpen (aOn σ) w) (0, τ) ∧ τ 60 31 = p ∧ rSame ρ τ
  | .inr (a1, lk1, nm1, L) => ∃ τ, rV ρ τ (a1 - 1) lk1 nm1 (d + 1) L ∧ mSig τ = 41 ∧ τ 26 (d + 1) = w ∧ l11 (τ 24) (13 * d) (τ 25 d) acc ∧ kp d σ τ ∧ ∀ r, Mach false (aClose (aOn τ)) r → Mach true (aOpen (aOn σ) w) r
theorem tIn {S : Int → Int → rM → Option rR} (hS : tGd ρ S) {R : rR} (h : rBr ρ S a lk nm = some R) (hv : rV ρ σ a lk nm d acc) (hd : 2 * d + 1 ≤ a) (h0 : 0 ≤ w) (h1 : w ≤ 15) : (mSig σ ≠ 40 ∧ R = .inl a) ∨ (mSig σ = 40 ∧ tR3 ρ σ d w acc R) := by
  have sg := hv.sg
  have d0 := hv.le
  unfold rBr at h
  by_cases c : nxR ρ a ≠ 40
  · rw [if_pos c] at h
    cases h
    exact Or.inl ⟨by omega, rfl⟩
  · rw [if_neg c] at h
    have e40 : mSig σ = 40 := by omega
    refine Or.inr ⟨e40, ?_⟩
    obtain ⟨o1, o2, o3, o4⟩ := op_v hv e40 hd h0 h1
    rcases hs : rSs ρ S 101 (a + 1) lk nm [] with _ | (p | ⟨a1, lk1, nm1, L⟩)
    · rw [hs] at h; cases h
    · rw [hs] at h; cases h; exact tSs hS _ _ _ _ _ _ _ hs o1
    · rw [hs] at h
      obtain ⟨τ, y1, y2, y3, y4⟩ := tSs hS _ _ _ _ _ _ _ hs o1
      dsimp only at h
      have sg1 := y1.sg
      have dd : τ 60 32 = d + 1 := y1.2.2.1.2.1
      by_cases c3 : nxR ρ a1 ≠ 41
      · rw [if_pos c3] at h
        cases h
        exact ⟨τ, y4 _ (M_f (by omega) (by omega) (by omega)), y1.2.2.1.1, y1.2.1⟩
      · rw [if_neg c3] at h
        cases h
        refine ⟨τ, by rw [show a1 + 1 - 1 = a1 by omega]; exact y1, by omega, (y2.2 (d + 1) (by omega) (Int.le_refl _)).trans o2, ?_, ⟨fun j j0 j1 => ?_, fun j j0 j1 => ?_⟩, fun r hr => y4 r (M_c (by omega) (by omega) hr)⟩
        · have b := y2.1 d (by omega) (by omega)
          have le := o4.le
          exact o4.cg b.1 (fun k k0 k1 => b.2 k k0 (by omega))
        · have b := y2.1 j j0 (by omega)
          have b2 := o3.1 j j0 j1
          exact ⟨b.1.trans b2.1, fun i i0 i1 => (b.2 i i0 i1).trans (b2.2 i i0 i1)⟩
        · exact (y2.2 j j0 (by omega)).trans (o3.2 j j0 j1)
theorem tSt (hn : mN ρ) : ∀ f : Nat, tGd ρ (rSt ρ f)
  | 0 => fun _ _ _ _ _ _ _ h => by cases h
  | f + 1 => fun a lk nm R σ d acc h hv => by
    have hS := tSt hn f
    have sg := hv.sg
    have hle := hv.le
    rw [rSt] at h
    by_cases c1 : nxR ρ a = -1
    · rw [if_pos c1] at h
      cases h
      exact ⟨σ, M_x (by omega) (by omega), hv.2.2.1.1, hv.2.1⟩
    · rw [if_neg c1] at h
      by_cases c2 : 97 ≤ nxR ρ a ∧ nxR ρ a < 103
      · rw [if_pos c2] at h
        have e : mSig σ = nxR ρ a := by omega
        have v1 := hv.on (by omega)
        have sg1 := v1.sg
        have hnm : isNm (mSig σ) := by omega
        unfold rNa at h
        by_cases c3 : nxR ρ (a + 1) = 61
        · rw [if_pos c3] at h
          have v2 := v1.on (by omega)
          have eE : stE σ = aOn (aOn σ) := by unfold stE; rw [if_pos hnm]
          have eH : stH (mSig σ) = 10 + (nxR ρ a - 97) := by unfold stH; rw [if_pos hnm, e]; omega
          have kk : kp d σ (aOn (aOn σ)) := kp.six (fun t ht => (up2_n _ _ _ ht).trans (up2_n _ _ _ ht))
          rcases hs : rBr ρ (rSt ρ f) (a + 1 + 1) lk nm with _ | R1
          · rw [hs] at h; cases h
          · have z := tIn (w := 10 + (nxR ρ a - 97)) hS hs v2 (by omega) (by omega) (by omega)
            rcases z with ⟨z1, rfl⟩ | ⟨z1, z2⟩
            · rw [hs] at h
              cases h
              refine ⟨aOn (aOn σ), ?_, v2.2.2.1.1, v2.2.1⟩
              rw [← eE]
              exact M_e (by omega) (by omega) (by omega) (by rw [eE]; exact z1)
            · have mo : ∀ r, Mach true (aOpen (aOn (aOn (aOn σ))) (10 + (nxR ρ a - 97))) r → Mach true σ r := fun r hr => M_o (by omega) (by omega) (by omega) (by rw [eE]; exact z1) (by rw [eE, eH]; exact hr)
              rcases R1 with p | ⟨a1, lk1, nm1, L⟩
              · rw [hs] at h
                cases h
                obtain ⟨τ, y1, y2⟩ := z2
                exact ⟨τ, mo _ y1, y2⟩
              · rw [hs] at h
                cases h
                obtain ⟨τ, y1, y2, y3, y4, y5, y6⟩ := z2
                have b := cl_n y1 y2 (by omega) y3 (by omega) (by omega) y4
                rw [show a1 - 1 + 1 = a1 by omega] at b
                exact ⟨_, by rw [List.append_nil]; exact b.1, kk.tr (y5.tr b.2), fun r hr => mo r (y6 r hr)⟩
        · rw [if_neg c3] at h
          have u := us_v v1 (by omega) (k := nxR ρ a - 97) (by omega) (by omega)
          have mu : ∀ r, Mach false (aUse (aOn σ) (nxR ρ a - 97)) r → Mach true σ r := fun r hr => M_u hnm (by omega) (by rw [e]; exact hr)
          have kk : kp d σ (aOn σ) := kp.six (fun t ht => up2_n _ _ _ ht)
          rcases hs : nm (nxR ρ a - 97) with _ | L
          · rw [hs] at h
            cases h
            have b := u.2 hs
            exact ⟨_, by rw [List.append_nil]; exact b.1, kk.tr b.2, mu⟩
          · rw [hs] at h
            cases h
            have b := u.1 L hs
            exact ⟨_, b.1, kk.tr b.2, mu⟩
      · rw [if_neg c2] at h
        by_cases c3 : 48 ≤ nxR ρ a ∧ nxR ρ a ≤ 57
        · rw [if_pos c3] at h
          have e : mSig σ = nxR ρ a := by omega
          have v1 := hv.on (by omega)
          have eE : stE σ = aOn σ := by unfold stE; rw [if_neg (by omega)]
          have eH : stH (mSig σ) = nxR ρ a - 48 := by unfold stH; rw [if_neg (by omega), e]
          have kk : kp d σ (aOn σ) := kp.six (fun t ht => up2_n _ _ _ ht)
          rcases hs : rBr ρ (rSt ρ f) (a + 1) lk nm with _ | R1
          · rw [hs] at h; cases h
          · have z := tIn (w := nxR ρ a - 48) hS hs v1 (by omega) (by omega) (by omega)
            rcases z with ⟨z1, rfl⟩ | ⟨z1, z2⟩
            · rw [hs] at h
              cases h
              refine ⟨aOn σ, ?_, v1.2.2.1.1, v1.2.1⟩
              rw [← eE]
              exact M_e (by omega) (by omega) (by omega) (by rw [eE]; exact z1)
            · have mo : ∀ r, Mach true (aOpen (aOn (aOn σ)) (nxR ρ a - 48)) r → Mach true σ r := fun r hr => M_o (by omega) (by omega) (by omega) (by rw [eE]; exact z1) (by rw [eE, eH]; exact hr)
              rcases R1 with p | ⟨a1, lk1, nm1, L⟩
              · rw [hs] at h
                cases h
                obtain ⟨τ, y1, y2⟩ := z2
                exact ⟨τ, mo _ y1, y2⟩
              · rw [hs] at h
                cases h
                obtain ⟨τ, y1, y2, y3, y4, y5, y6⟩ := z2
                have b := cl_d y1 y2 (by omega) y3 (by omega) (by omega) y4
                rw [show a1 - 1 + 1 = a1 by omega] at b
                exact ⟨_, b.1, kk.tr (y5.tr b.2), fun r hr => mo r (y6 r hr)⟩
        · rw [if_neg c3] at h
          by_cases c4 : nxR ρ a ≠ 116 ∧ nxR ρ a ≠ 115 ∧ nxR ρ a ≠ 117
          · rw [if_pos c4] at h
            cases h
            exact ⟨σ, M_x (by omega) (by omega), hv.2.2.1.1, hv.2.1⟩
          · rw [if_neg c4] at h
            have ht : isTu (mSig σ) := by omega
            have u := tu_v hn hv ht
            rcases hs : rLf ρ (nxR ρ a) a with p | ⟨a1, L⟩
            · rw [hs] at h
              cases h
              have b := u.2 p hs
              exact ⟨_, M_t0 ht b.1, b.2⟩
            · rw [hs] at h
              cases h
              have b := u.1 a1 L hs
              exact ⟨_, b.2.1, b.2.2, fun r hr => M_t1 ht b.1 hr⟩
end RV2
/-! a program -/
def rNm0 : rM := fun _ => none
/-- what a program's text is: a fault's place, or what is lacking and its works -/
def rPr (ρ : y_S) : Option rR := rSs ρ (rSt ρ 101) 101 0 (-1) rNm0 []
theorem rPr_en {ρ : y_S} (hT : 0 ≤ ρ 60 30 ∧ ρ 60 30 ≤ 100) : ∃ R, rPr ρ = some R := rSs_en (rSt_pos hT.2 101) (rSt_en hT.2 101) hT.2 101 0 (-1) rNm0 [] (by decide) (by decide) (by decide) hT.1 (Or.inl rfl)
theorem rPr_pos {ρ : y_S} (hT : 0 ≤ ρ 60 30 ∧ ρ 60 30 ≤ 100) {R : rR} (h : rPr ρ = some R) : rPos ρ 0 R := rSs_pos (rSt_pos hT.2 101) 101 0 (-1) rNm0 [] R (by decide) hT.1 (Or.inl rfl) h
theorem rPr_v {ρ : y_S} (hp : pLs ρ) : rV ρ (paS ρ) 0 (-1) rNm0 0 [] := by
  refine ⟨pLs_pa hp, ⟨fun t a b c d e f g => ?_, fun k a b c d => ?_⟩, ⟨rfl, rfl, rfl, Or.inl rfl⟩, fun k h0 h1 => ?_, l11_0 _ _⟩
  · unfold paS
    rw [upT_n _ _ f, up2_n _ _ _ g, up2_n _ _ _ b, up2_n _ _ _ g, up2_n _ _ _ g]
  · show up2 (up2 (up2 (up2 ρ 60 31 0) 60 32 0) 25 0 0) 60 33 (-1) 60 k = _
    rw [up2_s, up1_n _ _ c, up2_n _ _ _ (by decide), up2_s, up1_n _ _ b, up2_s, up1_n _ _ a]
  · show fillN (ρ 29) (fun _ => 0) 6 k = 0
    rw [fillN_in h0 h1]
theorem rPr_t {ρ : y_S} (hn : mN ρ) (hp : pLs ρ) {R : rR} (h : rPr ρ = some R) : match R with
    | .inl p => (oParse ρ).1 = 0 ∧ (oParse ρ).2 60 31 = p ∧ rSame ρ (oParse ρ).2
    | .inr (a1, lk1, _, L) => if a1 < ρ 60 30 then (oParse ρ).1 = 0 ∧ (oParse ρ).2 60 31 = a1 ∧ rSame ρ (oParse ρ).2 else (oParse ρ).1 = 1 ∧ (oParse ρ).2 60 33 = lk1 ∧ rSame ρ (oParse ρ).2 ∧ l11 ((oParse ρ).2 24) 0 ((oParse ρ).2 25 0) L := by
  have hv := rPr_v hp
  have hM : Mach true (paS ρ) (oParse ρ) := M_pa 101 (paS ρ) hv.1 (by have := hv.1.2.1; have : paS ρ 60 31 = 0 := rfl; omega)
  have z := tSs (d := 0) (tSt hn 101) 101 0 (-1) rNm0 [] R (paS ρ) h hv
  rcases R with p | ⟨a1, lk1, nm1, L⟩
  · obtain ⟨τ, y1, y2, y3⟩ := z
    have e := hM.det y1
    rw [e]
    exact ⟨rfl, y2, y3⟩
  · obtain ⟨τ, y1, y2, y3, y4⟩ := z
    have sg := y1.sg
    have dd : τ 60 32 = 0 := y1.2.2.1.2.1
    dsimp only
    by_cases c : a1 < ρ 60 30
    · rw [if_pos c]
      have hne : mSig τ ≠ -1 := by
        intro q
        have e30 := y1.2.1.2 30 (by decide) (by decide) (by decide) (by decide)
        have ea := y1.2.2.1.1
        unfold mSig at q
        rw [if_pos (by omega)] at q
        have := y1.1.2.2.2.2.2.2.1 (τ 60 31) (by have := y1.1.2.1; omega) (by have := y1.1.2.1; omega)
        omega
      have e := hM.det (y4 _ (M_f (by omega) (by omega) (by omega)))
      rw [e]
      exact ⟨rfl, y1.2.2.1.1, y1.2.1⟩
    · rw [if_neg c]
      have e1 : mSig τ = -1 := by
        have e30 := y1.2.1.2 30 (by decide) (by decide) (by decide) (by decide)
        have ea := y1.2.2.1.1
        unfold mSig
        rw [if_neg (by omega)]
      have e := hM.det (y4 _ (M_d e1 dd))
      rw [e]
      exact ⟨rfl, y1.2.2.1.2.2.1, y1.2.1, y1.2.2.2.2⟩
