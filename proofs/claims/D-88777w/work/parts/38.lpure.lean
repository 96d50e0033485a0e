/-! LIGHT THROUGH THE PLATE, TABLES: what is alike on the lanes -/
abbrev eNT (lane : Int) : Int → Int := fun i => if i = lane then 1 else 0
theorem lSend {κ ρ : y_S} (hn : mN ρ) (e6 : κ 60 0 = ρ 60 0) (e1 : κ 1 = ρ 1) (e2 : κ 2 = ρ 2) {tr col : Int} {f : Int → Int} : ∀ j : Int, 0 ≤ j → j < ρ 60 0 → goR (ρ 60 0) (ρ 1) (ρ 2) (mTf (mEnt κ col) tr) (fillN f (eNT col) (ρ 60 0)) j = mGo (mEnt κ col) tr 10 j := by
  intro j a b
  show _ = goR (κ 60 0) (κ 1) (κ 2) (mTf (mEnt κ col) tr) (fillN (κ 10) (eNT col) (κ 60 0)) j
  rw [e6, e1, e2]
  exact goR_cg hn.1 hn.2 (fun _ _ _ => rfl) (fun j a b => by rw [fillN_in a b, fillN_in a b]) j a b
theorem mTab_cg {σ σ' : y_S} (hn : mN σ) (e6 : σ' 60 0 = σ 60 0) (e1 : σ' 1 = σ 1) (e2 : σ' 2 = σ 2) (e3 : σ' 3 = σ 3) (e4 : σ' 4 = σ 4) {col : Int} : ∀ j : Int, 0 ≤ j → j < σ 60 0 → mTab σ' col 10 j = mTab σ col 10 j := by
  intro j a b
  show goR (σ' 60 0) (σ' 1) (σ' 2) (mTf (mEnt (mNow σ') col) 0) (fillN (σ' 10) (eNT col) (σ' 60 0)) j = goR (σ 60 0) (σ 1) (σ 2) (mTf (mEnt (mNow σ) col) 0) (fillN (σ 10) (eNT col) (σ 60 0)) j
  rw [e6, e1, e2]
  refine goR_cg hn.1 hn.2 (fun l i hc => ?_) (fun j a b => by rw [fillN_in a b, fillN_in a b]) j a b
  have hx := cell_ix hc hn.2
  unfold mTf
  rw [if_pos rfl, if_pos rfl]
  show (if 0 ≤ σ' 4 (6 * l + i) then σ' 4 (6 * l + i) else fillN (σ' 8) (σ' 3) 72 (6 * l + i)) = (if 0 ≤ σ 4 (6 * l + i) then σ 4 (6 * l + i) else fillN (σ 8) (σ 3) 72 (6 * l + i))
  rw [e4, fillN_in hx.2.2.1 hx.2.2.2, fillN_in hx.2.2.1 hx.2.2.2, e3]
theorem mTab_same (ρ : y_S) (col : Int) : mSame [8, 9, 10] ρ (mTab ρ col) := (((mSame.rf.uT (t := 8) (by decide)).uT (t := 9) (by decide)).uT (t := 10) (by decide)).uT (t := 10) (by decide)
theorem mNow_same (ρ : y_S) : mSame [8, 9, 10] ρ (mNow ρ) := (mSame.rf.uT (t := 8) (by decide)).uT (t := 9) (by decide)
theorem mEntN_same (ρ : y_S) (col : Int) : mSame [8, 9, 10] ρ (mEnt (mNow ρ) col) := (mNow_same ρ).uT (t := 10) (by decide)
theorem lgE.s3 {ρ ρ' : y_S} (h : mSame [8, 9, 10] ρ ρ') : lgE ρ ρ' := lgE.sm h (by decide)
theorem lk5_now {ρ τ : y_S} {G : y_G} {col : Int} : lkK 5 ρ G τ (mEnt (mNow ρ) col) := fun k hk => fillN_in (f := ρ 8) (g := ρ 3) hk.1 hk.2.1
theorem lk6_now {ρ τ : y_S} {G : y_G} {col : Int} : lkK 6 ρ G τ (mEnt (mNow ρ) col) := fun k hk => ⟨fillN_in (f := ρ 8) (g := ρ 3) hk.1 hk.2.1, fillN_in (f := ρ 9) (g := ρ 6) hk.1 hk.2.1⟩
theorem lk6_now0 {ρ τ : y_S} {G : y_G} : lkK 6 ρ G τ (mNow ρ) := fun k hk => ⟨fillN_in (f := ρ 8) (g := ρ 3) hk.1 hk.2.1, fillN_in (f := ρ 9) (g := ρ 6) hk.1 hk.2.1⟩
theorem mBy_nowE {ρ : y_S} (h : mSt ρ) (col : Int) : mBy (mEnt (mNow ρ) col) := mBy_now h
theorem sumR_sym {f : Int → Int} {a b : Int} : ∀ k : Nat, sumR f a b k = sumR f b a k
  | 0 => rfl
  | k + 1 => by rw [sumR, sumR, sumR_sym k, Int.mul_comm]
/-- takes -/
theorem takeI_n {col : Int} : ∀ (f : Nat) (r o : Int) (σ : y_S), (takeI col f r o σ).2 60 = σ 60
  | 0, _, _, _ => rfl
  | f + 1, r, o, σ => by
    rw [takeI]
    split
    · rw [takeI_n f]; rfl
    · rfl
/-! STEPS, WORKS: both sides write them -/
theorem lgX_1 {ρ τ τ' : y_S} (h : lgX ρ τ) (e : ∀ c : Nat, c < 6 → τ' (200 + c) = τ (200 + c)) (hn : ρ 60 0 ≤ 6) : ∀ (c : Nat) (r : Int), (c : Int) < ρ 60 0 → 0 ≤ r → r < ρ 60 0 → τ' (200 + c) r = ρ 11 (6 * r + (c : Int)) := fun c r a b d => by rw [e c (by omega)]; exact h.1 c r a b d
theorem lgR_sp0 {E : y_E} {ρ τ : y_S} {G : y_G} (h : lgR E ρ G τ) : lgR E (sp0 ρ) G (up2 (up2 (up2 τ 60 17 1) 60 15 0) 60 16 (-1)) := by
  obtain ⟨h1, h2, h3, h4, h5, h6⟩ := h
  have hn := h1.n.2
  have hM : lgM ρ (up2 (up2 (up2 τ 60 17 1) 60 15 0) 60 16 (-1)) := ((h3.s hn (by decide)).s hn (by decide)).s hn (by decide)
  have hD : lgD ρ G (up2 (up2 (up2 τ 60 17 1) 60 15 0) 60 16 (-1)) := ((h5.s h1).s h1).s h1
  have hX : lgX (sp0 ρ) (up2 (up2 (up2 τ 60 17 1) 60 15 0) 60 16 (-1)) := by
    have x1 := lgX_1 (τ' := up2 (up2 (up2 τ 60 17 1) 60 15 0) 60 16 (-1)) h4 (fun c hc => by rw [up2_n _ _ _ (by omega), up2_n _ _ _ (by omega), up2_n _ _ _ (by omega)]) hn
    obtain ⟨-, -, x3, x4, x5, x6, x7⟩ := h4
    exact ⟨x1, ⟨rfl, rfl, fun _ => ⟨fun _ => rfl, fun _ => rfl⟩⟩, x3, x4, x5, x6, x7⟩
  exact ⟨ok_sp0 h1, h2, hM, hX, hD, h6⟩
theorem lgR_lack {E : y_E} {ρ τ : y_S} {G : y_G} (h : lgR E ρ G τ) {v : Int} (hv : v ≠ -1) (hk : mOk (up2 ρ 60 18 1)) : lgR E (up2 ρ 60 18 1) G (up2 τ 60 16 v) := by
  obtain ⟨h1, h2, h3, h4, h5, h6⟩ := h
  have hn := h1.n.2
  have hM : lgM ρ (up2 τ 60 16 v) := h3.s hn (by decide)
  have hD : lgD ρ G (up2 τ 60 16 v) := h5.s h1
  have hX : lgX (up2 ρ 60 18 1) (up2 τ 60 16 v) := by
    have x1 := lgX_1 (τ' := up2 τ 60 16 v) h4 (fun c hc => up2_n _ _ _ (by omega)) hn
    obtain ⟨-, x2, x3, x4, x5, x6, x7⟩ := h4
    exact ⟨x1, ⟨x2.1, x2.2.1, fun _ => ⟨fun q => absurd q hv, fun q => absurd q (show ¬ (1 : Int) = 0 by decide)⟩⟩, x3, x4, x5, x6, x7⟩
  exact ⟨hk, h2, hM, hX, hD, h6⟩
theorem up1_cg {f g : Int → Int} {s v : Int} {P : Int → Prop} (h : ∀ k, P k → f k = g k) : ∀ k, P k → up1 f s v k = up1 g s v k := fun k hk => by
  unfold up1
  split
  · rfl
  · exact h k hk
theorem lgR_stepN {E : y_E} {ρ τ : y_S} {G : y_G} (h : lgR E ρ G τ) {k r s : Int} (hs : s = ρ 60 16) (hk : mOk (spN ρ k r)) : lgR E (spN ρ k r) G (up2 (up2 (up2 τ 12 s (r - 1)) 60 15 (s + 1)) 13 s k) := by
  subst hs
  obtain ⟨h1, h2, h3, h4, h5, h6⟩ := h
  have hn := h1.n.2
  have e : ∀ t : Nat, t ≠ 12 → t ≠ 60 → t ≠ 13 → up2 (up2 (up2 τ 12 (ρ 60 16) (r - 1)) 60 15 (ρ 60 16 + 1)) 13 (ρ 60 16) k t = τ t := fun t a b c => by rw [up2_n _ _ _ c, up2_n _ _ _ b, up2_n _ _ _ a]
  have hM : lgM ρ (up2 (up2 (up2 τ 12 (ρ 60 16) (r - 1)) 60 15 (ρ 60 16 + 1)) 13 (ρ 60 16) k) := h3.fr hn lgE.rf (fun t ht => e t (by omega) (by omega) (by omega)) (fun q hq => by rw [up2_n _ _ _ (by decide), up2_s, up1_n _ _ (by omega), up2_n _ _ _ (by decide)])
  have hD : lgD ρ G (up2 (up2 (up2 τ 12 (ρ 60 16) (r - 1)) 60 15 (ρ 60 16 + 1)) 13 (ρ 60 16) k) := h5.fr h1 lgE.rf (fun t ht => e t (by omega) (by omega) (by omega)) ⟨fun _ _ => ⟨rfl, rfl, fun _ _ _ _ => rfl⟩, fun t ht => h5.2.2.2 t (Or.inr (Or.inr (Or.inr ht)))⟩
  have hX : lgX (spN ρ k r) (up2 (up2 (up2 τ 12 (ρ 60 16) (r - 1)) 60 15 (ρ 60 16 + 1)) 13 (ρ 60 16) k) := by
    have x1 := lgX_1 (τ' := up2 (up2 (up2 τ 12 (ρ 60 16) (r - 1)) 60 15 (ρ 60 16 + 1)) 13 (ρ 60 16) k) h4 (fun c hc => e _ (by omega) (by omega) (by omega)) hn
    obtain ⟨-, x2, x3, x4, x5, x6, x7⟩ := h4
    refine ⟨x1, ⟨rfl, x2.2.1, x2.2.2⟩, fun q a b => ⟨?_, ?_⟩, x4, x5, x6, x7⟩
    · show up1 (τ 12) (ρ 60 16) (r - 1) q = up1 (ρ 13) (ρ 60 16) (r - 1) q
      exact up1_cg (P := fun q => 0 ≤ q ∧ q < 15) (fun q hq => (x3 q hq.1 hq.2).1) q ⟨a, b⟩
    · show up1 (τ 13) (ρ 60 16) k q = up1 (ρ 14) (ρ 60 16) k q
      exact up1_cg (P := fun q => 0 ≤ q ∧ q < 15) (fun q hq => (x3 q hq.1 hq.2).2) q ⟨a, b⟩
  exact ⟨hk, h2, hM, hX, hD, h6⟩
theorem lgR_sgn {E : y_E} {ρ τ : y_S} {G : y_G} (h : lgR E ρ G τ) {g g' : Int → Int} (hg : ∀ j : Int, 0 ≤ j → j < ρ 60 0 → g' j = g j) (hk : mOk (upT ρ 15 (fillN (ρ 15) g (ρ 60 0)))) : lgR E (upT ρ 15 (fillN (ρ 15) g (ρ 60 0))) G (upT τ 14 (fillN (τ 14) g' (ρ 60 0))) := by
  obtain ⟨h1, h2, h3, h4, h5, h6⟩ := h
  have hn := h1.n.2
  have e : ∀ t : Nat, t ≠ 14 → upT τ 14 (fillN (τ 14) g' (ρ 60 0)) t = τ t := fun t a => upT_n _ _ a
  have hM : lgM ρ (upT τ 14 (fillN (τ 14) g' (ρ 60 0))) := h3.fr hn lgE.rf (fun t ht => e t (by omega)) (fun q _ => rfl)
  have hD : lgD ρ G (upT τ 14 (fillN (τ 14) g' (ρ 60 0))) := h5.fr h1 lgE.rf (fun t ht => e t (by omega)) ⟨fun _ _ => ⟨rfl, rfl, fun _ _ _ _ => rfl⟩, fun t ht => h5.2.2.2 t (Or.inr (Or.inr (Or.inr ht)))⟩
  have hX : lgX (upT ρ 15 (fillN (ρ 15) g (ρ 60 0))) (upT τ 14 (fillN (τ 14) g' (ρ 60 0))) := by
    have x1 := lgX_1 (τ' := upT τ 14 (fillN (τ 14) g' (ρ 60 0))) h4 (fun c hc => e _ (by omega)) hn
    obtain ⟨-, x2, x3, x4, x5, x6, x7⟩ := h4
    refine ⟨x1, x2, x3, fun q a b => ?_, x5, x6, x7⟩
    show fillN (τ 14) g' (ρ 60 0) q = fillN (ρ 15) g (ρ 60 0) q
    have b : q < ρ 60 0 := b
    rw [fillN_in a b, fillN_in a b, hg q a b]
  exact ⟨hk, h2, hM, hX, hD, h6⟩
theorem lgR_wk0 {E : y_E} {ρ τ : y_S} {G : y_G} (h : lgR E ρ G τ) (hk : mOk (up2 ρ 60 21 0)) : lgR E (up2 ρ 60 21 0) G (up2 τ 60 20 0) := by
  obtain ⟨h1, h2, h3, h4, h5, h6⟩ := h
  have hn := h1.n.2
  have hM : lgM ρ (up2 τ 60 20 0) := h3.s hn (by decide)
  have hD : lgD ρ G (up2 τ 60 20 0) := h5.s h1
  have hX : lgX (up2 ρ 60 21 0) (up2 τ 60 20 0) := by
    have x1 := lgX_1 (τ' := up2 τ 60 20 0) h4 (fun c hc => up2_n _ _ _ (by omega)) hn
    obtain ⟨-, x2, x3, x4, x5, x6, x7⟩ := h4
    refine ⟨x1, x2, x3, x4, ⟨rfl, fun k a b => ?_⟩, x6, x7⟩
    have b : k < 0 := b
    omega
  exact ⟨hk, h2, hM, hX, hD, h6⟩
theorem lgR_wk1 {E : y_E} {ρ τ : y_S} {G : y_G} (h : lgR E ρ G τ) {w a b : Int} (hw : w = ρ 60 21) (hk : mOk (up2 (up2 (up2 ρ 19 w a) 20 w b) 60 21 (w + 1))) : lgR E (up2 (up2 (up2 ρ 19 w a) 20 w b) 60 21 (w + 1)) G (up2 (up2 (up2 τ 18 w a) 60 20 (w + 1)) 19 w b) := by
  subst hw
  obtain ⟨h1, h2, h3, h4, h5, h6⟩ := h
  have hn := h1.n.2
  have e : ∀ t : Nat, t ≠ 18 → t ≠ 60 → t ≠ 19 → up2 (up2 (up2 τ 18 (ρ 60 21) a) 60 20 (ρ 60 21 + 1)) 19 (ρ 60 21) b t = τ t := fun t a b c => by rw [up2_n _ _ _ c, up2_n _ _ _ b, up2_n _ _ _ a]
  have hM : lgM ρ (up2 (up2 (up2 τ 18 (ρ 60 21) a) 60 20 (ρ 60 21 + 1)) 19 (ρ 60 21) b) := h3.fr hn lgE.rf (fun t ht => e t (by omega) (by omega) (by omega)) (fun q hq => by rw [up2_n _ _ _ (by decide), up2_s, up1_n _ _ (by omega), up2_n _ _ _ (by decide)])
  have hD : lgD ρ G (up2 (up2 (up2 τ 18 (ρ 60 21) a) 60 20 (ρ 60 21 + 1)) 19 (ρ 60 21) b) := h5.fr h1 lgE.rf (fun t ht => e t (by omega) (by omega) (by omega)) ⟨fun _ _ => ⟨rfl, rfl, fun _ _ _ _ => rfl⟩, fun t ht => h5.2.2.2 t (Or.inr (Or.inr (Or.inr ht)))⟩
  have hX : lgX (up2 (up2 (up2 ρ 19 (ρ 60 21) a) 20 (ρ 60 21) b) 60 21 (ρ 60 21 + 1)) (up2 (up2 (up2 τ 18 (ρ 60 21) a) 60 20 (ρ 60 21 + 1)) 19 (ρ 60 21) b) := by
    have x1 := lgX_1 (τ' := up2 (up2 (up2 τ 18 (ρ 60 21) a) 60 20 (ρ 60 21 + 1)) 19 (ρ 60 21) b) h4 (fun c hc => e _ (by omega) (by omega) (by omega)) hn
    obtain ⟨-, x2, x3, x4, x5, x6, x7⟩ := h4
    refine ⟨x1, x2, x3, x4, ⟨rfl, fun q c d => ⟨?_, ?_⟩⟩, x6, x7⟩
    · have d : q < ρ 60 21 + 1 := d
      show up1 (τ 18) (ρ 60 21) a q = up1 (ρ 19) (ρ 60 21) a q
      unfold up1
      split
      · rfl
      · exact (x5.2 q c (by omega)).1
    · have d : q < ρ 60 21 + 1 := d
      show up1 (τ 19) (ρ 60 21) b q = up1 (ρ 20) (ρ 60 21) b q
      unfold up1
      split
      · rfl
      · exact (x5.2 q c (by omega)).2
  exact ⟨hk, h2, hM, hX, hD, h6⟩
