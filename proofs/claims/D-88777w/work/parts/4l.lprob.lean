/-! PROBING BEGINS: the hypotheses are made -/
def prP (f4 r0 : Int → Int) (ps : List (Int × Int)) : Int × (Int → Int) := ps.foldl (fun a p => if f4 (6 * p.1 + p.2) < 0 then (a.1 + 1, up1 a.2 a.1 (6 * p.1 + p.2)) else a) (0, r0)
theorem prP_a {f4 r0 : Int → Int} {ps : List (Int × Int)} {p : Int × Int} : prP f4 r0 (ps ++ [p]) = if f4 (6 * p.1 + p.2) < 0 then ((prP f4 r0 ps).1 + 1, up1 (prP f4 r0 ps).2 (prP f4 r0 ps).1 (6 * p.1 + p.2)) else prP f4 r0 ps := by
  unfold prP
  rw [List.foldl_append]
  rfl
theorem prP_K {σ : y_S} : ∀ k : Nat, prb σ k = prP (σ 4) (σ 44) (cK (σ 60 0) k)
  | 0 => rfl
  | k + 1 => by
    have ih := prP_K (σ := σ) k
    by_cases hc : mCell (σ 60 0) ((k : Int) / 6) ((k : Int) % 6)
    · rw [cK_y hc, prP_a]
      show _ = if σ 4 (6 * ((k : Int) / 6) + (k : Int) % 6) < 0 then _ else _
      rw [show 6 * ((k : Int) / 6) + (k : Int) % 6 = (k : Int) by omega, ← ih]
      by_cases h4 : σ 4 (k : Int) < 0
      · rw [prb_y hc h4, if_pos h4]
      · rw [prb_n (fun z => h4 z.2), if_neg h4]
    · rw [cK_n hc, prb_n (fun z => hc z.1), ih]
theorem prP_J {σ : y_S} (hn : mN σ) : prb σ 72 = prP (σ 4) (σ 44) (cJ (σ 60 0) (12 * (σ 60 0).toNat)) := by rw [prP_K, cJ_K hn.1 hn.2]
theorem prP_l (f4 r0 : Int → Int) (n : Int) : ∀ j : Nat, 0 ≤ (prP f4 r0 (cJ n j)).1 ∧ (prP f4 r0 (cJ n j)).1 ≤ ((cJ n j).length : Int)
  | 0 => ⟨Int.le_refl _, Int.le_refl _⟩
  | j + 1 => by
    have := prP_l f4 r0 n j
    by_cases hc : mCell n ((j : Int) / n) ((j : Int) % n)
    · rw [cJ_y hc, prP_a, List.length_append, List.length_singleton]
      split
      · show 0 ≤ (prP f4 r0 (cJ n j)).1 + 1 ∧ (prP f4 r0 (cJ n j)).1 + 1 ≤ _
        omega
      · omega
    · rw [cJ_n hc]; exact this
theorem cJ_mono {n : Int} {j k : Nat} (h : j ≤ k) : (cJ n j).length ≤ (cJ n k).length := by
  induction k with
  | zero => rw [show j = 0 by omega]; exact Nat.le_refl _
  | succ k ih =>
    by_cases e : j = k + 1
    · rw [e]; exact Nat.le_refl _
    · have := ih (by omega)
      rw [cJ, List.length_append]
      omega
theorem cJ_30 {n : Int} (h0 : 2 ≤ n) (h1 : n ≤ 6) : (cJ n (12 * n.toNat)).length ≤ 30 := by
  rcases n_cases h0 h1 with e | e | e | e | e <;> subst e <;> decide +kernel
theorem prP_30 (f4 r0 : Int → Int) {n : Int} (h0 : 2 ≤ n) (h1 : n ≤ 6) {j : Nat} (hj : j ≤ 12 * n.toNat) : 0 ≤ (prP f4 r0 (cJ n j)).1 ∧ (prP f4 r0 (cJ n j)).1 ≤ 30 := by
  have a := prP_l f4 r0 n j
  have b := cJ_mono (n := n) hj
  have c := cJ_30 h0 h1
  omega
/-- tags that the making of hypotheses leaves -/
def pbT (t : Nat) : Prop := t ≠ 65 ∧ (t < 90 ∨ 100 ≤ t) ∧ (t < 3000 ∨ 4000 ≤ t)
def pbH (f : Int → Int) (Gz G : y_G) (τ : y_S) (q : Nat) : Prop := G.1 (3000 + q) = some (.inl 15) ∧ (G.2.1 (3000 + q) 0 = if q = 0 then none else some (Gz.2.2 (100 + (f (((q : Int) - 1) / 4)).toNat))) ∧ (τ (3000 + q) 1 = if q = 0 then 0 else moF (((q : Int) - 1) % 4)) ∧ τ (3000 + q) 2 = 1
def pbI (f : Int → Int) (N : Nat) (Gz : y_G) (σz : y_S) (G : y_G) (τ : y_S) : Prop :=
  (∀ t : Nat, pbT t → G.1 t = Gz.1 t ∧ G.2.2 t = Gz.2.2 t ∧ (t ≠ 30 → G.2.1 t = Gz.2.1 t ∧ τ t = σz t)) ∧ (∀ t : Nat, 90 ≤ t → t < 100 → G.1 t = none) ∧
  lLs 30 65 (N : Int) (fun i => G.2.2 (3000 + i.toNat)) G τ ∧ (∀ q : Nat, q < N → pbH f Gz G τ q) ∧ ∀ t : Nat, 3000 + N ≤ t → t < 4000 → G.1 t = none
theorem pbI.w {f : Int → Int} {N : Nat} {Gz G : y_G} {ρ σz τ : y_S} (h : pbI f N Gz σz G τ) (hz : lgW ρ Gz σz) : lgW ρ G τ := by
  obtain ⟨h1, h2, h3, h4, h5⟩ := hz
  have hn := h1.n.2
  have g : ∀ t : Nat, t < 65 → t ≠ 30 → τ t = σz t := fun t a b => ((h.1 t (by unfold pbT; omega)).2.2 b).2
  refine ⟨h1, h2.fr2 hn (fun t ht => ?_), by rw [g 60 (by decide) (by decide)]; exact h3, ⟨by rw [g 60 (by decide) (by decide)]; exact h4.1, fun k a b => by rw [g 18 (by decide) (by decide), g 19 (by decide) (by decide)]; exact h4.2 k a b⟩, fun l i hc => ?_⟩
  · unfold gdT at ht
    have a := h.1 t (by unfold pbT; omega)
    exact ⟨a.1, a.2.1, fun k _ _ _ z => by rw [(a.2.2 (by omega)).1]⟩
  · have hcx := cT_ix hn hc
    rw [((h.1 (cT l i) (by unfold pbT; omega)).2.2 (by omega)).2]
    exact h5 l i hc
/-- one more -/
theorem pbI_add {f : Int → Int} {N : Nat} {Gz G G2 : y_G} {σz τ τ2 : y_S} {a : Nat} {cv : Option Nat} {mo : Int} (h : pbI f N Gz σz G τ) (hN : N < 900) (hc : cv = if N = 0 then none else some (Gz.2.2 (100 + (f (((N : Int) - 1) / 4)).toNat))) (hm : mo = if N = 0 then 0 else moF (((N : Int) - 1) % 4))
    (hp : lAd 30 65 99 (N : Int) (fun i => upT G.2.2 90 a (3000 + i.toNat)) a (upT G.1 90 (some (.inl 15)), up2 (upT G.2.1 90 (fun _ => none)) 90 0 cv, upT G.2.2 90 a) (up2 (up2 (upT τ 90 (fun _ => 0)) 90 2 1) 90 1 mo) G2 τ2) :
    pbI f (N + 1) Gz σz (rtG (sw 90 (3000 + N)) G2) (rtS (sw 90 (3000 + N)) τ2) := by
  obtain ⟨p1, p2, p3⟩ := hp
  obtain ⟨i1, i2, i3, i4, i5⟩ := h
  have sn : ∀ t : Nat, t ≠ 90 → t ≠ 3000 + N → sw 90 (3000 + N) t = t := fun t a b => sw_n a b
  have b9 := p2 90 (by decide) (by decide)
  have old : ∀ t : Nat, t ≠ 65 → t ≠ 30 → t < 90 ∨ 100 ≤ t → t ≠ 3000 + N → gAg G τ (rtG (sw 90 (3000 + N)) G2) (rtS (sw 90 (3000 + N)) τ2) t := fun t t65 t30 t9 tN => by
    have e := sn t (by omega) tN
    have b := p2 t t65 (by omega)
    refine ⟨?_, ?_, ?_, ?_⟩
    · show G2.1 (sw 90 (3000 + N) t) = _
      rw [e, p1 t t65]; exact upT_n _ _ (by omega)
    · show G2.2.2 (sw 90 (3000 + N) t) = _
      rw [e, b.1]; exact upT_n _ _ (by omega)
    · funext k
      show G2.2.1 (sw 90 (3000 + N) t) k = _
      rw [e, b.2.1 k (by omega)]
      show up2 (upT G.2.1 90 _) 90 0 _ t k = _
      rw [up2_n _ _ _ (by omega), upT_n _ _ (by omega)]
    · show τ2 (sw 90 (3000 + N) t) = _
      rw [e, b.2.2 t30, up2_n _ _ _ (by omega), up2_n _ _ _ (by omega), upT_n _ _ (by omega)]
  refine ⟨fun t ht => ?_, fun t a b => ?_, ?_, fun q hq => ?_, fun t a b => ?_⟩
  · unfold pbT at ht
    by_cases e : t = 30
    · subst e
      have z := i1 30 (by unfold pbT; decide)
      refine ⟨?_, ?_, fun y => absurd rfl y⟩
      · show G2.1 (sw 90 (3000 + N) 30) = _
        rw [sn 30 (by decide) (by omega), p1 30 (by decide)]; exact z.1
      · show G2.2.2 (sw 90 (3000 + N) 30) = _
        rw [sn 30 (by decide) (by omega), (p2 30 (by decide) (by decide)).1]; exact z.2.1
    · have z := i1 t ht
      have y := old t ht.1 e ht.2.1 (by omega)
      exact ⟨y.1.trans z.1, y.2.1.trans z.2.1, fun w => ⟨y.2.2.1.trans (z.2.2 w).1, y.2.2.2.trans (z.2.2 w).2⟩⟩
  · show G2.1 (sw 90 (3000 + N) t) = none
    by_cases e : t = 90
    · subst e
      rw [sw_a, p1 _ (by omega)]
      show upT G.1 90 _ (3000 + N) = none
      rw [upT_n _ _ (by omega)]
      exact i5 _ (Nat.le_refl _) (by omega)
    · rw [sn t e (by omega), p1 t (by omega)]
      show upT G.1 90 _ t = none
      rw [upT_n _ _ e]
      exact i2 t a b
  · have e30 := rt_ag (π := sw 90 (3000 + N)) (G := G2) (σ := τ2) (t := 30) (sn 30 (by decide) (by omega))
    have e65 := rt_ag (π := sw 90 (3000 + N)) (G := G2) (σ := τ2) (t := 65) (sn 65 (by decide) (by omega))
    have e0 := rt_ag (π := sw 90 (3000 + N)) (G := G2) (σ := τ2) (t := 0) (sn 0 (by decide) (by omega))
    have z := p3.tr (f' := fun i => (rtG (sw 90 (3000 + N)) G2).2.2 (3000 + i.toNat)) e30 e65.1 e65.2.1 e65.2.2.1 e0.2.1 (fun i i0 i1 => by
      show G2.2.2 (sw 90 (3000 + N) (3000 + i.toNat)) = if i = (N : Int) then a else upT G.2.2 90 a (3000 + i.toNat)
      by_cases e : i = (N : Int)
      · rw [if_pos e, show 3000 + i.toNat = 3000 + N by omega, sw_b, b9.1]
        rfl
      · rw [if_neg e, sn _ (by omega) (by omega), (p2 _ (by omega) (by omega)).1])
    exact z
  · by_cases e : q = N
    · subst e
      unfold pbH
      show G2.1 (sw 90 (3000 + q) (3000 + q)) = _ ∧ G2.2.1 (sw 90 (3000 + q) (3000 + q)) 0 = _ ∧ τ2 (sw 90 (3000 + q) (3000 + q)) 1 = _ ∧ τ2 (sw 90 (3000 + q) (3000 + q)) 2 = _
      rw [sw_b, p1 90 (by decide), b9.2.1 0 (by decide), b9.2.2 (by decide), ← hc, ← hm]
      exact ⟨rfl, rfl, rfl, rfl⟩
    · have z := i4 q (by omega)
      have y := old (3000 + q) (by omega) (by omega) (by omega) (by omega)
      unfold pbH at z ⊢
      rw [y.1, y.2.2.1, y.2.2.2]
      exact z
  · show G2.1 (sw 90 (3000 + N) t) = none
    rw [sn t (by omega) (by omega), p1 t (by omega)]
    show upT G.1 90 _ t = none
    rw [upT_n _ _ (by omega)]
    exact i5 t (by omega) b
theorem pbI.f {f f' : Int → Int} {N : Nat} {Gz G : y_G} {σz τ : y_S} (h : pbI f N Gz σz G τ) (hf : ∀ q : Nat, q < N → q ≠ 0 → f' (((q : Int) - 1) / 4) = f (((q : Int) - 1) / 4)) : pbI f' N Gz σz G τ := by
  obtain ⟨i1, i2, i3, i4, i5⟩ := h
  refine ⟨i1, i2, i3, fun q hq => ?_, i5⟩
  have z := i4 q hq
  unfold pbH at z ⊢
  by_cases e : q = 0
  · rw [if_pos e] at z ⊢; exact z
  · rw [if_neg e] at z ⊢
    rw [hf q hq e]; exact z
/-- the memory behind the clearing -/
def pbZ (G : y_G) (σ : y_S) (Gz : y_G) (σz : y_S) : Prop := (∀ t : Nat, t < 3000 ∨ 4000 ≤ t → Gz.1 t = G.1 t) ∧ Gz.2.2 = G.2.2 ∧ (∀ t : Nat, t ≠ 65 → Gz.2.1 t = G.2.1 t) ∧ (∀ t : Nat, t ≠ 30 → t ≠ 60 → σz t = σ t) ∧ (∀ k : Int, k ≠ 31 → σz 60 k = σ 60 k) ∧ σz 60 31 = 0
def drH (K : Nat → Option y_K) (t : Nat) : Option y_K := if 3000 ≤ t ∧ t < 4000 then none else K t
theorem gM.drh {E : y_E} {A : Nat → Prop} {G : y_G} {σ : y_S} {H0 H : Heap} {locs : List Loc} (h : gM E A G σ H0 H locs) : gM E A (drH G.1, G.2) σ H0 H locs := h.drop (fun t k hk => by
  unfold drH at hk
  split at hk
  · cases hk
  · exact hk)
theorem drH_n {K : Nat → Option y_K} {t : Nat} (h : t < 3000 ∨ 4000 ≤ t) : drH K t = K t := by unfold drH; rw [if_neg (by omega)]
theorem pbI_0 {f : Int → Int} {G : y_G} {τ : y_S} {rf : Nat → Int → Option Nat} (hF : ∀ t : Nat, 90 ≤ t → t < 100 → G.1 t = none) (hl : ∀ f2 : Int → Nat, lLs 30 65 0 f2 (G.1, rf, G.2.2) τ) : pbI f 0 (drH G.1, rf, G.2.2) (up2 τ 60 31 0) (drH G.1, rf, G.2.2) (up2 τ 60 31 0) := by
  refine ⟨fun t _ => ⟨rfl, rfl, fun _ => ⟨rfl, rfl⟩⟩, fun t a b => ?_, ?_, fun q hq => absurd hq (Nat.not_lt_zero _), fun t a b => ?_⟩
  · show drH G.1 t = none
    rw [drH_n (by omega)]; exact hF t a b
  · have z := hl (fun i => G.2.2 (3000 + i.toNat))
    unfold lLs at z ⊢
    rw [up2_n _ _ _ (by decide)]
    show _ ∧ ((_ ∧ drH G.1 65 = _ ∧ _) ∨ ∃ cap : Nat, drH G.1 65 = _ ∧ _)
    rw [drH_n (by decide)]
    exact z
  · show drH G.1 t = none
    unfold drH
    rw [if_pos (by omega)]
theorem prb_ck {ρ : y_S} : ∀ (K : Nat), K ≤ 72 → ∀ i : Int, 0 ≤ i → i < (prb ρ K).1 → lCk (ρ 60 0) ((prb ρ K).2 i)
  | 0, _, i, a, b => by
    have b : i < 0 := b
    omega
  | K + 1, hK, i, a, b => by
    by_cases h : mCell (ρ 60 0) ((K : Int) / 6) ((K : Int) % 6) ∧ ρ 4 (K : Int) < 0
    · rw [prb_y h.1 h.2] at b ⊢
      have b : i < (prb ρ K).1 + 1 := b
      show lCk (ρ 60 0) (up1 (prb ρ K).2 (prb ρ K).1 (K : Int) i)
      by_cases e : i = (prb ρ K).1
      · rw [e, up1_s]; exact ⟨by omega, by omega, h.1⟩
      · rw [up1_n _ _ e]; exact prb_ck K (by omega) i a (by omega)
    · rw [prb_n h] at b ⊢
      exact prb_ck K (by omega) i a b
theorem lgR_prob {E : y_E} {ρ σ σz τ' : y_S} {G Gz G' : y_G} (h : lgR E ρ G σ) (hz : pbZ G σ Gz σz) {N : Nat} (hN : (N : Int) = 1 + 4 * (prb ρ 72).1) (hI : pbI (prb ρ 72).2 N Gz σz G' τ') : lgR E (oProbing ρ).2 G' τ' := by
  have hk := ok_probing h.1
  have hpr := prb_r ρ 72
  obtain ⟨o, h2, h3, h4, ⟨⟨d1, d2⟩, ⟨d3, d4⟩, ⟨d5, d6, d7⟩, d8⟩, h6⟩ := h
  obtain ⟨z1, z2, z3, z4, z5, z6⟩ := hz
  obtain ⟨i1, i2, i3, i4, i5⟩ := hI
  have hn := o.n.2
  have hr := o.rn
  have hf := o.fe
  have ag : ∀ t : Nat, pbT t → t ≠ 30 → t ≠ 60 → gAg G σ G' τ' t := fun t ht a b => by
    have x := i1 t ht
    unfold pbT at ht
    exact ⟨x.1.trans (z1 t ht.2.2), x.2.1.trans (by rw [z2]), (x.2.2 a).1.trans (z3 t ht.1), (x.2.2 a).2.trans (z4 t a b)⟩
  have x6 := i1 60 (by unfold pbT; decide)
  have k6 : ∀ k : Int, k ≠ 31 → τ' 60 k = σ 60 k := fun k z => by rw [(x6.2.2 (by decide)).2]; exact z5 k z
  have p : ∀ t : Nat, t < 65 ∨ (100 ≤ t ∧ t < 3000) ∨ 4000 ≤ t → pbT t := fun t z => by unfold pbT; omega
  have gc : ∀ t : Nat, 100 ≤ t → t < 172 → G'.2.2 t = G.2.2 t := fun t a b => (ag t (p t (by omega)) (by omega) (by omega)).2.1
  have a0 := ag 0 (p 0 (by decide)) (by decide) (by decide)
  have hck := prb_ck (ρ := ρ) 72 (Nat.le_refl _)
  refine ⟨hk, h2.fr2 hn (fun t ht => ?_), ?_, ?_, ⟨⟨?_, fun u hu => ?_⟩, ⟨?_, fun u hu => ?_⟩, ⟨?_, fun u hu => ?_, ?_⟩, fun t ht => ?_⟩, by rw [a0.2.1]; exact h6⟩
  · unfold gdT at ht
    have x := i1 t (by unfold pbT; omega)
    refine ⟨x.1.trans (z1 t (by omega)), x.2.1.trans (by rw [z2]), fun k _ _ _ y => ?_⟩
    rw [(x.2.2 (by omega)).1, z3 t (by omega)]
  · obtain ⟨m1, m2, m3, m4, m5⟩ := h3
    refine ⟨(k6 2 (by decide)).trans m1, (k6 4 (by decide)).trans m2, (k6 29 (by decide)).trans m3, fun k a b => ?_, fun l i hc => ?_⟩
    · rw [(ag 61 (p _ (by decide)) (by decide) (by decide)).2.2.2, (ag 1 (p _ (by decide)) (by decide) (by decide)).2.2.2]
      exact m4 k a b
    · have hcx := cT_ix hn hc
      rw [(ag (cT l i) (p _ (by omega)) (by omega) (by omega)).2.2.2]
      exact m5 l i hc
  · have hX : lgX ρ (upT τ' 60 (σ 60)) := h4.fr hn lgE.rf (fun t ht => by rw [upT_n _ _ (by omega)]; exact (ag t (p t (by omega)) (by omega) (by omega)).2.2.2) (fun k _ => by rw [upT_s])
    obtain ⟨x1, ⟨x2, x3, x4⟩, x5, x6, ⟨x7, x8⟩, ⟨x9, x10⟩, x11⟩ := hX
    refine ⟨fun c r a b d => ?_, ⟨(k6 15 (by decide)).trans x2, (k6 17 (by decide)).trans x3, fun z => ?_⟩, x5, x6, ⟨(k6 20 (by decide)).trans x7, x8⟩, ⟨(k6 25 (by decide)).trans x9, x10⟩, ?_⟩
    · have y := x1 c r a b d
      have hc6 : (c : Int) < ρ 60 0 := a
      rw [upT_n _ _ (by omega)] at y
      exact y
    · rw [k6 16 (by decide)]; exact x4 z
    · rw [(i1 60 (by unfold pbT; decide)).2.2 (by decide) |>.2]; exact z6
  · have b := ag 63 (p _ (by decide)) (by decide) (by decide)
    exact d1.tr (ag 27 (p _ (by decide)) (by decide) (by decide)) b.1 b.2.1 b.2.2.1 a0.2.1 (fun i i0 i1 => (ag _ (p _ (by omega)) (by omega) (by omega)).2.1)
  · have hu : (u : Int) < ρ 60 41 := hu
    exact (d2 u hu).tr (ag _ (p _ (by omega)) (by omega) (by omega)) (ag _ (p _ (by omega)) (by omega) (by omega)) (ag _ (p _ (by omega)) (by omega) (by omega)) (ag _ (p _ (by omega)) (by omega) (by omega)) (by rw [x6.2.1, z2])
  · have b := ag 64 (p _ (by decide)) (by decide) (by decide)
    exact d3.tr (ag 28 (p _ (by decide)) (by decide) (by decide)) b.1 b.2.1 b.2.2.1 a0.2.1 (fun i i0 i1 => (ag _ (p _ (by omega)) (by omega) (by omega)).2.1)
  · have hu : (u : Int) < ρ 60 43 := hu
    exact (d4 u hu).tr (ag _ (p _ (by omega)) (by omega) (by omega)) gc
  · rw [hN] at i3; exact i3
  · have hu : (u : Int) < 1 + 4 * (prb ρ 72).1 := hu
    have y := i4 u (by omega)
    have e46 : (oProbing ρ).2 46 = fillN (ρ 46) (fun _ => 1) (1 + 4 * (prb ρ 72).1) := rfl
    have e44 : (oProbing ρ).2 44 = (prb ρ 72).2 := rfl
    unfold pbH at y
    unfold lHy
    rw [e44, e46, fillN_in (by omega) hu]
    refine ⟨y.1, ?_, y.2.2.1, y.2.2.2⟩
    rw [y.2.1]
    by_cases e : u = 0
    · rw [if_pos e, if_pos e]
    · have c := hck (((u : Int) - 1) / 4) (by omega) (by omega)
      rw [if_neg e, if_neg e, z2, gc _ (by omega) (by have := c.1; have := c.2.1; omega)]
  · intro k a b
    have b : k < (prb ρ 72).1 := b
    exact hck k a b
  · have ht : (1000 ≤ t ∧ t < 2000 ∧ 1000 + 4 * ρ 60 41 ≤ (t : Int)) ∨ (2000 ≤ t ∧ t < 3000 ∧ 2000 + ρ 60 43 ≤ (t : Int)) ∨ (3000 ≤ t ∧ t < 4000 ∧ 3000 + (1 + 4 * (prb ρ 72).1) ≤ (t : Int)) ∨ 10000 ≤ t := ht
    by_cases e : 3000 ≤ t ∧ t < 4000
    · exact i5 t (by omega) e.2
    · rw [(ag t (p t (by omega)) (by omega) (by omega)).1]
      exact d8 t (by omega)
theorem lgW_z {ρ σ σz : y_S} {G Gz : y_G} (h : lgW ρ G σ) (hz : pbZ G σ Gz σz) : lgW ρ Gz σz := by
  obtain ⟨h1, h2, h3, h4, h5⟩ := h
  obtain ⟨z1, z2, z3, z4, z5, z6⟩ := hz
  have hn := h1.n.2
  refine ⟨h1, h2.fr2 hn (fun t ht => ?_), by rw [z5 2 (by decide)]; exact h3, ⟨by rw [z5 20 (by decide)]; exact h4.1, fun k a b => by rw [z4 18 (by decide) (by decide), z4 19 (by decide) (by decide)]; exact h4.2 k a b⟩, fun l i hc => ?_⟩
  · unfold gdT at ht
    exact ⟨z1 t (by omega), by rw [z2], fun k _ _ _ _ => by rw [z3 t (by omega)]⟩
  · have hcx := cT_ix hn hc
    rw [z4 (cT l i) (by omega) (by omega)]
    exact h5 l i hc
section XRM
variable {p : Program} {l : Launch} {e : Env} {R : Room} {s : State} {m : MethodId} {args : Array Value} {below : List Frame} {meth : Method} {c : Code} {H : Heap} {locs : List Loc} {cells slots c' s' : Nat} {Q : State → Prop} {f : JFrame}
theorem x_room (e1 : cells = c') (e2 : slots = s') (k : W p l e R s m args below meth c H locs c' s' Q f) : W p l e R s m args below meth c H locs cells slots Q f := by rw [e1, e2]; exact k
end XRM
theorem pbI.ad {f : Int → Int} {N : Nat} {Gz G : y_G} {σz τ : y_S} (h : pbI f N Gz σz G τ) {t : Nat} (ht : pbT t) : G.2.2 t = Gz.2.2 t := (h.1 t ht).2.1
