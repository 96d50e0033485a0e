/-! THE READER: a program -/
/-- a text's fault: its kind and place -/
def rFl (ρ : y_S) (R : rR) : Option (Int × Int) := match R with
  | .inl p => some (1, p)
  | .inr (a1, lk, _, L) => if a1 < ρ 60 30 then some (1, a1) else if lk ≠ -1 then some (2, lk) else if 10 < mny L then some (3, 0) else none
theorem rFl_c (ρ : y_S) (R : rR) : (∃ p, R = .inl p ∧ rFl ρ R = some (1, p)) ∨ ∃ (a1 lk1 : Int) (nm1 : rM) (L1 : List Int), R = .inr (a1, lk1, nm1, L1) ∧ ((a1 < ρ 60 30 ∧ rFl ρ R = some (1, a1)) ∨ (¬ a1 < ρ 60 30 ∧ ((lk1 ≠ -1 ∧ rFl ρ R = some (2, lk1)) ∨ (lk1 = -1 ∧ ((10 < mny L1 ∧ rFl ρ R = some (3, 0)) ∨ (¬ 10 < mny L1 ∧ rFl ρ R = none)))))) := by
  rcases R with p | ⟨a1, lk, nm, L⟩
  · exact Or.inl ⟨p, rfl, rfl⟩
  · refine Or.inr ⟨a1, lk, nm, L, rfl, ?_⟩
    unfold rFl
    dsimp only
    by_cases c1 : a1 < ρ 60 30
    · rw [if_pos c1]; exact Or.inl ⟨c1, rfl⟩
    · rw [if_neg c1]
      refine Or.inr ⟨c1, ?_⟩
      by_cases c2 : lk ≠ -1
      · rw [if_pos c2]; exact Or.inl ⟨c2, rfl⟩
      · rw [if_neg c2]
        refine Or.inr ⟨by omega, ?_⟩
        by_cases c3 : 10 < mny L
        · rw [if_pos c3]; exact Or.inl ⟨c3, rfl⟩
        · rw [if_neg c3]; exact Or.inr ⟨c3, rfl⟩
def pPo (ρ : y_S) (G : y_G) (σ : y_S) (N : Nat) (R : rR) : Option Value → y_G → y_S → Prop := fun v G' τ' => ∃ (u : Nat) (A : Nat → Prop) (a1 lk1 : Int) (nm1 : rM) (L : List Int), R = .inr (a1, lk1, nm1, L) ∧ rFl ρ R = none ∧ v = some (.ref (G'.2.2 u)) ∧ G'.1 u = some (.inl 8) ∧ ndV ρ G' τ' A 101 u L ∧ (∀ t, A t → 10000 ≤ t) ∧ lgV ρ G' τ' ∧ rdN N G σ G' τ'
def pTh (ρ : y_S) (G : y_G) (σ : y_S) (R : rR) : Nat → y_G → y_S → Prop := fun x G' τ' => ∃ kd pl : Int, rFl ρ R = some (kd, pl) ∧ thW G σ kd pl x G' τ'
set_option maxHeartbeats 2000000 in
theorem l_rprog (l : Launch) (E : y_E) (G : y_G) (σ : y_S) (sz : Nat) (ρ : y_S) (N : Nat) (R : rR) (hL : lgV ρ G σ) (hN0 : 10000 ≤ N) (hfr : ∀ t : Nat, N ≤ t → G.1 t = none) (hF : ∀ t : Nat, 90 ≤ t → t < 100 → G.1 t = none) (hZ : gZr E 0 = some (G.2.2 0)) (hR : rPr ρ = some R) : gCtB l yX7_program cX7_program 2 (some (.object "LightPlate$Node")) ({ frames := 420, cells := 310, slots := 63000, locals := 10500 }) E [.ref (G.2.2 26)] G σ sz (pPo ρ G σ N R) (pTh ρ G σ R) 310 63000 := by
  refine g_metB (by decide) (Nat.le_of_ble_eq_true rfl) ?_
  intro p e s m below meth c ls CF het hr hlocks hnm hK hM0 hA hl
  have hx := CF.1
  have hb := CF.2.1
  have hts := CF.2.2.2.2
  have hl : lv_has ls 2 [(0, .ref (G.2.2 26))] := hl
  have hT := hL.1.tp
  have hS := ct_ss l E ρ 101
  rcases rFl_c ρ R with ⟨p1, e1, e2⟩ | ⟨a1, lk1, nm1, L1, e1, ⟨c1, e2⟩ | ⟨c1, ⟨c2, e2⟩ | ⟨c2, ⟨c3, e2⟩ | ⟨c3, e2⟩⟩⟩⟩
  · have hE1 : rEd (Sum.inl p1 : rR) = p1 + 1 := rfl
    have hR1 : rPr ρ = some (.inl p1) := (by rw [hR, e1])
    have hR2 := hR1
    have hq1 : 0 ≤ p1 ∧ p1 ≤ ρ 60 30 := rPr_pos hT hR1
    refine lv_aload_n hx hb dX7_program_0 rfl (lv_at hl 0 rfl) ?_
    refine lv_iconst (v := jI 0) hx hb dX7_program_1 rfl ?_
    refine g_puti CF hK hM0 26 (by decide) (hL.2.1.1 26 _ rfl) 1 1 rfl rfl (by decide) (Or.inl (hts _ q197)) (fun _ h => h) (Or.inl rfl) rfl (v := 0) rfl rfl (by omega) dX7_program_2 (fun H locs hM1 => ?_)
    refine lv_aload_n hx hb dX7_program_5 rfl (lv_at hl 0 rfl) ?_
    refine lv_iconst (v := jI (-1)) hx hb dX7_program_6 rfl ?_
    refine g_puti CF hK hM1 26 (by decide) (hL.2.1.1 26 _ rfl) 2 2 rfl rfl (by decide) (Or.inl (hts _ q198)) (fun _ h => h) (Or.inl rfl) rfl (v := (-1)) rfl rfl (by omega) dX7_program_7 (fun H locs hM2 => ?_)
    refine lv_iconst (v := jI 0) hx hb dX7_program_10 rfl ?_
    refine lv_istore_n (lv' := [(1, .int (jI 0)), (0, .ref (G.2.2 26))]) hx hb dX7_program_11 rfl hl (by decide) rfl (fun ls hl => ?_)
    have c12 : ∀ (n12 : Nat) (i : Int) (rf : Nat → Int → Option Nat) (H : Heap) (locs : List Loc) (ls : Array Slot), (0 ≤ i) → (i ≤ 6) → (∀ (t : Nat) (j : Int), t ≠ 62 → rf t j = G.2.1 t j) → (∀ j : Int, 0 ≤ j → j < i → rf 62 j = none) → ((6 - i).toNat < n12) → gM E (gA G sz) (G.1, rf, G.2.2) (up2 (up2 σ 26 1 0) 26 2 (-1)) s.heap H locs → lv_has ls 2 [(0, .ref (G.2.2 26)), (1, .int (jI i))] → W p l e ({ frames := 420, cells := 310, slots := 63000, locals := 10500 } : Room) s m ([.ref (G.2.2 26)] : List Value).toArray below meth c H locs 0 0 (MQT below (gQB E G sz (pPo ρ G σ N R) (pTh ρ G σ R)) ([.ref (G.2.2 26)] : List Value).toArray s 310 63000 (gA G sz)) (F0 m 12 ls []) := by
      intro n12
      induction n12 with
      | zero => intro i rf H locs ls hi0 hi1 hrf hrn hmu; exact absurd hmu (Nat.not_lt_zero _)
      | succ n12 ih12 =>
        intro i rf H locs ls hi0 hi1 hrf hrn hmu12 hM3 hl
        have hLc : lgV ρ (G.1, rf, G.2.2) (up2 (up2 σ 26 1 0) 26 2 (-1)) := hL.fr (fun t _ => ⟨rfl, rfl, fun j z => hrf t j z⟩) (by rw [up2_n _ _ _ (by decide), up2_n _ _ _ (by decide)]) (by rw [up2_n _ _ _ (by decide), up2_n _ _ _ (by decide)])
        refine lv_iload_n hx hb dX7_program_12 rfl (lv_at hl 1 rfl) ?_
        refine lv_bipush (v := jI 6) hx hb dX7_program_13 (by decide) ?_
        refine x_icmp_ge (tgt := 31) hx hb dX7_program_15 (by decide) (by omega) (by omega) (fun b15 => ?_) (fun b15 => ?_)
        · obtain ⟨G1, τ1, hM4, hP1, hk1⟩ : ∃ (g : y_G) (τ : y_S), gM E (gA G sz) g τ s.heap H locs ∧ lgP E ρ g τ (fun _ => False) N 0 (-1) rNm0 ∧ rdN N G σ g τ := ⟨_, _, hM3, ⟨hL.fr (fun t _ => ⟨rfl, rfl, fun j z => hrf t j z⟩) (by rw [up2_n _ _ _ (by decide), up2_n _ _ _ (by decide)]) (by rw [up2_n _ _ _ (by decide), up2_n _ _ _ (by decide)]), ⟨rfl, rfl⟩, ⟨hN0, hfr, hF, fun t z => z.elim⟩, hZ, fun j j0 j1 => hrn j j0 (by omega), (by omega), Or.inl rfl⟩, (fun t _ _ => ⟨rfl, rfl, fun z => funext (fun j => hrf t j z), fun z => (by rw [up2_n _ _ _ z, up2_n _ _ _ z])⟩)⟩
          have hl := lv_cast hl (b := [(0, .ref (G1.2.2 26)), (1, .int (jI i))]) (by rw [(hk1 26 (by omega) (by omega)).2.1])
          refine g_new CF hK hM4 hA N (hP1.2.2.1.2.1 N (Nat.le_refl _)) (ci := 8) rfl rfl q615 q616 q77 (show 0 + 1 ≤ 310 by omega) (show 0 + 4 ≤ 63000 by omega) dX7_program_31 (fun H a6 hM5 => ?_)
          obtain ⟨G2, τ2, hM7, hP2, hk2, hT2, hz2⟩ : ∃ (g : y_G) (τ : y_S), gM E (gA G sz) g τ s.heap H locs ∧ lgP E ρ g τ (fun _ => False) (N + 1) 0 (-1) rNm0 ∧ rdN N G1 τ1 g τ ∧ g.1 N = some (.inl 8) ∧ g.2.2 N = a6 := ⟨_, _, hM5, (hP1.new (Nat.lt_succ_self _)).1, (hP1.new (Nat.lt_succ_self _)).2, (upT_s _ _ _), (upT_s _ _ _)⟩
          have hl := lv_cast hl (b := [(0, .ref (G2.2.2 26)), (1, .int (jI i))]) (by rw [(hk2 26 (by omega) (by omega)).2.1])
          refine x_stk (st' := [.ref (G2.2.2 N)]) (by rw [hz2]) ?_
          refine lv_dup hx hb dX7_program_34 rfl ?_
          refine lv_aload_n hx hb dX7_program_35 rfl (lv_at hl 0 rfl) ?_
          refine g_getr CF hK hM7 26 (hP2.1.2.1.1 26 _ rfl) 3 3 rfl rfl (by decide) (Or.inl (hts _ q199)) (fun _ h => h) rfl (G2.2.2 60) (hP2.1.2.1.2.2.2.2.2.2.2.2.1.2) dX7_program_36 ?_
          refine lv_iconst (v := jI 1) hx hb dX7_program_39 rfl ?_
          refine lv_aload_n hx hb dX7_program_40 rfl (lv_at hl 0 rfl) ?_
          refine W.widen (k := 310 - (3 * (rEd (Sum.inl p1 : rR) - 0).toNat + 1)) (n := 63000 - (620 * (rEd (Sum.inl p1 : rR) - 0).toNat + 3)) (show 1 ≤ 310 - (3 * (rEd (Sum.inl p1 : rR) - 0).toNat + 1) by omega) (show 4 ≤ 63000 - (620 * (rEd (Sum.inl p1 : rR) - 0).toNat + 3) by omega) ?_
          exact g_upT (g_passE (by omega) (by omega) het hlocks hM7 hA (g_runVT (As := []) (rest := [.int (jI 1), .ref (G2.2.2 60), .ref (G2.2.2 N), .ref (G2.2.2 N)]) CF ((hS G2 τ2 _ (fun _ => False) (N + 1) 0 (-1) rNm0 _ hP2 hR2).thr rPl_no) (cwV 0 hts (lw_V q617 q619 qs13 q67 q620) rfl rfl rfl (by decide +kernel) ⟨(show 417 + 1 ≤ 420 by omega), (show 8 + (2 + 11) + (10425) ≤ 10500 by omega)⟩) ⟨gP_blind, g_recv hK hM7 (hP2.1.2.1.1 26 _ rfl) rfl, (g_pre hK hM7).2⟩ rfl rfl hl.1 rfl (lv_room (Nat.le_of_ble_eq_true rfl)) dX7_program_41 ⟨(show 310 - (3 * (rEd (Sum.inl p1 : rR) - 0).toNat + 1) + (3 * (rEd (Sum.inl p1 : rR) - 0).toNat + 1) ≤ 310 by omega), (show 63000 - (620 * (rEd (Sum.inl p1 : rR) - 0).toNat + 3) + (620 * (rEd (Sum.inl p1 : rR) - 0).toNat + 3) ≤ 63000 by omega)⟩) (fun x G' τ' ⟨q, e, k⟩ => ⟨1, p1, e2, (by cases e; exact k.of ((hk1.tr hk2 (Nat.le_refl _)).k hN0))⟩))
        · refine lv_aload_n hx hb dX7_program_18 rfl (lv_at hl 0 rfl) ?_
          refine g_getr CF hK hM3 26 (hLc.2.1.1 26 _ rfl) 0 0 rfl rfl (by decide) (Or.inl (hts _ q196)) (fun _ h => h) rfl (G.2.2 62) (hLc.2.1.2.2.2.2.2.2.2.2.1.1) dX7_program_19 ?_
          refine lv_iload_n hx hb dX7_program_22 rfl (lv_at hl 1 rfl) ?_
          refine lv_null hx hb dX7_program_23 ?_
          refine g_aastN CF hK hM3 62 (by decide) (hLc.2.1.1 62 _ rfl) (by decide) rfl (i := i) (by omega) (by omega) (by omega) dX7_program_24 (fun H locs hM8 => ?_)
          refine x_iinc (lv' := [(1, .int (jI (i + 1))), (0, .ref (G.2.2 26))]) hx hb dX7_program_25 hl (k := 1) rfl (by decide) rfl (fun ls hl => ?_)
          refine lv_goto (tgt := 12) hx hb dX7_program_28 (by decide) ?_
          exact ih12  (i + 1) (up2 rf 62 i (none)) _ _ _ (by first | omega | assumption | rfl) (by first | omega | assumption | rfl) (fun t k h => (by rw [up2_n _ _ _ h]; exact hrf t k h)) (fun j a b => Or.elim (Decidable.em (j = i)) (fun e => (by rw [e, up2_s, up1_s])) (fun e => (by rw [up2_s, up1_n _ _ e]; exact hrn j a (by omega)))) (by omega) hM8 (lv_sub hl [1, 0] rfl)
    exact c12 _ 0 G.2.1 _ _ _ (by first | omega | assumption | rfl) (by first | omega | assumption | rfl) (fun t k _ => rfl) (fun j a b => absurd b (by omega)) (Nat.lt_succ_self _) hM2 (lv_sub hl [1, 0] rfl)
  · have hR1 : rPr ρ = some (.inr (a1, lk1, nm1, L1)) := (by rw [hR, e1])
    have hE1 : rEd (Sum.inr (a1, lk1, nm1, L1) : rR) = a1 := rfl
    have hR2 := hR1
    have hq1 : 0 < a1 ∧ a1 ≤ ρ 60 30 ∧ rLo lk1 := rPr_pos hT hR1
    have hlo2 : -1 ≤ lk1 ∧ lk1 ≤ 100 := (by have q := hq1.2.2; unfold rLo at q; omega)
    have hmr := mny_r L1
    refine lv_aload_n hx hb dX7_program_0 rfl (lv_at hl 0 rfl) ?_
    refine lv_iconst (v := jI 0) hx hb dX7_program_1 rfl ?_
    refine g_puti CF hK hM0 26 (by decide) (hL.2.1.1 26 _ rfl) 1 1 rfl rfl (by decide) (Or.inl (hts _ q197)) (fun _ h => h) (Or.inl rfl) rfl (v := 0) rfl rfl (by omega) dX7_program_2 (fun H locs hM9 => ?_)
    refine lv_aload_n hx hb dX7_program_5 rfl (lv_at hl 0 rfl) ?_
    refine lv_iconst (v := jI (-1)) hx hb dX7_program_6 rfl ?_
    refine g_puti CF hK hM9 26 (by decide) (hL.2.1.1 26 _ rfl) 2 2 rfl rfl (by decide) (Or.inl (hts _ q198)) (fun _ h => h) (Or.inl rfl) rfl (v := (-1)) rfl rfl (by omega) dX7_program_7 (fun H locs hM10 => ?_)
    refine lv_iconst (v := jI 0) hx hb dX7_program_10 rfl ?_
    refine lv_istore_n (lv' := [(1, .int (jI 0)), (0, .ref (G.2.2 26))]) hx hb dX7_program_11 rfl hl (by decide) rfl (fun ls hl => ?_)
    have c12 : ∀ (n12 : Nat) (i : Int) (rf : Nat → Int → Option Nat) (H : Heap) (locs : List Loc) (ls : Array Slot), (0 ≤ i) → (i ≤ 6) → (∀ (t : Nat) (j : Int), t ≠ 62 → rf t j = G.2.1 t j) → (∀ j : Int, 0 ≤ j → j < i → rf 62 j = none) → ((6 - i).toNat < n12) → gM E (gA G sz) (G.1, rf, G.2.2) (up2 (up2 σ 26 1 0) 26 2 (-1)) s.heap H locs → lv_has ls 2 [(0, .ref (G.2.2 26)), (1, .int (jI i))] → W p l e ({ frames := 420, cells := 310, slots := 63000, locals := 10500 } : Room) s m ([.ref (G.2.2 26)] : List Value).toArray below meth c H locs 0 0 (MQT below (gQB E G sz (pPo ρ G σ N R) (pTh ρ G σ R)) ([.ref (G.2.2 26)] : List Value).toArray s 310 63000 (gA G sz)) (F0 m 12 ls []) := by
      intro n12
      induction n12 with
      | zero => intro i rf H locs ls hi0 hi1 hrf hrn hmu; exact absurd hmu (Nat.not_lt_zero _)
      | succ n12 ih12 =>
        intro i rf H locs ls hi0 hi1 hrf hrn hmu12 hM11 hl
        have hLc : lgV ρ (G.1, rf, G.2.2) (up2 (up2 σ 26 1 0) 26 2 (-1)) := hL.fr (fun t _ => ⟨rfl, rfl, fun j z => hrf t j z⟩) (by rw [up2_n _ _ _ (by decide), up2_n _ _ _ (by decide)]) (by rw [up2_n _ _ _ (by decide), up2_n _ _ _ (by decide)])
        refine lv_iload_n hx hb dX7_program_12 rfl (lv_at hl 1 rfl) ?_
        refine lv_bipush (v := jI 6) hx hb dX7_program_13 (by decide) ?_
        refine x_icmp_ge (tgt := 31) hx hb dX7_program_15 (by decide) (by omega) (by omega) (fun b15 => ?_) (fun b15 => ?_)
        · obtain ⟨G1, τ1, hM12, hP1, hk1⟩ : ∃ (g : y_G) (τ : y_S), gM E (gA G sz) g τ s.heap H locs ∧ lgP E ρ g τ (fun _ => False) N 0 (-1) rNm0 ∧ rdN N G σ g τ := ⟨_, _, hM11, ⟨hL.fr (fun t _ => ⟨rfl, rfl, fun j z => hrf t j z⟩) (by rw [up2_n _ _ _ (by decide), up2_n _ _ _ (by decide)]) (by rw [up2_n _ _ _ (by decide), up2_n _ _ _ (by decide)]), ⟨rfl, rfl⟩, ⟨hN0, hfr, hF, fun t z => z.elim⟩, hZ, fun j j0 j1 => hrn j j0 (by omega), (by omega), Or.inl rfl⟩, (fun t _ _ => ⟨rfl, rfl, fun z => funext (fun j => hrf t j z), fun z => (by rw [up2_n _ _ _ z, up2_n _ _ _ z])⟩)⟩
          have hl := lv_cast hl (b := [(0, .ref (G1.2.2 26)), (1, .int (jI i))]) (by rw [(hk1 26 (by omega) (by omega)).2.1])
          refine g_new CF hK hM12 hA N (hP1.2.2.1.2.1 N (Nat.le_refl _)) (ci := 8) rfl rfl q615 q616 q77 (show 0 + 1 ≤ 310 by omega) (show 0 + 4 ≤ 63000 by omega) dX7_program_31 (fun H a14 hM13 => ?_)
          obtain ⟨G2, τ2, hM15, hP2, hk2, hT2, hz2⟩ : ∃ (g : y_G) (τ : y_S), gM E (gA G sz) g τ s.heap H locs ∧ lgP E ρ g τ (fun _ => False) (N + 1) 0 (-1) rNm0 ∧ rdN N G1 τ1 g τ ∧ g.1 N = some (.inl 8) ∧ g.2.2 N = a14 := ⟨_, _, hM13, (hP1.new (Nat.lt_succ_self _)).1, (hP1.new (Nat.lt_succ_self _)).2, (upT_s _ _ _), (upT_s _ _ _)⟩
          have hl := lv_cast hl (b := [(0, .ref (G2.2.2 26)), (1, .int (jI i))]) (by rw [(hk2 26 (by omega) (by omega)).2.1])
          refine x_stk (st' := [.ref (G2.2.2 N)]) (by rw [hz2]) ?_
          refine lv_dup hx hb dX7_program_34 rfl ?_
          refine lv_aload_n hx hb dX7_program_35 rfl (lv_at hl 0 rfl) ?_
          refine g_getr CF hK hM15 26 (hP2.1.2.1.1 26 _ rfl) 3 3 rfl rfl (by decide) (Or.inl (hts _ q199)) (fun _ h => h) rfl (G2.2.2 60) (hP2.1.2.1.2.2.2.2.2.2.2.2.1.2) dX7_program_36 ?_
          refine lv_iconst (v := jI 1) hx hb dX7_program_39 rfl ?_
          refine lv_aload_n hx hb dX7_program_40 rfl (lv_at hl 0 rfl) ?_
          refine g_callRl hM15 hA (g_runV (As := []) (rest := [.int (jI 1), .ref (G2.2.2 60), .ref (G2.2.2 N), .ref (G2.2.2 N)]) CF hK hM15 (hP2.1.2.1.1 26 _ rfl) rfl ((hS G2 τ2 _ (fun _ => False) (N + 1) 0 (-1) rNm0 _ hP2 hR2).ret rTh_no) (cwV 0 hts (lw_V q617 q619 qs13 q67 q620) rfl rfl rfl (by decide +kernel) ⟨(show 417 + 1 ≤ 420 by omega), (show 8 + (2 + 11) + (10425) ≤ 10500 by omega)⟩) rfl hl.1 rfl (Nat.le_of_ble_eq_true rfl) dX7_program_41 ⟨(show 1 + (3 * (rEd (Sum.inr (a1, lk1, nm1, L1) : rR) - 0).toNat + 1) ≤ 310 by omega), (show 4 + (620 * (rEd (Sum.inr (a1, lk1, nm1, L1) : rR) - 0).toNat + 3) ≤ 63000 by omega)⟩) (fun ul N3 G3 τ3 H locs hls hP3 hk3 hN3 hM16 => ?_)
          have hl := lv_cast hl (b := [(0, .ref (G3.2.2 26)), (1, .int (jI i))]) (by rw [(hk3 26 (by omega) (by omega)).2.1])
          refine x_stk (st' := [.ref (G3.2.2 ul), .int (jI 1), .ref (G3.2.2 60), .ref (G3.2.2 N), .ref (G3.2.2 N)]) (by rw [(hk3 60 (by omega) (by omega)).2.1, (hk3 N (by omega) (by omega)).2.1]) ?_
          have hT3 : G3.1 N = some (.inl 8) := (hk3 N (by omega) (by omega)).1.trans hT2
          refine g_callv hM16 hA (g_runI (As := [.ref (G3.2.2 60), .int (jI 1), .ref (G3.2.2 ul)]) (rest := [.ref (G3.2.2 N)]) CF hK hM16 (l_x11i8 l E _ _ _ N (G3.2.2 60) (G3.2.2 ul) 1 hT3 (by omega) (by first | omega | assumption | (refine ⟨?_, ?_⟩ <;> omega))) (cwI 3 hts (lw_meth q712) rfl rfl rfl (hts _ q77) (hts _ q710) (hts _ q711) rfl (by decide +kernel) ⟨(show 2 + 1 ≤ 420 by omega), (show 8 + (4 + 11) + (45) ≤ 10500 by omega)⟩) rfl hl.1 rfl (Nat.le_of_ble_eq_true rfl) dX7_program_44 ⟨(show (1 + (3 * (rEd (Sum.inr (a1, lk1, nm1, L1) : rR) - 0).toNat + 1)) + 0 ≤ 310 by omega), (show (4 + (620 * (rEd (Sum.inr (a1, lk1, nm1, L1) : rR) - 0).toNat + 3)) + 0 ≤ 63000 by omega)⟩) (fun H locs hM17 => ?_)
          obtain ⟨G4, τ4, hM18, hP4, hd4, hk4, hz4, hT4⟩ : ∃ (g : y_G) (τ : y_S), gM E (gA G sz) g τ s.heap H locs ∧ lgP E ρ g τ (aX (fun _ => False) (N + 1) N3) N3 a1 lk1 nm1 ∧ ndV ρ g τ (aX (fun _ => False) N N3) ((a1 - 0).toNat + 1) N (rdRep (1 : Int).toNat L1) ∧ rdN N G3 τ3 g τ ∧ g.2.2 = G3.2.2 ∧ g.1 N = some (.inl 8) := ⟨_, _, hM17, hP3.ini (x := N) hN0 (fun z => z.elim (fun q => q.elim) (fun q => (by omega))) (fun t h => (by rw [up2_n _ _ _ h, up2_n _ _ _ h, up2_n _ _ _ h])) (fun t h => up2_n _ _ _ h), ndV.ti (A' := aX (fun _ => False) N N3) hls (fun z => z.elim (fun q => q.elim) (fun q => (by omega))) (Or.inr (by omega)) (fun t z => z.imp id (fun q => (by omega))) hT3 (by decide) (by decide) (fun t h => (by rw [up2_n _ _ _ h, up2_n _ _ _ h, up2_n _ _ _ h])) (fun t h => up2_n _ _ _ h) (by first | rw [up2_s, up1_s] | (dsimp only; rw [up2_s, up1_s])) (by first | rw [up2_s, up1_s] | (dsimp only; rw [up2_s, up1_s])), (fun t h1 h2 => ⟨rfl, rfl, fun _ => (by have e : t ≠ N := (by omega); dsimp only; rw [up2_n _ _ _ e, up2_n _ _ _ e, up2_n _ _ _ e]), fun _ => up2_n _ _ _ (by omega)⟩), rfl, hT3⟩
          have hl := lv_cast hl (b := [(0, .ref (G4.2.2 26)), (1, .int (jI i))]) (by rw [(hk4 26 (by omega) (by omega)).2.1])
          refine x_stk (st' := [.ref (G4.2.2 N)]) (by rw [(congrFun hz4 N)]) ?_
          have hd5 : ndV ρ G4 τ4 (aX (fun _ => False) N N3) 101 N L1 := hd4.le (by omega)
          have hk04 : rdN N G σ G4 τ4 := (hk1.tr (hk2.tr hk3 (by omega)) (Nat.le_refl _)).tr hk4 (Nat.le_refl _)
          refine lv_astore_n (lv' := [(1, .ref (G4.2.2 N)), (0, .ref (G4.2.2 26))]) hx hb dX7_program_47 rfl hl (by decide) rfl (fun ls hl => ?_)
          refine lv_aload_n hx hb dX7_program_48 rfl (lv_at hl 1 rfl) ?_
          refine g_geti CF hK hM18 26 (hP4.1.2.1.1 26 _ rfl) 1 1 rfl rfl (by decide) (Or.inl (hts _ q197)) (fun _ h => h) rfl dX7_program_49 ?_
          refine x_top (b := a1) hP4.2.1.1 ?_
          refine lv_aload_n hx hb dX7_program_52 rfl (lv_at hl 1 rfl) ?_
          refine g_getr CF hK hM18 26 (hP4.1.2.1.1 26 _ rfl) 3 3 rfl rfl (by decide) (Or.inl (hts _ q199)) (fun _ h => h) rfl (G4.2.2 60) (hP4.1.2.1.2.2.2.2.2.2.2.2.1.2) dX7_program_53 ?_
          refine g_geti CF hK hM18 60 (hP4.1.2.1.1 60 _ rfl) 25 25 rfl rfl (by decide) (gLk.n hK q312) (fun _ h => h) rfl dX7_program_56 ?_
          refine x_top (b := ρ 60 30) hP4.1.2.2.2.1 ?_
          refine x_icmp_ge (tgt := 75) hx hb dX7_program_59 (by decide) (by omega) (by omega) (fun b59 => ?_) (fun b59 => ?_)
          · (exfalso; omega)
          · refine g_new CF hK hM18 hA 98 (hP4.2.2.1.2.2.1 98 (by decide) (by decide)) (ci := 9) rfl rfl q631 q632 q80 (show (1 + (3 * (rEd (Sum.inr (a1, lk1, nm1, L1) : rR) - 0).toNat + 1)) + 1 ≤ 310 by omega) (show (4 + (620 * (rEd (Sum.inr (a1, lk1, nm1, L1) : rR) - 0).toNat + 3)) + 8 ≤ 63000 by omega) dX7_program_62 (fun H a98 hM19 => ?_)
            refine lv_dup hx hb dX7_program_65 rfl ?_
            refine lv_iconst (v := jI 1) hx hb dX7_program_66 rfl ?_
            refine lv_aload_n hx hb dX7_program_67 rfl (lv_at hl 1 rfl) ?_
            refine g_geti CF hK hM19 26 (hP4.1.2.1.1 26 _ rfl) 1 1 rfl rfl (by decide) (Or.inl (hts _ q197)) (fun _ h => h) rfl dX7_program_68 ?_
            refine x_top (b := τ4 26 1) rfl ?_
            refine x_top (b := a1) hP4.2.1.1 ?_
            refine g_callv hM19 hA (g_runI (As := [.int (jI 1), .int (jI a1)]) (rest := [.ref a98]) CF hK hM19 (l_wrong l E _ _ _ 98 1 a1 rfl (by decide) (by first | omega | assumption | (refine ⟨?_, ?_⟩ <;> omega)) (by first | omega | assumption | (refine ⟨?_, ?_⟩ <;> omega))) (cwI 2 hts (lw_meth q670) rfl rfl rfl (hts _ q80) (hts _ q668) (hts _ q669) rfl (by decide +kernel) ⟨(show 3 + 1 ≤ 420 by omega), (show 8 + (3 + 11) + (72) ≤ 10500 by omega)⟩) rfl hl.1 rfl (Nat.le_of_ble_eq_true rfl) dX7_program_71 ⟨(show ((1 + (3 * (rEd (Sum.inr (a1, lk1, nm1, L1) : rR) - 0).toNat + 1)) + 1) + 0 ≤ 310 by omega), (show ((4 + (620 * (rEd (Sum.inr (a1, lk1, nm1, L1) : rR) - 0).toNat + 3)) + 8) + 0 ≤ 63000 by omega)⟩) (fun H locs hM20 => ?_)
            exact g_upT (W.widen (show ((1 + (3 * (rEd (Sum.inr (a1, lk1, nm1, L1) : rR) - 0).toNat + 1)) + 1) ≤ 310 by omega) (show ((4 + (620 * (rEd (Sum.inr (a1, lk1, nm1, L1) : rR) - 0).toNat + 3)) + 8) ≤ 63000 by omega) (g_athr CF het hlocks hM20 ⟨1, a1, e2, thW_mk (hk04.k hN0) rfl⟩ dX7_program_74))
        · refine lv_aload_n hx hb dX7_program_18 rfl (lv_at hl 0 rfl) ?_
          refine g_getr CF hK hM11 26 (hLc.2.1.1 26 _ rfl) 0 0 rfl rfl (by decide) (Or.inl (hts _ q196)) (fun _ h => h) rfl (G.2.2 62) (hLc.2.1.2.2.2.2.2.2.2.2.1.1) dX7_program_19 ?_
          refine lv_iload_n hx hb dX7_program_22 rfl (lv_at hl 1 rfl) ?_
          refine lv_null hx hb dX7_program_23 ?_
          refine g_aastN CF hK hM11 62 (by decide) (hLc.2.1.1 62 _ rfl) (by decide) rfl (i := i) (by omega) (by omega) (by omega) dX7_program_24 (fun H locs hM21 => ?_)
          refine x_iinc (lv' := [(1, .int (jI (i + 1))), (0, .ref (G.2.2 26))]) hx hb dX7_program_25 hl (k := 1) rfl (by decide) rfl (fun ls hl => ?_)
          refine lv_goto (tgt := 12) hx hb dX7_program_28 (by decide) ?_
          exact ih12  (i + 1) (up2 rf 62 i (none)) _ _ _ (by first | omega | assumption | rfl) (by first | omega | assumption | rfl) (fun t k h => (by rw [up2_n _ _ _ h]; exact hrf t k h)) (fun j a b => Or.elim (Decidable.em (j = i)) (fun e => (by rw [e, up2_s, up1_s])) (fun e => (by rw [up2_s, up1_n _ _ e]; exact hrn j a (by omega)))) (by omega) hM21 (lv_sub hl [1, 0] rfl)
    exact c12 _ 0 G.2.1 _ _ _ (by first | omega | assumption | rfl) (by first | omega | assumption | rfl) (fun t k _ => rfl) (fun j a b => absurd b (by omega)) (Nat.lt_succ_self _) hM10 (lv_sub hl [1, 0] rfl)
  · have hR1 : rPr ρ = some (.inr (a1, lk1, nm1, L1)) := (by rw [hR, e1])
    have hE1 : rEd (Sum.inr (a1, lk1, nm1, L1) : rR) = a1 := rfl
    have hR2 := hR1
    have hq1 : 0 < a1 ∧ a1 ≤ ρ 60 30 ∧ rLo lk1 := rPr_pos hT hR1
    have hlo2 : -1 ≤ lk1 ∧ lk1 ≤ 100 := (by have q := hq1.2.2; unfold rLo at q; omega)
    have hmr := mny_r L1
    refine lv_aload_n hx hb dX7_program_0 rfl (lv_at hl 0 rfl) ?_
    refine lv_iconst (v := jI 0) hx hb dX7_program_1 rfl ?_
    refine g_puti CF hK hM0 26 (by decide) (hL.2.1.1 26 _ rfl) 1 1 rfl rfl (by decide) (Or.inl (hts _ q197)) (fun _ h => h) (Or.inl rfl) rfl (v := 0) rfl rfl (by omega) dX7_program_2 (fun H locs hM22 => ?_)
    refine lv_aload_n hx hb dX7_program_5 rfl (lv_at hl 0 rfl) ?_
    refine lv_iconst (v := jI (-1)) hx hb dX7_program_6 rfl ?_
    refine g_puti CF hK hM22 26 (by decide) (hL.2.1.1 26 _ rfl) 2 2 rfl rfl (by decide) (Or.inl (hts _ q198)) (fun _ h => h) (Or.inl rfl) rfl (v := (-1)) rfl rfl (by omega) dX7_program_7 (fun H locs hM23 => ?_)
    refine lv_iconst (v := jI 0) hx hb dX7_program_10 rfl ?_
    refine lv_istore_n (lv' := [(1, .int (jI 0)), (0, .ref (G.2.2 26))]) hx hb dX7_program_11 rfl hl (by decide) rfl (fun ls hl => ?_)
    have c12 : ∀ (n12 : Nat) (i : Int) (rf : Nat → Int → Option Nat) (H : Heap) (locs : List Loc) (ls : Array Slot), (0 ≤ i) → (i ≤ 6) → (∀ (t : Nat) (j : Int), t ≠ 62 → rf t j = G.2.1 t j) → (∀ j : Int, 0 ≤ j → j < i → rf 62 j = none) → ((6 - i).toNat < n12) → gM E (gA G sz) (G.1, rf, G.2.2) (up2 (up2 σ 26 1 0) 26 2 (-1)) s.heap H locs → lv_has ls 2 [(0, .ref (G.2.2 26)), (1, .int (jI i))] → W p l e ({ frames := 420, cells := 310, slots := 63000, locals := 10500 } : Room) s m ([.ref (G.2.2 26)] : List Value).toArray below meth c H locs 0 0 (MQT below (gQB E G sz (pPo ρ G σ N R) (pTh ρ G σ R)) ([.ref (G.2.2 26)] : List Value).toArray s 310 63000 (gA G sz)) (F0 m 12 ls []) := by
      intro n12
      induction n12 with
      | zero => intro i rf H locs ls hi0 hi1 hrf hrn hmu; exact absurd hmu (Nat.not_lt_zero _)
      | succ n12 ih12 =>
        intro i rf H locs ls hi0 hi1 hrf hrn hmu12 hM24 hl
        have hLc : lgV ρ (G.1, rf, G.2.2) (up2 (up2 σ 26 1 0) 26 2 (-1)) := hL.fr (fun t _ => ⟨rfl, rfl, fun j z => hrf t j z⟩) (by rw [up2_n _ _ _ (by decide), up2_n _ _ _ (by decide)]) (by rw [up2_n _ _ _ (by decide), up2_n _ _ _ (by decide)])
        refine lv_iload_n hx hb dX7_program_12 rfl (lv_at hl 1 rfl) ?_
        refine lv_bipush (v := jI 6) hx hb dX7_program_13 (by decide) ?_
        refine x_icmp_ge (tgt := 31) hx hb dX7_program_15 (by decide) (by omega) (by omega) (fun b15 => ?_) (fun b15 => ?_)
        · obtain ⟨G1, τ1, hM25, hP1, hk1⟩ : ∃ (g : y_G) (τ : y_S), gM E (gA G sz) g τ s.heap H locs ∧ lgP E ρ g τ (fun _ => False) N 0 (-1) rNm0 ∧ rdN N G σ g τ := ⟨_, _, hM24, ⟨hL.fr (fun t _ => ⟨rfl, rfl, fun j z => hrf t j z⟩) (by rw [up2_n _ _ _ (by decide), up2_n _ _ _ (by decide)]) (by rw [up2_n _ _ _ (by decide), up2_n _ _ _ (by decide)]), ⟨rfl, rfl⟩, ⟨hN0, hfr, hF, fun t z => z.elim⟩, hZ, fun j j0 j1 => hrn j j0 (by omega), (by omega), Or.inl rfl⟩, (fun t _ _ => ⟨rfl, rfl, fun z => funext (fun j => hrf t j z), fun z => (by rw [up2_n _ _ _ z, up2_n _ _ _ z])⟩)⟩
          have hl := lv_cast hl (b := [(0, .ref (G1.2.2 26)), (1, .int (jI i))]) (by rw [(hk1 26 (by omega) (by omega)).2.1])
          refine g_new CF hK hM25 hA N (hP1.2.2.1.2.1 N (Nat.le_refl _)) (ci := 8) rfl rfl q615 q616 q77 (show 0 + 1 ≤ 310 by omega) (show 0 + 4 ≤ 63000 by omega) dX7_program_31 (fun H a27 hM26 => ?_)
          obtain ⟨G2, τ2, hM28, hP2, hk2, hT2, hz2⟩ : ∃ (g : y_G) (τ : y_S), gM E (gA G sz) g τ s.heap H locs ∧ lgP E ρ g τ (fun _ => False) (N + 1) 0 (-1) rNm0 ∧ rdN N G1 τ1 g τ ∧ g.1 N = some (.inl 8) ∧ g.2.2 N = a27 := ⟨_, _, hM26, (hP1.new (Nat.lt_succ_self _)).1, (hP1.new (Nat.lt_succ_self _)).2, (upT_s _ _ _), (upT_s _ _ _)⟩
          have hl := lv_cast hl (b := [(0, .ref (G2.2.2 26)), (1, .int (jI i))]) (by rw [(hk2 26 (by omega) (by omega)).2.1])
          refine x_stk (st' := [.ref (G2.2.2 N)]) (by rw [hz2]) ?_
          refine lv_dup hx hb dX7_program_34 rfl ?_
          refine lv_aload_n hx hb dX7_program_35 rfl (lv_at hl 0 rfl) ?_
          refine g_getr CF hK hM28 26 (hP2.1.2.1.1 26 _ rfl) 3 3 rfl rfl (by decide) (Or.inl (hts _ q199)) (fun _ h => h) rfl (G2.2.2 60) (hP2.1.2.1.2.2.2.2.2.2.2.2.1.2) dX7_program_36 ?_
          refine lv_iconst (v := jI 1) hx hb dX7_program_39 rfl ?_
          refine lv_aload_n hx hb dX7_program_40 rfl (lv_at hl 0 rfl) ?_
          refine g_callRl hM28 hA (g_runV (As := []) (rest := [.int (jI 1), .ref (G2.2.2 60), .ref (G2.2.2 N), .ref (G2.2.2 N)]) CF hK hM28 (hP2.1.2.1.1 26 _ rfl) rfl ((hS G2 τ2 _ (fun _ => False) (N + 1) 0 (-1) rNm0 _ hP2 hR2).ret rTh_no) (cwV 0 hts (lw_V q617 q619 qs13 q67 q620) rfl rfl rfl (by decide +kernel) ⟨(show 417 + 1 ≤ 420 by omega), (show 8 + (2 + 11) + (10425) ≤ 10500 by omega)⟩) rfl hl.1 rfl (Nat.le_of_ble_eq_true rfl) dX7_program_41 ⟨(show 1 + (3 * (rEd (Sum.inr (a1, lk1, nm1, L1) : rR) - 0).toNat + 1) ≤ 310 by omega), (show 4 + (620 * (rEd (Sum.inr (a1, lk1, nm1, L1) : rR) - 0).toNat + 3) ≤ 63000 by omega)⟩) (fun ul N3 G3 τ3 H locs hls hP3 hk3 hN3 hM29 => ?_)
          have hl := lv_cast hl (b := [(0, .ref (G3.2.2 26)), (1, .int (jI i))]) (by rw [(hk3 26 (by omega) (by omega)).2.1])
          refine x_stk (st' := [.ref (G3.2.2 ul), .int (jI 1), .ref (G3.2.2 60), .ref (G3.2.2 N), .ref (G3.2.2 N)]) (by rw [(hk3 60 (by omega) (by omega)).2.1, (hk3 N (by omega) (by omega)).2.1]) ?_
          have hT3 : G3.1 N = some (.inl 8) := (hk3 N (by omega) (by omega)).1.trans hT2
          refine g_callv hM29 hA (g_runI (As := [.ref (G3.2.2 60), .int (jI 1), .ref (G3.2.2 ul)]) (rest := [.ref (G3.2.2 N)]) CF hK hM29 (l_x11i8 l E _ _ _ N (G3.2.2 60) (G3.2.2 ul) 1 hT3 (by omega) (by first | omega | assumption | (refine ⟨?_, ?_⟩ <;> omega))) (cwI 3 hts (lw_meth q712) rfl rfl rfl (hts _ q77) (hts _ q710) (hts _ q711) rfl (by decide +kernel) ⟨(show 2 + 1 ≤ 420 by omega), (show 8 + (4 + 11) + (45) ≤ 10500 by omega)⟩) rfl hl.1 rfl (Nat.le_of_ble_eq_true rfl) dX7_program_44 ⟨(show (1 + (3 * (rEd (Sum.inr (a1, lk1, nm1, L1) : rR) - 0).toNat + 1)) + 0 ≤ 310 by omega), (show (4 + (620 * (rEd (Sum.inr (a1, lk1, nm1, L1) : rR) - 0).toNat + 3)) + 0 ≤ 63000 by omega)⟩) (fun H locs hM30 => ?_)
          obtain ⟨G4, τ4, hM31, hP4, hd4, hk4, hz4, hT4⟩ : ∃ (g : y_G) (τ : y_S), gM E (gA G sz) g τ s.heap H locs ∧ lgP E ρ g τ (aX (fun _ => False) (N + 1) N3) N3 a1 lk1 nm1 ∧ ndV ρ g τ (aX (fun _ => False) N N3) ((a1 - 0).toNat + 1) N (rdRep (1 : Int).toNat L1) ∧ rdN N G3 τ3 g τ ∧ g.2.2 = G3.2.2 ∧ g.1 N = some (.inl 8) := ⟨_, _, hM30, hP3.ini (x := N) hN0 (fun z => z.elim (fun q => q.elim) (fun q => (by omega))) (fun t h => (by rw [up2_n _ _ _ h, up2_n _ _ _ h, up2_n _ _ _ h])) (fun t h => up2_n _ _ _ h), ndV.ti (A' := aX (fun _ => False) N N3) hls (fun z => z.elim (fun q => q.elim) (fun q => (by omega))) (Or.inr (by omega)) (fun t z => z.imp id (fun q => (by omega))) hT3 (by decide) (by decide) (fun t h => (by rw [up2_n _ _ _ h, up2_n _ _ _ h, up2_n _ _ _ h])) (fun t h => up2_n _ _ _ h) (by first | rw [up2_s, up1_s] | (dsimp only; rw [up2_s, up1_s])) (by first | rw [up2_s, up1_s] | (dsimp only; rw [up2_s, up1_s])), (fun t h1 h2 => ⟨rfl, rfl, fun _ => (by have e : t ≠ N := (by omega); dsimp only; rw [up2_n _ _ _ e, up2_n _ _ _ e, up2_n _ _ _ e]), fun _ => up2_n _ _ _ (by omega)⟩), rfl, hT3⟩
          have hl := lv_cast hl (b := [(0, .ref (G4.2.2 26)), (1, .int (jI i))]) (by rw [(hk4 26 (by omega) (by omega)).2.1])
          refine x_stk (st' := [.ref (G4.2.2 N)]) (by rw [(congrFun hz4 N)]) ?_
          have hd5 : ndV ρ G4 τ4 (aX (fun _ => False) N N3) 101 N L1 := hd4.le (by omega)
          have hk04 : rdN N G σ G4 τ4 := (hk1.tr (hk2.tr hk3 (by omega)) (Nat.le_refl _)).tr hk4 (Nat.le_refl _)
          refine lv_astore_n (lv' := [(1, .ref (G4.2.2 N)), (0, .ref (G4.2.2 26))]) hx hb dX7_program_47 rfl hl (by decide) rfl (fun ls hl => ?_)
          refine lv_aload_n hx hb dX7_program_48 rfl (lv_at hl 1 rfl) ?_
          refine g_geti CF hK hM31 26 (hP4.1.2.1.1 26 _ rfl) 1 1 rfl rfl (by decide) (Or.inl (hts _ q197)) (fun _ h => h) rfl dX7_program_49 ?_
          refine x_top (b := a1) hP4.2.1.1 ?_
          refine lv_aload_n hx hb dX7_program_52 rfl (lv_at hl 1 rfl) ?_
          refine g_getr CF hK hM31 26 (hP4.1.2.1.1 26 _ rfl) 3 3 rfl rfl (by decide) (Or.inl (hts _ q199)) (fun _ h => h) rfl (G4.2.2 60) (hP4.1.2.1.2.2.2.2.2.2.2.2.1.2) dX7_program_53 ?_
          refine g_geti CF hK hM31 60 (hP4.1.2.1.1 60 _ rfl) 25 25 rfl rfl (by decide) (gLk.n hK q312) (fun _ h => h) rfl dX7_program_56 ?_
          refine x_top (b := ρ 60 30) hP4.1.2.2.2.1 ?_
          refine x_icmp_ge (tgt := 75) hx hb dX7_program_59 (by decide) (by omega) (by omega) (fun b59 => ?_) (fun b59 => ?_)
          · refine lv_aload_n hx hb dX7_program_75 rfl (lv_at hl 1 rfl) ?_
            refine g_geti CF hK hM31 26 (hP4.1.2.1.1 26 _ rfl) 2 2 rfl rfl (by decide) (Or.inl (hts _ q198)) (fun _ h => h) rfl dX7_program_76 ?_
            refine x_top (b := lk1) hP4.2.1.2 ?_
            refine lv_iconst (v := jI (-1)) hx hb dX7_program_79 rfl ?_
            refine x_icmp_eq (tgt := 96) hx hb dX7_program_80 (by decide) (by omega) (by omega) (fun b80 => ?_) (fun b80 => ?_)
            · (exfalso; omega)
            · refine g_new CF hK hM31 hA 98 (hP4.2.2.1.2.2.1 98 (by decide) (by decide)) (ci := 9) rfl rfl q631 q632 q80 (show (1 + (3 * (rEd (Sum.inr (a1, lk1, nm1, L1) : rR) - 0).toNat + 1)) + 1 ≤ 310 by omega) (show (4 + (620 * (rEd (Sum.inr (a1, lk1, nm1, L1) : rR) - 0).toNat + 3)) + 8 ≤ 63000 by omega) dX7_program_83 (fun H a98 hM32 => ?_)
              refine lv_dup hx hb dX7_program_86 rfl ?_
              refine lv_iconst (v := jI 2) hx hb dX7_program_87 rfl ?_
              refine lv_aload_n hx hb dX7_program_88 rfl (lv_at hl 1 rfl) ?_
              refine g_geti CF hK hM32 26 (hP4.1.2.1.1 26 _ rfl) 2 2 rfl rfl (by decide) (Or.inl (hts _ q198)) (fun _ h => h) rfl dX7_program_89 ?_
              refine x_top (b := τ4 26 2) rfl ?_
              refine x_top (b := lk1) hP4.2.1.2 ?_
              refine g_callv hM32 hA (g_runI (As := [.int (jI 2), .int (jI lk1)]) (rest := [.ref a98]) CF hK hM32 (l_wrong l E _ _ _ 98 2 lk1 rfl (by decide) (by first | omega | assumption | (refine ⟨?_, ?_⟩ <;> omega)) (by first | omega | assumption | (refine ⟨?_, ?_⟩ <;> omega))) (cwI 2 hts (lw_meth q670) rfl rfl rfl (hts _ q80) (hts _ q668) (hts _ q669) rfl (by decide +kernel) ⟨(show 3 + 1 ≤ 420 by omega), (show 8 + (3 + 11) + (72) ≤ 10500 by omega)⟩) rfl hl.1 rfl (Nat.le_of_ble_eq_true rfl) dX7_program_92 ⟨(show ((1 + (3 * (rEd (Sum.inr (a1, lk1, nm1, L1) : rR) - 0).toNat + 1)) + 1) + 0 ≤ 310 by omega), (show ((4 + (620 * (rEd (Sum.inr (a1, lk1, nm1, L1) : rR) - 0).toNat + 3)) + 8) + 0 ≤ 63000 by omega)⟩) (fun H locs hM33 => ?_)
              exact g_upT (W.widen (show ((1 + (3 * (rEd (Sum.inr (a1, lk1, nm1, L1) : rR) - 0).toNat + 1)) + 1) ≤ 310 by omega) (show ((4 + (620 * (rEd (Sum.inr (a1, lk1, nm1, L1) : rR) - 0).toNat + 3)) + 8) ≤ 63000 by omega) (g_athr CF het hlocks hM33 ⟨2, lk1, e2, thW_mk (hk04.k hN0) rfl⟩ dX7_program_95))
          · (exfalso; omega)
        · refine lv_aload_n hx hb dX7_program_18 rfl (lv_at hl 0 rfl) ?_
          refine g_getr CF hK hM24 26 (hLc.2.1.1 26 _ rfl) 0 0 rfl rfl (by decide) (Or.inl (hts _ q196)) (fun _ h => h) rfl (G.2.2 62) (hLc.2.1.2.2.2.2.2.2.2.2.1.1) dX7_program_19 ?_
          refine lv_iload_n hx hb dX7_program_22 rfl (lv_at hl 1 rfl) ?_
          refine lv_null hx hb dX7_program_23 ?_
          refine g_aastN CF hK hM24 62 (by decide) (hLc.2.1.1 62 _ rfl) (by decide) rfl (i := i) (by omega) (by omega) (by omega) dX7_program_24 (fun H locs hM34 => ?_)
          refine x_iinc (lv' := [(1, .int (jI (i + 1))), (0, .ref (G.2.2 26))]) hx hb dX7_program_25 hl (k := 1) rfl (by decide) rfl (fun ls hl => ?_)
          refine lv_goto (tgt := 12) hx hb dX7_program_28 (by decide) ?_
          exact ih12  (i + 1) (up2 rf 62 i (none)) _ _ _ (by first | omega | assumption | rfl) (by first | omega | assumption | rfl) (fun t k h => (by rw [up2_n _ _ _ h]; exact hrf t k h)) (fun j a b => Or.elim (Decidable.em (j = i)) (fun e => (by rw [e, up2_s, up1_s])) (fun e => (by rw [up2_s, up1_n _ _ e]; exact hrn j a (by omega)))) (by omega) hM34 (lv_sub hl [1, 0] rfl)
    exact c12 _ 0 G.2.1 _ _ _ (by first | omega | assumption | rfl) (by first | omega | assumption | rfl) (fun t k _ => rfl) (fun j a b => absurd b (by omega)) (Nat.lt_succ_self _) hM23 (lv_sub hl [1, 0] rfl)
  · have hR1 : rPr ρ = some (.inr (a1, lk1, nm1, L1)) := (by rw [hR, e1])
    have hE1 : rEd (Sum.inr (a1, lk1, nm1, L1) : rR) = a1 := rfl
    have hR2 := hR1
    have hq1 : 0 < a1 ∧ a1 ≤ ρ 60 30 ∧ rLo lk1 := rPr_pos hT hR1
    have hlo2 : -1 ≤ lk1 ∧ lk1 ≤ 100 := (by have q := hq1.2.2; unfold rLo at q; omega)
    have hmr := mny_r L1
    refine lv_aload_n hx hb dX7_program_0 rfl (lv_at hl 0 rfl) ?_
    refine lv_iconst (v := jI 0) hx hb dX7_program_1 rfl ?_
    refine g_puti CF hK hM0 26 (by decide) (hL.2.1.1 26 _ rfl) 1 1 rfl rfl (by decide) (Or.inl (hts _ q197)) (fun _ h => h) (Or.inl rfl) rfl (v := 0) rfl rfl (by omega) dX7_program_2 (fun H locs hM35 => ?_)
    refine lv_aload_n hx hb dX7_program_5 rfl (lv_at hl 0 rfl) ?_
    refine lv_iconst (v := jI (-1)) hx hb dX7_program_6 rfl ?_
    refine g_puti CF hK hM35 26 (by decide) (hL.2.1.1 26 _ rfl) 2 2 rfl rfl (by decide) (Or.inl (hts _ q198)) (fun _ h => h) (Or.inl rfl) rfl (v := (-1)) rfl rfl (by omega) dX7_program_7 (fun H locs hM36 => ?_)
    refine lv_iconst (v := jI 0) hx hb dX7_program_10 rfl ?_
    refine lv_istore_n (lv' := [(1, .int (jI 0)), (0, .ref (G.2.2 26))]) hx hb dX7_program_11 rfl hl (by decide) rfl (fun ls hl => ?_)
    have c12 : ∀ (n12 : Nat) (i : Int) (rf : Nat → Int → Option Nat) (H : Heap) (locs : List Loc) (ls : Array Slot), (0 ≤ i) → (i ≤ 6) → (∀ (t : Nat) (j : Int), t ≠ 62 → rf t j = G.2.1 t j) → (∀ j : Int, 0 ≤ j → j < i → rf 62 j = none) → ((6 - i).toNat < n12) → gM E (gA G sz) (G.1, rf, G.2.2) (up2 (up2 σ 26 1 0) 26 2 (-1)) s.heap H locs → lv_has ls 2 [(0, .ref (G.2.2 26)), (1, .int (jI i))] → W p l e ({ frames := 420, cells := 310, slots := 63000, locals := 10500 } : Room) s m ([.ref (G.2.2 26)] : List Value).toArray below meth c H locs 0 0 (MQT below (gQB E G sz (pPo ρ G σ N R) (pTh ρ G σ R)) ([.ref (G.2.2 26)] : List Value).toArray s 310 63000 (gA G sz)) (F0 m 12 ls []) := by
      intro n12
      induction n12 with
      | zero => intro i rf H locs ls hi0 hi1 hrf hrn hmu; exact absurd hmu (Nat.not_lt_zero _)
      | succ n12 ih12 =>
        intro i rf H locs ls hi0 hi1 hrf hrn hmu12 hM37 hl
        have hLc : lgV ρ (G.1, rf, G.2.2) (up2 (up2 σ 26 1 0) 26 2 (-1)) := hL.fr (fun t _ => ⟨rfl, rfl, fun j z => hrf t j z⟩) (by rw [up2_n _ _ _ (by decide), up2_n _ _ _ (by decide)]) (by rw [up2_n _ _ _ (by decide), up2_n _ _ _ (by decide)])
        refine lv_iload_n hx hb dX7_program_12 rfl (lv_at hl 1 rfl) ?_
        refine lv_bipush (v := jI 6) hx hb dX7_program_13 (by decide) ?_
        refine x_icmp_ge (tgt := 31) hx hb dX7_program_15 (by decide) (by omega) (by omega) (fun b15 => ?_) (fun b15 => ?_)
        · obtain ⟨G1, τ1, hM38, hP1, hk1⟩ : ∃ (g : y_G) (τ : y_S), gM E (gA G sz) g τ s.heap H locs ∧ lgP E ρ g τ (fun _ => False) N 0 (-1) rNm0 ∧ rdN N G σ g τ := ⟨_, _, hM37, ⟨hL.fr (fun t _ => ⟨rfl, rfl, fun j z => hrf t j z⟩) (by rw [up2_n _ _ _ (by decide), up2_n _ _ _ (by decide)]) (by rw [up2_n _ _ _ (by decide), up2_n _ _ _ (by decide)]), ⟨rfl, rfl⟩, ⟨hN0, hfr, hF, fun t z => z.elim⟩, hZ, fun j j0 j1 => hrn j j0 (by omega), (by omega), Or.inl rfl⟩, (fun t _ _ => ⟨rfl, rfl, fun z => funext (fun j => hrf t j z), fun z => (by rw [up2_n _ _ _ z, up2_n _ _ _ z])⟩)⟩
          have hl := lv_cast hl (b := [(0, .ref (G1.2.2 26)), (1, .int (jI i))]) (by rw [(hk1 26 (by omega) (by omega)).2.1])
          refine g_new CF hK hM38 hA N (hP1.2.2.1.2.1 N (Nat.le_refl _)) (ci := 8) rfl rfl q615 q616 q77 (show 0 + 1 ≤ 310 by omega) (show 0 + 4 ≤ 63000 by omega) dX7_program_31 (fun H a40 hM39 => ?_)
          obtain ⟨G2, τ2, hM41, hP2, hk2, hT2, hz2⟩ : ∃ (g : y_G) (τ : y_S), gM E (gA G sz) g τ s.heap H locs ∧ lgP E ρ g τ (fun _ => False) (N + 1) 0 (-1) rNm0 ∧ rdN N G1 τ1 g τ ∧ g.1 N = some (.inl 8) ∧ g.2.2 N = a40 := ⟨_, _, hM39, (hP1.new (Nat.lt_succ_self _)).1, (hP1.new (Nat.lt_succ_self _)).2, (upT_s _ _ _), (upT_s _ _ _)⟩
          have hl := lv_cast hl (b := [(0, .ref (G2.2.2 26)), (1, .int (jI i))]) (by rw [(hk2 26 (by omega) (by omega)).2.1])
          refine x_stk (st' := [.ref (G2.2.2 N)]) (by rw [hz2]) ?_
          refine lv_dup hx hb dX7_program_34 rfl ?_
          refine lv_aload_n hx hb dX7_program_35 rfl (lv_at hl 0 rfl) ?_
          refine g_getr CF hK hM41 26 (hP2.1.2.1.1 26 _ rfl) 3 3 rfl rfl (by decide) (Or.inl (hts _ q199)) (fun _ h => h) rfl (G2.2.2 60) (hP2.1.2.1.2.2.2.2.2.2.2.2.1.2) dX7_program_36 ?_
          refine lv_iconst (v := jI 1) hx hb dX7_program_39 rfl ?_
          refine lv_aload_n hx hb dX7_program_40 rfl (lv_at hl 0 rfl) ?_
          refine g_callRl hM41 hA (g_runV (As := []) (rest := [.int (jI 1), .ref (G2.2.2 60), .ref (G2.2.2 N), .ref (G2.2.2 N)]) CF hK hM41 (hP2.1.2.1.1 26 _ rfl) rfl ((hS G2 τ2 _ (fun _ => False) (N + 1) 0 (-1) rNm0 _ hP2 hR2).ret rTh_no) (cwV 0 hts (lw_V q617 q619 qs13 q67 q620) rfl rfl rfl (by decide +kernel) ⟨(show 417 + 1 ≤ 420 by omega), (show 8 + (2 + 11) + (10425) ≤ 10500 by omega)⟩) rfl hl.1 rfl (Nat.le_of_ble_eq_true rfl) dX7_program_41 ⟨(show 1 + (3 * (rEd (Sum.inr (a1, lk1, nm1, L1) : rR) - 0).toNat + 1) ≤ 310 by omega), (show 4 + (620 * (rEd (Sum.inr (a1, lk1, nm1, L1) : rR) - 0).toNat + 3) ≤ 63000 by omega)⟩) (fun ul N3 G3 τ3 H locs hls hP3 hk3 hN3 hM42 => ?_)
          have hl := lv_cast hl (b := [(0, .ref (G3.2.2 26)), (1, .int (jI i))]) (by rw [(hk3 26 (by omega) (by omega)).2.1])
          refine x_stk (st' := [.ref (G3.2.2 ul), .int (jI 1), .ref (G3.2.2 60), .ref (G3.2.2 N), .ref (G3.2.2 N)]) (by rw [(hk3 60 (by omega) (by omega)).2.1, (hk3 N (by omega) (by omega)).2.1]) ?_
          have hT3 : G3.1 N = some (.inl 8) := (hk3 N (by omega) (by omega)).1.trans hT2
          refine g_callv hM42 hA (g_runI (As := [.ref (G3.2.2 60), .int (jI 1), .ref (G3.2.2 ul)]) (rest := [.ref (G3.2.2 N)]) CF hK hM42 (l_x11i8 l E _ _ _ N (G3.2.2 60) (G3.2.2 ul) 1 hT3 (by omega) (by first | omega | assumption | (refine ⟨?_, ?_⟩ <;> omega))) (cwI 3 hts (lw_meth q712) rfl rfl rfl (hts _ q77) (hts _ q710) (hts _ q711) rfl (by decide +kernel) ⟨(show 2 + 1 ≤ 420 by omega), (show 8 + (4 + 11) + (45) ≤ 10500 by omega)⟩) rfl hl.1 rfl (Nat.le_of_ble_eq_true rfl) dX7_program_44 ⟨(show (1 + (3 * (rEd (Sum.inr (a1, lk1, nm1, L1) : rR) - 0).toNat + 1)) + 0 ≤ 310 by omega), (show (4 + (620 * (rEd (Sum.inr (a1, lk1, nm1, L1) : rR) - 0).toNat + 3)) + 0 ≤ 63000 by omega)⟩) (fun H locs hM43 => ?_)
          obtain ⟨G4, τ4, hM44, hP4, hd4, hk4, hz4, hT4⟩ : ∃ (g : y_G) (τ : y_S), gM E (gA G sz) g τ s.heap H locs ∧ lgP E ρ g τ (aX (fun _ => False) (N + 1) N3) N3 a1 lk1 nm1 ∧ ndV ρ g τ (aX (fun _ => False) N N3) ((a1 - 0).toNat + 1) N (rdRep (1 : Int).toNat L1) ∧ rdN N G3 τ3 g τ ∧ g.2.2 = G3.2.2 ∧ g.1 N = some (.inl 8) := ⟨_, _, hM43, hP3.ini (x := N) hN0 (fun z => z.elim (fun q => q.elim) (fun q => (by omega))) (fun t h => (by rw [up2_n _ _ _ h, up2_n _ _ _ h, up2_n _ _ _ h])) (fun t h => up2_n _ _ _ h), ndV.ti (A' := aX (fun _ => False) N N3) hls (fun z => z.elim (fun q => q.elim) (fun q => (by omega))) (Or.inr (by omega)) (fun t z => z.imp id (fun q => (by omega))) hT3 (by decide) (by decide) (fun t h => (by rw [up2_n _ _ _ h, up2_n _ _ _ h, up2_n _ _ _ h])) (fun t h => up2_n _ _ _ h) (by first | rw [up2_s, up1_s] | (dsimp only; rw [up2_s, up1_s])) (by first | rw [up2_s, up1_s] | (dsimp only; rw [up2_s, up1_s])), (fun t h1 h2 => ⟨rfl, rfl, fun _ => (by have e : t ≠ N := (by omega); dsimp only; rw [up2_n _ _ _ e, up2_n _ _ _ e, up2_n _ _ _ e]), fun _ => up2_n _ _ _ (by omega)⟩), rfl, hT3⟩
          have hl := lv_cast hl (b := [(0, .ref (G4.2.2 26)), (1, .int (jI i))]) (by rw [(hk4 26 (by omega) (by omega)).2.1])
          refine x_stk (st' := [.ref (G4.2.2 N)]) (by rw [(congrFun hz4 N)]) ?_
          have hd5 : ndV ρ G4 τ4 (aX (fun _ => False) N N3) 101 N L1 := hd4.le (by omega)
          have hk04 : rdN N G σ G4 τ4 := (hk1.tr (hk2.tr hk3 (by omega)) (Nat.le_refl _)).tr hk4 (Nat.le_refl _)
          refine lv_astore_n (lv' := [(1, .ref (G4.2.2 N)), (0, .ref (G4.2.2 26))]) hx hb dX7_program_47 rfl hl (by decide) rfl (fun ls hl => ?_)
          refine lv_aload_n hx hb dX7_program_48 rfl (lv_at hl 1 rfl) ?_
          refine g_geti CF hK hM44 26 (hP4.1.2.1.1 26 _ rfl) 1 1 rfl rfl (by decide) (Or.inl (hts _ q197)) (fun _ h => h) rfl dX7_program_49 ?_
          refine x_top (b := a1) hP4.2.1.1 ?_
          refine lv_aload_n hx hb dX7_program_52 rfl (lv_at hl 1 rfl) ?_
          refine g_getr CF hK hM44 26 (hP4.1.2.1.1 26 _ rfl) 3 3 rfl rfl (by decide) (Or.inl (hts _ q199)) (fun _ h => h) rfl (G4.2.2 60) (hP4.1.2.1.2.2.2.2.2.2.2.2.1.2) dX7_program_53 ?_
          refine g_geti CF hK hM44 60 (hP4.1.2.1.1 60 _ rfl) 25 25 rfl rfl (by decide) (gLk.n hK q312) (fun _ h => h) rfl dX7_program_56 ?_
          refine x_top (b := ρ 60 30) hP4.1.2.2.2.1 ?_
          refine x_icmp_ge (tgt := 75) hx hb dX7_program_59 (by decide) (by omega) (by omega) (fun b59 => ?_) (fun b59 => ?_)
          · refine lv_aload_n hx hb dX7_program_75 rfl (lv_at hl 1 rfl) ?_
            refine g_geti CF hK hM44 26 (hP4.1.2.1.1 26 _ rfl) 2 2 rfl rfl (by decide) (Or.inl (hts _ q198)) (fun _ h => h) rfl dX7_program_76 ?_
            refine x_top (b := lk1) hP4.2.1.2 ?_
            refine lv_iconst (v := jI (-1)) hx hb dX7_program_79 rfl ?_
            refine x_icmp_eq (tgt := 96) hx hb dX7_program_80 (by decide) (by omega) (by omega) (fun b80 => ?_) (fun b80 => ?_)
            · refine lv_aload_n hx hb dX7_program_96 rfl (lv_at hl 0 rfl) ?_
              refine g_manyN (rest := []) CF hK hM44 hA hd5 (ct_mn l E ρ 101) q844 hl.1 (Nat.le_of_ble_eq_true rfl) dX7_program_97 (show 3 * 101 + 6 ≤ 420 by omega) (show 130 + 60 * 101 ≤ 10500 by omega) ⟨(show (1 + (3 * (rEd (Sum.inr (a1, lk1, nm1, L1) : rR) - 0).toNat + 1)) ≤ 310 by omega), (show (4 + (620 * (rEd (Sum.inr (a1, lk1, nm1, L1) : rR) - 0).toNat + 3)) ≤ 63000 by omega)⟩ (fun H locs hM45 => ?_)
              refine lv_bipush (v := jI 10) hx hb dX7_program_100 (by decide) ?_
              have fa46 := mny_r L1
              refine x_icmp_le (tgt := 115) hx hb dX7_program_102 (by decide) (by have f0 := mny_r L1; omega) (by omega) (fun b102 => ?_) (fun b102 => ?_)
              · (exfalso; omega)
              · refine g_new CF hK hM45 hA 98 (hP4.2.2.1.2.2.1 98 (by decide) (by decide)) (ci := 9) rfl rfl q631 q632 q80 (show (1 + (3 * (rEd (Sum.inr (a1, lk1, nm1, L1) : rR) - 0).toNat + 1)) + 1 ≤ 310 by omega) (show (4 + (620 * (rEd (Sum.inr (a1, lk1, nm1, L1) : rR) - 0).toNat + 3)) + 8 ≤ 63000 by omega) dX7_program_105 (fun H a98 hM47 => ?_)
                refine lv_dup hx hb dX7_program_108 rfl ?_
                refine lv_iconst (v := jI 3) hx hb dX7_program_109 rfl ?_
                refine lv_iconst (v := jI 0) hx hb dX7_program_110 rfl ?_
                refine g_callv hM47 hA (g_runI (As := [.int (jI 3), .int (jI 0)]) (rest := [.ref a98]) CF hK hM47 (l_wrong l E _ _ _ 98 3 0 rfl (by decide) (by first | omega | assumption | (refine ⟨?_, ?_⟩ <;> omega)) (by first | omega | assumption | (refine ⟨?_, ?_⟩ <;> omega))) (cwI 2 hts (lw_meth q670) rfl rfl rfl (hts _ q80) (hts _ q668) (hts _ q669) rfl (by decide +kernel) ⟨(show 3 + 1 ≤ 420 by omega), (show 8 + (3 + 11) + (72) ≤ 10500 by omega)⟩) rfl hl.1 rfl (Nat.le_of_ble_eq_true rfl) dX7_program_111 ⟨(show ((1 + (3 * (rEd (Sum.inr (a1, lk1, nm1, L1) : rR) - 0).toNat + 1)) + 1) + 0 ≤ 310 by omega), (show ((4 + (620 * (rEd (Sum.inr (a1, lk1, nm1, L1) : rR) - 0).toNat + 3)) + 8) + 0 ≤ 63000 by omega)⟩) (fun H locs hM48 => ?_)
                exact g_upT (W.widen (show ((1 + (3 * (rEd (Sum.inr (a1, lk1, nm1, L1) : rR) - 0).toNat + 1)) + 1) ≤ 310 by omega) (show ((4 + (620 * (rEd (Sum.inr (a1, lk1, nm1, L1) : rR) - 0).toNat + 3)) + 8) ≤ 63000 by omega) (g_athr CF het hlocks hM48 ⟨3, 0, e2, thW_mk (hk04.k hN0) rfl⟩ dX7_program_114))
            · (exfalso; omega)
          · (exfalso; omega)
        · refine lv_aload_n hx hb dX7_program_18 rfl (lv_at hl 0 rfl) ?_
          refine g_getr CF hK hM37 26 (hLc.2.1.1 26 _ rfl) 0 0 rfl rfl (by decide) (Or.inl (hts _ q196)) (fun _ h => h) rfl (G.2.2 62) (hLc.2.1.2.2.2.2.2.2.2.2.1.1) dX7_program_19 ?_
          refine lv_iload_n hx hb dX7_program_22 rfl (lv_at hl 1 rfl) ?_
          refine lv_null hx hb dX7_program_23 ?_
          refine g_aastN CF hK hM37 62 (by decide) (hLc.2.1.1 62 _ rfl) (by decide) rfl (i := i) (by omega) (by omega) (by omega) dX7_program_24 (fun H locs hM49 => ?_)
          refine x_iinc (lv' := [(1, .int (jI (i + 1))), (0, .ref (G.2.2 26))]) hx hb dX7_program_25 hl (k := 1) rfl (by decide) rfl (fun ls hl => ?_)
          refine lv_goto (tgt := 12) hx hb dX7_program_28 (by decide) ?_
          exact ih12  (i + 1) (up2 rf 62 i (none)) _ _ _ (by first | omega | assumption | rfl) (by first | omega | assumption | rfl) (fun t k h => (by rw [up2_n _ _ _ h]; exact hrf t k h)) (fun j a b => Or.elim (Decidable.em (j = i)) (fun e => (by rw [e, up2_s, up1_s])) (fun e => (by rw [up2_s, up1_n _ _ e]; exact hrn j a (by omega)))) (by omega) hM49 (lv_sub hl [1, 0] rfl)
    exact c12 _ 0 G.2.1 _ _ _ (by first | omega | assumption | rfl) (by first | omega | assumption | rfl) (fun t k _ => rfl) (fun j a b => absurd b (by omega)) (Nat.lt_succ_self _) hM36 (lv_sub hl [1, 0] rfl)
  · have hR1 : rPr ρ = some (.inr (a1, lk1, nm1, L1)) := (by rw [hR, e1])
    have hE1 : rEd (Sum.inr (a1, lk1, nm1, L1) : rR) = a1 := rfl
    have hR2 := hR1
    have hq1 : 0 < a1 ∧ a1 ≤ ρ 60 30 ∧ rLo lk1 := rPr_pos hT hR1
    have hlo2 : -1 ≤ lk1 ∧ lk1 ≤ 100 := (by have q := hq1.2.2; unfold rLo at q; omega)
    have hmr := mny_r L1
    refine lv_aload_n hx hb dX7_program_0 rfl (lv_at hl 0 rfl) ?_
    refine lv_iconst (v := jI 0) hx hb dX7_program_1 rfl ?_
    refine g_puti CF hK hM0 26 (by decide) (hL.2.1.1 26 _ rfl) 1 1 rfl rfl (by decide) (Or.inl (hts _ q197)) (fun _ h => h) (Or.inl rfl) rfl (v := 0) rfl rfl (by omega) dX7_program_2 (fun H locs hM50 => ?_)
    refine lv_aload_n hx hb dX7_program_5 rfl (lv_at hl 0 rfl) ?_
    refine lv_iconst (v := jI (-1)) hx hb dX7_program_6 rfl ?_
    refine g_puti CF hK hM50 26 (by decide) (hL.2.1.1 26 _ rfl) 2 2 rfl rfl (by decide) (Or.inl (hts _ q198)) (fun _ h => h) (Or.inl rfl) rfl (v := (-1)) rfl rfl (by omega) dX7_program_7 (fun H locs hM51 => ?_)
    refine lv_iconst (v := jI 0) hx hb dX7_program_10 rfl ?_
    refine lv_istore_n (lv' := [(1, .int (jI 0)), (0, .ref (G.2.2 26))]) hx hb dX7_program_11 rfl hl (by decide) rfl (fun ls hl => ?_)
    have c12 : ∀ (n12 : Nat) (i : Int) (rf : Nat → Int → Option Nat) (H : Heap) (locs : List Loc) (ls : Array Slot), (0 ≤ i) → (i ≤ 6) → (∀ (t : Nat) (j : Int), t ≠ 62 → rf t j = G.2.1 t j) → (∀ j : Int, 0 ≤ j → j < i → rf 62 j = none) → ((6 - i).toNat < n12) → gM E (gA G sz) (G.1, rf, G.2.2) (up2 (up2 σ 26 1 0) 26 2 (-1)) s.heap H locs → lv_has ls 2 [(0, .ref (G.2.2 26)), (1, .int (jI i))] → W p l e ({ frames := 420, cells := 310, slots := 63000, locals := 10500 } : Room) s m ([.ref (G.2.2 26)] : List Value).toArray below meth c H locs 0 0 (MQT below (gQB E G sz (pPo ρ G σ N R) (pTh ρ G σ R)) ([.ref (G.2.2 26)] : List Value).toArray s 310 63000 (gA G sz)) (F0 m 12 ls []) := by
      intro n12
      induction n12 with
      | zero => intro i rf H locs ls hi0 hi1 hrf hrn hmu; exact absurd hmu (Nat.not_lt_zero _)
      | succ n12 ih12 =>
        intro i rf H locs ls hi0 hi1 hrf hrn hmu12 hM52 hl
        have hLc : lgV ρ (G.1, rf, G.2.2) (up2 (up2 σ 26 1 0) 26 2 (-1)) := hL.fr (fun t _ => ⟨rfl, rfl, fun j z => hrf t j z⟩) (by rw [up2_n _ _ _ (by decide), up2_n _ _ _ (by decide)]) (by rw [up2_n _ _ _ (by decide), up2_n _ _ _ (by decide)])
        refine lv_iload_n hx hb dX7_program_12 rfl (lv_at hl 1 rfl) ?_
        refine lv_bipush (v := jI 6) hx hb dX7_program_13 (by decide) ?_
        refine x_icmp_ge (tgt := 31) hx hb dX7_program_15 (by decide) (by omega) (by omega) (fun b15 => ?_) (fun b15 => ?_)
        · obtain ⟨G1, τ1, hM53, hP1, hk1⟩ : ∃ (g : y_G) (τ : y_S), gM E (gA G sz) g τ s.heap H locs ∧ lgP E ρ g τ (fun _ => False) N 0 (-1) rNm0 ∧ rdN N G σ g τ := ⟨_, _, hM52, ⟨hL.fr (fun t _ => ⟨rfl, rfl, fun j z => hrf t j z⟩) (by rw [up2_n _ _ _ (by decide), up2_n _ _ _ (by decide)]) (by rw [up2_n _ _ _ (by decide), up2_n _ _ _ (by decide)]), ⟨rfl, rfl⟩, ⟨hN0, hfr, hF, fun t z => z.elim⟩, hZ, fun j j0 j1 => hrn j j0 (by omega), (by omega), Or.inl rfl⟩, (fun t _ _ => ⟨rfl, rfl, fun z => funext (fun j => hrf t j z), fun z => (by rw [up2_n _ _ _ z, up2_n _ _ _ z])⟩)⟩
          have hl := lv_cast hl (b := [(0, .ref (G1.2.2 26)), (1, .int (jI i))]) (by rw [(hk1 26 (by omega) (by omega)).2.1])
          refine g_new CF hK hM53 hA N (hP1.2.2.1.2.1 N (Nat.le_refl _)) (ci := 8) rfl rfl q615 q616 q77 (show 0 + 1 ≤ 310 by omega) (show 0 + 4 ≤ 63000 by omega) dX7_program_31 (fun H a55 hM54 => ?_)
          obtain ⟨G2, τ2, hM56, hP2, hk2, hT2, hz2⟩ : ∃ (g : y_G) (τ : y_S), gM E (gA G sz) g τ s.heap H locs ∧ lgP E ρ g τ (fun _ => False) (N + 1) 0 (-1) rNm0 ∧ rdN N G1 τ1 g τ ∧ g.1 N = some (.inl 8) ∧ g.2.2 N = a55 := ⟨_, _, hM54, (hP1.new (Nat.lt_succ_self _)).1, (hP1.new (Nat.lt_succ_self _)).2, (upT_s _ _ _), (upT_s _ _ _)⟩
          have hl := lv_cast hl (b := [(0, .ref (G2.2.2 26)), (1, .int (jI i))]) (by rw [(hk2 26 (by omega) (by omega)).2.1])
          refine x_stk (st' := [.ref (G2.2.2 N)]) (by rw [hz2]) ?_
          refine lv_dup hx hb dX7_program_34 rfl ?_
          refine lv_aload_n hx hb dX7_program_35 rfl (lv_at hl 0 rfl) ?_
          refine g_getr CF hK hM56 26 (hP2.1.2.1.1 26 _ rfl) 3 3 rfl rfl (by decide) (Or.inl (hts _ q199)) (fun _ h => h) rfl (G2.2.2 60) (hP2.1.2.1.2.2.2.2.2.2.2.2.1.2) dX7_program_36 ?_
          refine lv_iconst (v := jI 1) hx hb dX7_program_39 rfl ?_
          refine lv_aload_n hx hb dX7_program_40 rfl (lv_at hl 0 rfl) ?_
          refine g_callRl hM56 hA (g_runV (As := []) (rest := [.int (jI 1), .ref (G2.2.2 60), .ref (G2.2.2 N), .ref (G2.2.2 N)]) CF hK hM56 (hP2.1.2.1.1 26 _ rfl) rfl ((hS G2 τ2 _ (fun _ => False) (N + 1) 0 (-1) rNm0 _ hP2 hR2).ret rTh_no) (cwV 0 hts (lw_V q617 q619 qs13 q67 q620) rfl rfl rfl (by decide +kernel) ⟨(show 417 + 1 ≤ 420 by omega), (show 8 + (2 + 11) + (10425) ≤ 10500 by omega)⟩) rfl hl.1 rfl (Nat.le_of_ble_eq_true rfl) dX7_program_41 ⟨(show 1 + (3 * (rEd (Sum.inr (a1, lk1, nm1, L1) : rR) - 0).toNat + 1) ≤ 310 by omega), (show 4 + (620 * (rEd (Sum.inr (a1, lk1, nm1, L1) : rR) - 0).toNat + 3) ≤ 63000 by omega)⟩) (fun ul N3 G3 τ3 H locs hls hP3 hk3 hN3 hM57 => ?_)
          have hl := lv_cast hl (b := [(0, .ref (G3.2.2 26)), (1, .int (jI i))]) (by rw [(hk3 26 (by omega) (by omega)).2.1])
          refine x_stk (st' := [.ref (G3.2.2 ul), .int (jI 1), .ref (G3.2.2 60), .ref (G3.2.2 N), .ref (G3.2.2 N)]) (by rw [(hk3 60 (by omega) (by omega)).2.1, (hk3 N (by omega) (by omega)).2.1]) ?_
          have hT3 : G3.1 N = some (.inl 8) := (hk3 N (by omega) (by omega)).1.trans hT2
          refine g_callv hM57 hA (g_runI (As := [.ref (G3.2.2 60), .int (jI 1), .ref (G3.2.2 ul)]) (rest := [.ref (G3.2.2 N)]) CF hK hM57 (l_x11i8 l E _ _ _ N (G3.2.2 60) (G3.2.2 ul) 1 hT3 (by omega) (by first | omega | assumption | (refine ⟨?_, ?_⟩ <;> omega))) (cwI 3 hts (lw_meth q712) rfl rfl rfl (hts _ q77) (hts _ q710) (hts _ q711) rfl (by decide +kernel) ⟨(show 2 + 1 ≤ 420 by omega), (show 8 + (4 + 11) + (45) ≤ 10500 by omega)⟩) rfl hl.1 rfl (Nat.le_of_ble_eq_true rfl) dX7_program_44 ⟨(show (1 + (3 * (rEd (Sum.inr (a1, lk1, nm1, L1) : rR) - 0).toNat + 1)) + 0 ≤ 310 by omega), (show (4 + (620 * (rEd (Sum.inr (a1, lk1, nm1, L1) : rR) - 0).toNat + 3)) + 0 ≤ 63000 by omega)⟩) (fun H locs hM58 => ?_)
          obtain ⟨G4, τ4, hM59, hP4, hd4, hk4, hz4, hT4⟩ : ∃ (g : y_G) (τ : y_S), gM E (gA G sz) g τ s.heap H locs ∧ lgP E ρ g τ (aX (fun _ => False) (N + 1) N3) N3 a1 lk1 nm1 ∧ ndV ρ g τ (aX (fun _ => False) N N3) ((a1 - 0).toNat + 1) N (rdRep (1 : Int).toNat L1) ∧ rdN N G3 τ3 g τ ∧ g.2.2 = G3.2.2 ∧ g.1 N = some (.inl 8) := ⟨_, _, hM58, hP3.ini (x := N) hN0 (fun z => z.elim (fun q => q.elim) (fun q => (by omega))) (fun t h => (by rw [up2_n _ _ _ h, up2_n _ _ _ h, up2_n _ _ _ h])) (fun t h => up2_n _ _ _ h), ndV.ti (A' := aX (fun _ => False) N N3) hls (fun z => z.elim (fun q => q.elim) (fun q => (by omega))) (Or.inr (by omega)) (fun t z => z.imp id (fun q => (by omega))) hT3 (by decide) (by decide) (fun t h => (by rw [up2_n _ _ _ h, up2_n _ _ _ h, up2_n _ _ _ h])) (fun t h => up2_n _ _ _ h) (by first | rw [up2_s, up1_s] | (dsimp only; rw [up2_s, up1_s])) (by first | rw [up2_s, up1_s] | (dsimp only; rw [up2_s, up1_s])), (fun t h1 h2 => ⟨rfl, rfl, fun _ => (by have e : t ≠ N := (by omega); dsimp only; rw [up2_n _ _ _ e, up2_n _ _ _ e, up2_n _ _ _ e]), fun _ => up2_n _ _ _ (by omega)⟩), rfl, hT3⟩
          have hl := lv_cast hl (b := [(0, .ref (G4.2.2 26)), (1, .int (jI i))]) (by rw [(hk4 26 (by omega) (by omega)).2.1])
          refine x_stk (st' := [.ref (G4.2.2 N)]) (by rw [(congrFun hz4 N)]) ?_
          have hd5 : ndV ρ G4 τ4 (aX (fun _ => False) N N3) 101 N L1 := hd4.le (by omega)
          have hk04 : rdN N G σ G4 τ4 := (hk1.tr (hk2.tr hk3 (by omega)) (Nat.le_refl _)).tr hk4 (Nat.le_refl _)
          refine lv_astore_n (lv' := [(1, .ref (G4.2.2 N)), (0, .ref (G4.2.2 26))]) hx hb dX7_program_47 rfl hl (by decide) rfl (fun ls hl => ?_)
          refine lv_aload_n hx hb dX7_program_48 rfl (lv_at hl 1 rfl) ?_
          refine g_geti CF hK hM59 26 (hP4.1.2.1.1 26 _ rfl) 1 1 rfl rfl (by decide) (Or.inl (hts _ q197)) (fun _ h => h) rfl dX7_program_49 ?_
          refine x_top (b := a1) hP4.2.1.1 ?_
          refine lv_aload_n hx hb dX7_program_52 rfl (lv_at hl 1 rfl) ?_
          refine g_getr CF hK hM59 26 (hP4.1.2.1.1 26 _ rfl) 3 3 rfl rfl (by decide) (Or.inl (hts _ q199)) (fun _ h => h) rfl (G4.2.2 60) (hP4.1.2.1.2.2.2.2.2.2.2.2.1.2) dX7_program_53 ?_
          refine g_geti CF hK hM59 60 (hP4.1.2.1.1 60 _ rfl) 25 25 rfl rfl (by decide) (gLk.n hK q312) (fun _ h => h) rfl dX7_program_56 ?_
          refine x_top (b := ρ 60 30) hP4.1.2.2.2.1 ?_
          refine x_icmp_ge (tgt := 75) hx hb dX7_program_59 (by decide) (by omega) (by omega) (fun b59 => ?_) (fun b59 => ?_)
          · refine lv_aload_n hx hb dX7_program_75 rfl (lv_at hl 1 rfl) ?_
            refine g_geti CF hK hM59 26 (hP4.1.2.1.1 26 _ rfl) 2 2 rfl rfl (by decide) (Or.inl (hts _ q198)) (fun _ h => h) rfl dX7_program_76 ?_
            refine x_top (b := lk1) hP4.2.1.2 ?_
            refine lv_iconst (v := jI (-1)) hx hb dX7_program_79 rfl ?_
            refine x_icmp_eq (tgt := 96) hx hb dX7_program_80 (by decide) (by omega) (by omega) (fun b80 => ?_) (fun b80 => ?_)
            · refine lv_aload_n hx hb dX7_program_96 rfl (lv_at hl 0 rfl) ?_
              refine g_manyN (rest := []) CF hK hM59 hA hd5 (ct_mn l E ρ 101) q844 hl.1 (Nat.le_of_ble_eq_true rfl) dX7_program_97 (show 3 * 101 + 6 ≤ 420 by omega) (show 130 + 60 * 101 ≤ 10500 by omega) ⟨(show (1 + (3 * (rEd (Sum.inr (a1, lk1, nm1, L1) : rR) - 0).toNat + 1)) ≤ 310 by omega), (show (4 + (620 * (rEd (Sum.inr (a1, lk1, nm1, L1) : rR) - 0).toNat + 3)) ≤ 63000 by omega)⟩ (fun H locs hM60 => ?_)
              refine lv_bipush (v := jI 10) hx hb dX7_program_100 (by decide) ?_
              have fa61 := mny_r L1
              refine x_icmp_le (tgt := 115) hx hb dX7_program_102 (by decide) (by have f0 := mny_r L1; omega) (by omega) (fun b102 => ?_) (fun b102 => ?_)
              · refine lv_aload_n hx hb dX7_program_115 rfl (lv_at hl 0 rfl) ?_
                exact g_upR (g_aret CF hr (Or.inl ⟨_, rfl⟩) hlocks hM60 (r := some (G4.2.2 N)) ⟨N, _, a1, lk1, nm1, L1, e1, e2, rfl, hT4, hd5, (fun t z => z.elim (fun q => q.elim) (fun q => (by omega))), hP4.1, hk04⟩ (show (1 + (3 * (rEd (Sum.inr (a1, lk1, nm1, L1) : rR) - 0).toNat + 1)) ≤ 310 by omega) (show (4 + (620 * (rEd (Sum.inr (a1, lk1, nm1, L1) : rR) - 0).toNat + 3)) ≤ 63000 by omega) dX7_program_116)
              · (exfalso; omega)
            · (exfalso; omega)
          · (exfalso; omega)
        · refine lv_aload_n hx hb dX7_program_18 rfl (lv_at hl 0 rfl) ?_
          refine g_getr CF hK hM52 26 (hLc.2.1.1 26 _ rfl) 0 0 rfl rfl (by decide) (Or.inl (hts _ q196)) (fun _ h => h) rfl (G.2.2 62) (hLc.2.1.2.2.2.2.2.2.2.2.1.1) dX7_program_19 ?_
          refine lv_iload_n hx hb dX7_program_22 rfl (lv_at hl 1 rfl) ?_
          refine lv_null hx hb dX7_program_23 ?_
          refine g_aastN CF hK hM52 62 (by decide) (hLc.2.1.1 62 _ rfl) (by decide) rfl (i := i) (by omega) (by omega) (by omega) dX7_program_24 (fun H locs hM62 => ?_)
          refine x_iinc (lv' := [(1, .int (jI (i + 1))), (0, .ref (G.2.2 26))]) hx hb dX7_program_25 hl (k := 1) rfl (by decide) rfl (fun ls hl => ?_)
          refine lv_goto (tgt := 12) hx hb dX7_program_28 (by decide) ?_
          exact ih12  (i + 1) (up2 rf 62 i (none)) _ _ _ (by first | omega | assumption | rfl) (by first | omega | assumption | rfl) (fun t k h => (by rw [up2_n _ _ _ h]; exact hrf t k h)) (fun j a b => Or.elim (Decidable.em (j = i)) (fun e => (by rw [e, up2_s, up1_s])) (fun e => (by rw [up2_s, up1_n _ _ e]; exact hrn j a (by omega)))) (by omega) hM62 (lv_sub hl [1, 0] rfl)
    exact c12 _ 0 G.2.1 _ _ _ (by first | omega | assumption | rfl) (by first | omega | assumption | rfl) (fun t k _ => rfl) (fun j a b => absurd b (by omega)) (Nat.lt_succ_self _) hM51 (lv_sub hl [1, 0] rfl)
