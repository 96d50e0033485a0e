set_option maxHeartbeats 400000 in
theorem l_isLane (l : Launch) (E : y_E) (G : y_G) (σ : y_S) (sz : Nat) (ρ : y_S) (i : Int) (hL : lgR E ρ G σ) (hi : R32 i) : gCt l yX1_isLane cX1_isLane 2 (some .boolean) ({ frames := 1, cells := 0, slots := 0, locals := 22 }) E [.ref (G.2.2 60), .int (jI i)] G σ sz (gR (some (.int (jI (if 0 ≤ i ∧ i < ρ 60 0 then 1 else 0)))) G σ) 0 0 := by
  refine g_met (by decide) (Nat.le_of_ble_eq_true rfl) ?_
  intro p e s m below meth c ls CF hr hlocks hnm hK hM0 hA hl
  have hx := CF.1
  have hb := CF.2.1
  have hts := CF.2.2.2.2
  have hl : lv_has ls 2 [(0, .ref (G.2.2 60)), (1, .int (jI i))] := hl
  obtain ⟨hO, hS, ⟨hm1, hm2, hm3, hm4, hm5⟩, hX, hD, hZ⟩ := id hL
  have hn := hO.n
  refine lv_iload_n hx hb dX1_isLane_0 rfl (lv_at hl 1 rfl) ?_
  refine lv_iconst (v := jI 0) hx hb dX1_isLane_1 rfl ?_
  refine lv_aload_n hx hb dX1_isLane_2 rfl (lv_at hl 0 rfl) ?_
  refine g_geti CF hK hM0 60 (hL.2.1.1 60 _ rfl) 2 2 rfl rfl (by decide) (Or.inl (hts _ q284)) (fun _ h => h) rfl dX1_isLane_3 ?_
  refine lv_iconst (v := jI 1) hx hb dX1_isLane_6 rfl ?_
  refine x_isub hx hb dX1_isLane_7 ?_
  refine g_calli (r := (if 0 ≤ i ∧ i ≤ ((σ 60 2) - 1) then 1 else 0)) hM0 hA (g_runS (As := [.int (jI i), .int (jI 0), .int (jI ((σ 60 2) - 1))]) (rest := []) CF hK hM0 (l_in l E _ _ _  i 0 ((σ 60 2) - 1) (by have f0 := hM0.r 60 2; first | omega | assumption | (refine ⟨?_, ?_⟩ <;> omega)) (by have f0 := hM0.r 60 2; first | omega | assumption | (refine ⟨?_, ?_⟩ <;> omega)) (by have f0 := hM0.r 60 2; first | omega | assumption | (refine ⟨?_, ?_⟩ <;> omega))) (va_cwS 3 hts (lw_S q93 q94 q60 q95) rfl rfl rfl (by decide +kernel) ⟨Nat.le_of_ble_eq_true rfl, Nat.le_of_ble_eq_true rfl⟩) rfl hl.1 rfl (Nat.le_of_ble_eq_true rfl) dX1_isLane_8 ⟨Nat.le_of_ble_eq_true rfl, Nat.le_of_ble_eq_true rfl⟩) (fun H locs hM1 => ?_)
  exact g_zret CF hr hlocks hM1 (g_b01 _) (g_pi (by (repeat' split) <;> omega)) (by decide) (by decide) dX1_isLane_11
set_option maxHeartbeats 400000 in
theorem l_cellAt (l : Launch) (E : y_E) (G : y_G) (σ : y_S) (sz : Nat) (ρ : y_S) (l1 : Int) (i : Int) (hL : lgR E ρ G σ) (hl1 : R32 l1) (hi : R32 i) : gCt l yX1_cellAt cX1_cellAt 3 (some (.object "LightPlate$Cell")) ({ frames := 2, cells := 0, slots := 0, locals := 43 }) E [.ref (G.2.2 60), .int (jI l1), .int (jI i)] G σ sz (gR (some (va_rf ((if mCell (ρ 60 0) l1 i then some (G.2.2 (cT l1 i)) else none)))) G σ) 0 0 := by
  refine g_met (by decide) (Nat.le_of_ble_eq_true rfl) ?_
  intro p e s m below meth c ls CF hr hlocks hnm hK hM0 hA hl
  have hx := CF.1
  have hb := CF.2.1
  have hts := CF.2.2.2.2
  have hl : lv_has ls 3 [(0, .ref (G.2.2 60)), (1, .int (jI l1)), (2, .int (jI i))] := hl
  obtain ⟨hO, hS, ⟨hm1, hm2, hm3, hm4, hm5⟩, hX, hD, hZ⟩ := id hL
  have hn := hO.n
  refine lv_iload_n hx hb dX1_cellAt_0 rfl (lv_at hl 1 rfl) ?_
  refine lv_iconst (v := jI 0) hx hb dX1_cellAt_1 rfl ?_
  refine lv_bipush (v := jI 11) hx hb dX1_cellAt_2 (by decide) ?_
  refine g_calli (r := (if 0 ≤ l1 ∧ l1 ≤ 11 then 1 else 0)) hM0 hA (g_runS (As := [.int (jI l1), .int (jI 0), .int (jI 11)]) (rest := []) CF hK hM0 (l_in l E _ _ _  l1 0 11 (by first | omega | assumption | (refine ⟨?_, ?_⟩ <;> omega)) (by first | omega | assumption | (refine ⟨?_, ?_⟩ <;> omega)) (by first | omega | assumption | (refine ⟨?_, ?_⟩ <;> omega))) (va_cwS 3 hts (lw_S q93 q94 q60 q95) rfl rfl rfl (by decide +kernel) ⟨Nat.le_of_ble_eq_true rfl, Nat.le_of_ble_eq_true rfl⟩) rfl hl.1 rfl (Nat.le_of_ble_eq_true rfl) dX1_cellAt_4 ⟨Nat.le_of_ble_eq_true rfl, Nat.le_of_ble_eq_true rfl⟩) (fun H locs hM1 => ?_)
  refine x_bif_eq (tgt := 34) hx hb dX1_cellAt_7 (by decide) (fun b7 => ?_) (fun b7 => ?_)
  · refine lv_null hx hb dX1_cellAt_34 ?_
    exact g_aret CF hr (Or.inl ⟨_, rfl⟩) hlocks hM1 (r := none) ⟨by rw [if_neg (by omega)], rfl, rfl⟩ (by decide) (by decide) dX1_cellAt_35
  · refine lv_aload_n hx hb dX1_cellAt_10 rfl (lv_at hl 0 rfl) ?_
    refine lv_iload_n hx hb dX1_cellAt_11 rfl (lv_at hl 2 rfl) ?_
    refine g_calli (r := (if 0 ≤ i ∧ i < ρ 60 0 then 1 else 0)) hM1 hA (g_runV (As := [.int (jI i)]) (rest := []) CF hK hM1 (hL.2.1.1 60 _ rfl) rfl (l_isLane l E _ _ _ ρ i hL (by first | omega | assumption | (refine ⟨?_, ?_⟩ <;> omega))) (cwV 1 hts (lw_V q397 q399 qs1 q60 q400) rfl rfl rfl (by decide +kernel) ⟨Nat.le_of_ble_eq_true rfl, Nat.le_of_ble_eq_true rfl⟩) rfl hl.1 rfl (Nat.le_of_ble_eq_true rfl) dX1_cellAt_12 ⟨Nat.le_of_ble_eq_true rfl, Nat.le_of_ble_eq_true rfl⟩) (fun H locs hM2 => ?_)
    refine x_bif_eq (tgt := 34) hx hb dX1_cellAt_15 (by decide) (fun b15 => ?_) (fun b15 => ?_)
    · refine lv_null hx hb dX1_cellAt_34 ?_
      exact g_aret CF hr (Or.inl ⟨_, rfl⟩) hlocks hM2 (r := none) ⟨by rw [if_neg (by omega)], rfl, rfl⟩ (by decide) (by decide) dX1_cellAt_35
    · have hmul : 0 ≤ l1 * ρ 60 0 ∧ l1 * ρ 60 0 ≤ 11 * ρ 60 0 := ⟨Int.mul_nonneg (by omega) (by omega), Int.mul_le_mul_of_nonneg_right (by omega) (by omega)⟩
      refine lv_aload_n hx hb dX1_cellAt_18 rfl (lv_at hl 0 rfl) ?_
      refine g_getr CF hK hM2 60 (hL.2.1.1 60 _ rfl) 3 3 rfl rfl (by decide) (Or.inl (hts _ q288)) (fun _ h => h) rfl (G.2.2 3) (hL.2.1.2.1 3 3 rfl) dX1_cellAt_19 ?_
      refine lv_iload_n hx hb dX1_cellAt_22 rfl (lv_at hl 1 rfl) ?_
      refine lv_aload_n hx hb dX1_cellAt_23 rfl (lv_at hl 0 rfl) ?_
      refine g_geti CF hK hM2 60 (hL.2.1.1 60 _ rfl) 2 2 rfl rfl (by decide) (Or.inl (hts _ q284)) (fun _ h => h) rfl dX1_cellAt_24 ?_
      refine x_imul hx hb dX1_cellAt_27 ?_
      refine x_top (b := l1 * ρ 60 0) (by rw [hm1]) ?_
      refine lv_iload_n hx hb dX1_cellAt_28 rfl (lv_at hl 2 rfl) ?_
      refine x_iadd hx hb dX1_cellAt_29 ?_
      refine g_aald CF hK hM2 3 (hL.2.1.1 3 _ rfl) (by decide) rfl (i := (l1 * ρ 60 0) + i) (by omega) (by omega) (by omega) (r := (if mCell (ρ 60 0) l1 i then some (G.2.2 (cT l1 i)) else none)) (hS.2.2.1 l1 i (by omega) (by omega) (by omega) (by omega)) dX1_cellAt_30 ?_
      refine lv_goto (tgt := 35) hx hb dX1_cellAt_31 (by decide) ?_
      exact g_aret CF hr (Or.inl ⟨_, rfl⟩) hlocks hM2 (r := (if mCell (ρ 60 0) l1 i then some (G.2.2 (cT l1 i)) else none)) ⟨rfl, rfl, rfl⟩ (by decide) (by decide) dX1_cellAt_35
set_option maxHeartbeats 400000 in
theorem l_isDead (l : Launch) (E : y_E) (G : y_G) (σ : y_S) (sz : Nat) (ρ : y_S) (l1 : Int) (i : Int) (hL : lgW ρ G σ) (hCe : mCell (ρ 60 0) l1 i) : gCt l yX8_isDead cX8_isDead 1 (some .boolean) ({ frames := 0, cells := 0, slots := 0, locals := 0 }) E [.ref (G.2.2 (cT l1 i))] G σ sz (gR (some (.int (jI (if ρ 4 (6 * l1 + i) ≠ -1 then 1 else 0)))) G σ) 0 0 := by
  refine g_met (by decide) (Nat.le_of_ble_eq_true rfl) ?_
  intro p e s m below meth c ls CF hr hlocks hnm hK hM0 hA hl
  have hx := CF.1
  have hb := CF.2.1
  have hts := CF.2.2.2.2
  have hl : lv_has ls 1 [(0, .ref (G.2.2 (cT l1 i)))] := hl
  have hc5 := hL.2.2.2.2 l1 i hCe
  refine lv_aload_n hx hb dX8_isDead_0 rfl (lv_at hl 0 rfl) ?_
  refine g_geti CF hK hM0 (cT l1 i) (hL.2.1.1 _ _ (lKd_c hL.1.n.2 hCe)) 3 3 rfl rfl (by decide) (Or.inl (hts _ q257)) (fun _ h => h) rfl dX8_isDead_1 ?_
  refine lv_iconst (v := jI (-1)) hx hb dX8_isDead_4 rfl ?_
  have fa1 := hM0.r (cT l1 i) 3
  refine x_icmp_eq (tgt := 12) hx hb dX8_isDead_5 (by decide) (by have f0 := hM0.r (cT l1 i) 3; omega) (by omega) (fun b5 => ?_) (fun b5 => ?_)
  · refine lv_iconst (v := jI 0) hx hb dX8_isDead_12 rfl ?_
    exact g_zret CF hr hlocks hM0 (by omega) (g_pi (by (repeat' split) <;> omega)) (by decide) (by decide) dX8_isDead_13
  · refine lv_iconst (v := jI 1) hx hb dX8_isDead_8 rfl ?_
    refine lv_goto (tgt := 13) hx hb dX8_isDead_9 (by decide) ?_
    exact g_zret CF hr hlocks hM0 (by omega) (g_pi (by (repeat' split) <;> omega)) (by decide) (by decide) dX8_isDead_13
set_option maxHeartbeats 400000 in
theorem l_does (l : Launch) (E : y_E) (G : y_G) (σ : y_S) (sz : Nat) (ρ : y_S) (l1 : Int) (i : Int) (hL : lgR E ρ G σ) (hCe : mCell (ρ 60 0) l1 i) : gCt l yX8_does cX8_does 1 (some .int) ({ frames := 1, cells := 0, slots := 0, locals := 20 }) E [.ref (G.2.2 (cT l1 i))] G σ sz (gR (some (.int (jI (if ρ 4 (6 * l1 + i) ≠ -1 then ρ 4 (6 * l1 + i) else ρ 3 (6 * l1 + i))))) G σ) 0 0 := by
  refine g_met (by decide) (Nat.le_of_ble_eq_true rfl) ?_
  intro p e s m below meth c ls CF hr hlocks hnm hK hM0 hA hl
  have hx := CF.1
  have hb := CF.2.1
  have hts := CF.2.2.2.2
  have hl : lv_has ls 1 [(0, .ref (G.2.2 (cT l1 i)))] := hl
  obtain ⟨hO, hS, ⟨hm1, hm2, hm3, hm4, hm5⟩, hX, hD, hZ⟩ := id hL
  have hn := hO.n
  have hc5 := hm5 l1 i hCe
  refine lv_aload_n hx hb dX8_does_0 rfl (lv_at hl 0 rfl) ?_
  refine g_calli (r := (if ρ 4 (6 * l1 + i) ≠ -1 then 1 else 0)) hM0 hA (g_runV (As := []) (rest := []) CF hK hM0 (hL.2.1.1 _ _ (lKd_c hL.1.n.2 hCe)) rfl (l_isDead l E _ _ _ ρ l1 i  (hL.w) hCe) (cwV 0 hts (lw_V q424 q409 q410 q71 q411) rfl rfl rfl (by decide +kernel) ⟨Nat.le_of_ble_eq_true rfl, Nat.le_of_ble_eq_true rfl⟩) rfl hl.1 rfl (Nat.le_of_ble_eq_true rfl) dX8_does_1 ⟨Nat.le_of_ble_eq_true rfl, Nat.le_of_ble_eq_true rfl⟩) (fun H locs hM1 => ?_)
  refine x_bif_eq (tgt := 14) hx hb dX8_does_4 (by decide) (fun b4 => ?_) (fun b4 => ?_)
  · refine lv_aload_n hx hb dX8_does_14 rfl (lv_at hl 0 rfl) ?_
    refine g_geti CF hK hM1 (cT l1 i) (hL.2.1.1 _ _ (lKd_c hL.1.n.2 hCe)) 2 2 rfl rfl (by decide) (Or.inl (hts _ q255)) (fun _ h => h) rfl dX8_does_15 ?_
    exact g_iret CF hr hlocks hM1 (g_pi (by (repeat' split) <;> omega)) (by decide) (by decide) dX8_does_18
  · refine lv_aload_n hx hb dX8_does_7 rfl (lv_at hl 0 rfl) ?_
    refine g_geti CF hK hM1 (cT l1 i) (hL.2.1.1 _ _ (lKd_c hL.1.n.2 hCe)) 3 3 rfl rfl (by decide) (Or.inl (hts _ q257)) (fun _ h => h) rfl dX8_does_8 ?_
    refine lv_goto (tgt := 18) hx hb dX8_does_11 (by decide) ?_
    exact g_iret CF hr hlocks hM1 (g_pi (by (repeat' split) <;> omega)) (by decide) (by decide) dX8_does_18
set_option maxHeartbeats 400000 in
theorem l_creep (l : Launch) (E : y_E) (G : y_G) (σ : y_S) (sz : Nat) (ρ : y_S) (n : Int) (hL : lgR E ρ G σ) (hnr : R32 n) : gCt l yX1_creep cX1_creep 3 (some .int) ({ frames := 1, cells := 0, slots := 0, locals := 22 }) E [.ref (G.2.2 60), .int (jI n)] G σ sz (lPo E (oCreep ρ n)) 0 0 := by
  refine g_met (by decide) (Nat.le_of_ble_eq_true rfl) ?_
  intro p e s m below meth c ls CF hr hlocks hnm hK hM0 hA hl
  have hx := CF.1
  have hb := CF.2.1
  have hts := CF.2.2.2.2
  have hl : lv_has ls 3 [(0, .ref (G.2.2 60)), (1, .int (jI n))] := hl
  obtain ⟨hO, hS, ⟨hm1, hm2, hm3, hm4, hm5⟩, hX, hD, hZ⟩ := id hL
  have hn := hO.n
  refine lv_iload_n hx hb dX1_creep_0 rfl (lv_at hl 1 rfl) ?_
  refine lv_iconst (v := jI 1) hx hb dX1_creep_1 rfl ?_
  refine lv_bipush (v := jI 99) hx hb dX1_creep_2 (by decide) ?_
  refine g_calli (r := (if 1 ≤ n ∧ n ≤ 99 then 1 else 0)) hM0 hA (g_runS (As := [.int (jI n), .int (jI 1), .int (jI 99)]) (rest := []) CF hK hM0 (l_in l E _ _ _  n 1 99 (by first | omega | assumption | (refine ⟨?_, ?_⟩ <;> omega)) (by first | omega | assumption | (refine ⟨?_, ?_⟩ <;> omega)) (by first | omega | assumption | (refine ⟨?_, ?_⟩ <;> omega))) (va_cwS 3 hts (lw_S q93 q94 q60 q95) rfl rfl rfl (by decide +kernel) ⟨Nat.le_of_ble_eq_true rfl, Nat.le_of_ble_eq_true rfl⟩) rfl hl.1 rfl (Nat.le_of_ble_eq_true rfl) dX1_creep_4 ⟨Nat.le_of_ble_eq_true rfl, Nat.le_of_ble_eq_true rfl⟩) (fun H locs hM1 => ?_)
  refine x_bif_ne (tgt := 13) hx hb dX1_creep_7 (by decide) (fun b7 => ?_) (fun b7 => ?_)
  · refine lv_aload_n hx hb dX1_creep_13 rfl (lv_at hl 0 rfl) ?_
    refine g_geti CF hK hM1 60 (hL.2.1.1 60 _ rfl) 4 4 rfl rfl (by decide) (Or.inl (hts _ q290)) (fun _ h => h) rfl dX1_creep_14 ?_
    refine lv_istore_n (lv' := [(2, .int (jI (σ 60 4))), (0, .ref (G.2.2 60)), (1, .int (jI n))]) hx hb dX1_creep_17 rfl hl (by decide) rfl (fun ls hl => ?_)
    refine lv_aload_n hx hb dX1_creep_18 rfl (lv_at hl 1 rfl) ?_
    refine lv_iload_n hx hb dX1_creep_19 rfl (lv_at hl 2 rfl) ?_
    refine g_puti CF hK hM1 60 (by decide) (hL.2.1.1 60 _ rfl) 4 4 rfl rfl (by decide) (Or.inl (hts _ q290)) (fun _ h => h) (Or.inl rfl) rfl (v := n) rfl rfl (by omega) dX1_creep_20 (fun H locs hM2 => ?_)
    refine lv_iload_n hx hb dX1_creep_23 rfl (lv_at hl 0 rfl) ?_
    exact g_iret CF hr hlocks hM2 (lPo_i (by unfold oCreep; rw [if_neg (fun q => q b7)]; exact hm2.symm) (by have hk := ok_creep hO n; unfold oCreep at hk ⊢; rw [if_neg (fun q => q b7)] at hk ⊢; exact ⟨hk, hS, ⟨hm1, rfl, hm3, hm4, fun l i hc => by rw [up2_n _ _ _ (cT_ne (by decide))]; exact hm5 l i hc⟩, hX.s hn.2 (by decide), hD.s hO, hZ⟩)) (by decide) (by decide) dX1_creep_24
  · refine lv_bipush (v := jI (-2)) hx hb dX1_creep_10 (by decide) ?_
    exact g_iret CF hr hlocks hM1 (lPo_i (by unfold oCreep; rw [if_pos b7]) (by unfold oCreep; rw [if_pos b7]; exact hL)) (by decide) (by decide) dX1_creep_12
set_option maxHeartbeats 400000 in
theorem l_turn (l : Launch) (E : y_E) (G : y_G) (σ : y_S) (sz : Nat) (ρ : y_S) (k : Int) (wh : Int) (hL : lgR E ρ G σ) (hk : R32 k) (hw : R32 wh) : gCt l yX1_turn cX1_turn 3 (some .int) ({ frames := 2, cells := 0, slots := 0, locals := 42 }) E [.ref (G.2.2 60), .int (jI k), .int (jI wh)] G σ sz (lPo E (oTurn ρ k wh)) 0 0 := by
  refine g_met (by decide) (Nat.le_of_ble_eq_true rfl) ?_
  intro p e s m below meth c ls CF hr hlocks hnm hK hM0 hA hl
  have hx := CF.1
  have hb := CF.2.1
  have hts := CF.2.2.2.2
  have hl : lv_has ls 3 [(0, .ref (G.2.2 60)), (1, .int (jI k)), (2, .int (jI wh))] := hl
  obtain ⟨hO, hS, ⟨hm1, hm2, hm3, hm4, hm5⟩, hX, hD, hZ⟩ := id hL
  have hn := hO.n
  refine lv_iload_n hx hb dX1_turn_0 rfl (lv_at hl 2 rfl) ?_
  refine lv_iconst (v := jI 0) hx hb dX1_turn_1 rfl ?_
  refine lv_iconst (v := jI 1) hx hb dX1_turn_2 rfl ?_
  refine g_calli (r := (if 0 ≤ wh ∧ wh ≤ 1 then 1 else 0)) hM0 hA (g_runS (As := [.int (jI wh), .int (jI 0), .int (jI 1)]) (rest := []) CF hK hM0 (l_in l E _ _ _  wh 0 1 (by first | omega | assumption | (refine ⟨?_, ?_⟩ <;> omega)) (by first | omega | assumption | (refine ⟨?_, ?_⟩ <;> omega)) (by first | omega | assumption | (refine ⟨?_, ?_⟩ <;> omega))) (va_cwS 3 hts (lw_S q93 q94 q60 q95) rfl rfl rfl (by decide +kernel) ⟨Nat.le_of_ble_eq_true rfl, Nat.le_of_ble_eq_true rfl⟩) rfl hl.1 rfl (Nat.le_of_ble_eq_true rfl) dX1_turn_3 ⟨Nat.le_of_ble_eq_true rfl, Nat.le_of_ble_eq_true rfl⟩) (fun H locs hM1 => ?_)
  refine x_bif_ne (tgt := 13) hx hb dX1_turn_6 (by decide) (fun b6 => ?_) (fun b6 => ?_)
  · refine lv_iload_n hx hb dX1_turn_13 rfl (lv_at hl 2 rfl) ?_
    refine x_if_ne (tgt := 29) hx hb dX1_turn_14 (by decide) (by omega) (fun b14 => ?_) (fun b14 => ?_)
    · refine lv_aload_n hx hb dX1_turn_29 rfl (lv_at hl 0 rfl) ?_
      refine g_getr CF hK hM1 60 (hL.2.1.1 60 _ rfl) 1 1 rfl rfl (by decide) (Or.inl (hts _ q281)) (fun _ h => h) rfl (G.2.2 1) (hL.2.1.2.1 1 1 rfl) dX1_turn_30 ?_
      refine lv_iload_n hx hb dX1_turn_33 rfl (lv_at hl 1 rfl) ?_
      refine g_calli (r := k % 96) hM1 hA (g_runS (As := [.int (jI k)]) (rest := [.ref (G.2.2 1)]) CF hK hM1 (l_whole l E _ _ _  k (by first | omega | assumption | (refine ⟨?_, ?_⟩ <;> omega))) (va_cwS 1 hts (lw_S q96 q97 q60 q98) rfl rfl rfl (by decide +kernel) ⟨Nat.le_of_ble_eq_true rfl, Nat.le_of_ble_eq_true rfl⟩) rfl hl.1 rfl (Nat.le_of_ble_eq_true rfl) dX1_turn_34 ⟨Nat.le_of_ble_eq_true rfl, Nat.le_of_ble_eq_true rfl⟩) (fun H locs hM2 => ?_)
      refine g_iald CF hK hM2 1 (hL.2.1.1 1 _ rfl) (i := k % 96) (by omega) (by omega) (by omega) dX1_turn_37 ?_
      exact g_iret CF hr hlocks hM2 (lPo_i (by unfold oTurn; first | (rw [if_pos (by omega)]; exact (hm4 _ (by omega) (by omega)).1.symm) | (rw [if_neg (by omega), if_pos (by omega)]; exact (hm4 _ (by omega) (by omega)).2.symm) | rw [if_neg (by omega), if_neg (by omega)]) hL) (by decide) (by decide) dX1_turn_38
    · refine lv_aload_n hx hb dX1_turn_17 rfl (lv_at hl 0 rfl) ?_
      refine g_getr CF hK hM1 60 (hL.2.1.1 60 _ rfl) 0 0 rfl rfl (by decide) (Or.inl (hts _ q280)) (fun _ h => h) rfl (G.2.2 61) (hL.2.1.2.1 0 61 rfl) dX1_turn_18 ?_
      refine lv_iload_n hx hb dX1_turn_21 rfl (lv_at hl 1 rfl) ?_
      refine g_calli (r := k % 96) hM1 hA (g_runS (As := [.int (jI k)]) (rest := [.ref (G.2.2 61)]) CF hK hM1 (l_whole l E _ _ _  k (by first | omega | assumption | (refine ⟨?_, ?_⟩ <;> omega))) (va_cwS 1 hts (lw_S q96 q97 q60 q98) rfl rfl rfl (by decide +kernel) ⟨Nat.le_of_ble_eq_true rfl, Nat.le_of_ble_eq_true rfl⟩) rfl hl.1 rfl (Nat.le_of_ble_eq_true rfl) dX1_turn_22 ⟨Nat.le_of_ble_eq_true rfl, Nat.le_of_ble_eq_true rfl⟩) (fun H locs hM3 => ?_)
      refine g_iald CF hK hM3 61 (hL.2.1.1 61 _ rfl) (i := k % 96) (by omega) (by omega) (by omega) dX1_turn_25 ?_
      refine lv_goto (tgt := 38) hx hb dX1_turn_26 (by decide) ?_
      exact g_iret CF hr hlocks hM3 (lPo_i (by unfold oTurn; first | (rw [if_pos (by omega)]; exact (hm4 _ (by omega) (by omega)).1.symm) | (rw [if_neg (by omega), if_pos (by omega)]; exact (hm4 _ (by omega) (by omega)).2.symm) | rw [if_neg (by omega), if_neg (by omega)]) hL) (by decide) (by decide) dX1_turn_38
  · refine lv_iconst (v := jI (-1)) hx hb dX1_turn_9 rfl ?_
    refine lv_goto (tgt := 38) hx hb dX1_turn_10 (by decide) ?_
    exact g_iret CF hr hlocks hM1 (lPo_i (by unfold oTurn; first | (rw [if_pos (by omega)]; exact (hm4 _ (by omega) (by omega)).1.symm) | (rw [if_neg (by omega), if_pos (by omega)]; exact (hm4 _ (by omega) (by omega)).2.symm) | rw [if_neg (by omega), if_neg (by omega)]) hL) (by decide) (by decide) dX1_turn_38
set_option maxHeartbeats 400000 in
theorem l_dies (l : Launch) (E : y_E) (G : y_G) (σ : y_S) (sz : Nat) (ρ : y_S) (l1 : Int) (i : Int) (k : Int) (hL : lgR E ρ G σ) (hl1 : R32 l1) (hi : R32 i) (hk : R32 k) : gCt l yX1_dies cX1_dies 6 (some .int) ({ frames := 3, cells := 0, slots := 0, locals := 65 }) E [.ref (G.2.2 60), .int (jI l1), .int (jI i), .int (jI k)] G σ sz (lPo E (oDies ρ l1 i k)) 0 0 := by
  refine g_met (by decide) (Nat.le_of_ble_eq_true rfl) ?_
  intro p e s m below meth c ls CF hr hlocks hnm hK hM0 hA hl
  have hx := CF.1
  have hb := CF.2.1
  have hts := CF.2.2.2.2
  have hl : lv_has ls 6 [(0, .ref (G.2.2 60)), (1, .int (jI l1)), (2, .int (jI i)), (3, .int (jI k))] := hl
  obtain ⟨hO, hS, ⟨hm1, hm2, hm3, hm4, hm5⟩, hX, hD, hZ⟩ := id hL
  have hn := hO.n
  refine lv_aload_n hx hb dX1_dies_0 rfl (lv_at hl 0 rfl) ?_
  refine lv_iload_n hx hb dX1_dies_1 rfl (lv_at hl 1 rfl) ?_
  refine lv_iload_n hx hb dX1_dies_2 rfl (lv_at hl 2 rfl) ?_
  refine g_callc hM0 hA (g_runV (As := [.int (jI l1), .int (jI i)]) (rest := []) CF hK hM0 (hL.2.1.1 60 _ rfl) rfl (l_cellAt l E _ _ _ ρ l1 i hL (by first | omega | assumption | (refine ⟨?_, ?_⟩ <;> omega)) (by first | omega | assumption | (refine ⟨?_, ?_⟩ <;> omega))) (cwV 2 hts (lw_V q393 q395 qs0 q60 q396) rfl rfl rfl (by decide +kernel) ⟨Nat.le_of_ble_eq_true rfl, Nat.le_of_ble_eq_true rfl⟩) rfl hl.1 rfl (Nat.le_of_ble_eq_true rfl) dX1_dies_3 ⟨Nat.le_of_ble_eq_true rfl, Nat.le_of_ble_eq_true rfl⟩) (fun hCe H locs hM1 => ?_) (fun hCe H locs hM1 => ?_)
  · refine lv_astore (lv' := [(4, .ref (G.2.2 (cT l1 i))), (0, .ref (G.2.2 60)), (1, .int (jI l1)), (2, .int (jI i)), (3, .int (jI k))]) hx hb dX1_dies_6 hl (by decide) rfl (fun ls hl => ?_)
    refine lv_aload hx hb dX1_dies_8 (lv_at hl 0 rfl) ?_
    refine lv_ifnonnull (tgt := 15) hx hb dX1_dies_10 (by decide) ?_
    refine lv_iload_n hx hb dX1_dies_15 rfl (lv_at hl 4 rfl) ?_
    refine g_calli (r := (if 0 ≤ k ∧ k ≤ 95 then 1 else 0)) hM1 hA (g_runS (As := [.int (jI k)]) (rest := []) CF hK hM1 (l_isTurn l E _ _ _  k (by first | omega | assumption | (refine ⟨?_, ?_⟩ <;> omega))) (va_cwS 1 hts (lw_S q401 q402 q60 q403) rfl rfl rfl (by decide +kernel) ⟨Nat.le_of_ble_eq_true rfl, Nat.le_of_ble_eq_true rfl⟩) rfl hl.1 rfl (Nat.le_of_ble_eq_true rfl) dX1_dies_16 ⟨Nat.le_of_ble_eq_true rfl, Nat.le_of_ble_eq_true rfl⟩) (fun H locs hM2 => ?_)
    refine x_bif_ne (tgt := 25) hx hb dX1_dies_19 (by decide) (fun b19 => ?_) (fun b19 => ?_)
    · have hc5 := hm5 l1 i hCe
      have hpl := hO.p (6 * l1 + i) (by omega) (by omega)
      refine lv_aload hx hb dX1_dies_25 (lv_at hl 0 rfl) ?_
      refine g_calli (r := (if ρ 4 (6 * l1 + i) ≠ -1 then 1 else 0)) hM2 hA (g_runV (As := []) (rest := []) CF hK hM2 (hL.2.1.1 _ _ (lKd_c hL.1.n.2 hCe)) rfl (l_isDead l E _ _ _ ρ l1 i  (hL.w) (by first | omega | assumption | (refine ⟨?_, ?_⟩ <;> omega))) (cwV 0 hts (lw_V q408 q409 q410 q71 q411) rfl rfl rfl (by decide +kernel) ⟨Nat.le_of_ble_eq_true rfl, Nat.le_of_ble_eq_true rfl⟩) rfl hl.1 rfl (Nat.le_of_ble_eq_true rfl) dX1_dies_27 ⟨Nat.le_of_ble_eq_true rfl, Nat.le_of_ble_eq_true rfl⟩) (fun H locs hM3 => ?_)
      refine x_bif_eq (tgt := 37) hx hb dX1_dies_30 (by decide) (fun b30 => ?_) (fun b30 => ?_)
      · refine lv_iconst (v := jI 1) hx hb dX1_dies_37 rfl ?_
        refine lv_istore (lv' := [(5, .int (jI 1)), (4, .ref (G.2.2 (cT l1 i))), (0, .ref (G.2.2 60)), (1, .int (jI l1)), (2, .int (jI i)), (3, .int (jI k))]) hx hb dX1_dies_38 hl (by decide) rfl (fun ls hl => ?_)
        refine lv_aload hx hb dX1_dies_40 (lv_at hl 1 rfl) ?_
        refine lv_iload_n hx hb dX1_dies_42 rfl (lv_at hl 5 rfl) ?_
        refine g_puti CF hK hM3 (cT l1 i) (cT_ne (by decide)) (hL.2.1.1 _ _ (lKd_c hL.1.n.2 hCe)) 3 3 rfl rfl (by decide) (gLk.n hK q259) (fun _ h => h) (Or.inl rfl) rfl (v := k) rfl rfl (by omega) dX1_dies_43 (fun H locs hM4 => ?_)
        refine lv_iload hx hb dX1_dies_46 (lv_at hl 0 rfl) ?_
        exact g_iret CF hr hlocks hM4 (lPo_i (by unfold oDies; rw [if_neg (fun q => q hCe), if_neg (fun q => q b19)]; first | rfl | omega) (by have hk := ok_dies hO l1 i k; unfold oDies at hk ⊢; rw [if_neg (fun q => q hCe), if_neg (fun q => q b19)] at hk ⊢; exact hL.cell hCe (by decide) hk)) (by decide) (by decide) dX1_dies_48
      · refine lv_iconst (v := jI 0) hx hb dX1_dies_33 rfl ?_
        refine lv_goto (tgt := 38) hx hb dX1_dies_34 (by decide) ?_
        refine lv_istore (lv' := [(5, .int (jI 0)), (4, .ref (G.2.2 (cT l1 i))), (0, .ref (G.2.2 60)), (1, .int (jI l1)), (2, .int (jI i)), (3, .int (jI k))]) hx hb dX1_dies_38 hl (by decide) rfl (fun ls hl => ?_)
        refine lv_aload hx hb dX1_dies_40 (lv_at hl 1 rfl) ?_
        refine lv_iload_n hx hb dX1_dies_42 rfl (lv_at hl 5 rfl) ?_
        refine g_puti CF hK hM3 (cT l1 i) (cT_ne (by decide)) (hL.2.1.1 _ _ (lKd_c hL.1.n.2 hCe)) 3 3 rfl rfl (by decide) (gLk.n hK q259) (fun _ h => h) (Or.inl rfl) rfl (v := k) rfl rfl (by omega) dX1_dies_43 (fun H locs hM5 => ?_)
        refine lv_iload hx hb dX1_dies_46 (lv_at hl 0 rfl) ?_
        exact g_iret CF hr hlocks hM5 (lPo_i (by unfold oDies; rw [if_neg (fun q => q hCe), if_neg (fun q => q b19)]; first | rfl | omega) (by have hk := ok_dies hO l1 i k; unfold oDies at hk ⊢; rw [if_neg (fun q => q hCe), if_neg (fun q => q b19)] at hk ⊢; exact hL.cell hCe (by decide) hk)) (by decide) (by decide) dX1_dies_48
    · refine lv_bipush (v := jI (-2)) hx hb dX1_dies_22 (by decide) ?_
      exact g_iret CF hr hlocks hM2 (lPo_i (by unfold oDies; rw [if_neg (fun q => q hCe), if_pos b19]) (by unfold oDies; rw [if_neg (fun q => q hCe), if_pos b19]; exact hL)) (by decide) (by decide) dX1_dies_24
  · refine lv_astoreN (lv' := [(4, .null), (0, .ref (G.2.2 60)), (1, .int (jI l1)), (2, .int (jI i)), (3, .int (jI k))]) hx hb dX1_dies_6 hl (by decide) rfl (fun ls hl => ?_)
    refine lv_aloadN hx hb dX1_dies_8 (lv_at hl 0 rfl) ?_
    refine lv_ifnonnullN hx hb dX1_dies_10 ?_
    refine lv_iconst (v := jI (-1)) hx hb dX1_dies_13 rfl ?_
    exact g_iret CF hr hlocks hM1 (lPo_i (by unfold oDies; rw [if_pos hCe]) (by unfold oDies; rw [if_pos hCe]; exact hL)) (by decide) (by decide) dX1_dies_14
set_option maxHeartbeats 400000 in
theorem l_mend (l : Launch) (E : y_E) (G : y_G) (σ : y_S) (sz : Nat) (ρ : y_S) (l1 : Int) (i : Int) (hL : lgR E ρ G σ) (hl1 : R32 l1) (hi : R32 i) : gCt l yX1_mend cX1_mend 5 (some .int) ({ frames := 3, cells := 0, slots := 0, locals := 65 }) E [.ref (G.2.2 60), .int (jI l1), .int (jI i)] G σ sz (lPo E (oMend ρ l1 i)) 0 0 := by
  refine g_met (by decide) (Nat.le_of_ble_eq_true rfl) ?_
  intro p e s m below meth c ls CF hr hlocks hnm hK hM0 hA hl
  have hx := CF.1
  have hb := CF.2.1
  have hts := CF.2.2.2.2
  have hl : lv_has ls 5 [(0, .ref (G.2.2 60)), (1, .int (jI l1)), (2, .int (jI i))] := hl
  obtain ⟨hO, hS, ⟨hm1, hm2, hm3, hm4, hm5⟩, hX, hD, hZ⟩ := id hL
  have hn := hO.n
  refine lv_aload_n hx hb dX1_mend_0 rfl (lv_at hl 0 rfl) ?_
  refine lv_iload_n hx hb dX1_mend_1 rfl (lv_at hl 1 rfl) ?_
  refine lv_iload_n hx hb dX1_mend_2 rfl (lv_at hl 2 rfl) ?_
  refine g_callc hM0 hA (g_runV (As := [.int (jI l1), .int (jI i)]) (rest := []) CF hK hM0 (hL.2.1.1 60 _ rfl) rfl (l_cellAt l E _ _ _ ρ l1 i hL (by first | omega | assumption | (refine ⟨?_, ?_⟩ <;> omega)) (by first | omega | assumption | (refine ⟨?_, ?_⟩ <;> omega))) (cwV 2 hts (lw_V q393 q395 qs0 q60 q396) rfl rfl rfl (by decide +kernel) ⟨Nat.le_of_ble_eq_true rfl, Nat.le_of_ble_eq_true rfl⟩) rfl hl.1 rfl (Nat.le_of_ble_eq_true rfl) dX1_mend_3 ⟨Nat.le_of_ble_eq_true rfl, Nat.le_of_ble_eq_true rfl⟩) (fun hCe H locs hM1 => ?_) (fun hCe H locs hM1 => ?_)
  · refine lv_astore_n (lv' := [(3, .ref (G.2.2 (cT l1 i))), (0, .ref (G.2.2 60)), (1, .int (jI l1)), (2, .int (jI i))]) hx hb dX1_mend_6 rfl hl (by decide) rfl (fun ls hl => ?_)
    refine lv_aload_n hx hb dX1_mend_7 rfl (lv_at hl 0 rfl) ?_
    refine lv_ifnonnull (tgt := 13) hx hb dX1_mend_8 (by decide) ?_
    have hc5 := hm5 l1 i hCe
    have hpl := hO.p (6 * l1 + i) (by omega) (by omega)
    refine lv_aload_n hx hb dX1_mend_13 rfl (lv_at hl 0 rfl) ?_
    refine g_calli (r := (if ρ 4 (6 * l1 + i) ≠ -1 then 1 else 0)) hM1 hA (g_runV (As := []) (rest := []) CF hK hM1 (hL.2.1.1 _ _ (lKd_c hL.1.n.2 hCe)) rfl (l_isDead l E _ _ _ ρ l1 i  (hL.w) (by first | omega | assumption | (refine ⟨?_, ?_⟩ <;> omega))) (cwV 0 hts (lw_V q408 q409 q410 q71 q411) rfl rfl rfl (by decide +kernel) ⟨Nat.le_of_ble_eq_true rfl, Nat.le_of_ble_eq_true rfl⟩) rfl hl.1 rfl (Nat.le_of_ble_eq_true rfl) dX1_mend_14 ⟨Nat.le_of_ble_eq_true rfl, Nat.le_of_ble_eq_true rfl⟩) (fun H locs hM2 => ?_)
    refine x_bif_ne (tgt := 23) hx hb dX1_mend_17 (by decide) (fun b17 => ?_) (fun b17 => ?_)
    · refine lv_aload_n hx hb dX1_mend_23 rfl (lv_at hl 0 rfl) ?_
      refine g_geti CF hK hM2 (cT l1 i) (hL.2.1.1 _ _ (lKd_c hL.1.n.2 hCe)) 3 3 rfl rfl (by decide) (gLk.n hK q259) (fun _ h => h) rfl dX1_mend_24 ?_
      refine lv_istore (lv' := [(4, .int (jI (σ (cT l1 i) 3))), (3, .ref (G.2.2 (cT l1 i))), (0, .ref (G.2.2 60)), (1, .int (jI l1)), (2, .int (jI i))]) hx hb dX1_mend_27 hl (by decide) rfl (fun ls hl => ?_)
      refine lv_aload_n hx hb dX1_mend_29 rfl (lv_at hl 1 rfl) ?_
      refine lv_iconst (v := jI (-1)) hx hb dX1_mend_30 rfl ?_
      refine g_puti CF hK hM2 (cT l1 i) (cT_ne (by decide)) (hL.2.1.1 _ _ (lKd_c hL.1.n.2 hCe)) 3 3 rfl rfl (by decide) (gLk.n hK q259) (fun _ h => h) (Or.inl rfl) rfl (v := (-1)) rfl rfl (by omega) dX1_mend_31 (fun H locs hM3 => ?_)
      refine lv_iload hx hb dX1_mend_34 (lv_at hl 0 rfl) ?_
      exact g_iret CF hr hlocks hM3 (lPo_i (by unfold oMend; rw [if_neg (fun q => q hCe), if_neg (by omega)]; first | rfl | omega) (by have hk := ok_mend hO l1 i; unfold oMend at hk ⊢; rw [if_neg (fun q => q hCe), if_neg (by omega)] at hk ⊢; exact hL.cell hCe (by decide) hk)) (by decide) (by decide) dX1_mend_36
    · refine lv_bipush (v := jI (-3)) hx hb dX1_mend_20 (by decide) ?_
      exact g_iret CF hr hlocks hM2 (lPo_i (by unfold oMend; rw [if_neg (fun q => q hCe), if_pos (by omega)]) (by unfold oMend; rw [if_neg (fun q => q hCe), if_pos (by omega)]; exact hL)) (by decide) (by decide) dX1_mend_22
  · refine lv_astore_nN (lv' := [(3, .null), (0, .ref (G.2.2 60)), (1, .int (jI l1)), (2, .int (jI i))]) hx hb dX1_mend_6 rfl hl (by decide) rfl (fun ls hl => ?_)
    refine lv_aload_nN hx hb dX1_mend_7 rfl (lv_at hl 0 rfl) ?_
    refine lv_ifnonnullN hx hb dX1_mend_8 ?_
    refine lv_iconst (v := jI (-1)) hx hb dX1_mend_11 rfl ?_
    exact g_iret CF hr hlocks hM1 (lPo_i (by unfold oMend; rw [if_pos hCe]) (by unfold oMend; rw [if_pos hCe]; exact hL)) (by decide) (by decide) dX1_mend_12
set_option maxHeartbeats 400000 in
theorem l_offset (l : Launch) (E : y_E) (G : y_G) (σ : y_S) (sz : Nat) (ρ : y_S) (l1 : Int) (i : Int) (k : Int) (hL : lgR E ρ G σ) (hl1 : R32 l1) (hi : R32 i) (hk : R32 k) : gCt l yX1_offset cX1_offset 6 (some .int) ({ frames := 3, cells := 0, slots := 0, locals := 65 }) E [.ref (G.2.2 60), .int (jI l1), .int (jI i), .int (jI k)] G σ sz (lPo E (oOffset ρ l1 i k)) 0 0 := by
  refine g_met (by decide) (Nat.le_of_ble_eq_true rfl) ?_
  intro p e s m below meth c ls CF hr hlocks hnm hK hM0 hA hl
  have hx := CF.1
  have hb := CF.2.1
  have hts := CF.2.2.2.2
  have hl : lv_has ls 6 [(0, .ref (G.2.2 60)), (1, .int (jI l1)), (2, .int (jI i)), (3, .int (jI k))] := hl
  obtain ⟨hO, hS, ⟨hm1, hm2, hm3, hm4, hm5⟩, hX, hD, hZ⟩ := id hL
  have hn := hO.n
  refine lv_aload_n hx hb dX1_offset_0 rfl (lv_at hl 0 rfl) ?_
  refine lv_iload_n hx hb dX1_offset_1 rfl (lv_at hl 1 rfl) ?_
  refine lv_iload_n hx hb dX1_offset_2 rfl (lv_at hl 2 rfl) ?_
  refine g_callc hM0 hA (g_runV (As := [.int (jI l1), .int (jI i)]) (rest := []) CF hK hM0 (hL.2.1.1 60 _ rfl) rfl (l_cellAt l E _ _ _ ρ l1 i hL (by first | omega | assumption | (refine ⟨?_, ?_⟩ <;> omega)) (by first | omega | assumption | (refine ⟨?_, ?_⟩ <;> omega))) (cwV 2 hts (lw_V q393 q395 qs0 q60 q396) rfl rfl rfl (by decide +kernel) ⟨Nat.le_of_ble_eq_true rfl, Nat.le_of_ble_eq_true rfl⟩) rfl hl.1 rfl (Nat.le_of_ble_eq_true rfl) dX1_offset_3 ⟨Nat.le_of_ble_eq_true rfl, Nat.le_of_ble_eq_true rfl⟩) (fun hCe H locs hM1 => ?_) (fun hCe H locs hM1 => ?_)
  · refine lv_astore (lv' := [(4, .ref (G.2.2 (cT l1 i))), (0, .ref (G.2.2 60)), (1, .int (jI l1)), (2, .int (jI i)), (3, .int (jI k))]) hx hb dX1_offset_6 hl (by decide) rfl (fun ls hl => ?_)
    refine lv_aload hx hb dX1_offset_8 (lv_at hl 0 rfl) ?_
    refine lv_ifnonnull (tgt := 15) hx hb dX1_offset_10 (by decide) ?_
    refine lv_iload_n hx hb dX1_offset_15 rfl (lv_at hl 4 rfl) ?_
    refine lv_bipush (v := jI (-8)) hx hb dX1_offset_16 (by decide) ?_
    refine lv_bipush (v := jI 8) hx hb dX1_offset_18 (by decide) ?_
    refine g_calli (r := (if ((-8)) ≤ k ∧ k ≤ 8 then 1 else 0)) hM1 hA (g_runS (As := [.int (jI k), .int (jI ((-8))), .int (jI 8)]) (rest := []) CF hK hM1 (l_in l E _ _ _  k ((-8)) 8 (by first | omega | assumption | (refine ⟨?_, ?_⟩ <;> omega)) (by first | omega | assumption | (refine ⟨?_, ?_⟩ <;> omega)) (by first | omega | assumption | (refine ⟨?_, ?_⟩ <;> omega))) (va_cwS 3 hts (lw_S q93 q94 q60 q95) rfl rfl rfl (by decide +kernel) ⟨Nat.le_of_ble_eq_true rfl, Nat.le_of_ble_eq_true rfl⟩) rfl hl.1 rfl (Nat.le_of_ble_eq_true rfl) dX1_offset_20 ⟨Nat.le_of_ble_eq_true rfl, Nat.le_of_ble_eq_true rfl⟩) (fun H locs hM2 => ?_)
    refine x_bif_ne (tgt := 29) hx hb dX1_offset_23 (by decide) (fun b23 => ?_) (fun b23 => ?_)
    · have hc5 := hm5 l1 i hCe
      have hpl := hO.p (6 * l1 + i) (by omega) (by omega)
      refine lv_aload hx hb dX1_offset_29 (lv_at hl 0 rfl) ?_
      refine g_geti CF hK hM2 (cT l1 i) (hL.2.1.1 _ _ (lKd_c hL.1.n.2 hCe)) 4 4 rfl rfl (by decide) (gLk.n hK q261) (fun _ h => h) rfl dX1_offset_31 ?_
      refine lv_istore (lv' := [(5, .int (jI (σ (cT l1 i) 4))), (4, .ref (G.2.2 (cT l1 i))), (0, .ref (G.2.2 60)), (1, .int (jI l1)), (2, .int (jI i)), (3, .int (jI k))]) hx hb dX1_offset_34 hl (by decide) rfl (fun ls hl => ?_)
      refine lv_aload hx hb dX1_offset_36 (lv_at hl 1 rfl) ?_
      refine lv_iload_n hx hb dX1_offset_38 rfl (lv_at hl 5 rfl) ?_
      refine g_puti CF hK hM2 (cT l1 i) (cT_ne (by decide)) (hL.2.1.1 _ _ (lKd_c hL.1.n.2 hCe)) 4 4 rfl rfl (by decide) (gLk.n hK q261) (fun _ h => h) (Or.inl rfl) rfl (v := k) rfl rfl (by omega) dX1_offset_39 (fun H locs hM3 => ?_)
      refine lv_iload hx hb dX1_offset_42 (lv_at hl 0 rfl) ?_
      exact g_iret CF hr hlocks hM3 (lPo_i (by unfold oOffset; rw [if_neg (fun q => q hCe), if_neg (fun q => q b23)]; first | rfl | omega) (by have hk := ok_offset hO l1 i k; unfold oOffset at hk ⊢; rw [if_neg (fun q => q hCe), if_neg (fun q => q b23)] at hk ⊢; exact hL.cell hCe (by decide) hk)) (by decide) (by decide) dX1_offset_44
    · refine lv_bipush (v := jI (-2)) hx hb dX1_offset_26 (by decide) ?_
      exact g_iret CF hr hlocks hM2 (lPo_i (by unfold oOffset; rw [if_neg (fun q => q hCe), if_pos b23]) (by unfold oOffset; rw [if_neg (fun q => q hCe), if_pos b23]; exact hL)) (by decide) (by decide) dX1_offset_28
  · refine lv_astoreN (lv' := [(4, .null), (0, .ref (G.2.2 60)), (1, .int (jI l1)), (2, .int (jI i)), (3, .int (jI k))]) hx hb dX1_offset_6 hl (by decide) rfl (fun ls hl => ?_)
    refine lv_aloadN hx hb dX1_offset_8 (lv_at hl 0 rfl) ?_
    refine lv_ifnonnullN hx hb dX1_offset_10 ?_
    refine lv_iconst (v := jI (-1)) hx hb dX1_offset_13 rfl ?_
    exact g_iret CF hr hlocks hM1 (lPo_i (by unfold oOffset; rw [if_pos hCe]) (by unfold oOffset; rw [if_pos hCe]; exact hL)) (by decide) (by decide) dX1_offset_14
set_option maxHeartbeats 400000 in
theorem l_set (l : Launch) (E : y_E) (G : y_G) (σ : y_S) (sz : Nat) (ρ : y_S) (l1 : Int) (i : Int) (k : Int) (hL : lgR E ρ G σ) (hl1 : R32 l1) (hi : R32 i) (hk : R32 k) : gCt l yX1_set cX1_set 6 (some .int) ({ frames := 3, cells := 0, slots := 0, locals := 65 }) E [.ref (G.2.2 60), .int (jI l1), .int (jI i), .int (jI k)] G σ sz (lPo E (oSet ρ l1 i k)) 0 0 := by
  refine g_met (by decide) (Nat.le_of_ble_eq_true rfl) ?_
  intro p e s m below meth c ls CF hr hlocks hnm hK hM0 hA hl
  have hx := CF.1
  have hb := CF.2.1
  have hts := CF.2.2.2.2
  have hl : lv_has ls 6 [(0, .ref (G.2.2 60)), (1, .int (jI l1)), (2, .int (jI i)), (3, .int (jI k))] := hl
  obtain ⟨hO, hS, ⟨hm1, hm2, hm3, hm4, hm5⟩, hX, hD, hZ⟩ := id hL
  have hn := hO.n
  have hen := hO.e
  refine lv_aload_n hx hb dX1_set_0 rfl (lv_at hl 0 rfl) ?_
  refine lv_iload_n hx hb dX1_set_1 rfl (lv_at hl 1 rfl) ?_
  refine lv_iload_n hx hb dX1_set_2 rfl (lv_at hl 2 rfl) ?_
  refine g_callc hM0 hA (g_runV (As := [.int (jI l1), .int (jI i)]) (rest := []) CF hK hM0 (hL.2.1.1 60 _ rfl) rfl (l_cellAt l E _ _ _ ρ l1 i hL (by first | omega | assumption | (refine ⟨?_, ?_⟩ <;> omega)) (by first | omega | assumption | (refine ⟨?_, ?_⟩ <;> omega))) (cwV 2 hts (lw_V q393 q395 qs0 q60 q396) rfl rfl rfl (by decide +kernel) ⟨Nat.le_of_ble_eq_true rfl, Nat.le_of_ble_eq_true rfl⟩) rfl hl.1 rfl (Nat.le_of_ble_eq_true rfl) dX1_set_3 ⟨Nat.le_of_ble_eq_true rfl, Nat.le_of_ble_eq_true rfl⟩) (fun hCe H locs hM1 => ?_) (fun hCe H locs hM1 => ?_)
  · refine lv_astore (lv' := [(4, .ref (G.2.2 (cT l1 i))), (0, .ref (G.2.2 60)), (1, .int (jI l1)), (2, .int (jI i)), (3, .int (jI k))]) hx hb dX1_set_6 hl (by decide) rfl (fun ls hl => ?_)
    refine lv_aload hx hb dX1_set_8 (lv_at hl 0 rfl) ?_
    refine lv_ifnonnull (tgt := 15) hx hb dX1_set_10 (by decide) ?_
    refine lv_iload_n hx hb dX1_set_15 rfl (lv_at hl 4 rfl) ?_
    refine g_calli (r := (if 0 ≤ k ∧ k ≤ 95 then 1 else 0)) hM1 hA (g_runS (As := [.int (jI k)]) (rest := []) CF hK hM1 (l_isTurn l E _ _ _  k (by first | omega | assumption | (refine ⟨?_, ?_⟩ <;> omega))) (va_cwS 1 hts (lw_S q401 q402 q60 q403) rfl rfl rfl (by decide +kernel) ⟨Nat.le_of_ble_eq_true rfl, Nat.le_of_ble_eq_true rfl⟩) rfl hl.1 rfl (Nat.le_of_ble_eq_true rfl) dX1_set_16 ⟨Nat.le_of_ble_eq_true rfl, Nat.le_of_ble_eq_true rfl⟩) (fun H locs hM2 => ?_)
    refine x_bif_ne (tgt := 25) hx hb dX1_set_19 (by decide) (fun b19 => ?_) (fun b19 => ?_)
    · have hc5 := hm5 l1 i hCe
      have hpl := hO.p (6 * l1 + i) (by omega) (by omega)
      refine lv_aload_n hx hb dX1_set_25 rfl (lv_at hl 1 rfl) ?_
      refine g_geti CF hK hM2 60 (hL.2.1.1 60 _ rfl) 29 29 rfl rfl (by decide) (Or.inl (hts _ q318)) (fun _ h => h) rfl dX1_set_26 ?_
      refine lv_bipush (v := jI 60) hx hb dX1_set_29 (by decide) ?_
      have fa3 := hM2.r 60 29
      refine x_icmp_ne (tgt := 37) hx hb dX1_set_31 (by decide) (by have f0 := hM2.r 60 29; omega) (by omega) (fun b31 => ?_) (fun b31 => ?_)
      · refine lv_aload_n hx hb dX1_set_37 rfl (lv_at hl 1 rfl) ?_
        refine lv_dup hx hb dX1_set_38 rfl ?_
        refine g_geti CF hK hM2 60 (hL.2.1.1 60 _ rfl) 29 29 rfl rfl (by decide) (Or.inl (hts _ q318)) (fun _ h => h) rfl dX1_set_39 ?_
        refine lv_iconst (v := jI 1) hx hb dX1_set_42 rfl ?_
        refine x_iadd hx hb dX1_set_43 ?_
        refine g_puti CF hK hM2 60 (by decide) (hL.2.1.1 60 _ rfl) 29 29 rfl rfl (by decide) (Or.inl (hts _ q318)) (fun _ h => h) (Or.inl rfl) rfl (v := (σ 60 29) + 1) rfl rfl (by have f0 := hM2.r 60 29; omega) dX1_set_44 (fun H locs hM4 => ?_)
        refine lv_aload hx hb dX1_set_47 (lv_at hl 0 rfl) ?_
        refine g_geti CF hK hM4 (cT l1 i) (hL.2.1.1 _ _ (lKd_c hL.1.n.2 hCe)) 2 2 rfl rfl (by decide) (gLk.n hK q256) (fun _ h => h) rfl dX1_set_49 ?_
        refine lv_istore (lv' := [(5, .int (jI ((up2 σ 60 29 ((σ 60 29) + 1)) (cT l1 i) 2))), (4, .ref (G.2.2 (cT l1 i))), (0, .ref (G.2.2 60)), (1, .int (jI l1)), (2, .int (jI i)), (3, .int (jI k))]) hx hb dX1_set_52 hl (by decide) rfl (fun ls hl => ?_)
        refine lv_aload hx hb dX1_set_54 (lv_at hl 1 rfl) ?_
        refine lv_iload_n hx hb dX1_set_56 rfl (lv_at hl 5 rfl) ?_
        refine g_puti CF hK hM4 (cT l1 i) (cT_ne (by decide)) (hL.2.1.1 _ _ (lKd_c hL.1.n.2 hCe)) 2 2 rfl rfl (by decide) (gLk.n hK q256) (fun _ h => h) (Or.inl rfl) rfl (v := k) rfl rfl (by omega) dX1_set_57 (fun H locs hM5 => ?_)
        refine lv_iload hx hb dX1_set_60 (lv_at hl 0 rfl) ?_
        exact g_iret CF hr hlocks hM5 (lPo_i (by unfold oSet; rw [if_neg (fun q => q hCe), if_neg (fun q => q b19), if_neg (by omega)]; rw [up2_n _ _ _ (cT_ne (by decide))]; exact hc5.2.2.1.symm) (by have hk := ok_set hO l1 i k; unfold oSet at hk ⊢; rw [if_neg (fun q => q hCe), if_neg (fun q => q b19), if_neg (by omega)] at hk ⊢; exact lgR_set hL hCe hk)) (by decide) (by decide) dX1_set_62
      · refine lv_bipush (v := jI (-4)) hx hb dX1_set_34 (by decide) ?_
        exact g_iret CF hr hlocks hM2 (lPo_i (by unfold oSet; rw [if_neg (fun q => q hCe), if_neg (fun q => q b19), if_pos (by omega)]) (by unfold oSet; rw [if_neg (fun q => q hCe), if_neg (fun q => q b19), if_pos (by omega)]; exact hL)) (by decide) (by decide) dX1_set_36
    · refine lv_bipush (v := jI (-2)) hx hb dX1_set_22 (by decide) ?_
      exact g_iret CF hr hlocks hM2 (lPo_i (by unfold oSet; rw [if_neg (fun q => q hCe), if_pos b19]) (by unfold oSet; rw [if_neg (fun q => q hCe), if_pos b19]; exact hL)) (by decide) (by decide) dX1_set_24
  · refine lv_astoreN (lv' := [(4, .null), (0, .ref (G.2.2 60)), (1, .int (jI l1)), (2, .int (jI i)), (3, .int (jI k))]) hx hb dX1_set_6 hl (by decide) rfl (fun ls hl => ?_)
    refine lv_aloadN hx hb dX1_set_8 (lv_at hl 0 rfl) ?_
    refine lv_ifnonnullN hx hb dX1_set_10 ?_
    refine lv_iconst (v := jI (-1)) hx hb dX1_set_13 rfl ?_
    exact g_iret CF hr hlocks hM1 (lPo_i (by unfold oSet; rw [if_pos hCe]) (by unfold oSet; rw [if_pos hCe]; exact hL)) (by decide) (by decide) dX1_set_14
set_option maxHeartbeats 400000 in
theorem l_claim (l : Launch) (E : y_E) (G : y_G) (σ : y_S) (sz : Nat) (ρ : y_S) (u : Int) (l1 : Int) (i : Int) (hL : lgR E ρ G σ) (hu : R32 u) (hl1 : R32 l1) (hi : R32 i) : gCt l yX1_claim cX1_claim 6 (some .int) ({ frames := 3, cells := 0, slots := 0, locals := 65 }) E [.ref (G.2.2 60), .int (jI u), .int (jI l1), .int (jI i)] G σ sz (lPo E (oClaim ρ u l1 i)) 0 0 := by
  refine g_met (by decide) (Nat.le_of_ble_eq_true rfl) ?_
  intro p e s m below meth c ls CF hr hlocks hnm hK hM0 hA hl
  have hx := CF.1
  have hb := CF.2.1
  have hts := CF.2.2.2.2
  have hl : lv_has ls 6 [(0, .ref (G.2.2 60)), (1, .int (jI u)), (2, .int (jI l1)), (3, .int (jI i))] := hl
  obtain ⟨hO, hS, ⟨hm1, hm2, hm3, hm4, hm5⟩, hX, hD, hZ⟩ := id hL
  have hn := hO.n
  refine lv_aload_n hx hb dX1_claim_0 rfl (lv_at hl 0 rfl) ?_
  refine lv_iload_n hx hb dX1_claim_1 rfl (lv_at hl 2 rfl) ?_
  refine lv_iload_n hx hb dX1_claim_2 rfl (lv_at hl 3 rfl) ?_
  refine g_callc hM0 hA (g_runV (As := [.int (jI l1), .int (jI i)]) (rest := []) CF hK hM0 (hL.2.1.1 60 _ rfl) rfl (l_cellAt l E _ _ _ ρ l1 i hL (by first | omega | assumption | (refine ⟨?_, ?_⟩ <;> omega)) (by first | omega | assumption | (refine ⟨?_, ?_⟩ <;> omega))) (cwV 2 hts (lw_V q393 q395 qs0 q60 q396) rfl rfl rfl (by decide +kernel) ⟨Nat.le_of_ble_eq_true rfl, Nat.le_of_ble_eq_true rfl⟩) rfl hl.1 rfl (Nat.le_of_ble_eq_true rfl) dX1_claim_3 ⟨Nat.le_of_ble_eq_true rfl, Nat.le_of_ble_eq_true rfl⟩) (fun hCe H locs hM1 => ?_) (fun hCe H locs hM1 => ?_)
  · refine lv_astore (lv' := [(4, .ref (G.2.2 (cT l1 i))), (0, .ref (G.2.2 60)), (1, .int (jI u)), (2, .int (jI l1)), (3, .int (jI i))]) hx hb dX1_claim_6 hl (by decide) rfl (fun ls hl => ?_)
    refine lv_aload hx hb dX1_claim_8 (lv_at hl 0 rfl) ?_
    refine lv_ifnull hx hb dX1_claim_10 ?_
    have hc5 := hm5 l1 i hCe
    have hus := hO.us (6 * l1 + i) (by omega) (by omega)
    refine lv_iload_n hx hb dX1_claim_13 rfl (lv_at hl 2 rfl) ?_
    refine lv_iconst (v := jI (-1)) hx hb dX1_claim_14 rfl ?_
    refine lv_iconst (v := jI 1) hx hb dX1_claim_15 rfl ?_
    refine g_calli (r := (if ((-1)) ≤ u ∧ u ≤ 1 then 1 else 0)) hM1 hA (g_runS (As := [.int (jI u), .int (jI ((-1))), .int (jI 1)]) (rest := []) CF hK hM1 (l_in l E _ _ _  u ((-1)) 1 (by first | omega | assumption | (refine ⟨?_, ?_⟩ <;> omega)) (by first | omega | assumption | (refine ⟨?_, ?_⟩ <;> omega)) (by first | omega | assumption | (refine ⟨?_, ?_⟩ <;> omega))) (va_cwS 3 hts (lw_S q93 q94 q60 q95) rfl rfl rfl (by decide +kernel) ⟨Nat.le_of_ble_eq_true rfl, Nat.le_of_ble_eq_true rfl⟩) rfl hl.1 rfl (Nat.le_of_ble_eq_true rfl) dX1_claim_16 ⟨Nat.le_of_ble_eq_true rfl, Nat.le_of_ble_eq_true rfl⟩) (fun H locs hM2 => ?_)
    refine x_bif_ne (tgt := 25) hx hb dX1_claim_19 (by decide) (fun b19 => ?_) (fun b19 => ?_)
    · refine lv_iload_n hx hb dX1_claim_25 rfl (lv_at hl 2 rfl) ?_
      refine lv_iconst (v := jI (-1)) hx hb dX1_claim_26 rfl ?_
      refine x_icmp_eq (tgt := 51) hx hb dX1_claim_27 (by decide) (by omega) (by omega) (fun b27 => ?_) (fun b27 => ?_)
      · refine lv_aload hx hb dX1_claim_51 (lv_at hl 0 rfl) ?_
        refine g_geti CF hK hM2 (cT l1 i) (hL.2.1.1 _ _ (lKd_c hL.1.n.2 hCe)) 5 5 rfl rfl (by decide) (gLk.n hK q263) (fun _ h => h) rfl dX1_claim_53 ?_
        refine lv_istore (lv' := [(5, .int (jI (σ (cT l1 i) 5))), (4, .ref (G.2.2 (cT l1 i))), (0, .ref (G.2.2 60)), (1, .int (jI u)), (2, .int (jI l1)), (3, .int (jI i))]) hx hb dX1_claim_56 hl (by decide) rfl (fun ls hl => ?_)
        refine lv_aload hx hb dX1_claim_58 (lv_at hl 1 rfl) ?_
        refine lv_iload_n hx hb dX1_claim_60 rfl (lv_at hl 3 rfl) ?_
        refine g_puti CF hK hM2 (cT l1 i) (cT_ne (by decide)) (hL.2.1.1 _ _ (lKd_c hL.1.n.2 hCe)) 5 5 rfl rfl (by decide) (gLk.n hK q263) (fun _ h => h) (Or.inl rfl) rfl (v := u) rfl rfl (by omega) dX1_claim_61 (fun H locs hM3 => ?_)
        refine lv_iload hx hb dX1_claim_64 (lv_at hl 0 rfl) ?_
        exact g_iret CF hr hlocks hM3 (lPo_i (by unfold oClaim; rw [if_neg (fun q => q ⟨hCe, by omega⟩), if_neg (by omega)]; first | rfl | omega) (by have hk := ok_claim hO u l1 i; unfold oClaim at hk ⊢; rw [if_neg (fun q => q ⟨hCe, by omega⟩), if_neg (by omega)] at hk ⊢; exact hL.cell hCe (by decide) hk)) (by decide) (by decide) dX1_claim_66
      · refine lv_aload hx hb dX1_claim_30 (lv_at hl 0 rfl) ?_
        refine g_geti CF hK hM2 (cT l1 i) (hL.2.1.1 _ _ (lKd_c hL.1.n.2 hCe)) 5 5 rfl rfl (by decide) (gLk.n hK q263) (fun _ h => h) rfl dX1_claim_32 ?_
        refine lv_iconst (v := jI (-1)) hx hb dX1_claim_35 rfl ?_
        have fa4 := hM2.r (cT l1 i) 5
        refine x_icmp_eq (tgt := 51) hx hb dX1_claim_36 (by decide) (by have f0 := hM2.r (cT l1 i) 5; omega) (by omega) (fun b36 => ?_) (fun b36 => ?_)
        · refine lv_aload hx hb dX1_claim_51 (lv_at hl 0 rfl) ?_
          refine g_geti CF hK hM2 (cT l1 i) (hL.2.1.1 _ _ (lKd_c hL.1.n.2 hCe)) 5 5 rfl rfl (by decide) (gLk.n hK q263) (fun _ h => h) rfl dX1_claim_53 ?_
          refine lv_istore (lv' := [(5, .int (jI (σ (cT l1 i) 5))), (4, .ref (G.2.2 (cT l1 i))), (0, .ref (G.2.2 60)), (1, .int (jI u)), (2, .int (jI l1)), (3, .int (jI i))]) hx hb dX1_claim_56 hl (by decide) rfl (fun ls hl => ?_)
          refine lv_aload hx hb dX1_claim_58 (lv_at hl 1 rfl) ?_
          refine lv_iload_n hx hb dX1_claim_60 rfl (lv_at hl 3 rfl) ?_
          refine g_puti CF hK hM2 (cT l1 i) (cT_ne (by decide)) (hL.2.1.1 _ _ (lKd_c hL.1.n.2 hCe)) 5 5 rfl rfl (by decide) (gLk.n hK q263) (fun _ h => h) (Or.inl rfl) rfl (v := u) rfl rfl (by omega) dX1_claim_61 (fun H locs hM5 => ?_)
          refine lv_iload hx hb dX1_claim_64 (lv_at hl 0 rfl) ?_
          exact g_iret CF hr hlocks hM5 (lPo_i (by unfold oClaim; rw [if_neg (fun q => q ⟨hCe, by omega⟩), if_neg (by omega)]; first | rfl | omega) (by have hk := ok_claim hO u l1 i; unfold oClaim at hk ⊢; rw [if_neg (fun q => q ⟨hCe, by omega⟩), if_neg (by omega)] at hk ⊢; exact hL.cell hCe (by decide) hk)) (by decide) (by decide) dX1_claim_66
        · refine lv_aload hx hb dX1_claim_39 (lv_at hl 0 rfl) ?_
          refine g_geti CF hK hM2 (cT l1 i) (hL.2.1.1 _ _ (lKd_c hL.1.n.2 hCe)) 5 5 rfl rfl (by decide) (gLk.n hK q263) (fun _ h => h) rfl dX1_claim_41 ?_
          refine lv_iload_n hx hb dX1_claim_44 rfl (lv_at hl 2 rfl) ?_
          refine x_icmp_eq (tgt := 51) hx hb dX1_claim_45 (by decide) (by have f0 := hM2.r (cT l1 i) 5; omega) (by omega) (fun b45 => ?_) (fun b45 => ?_)
          · refine lv_aload hx hb dX1_claim_51 (lv_at hl 0 rfl) ?_
            refine g_geti CF hK hM2 (cT l1 i) (hL.2.1.1 _ _ (lKd_c hL.1.n.2 hCe)) 5 5 rfl rfl (by decide) (gLk.n hK q263) (fun _ h => h) rfl dX1_claim_53 ?_
            refine lv_istore (lv' := [(5, .int (jI (σ (cT l1 i) 5))), (4, .ref (G.2.2 (cT l1 i))), (0, .ref (G.2.2 60)), (1, .int (jI u)), (2, .int (jI l1)), (3, .int (jI i))]) hx hb dX1_claim_56 hl (by decide) rfl (fun ls hl => ?_)
            refine lv_aload hx hb dX1_claim_58 (lv_at hl 1 rfl) ?_
            refine lv_iload_n hx hb dX1_claim_60 rfl (lv_at hl 3 rfl) ?_
            refine g_puti CF hK hM2 (cT l1 i) (cT_ne (by decide)) (hL.2.1.1 _ _ (lKd_c hL.1.n.2 hCe)) 5 5 rfl rfl (by decide) (gLk.n hK q263) (fun _ h => h) (Or.inl rfl) rfl (v := u) rfl rfl (by omega) dX1_claim_61 (fun H locs hM6 => ?_)
            refine lv_iload hx hb dX1_claim_64 (lv_at hl 0 rfl) ?_
            exact g_iret CF hr hlocks hM6 (lPo_i (by unfold oClaim; rw [if_neg (fun q => q ⟨hCe, by omega⟩), if_neg (by omega)]; first | rfl | omega) (by have hk := ok_claim hO u l1 i; unfold oClaim at hk ⊢; rw [if_neg (fun q => q ⟨hCe, by omega⟩), if_neg (by omega)] at hk ⊢; exact hL.cell hCe (by decide) hk)) (by decide) (by decide) dX1_claim_66
          · refine lv_bipush (v := jI (-3)) hx hb dX1_claim_48 (by decide) ?_
            exact g_iret CF hr hlocks hM2 (lPo_i (by unfold oClaim; rw [if_neg (fun q => q ⟨hCe, by omega⟩), if_pos (by omega)]) (by unfold oClaim; rw [if_neg (fun q => q ⟨hCe, by omega⟩), if_pos (by omega)]; exact hL)) (by decide) (by decide) dX1_claim_50
    · refine lv_bipush (v := jI (-5)) hx hb dX1_claim_22 (by decide) ?_
      exact g_iret CF hr hlocks hM2 (lPo_i (by unfold oClaim; rw [if_pos (fun q => b19 q.2)]) (by unfold oClaim; rw [if_pos (fun q => b19 q.2)]; exact hL)) (by decide) (by decide) dX1_claim_24
  · refine lv_astoreN (lv' := [(4, .null), (0, .ref (G.2.2 60)), (1, .int (jI u)), (2, .int (jI l1)), (3, .int (jI i))]) hx hb dX1_claim_6 hl (by decide) rfl (fun ls hl => ?_)
    refine lv_aloadN hx hb dX1_claim_8 (lv_at hl 0 rfl) ?_
    refine lv_ifnullN (tgt := 22) hx hb dX1_claim_10 (by decide) ?_
    refine lv_bipush (v := jI (-5)) hx hb dX1_claim_22 (by decide) ?_
    exact g_iret CF hr hlocks hM1 (lPo_i (by unfold oClaim; rw [if_pos (fun q => hCe q.1)]) (by unfold oClaim; rw [if_pos (fun q => hCe q.1)]; exact hL)) (by decide) (by decide) dX1_claim_24
set_option maxHeartbeats 400000 in
theorem l_entry (l : Launch) (E : y_E) (G : y_G) (σ : y_S) (sz : Nat) (ρ : y_S) (r1 : Int) (c1 : Int) (v : Int) (hL : lgR E ρ G σ) (hr1 : R32 r1) (hc1 : R32 c1) (hv : R32 v) : gCt l yX1_entry cX1_entry 5 (some .int) ({ frames := 2, cells := 0, slots := 0, locals := 43 }) E [.ref (G.2.2 60), .int (jI r1), .int (jI c1), .int (jI v)] G σ sz (lPo E (oEntry ρ r1 c1 v)) 0 0 := by
  refine g_met (by decide) (Nat.le_of_ble_eq_true rfl) ?_
  intro p e s m below meth c ls CF hr hlocks hnm hK hM0 hA hl
  have hx := CF.1
  have hb := CF.2.1
  have hts := CF.2.2.2.2
  have hl : lv_has ls 5 [(0, .ref (G.2.2 60)), (1, .int (jI r1)), (2, .int (jI c1)), (3, .int (jI v))] := hl
  obtain ⟨hO, hS, ⟨hm1, hm2, hm3, hm4, hm5⟩, hX, hD, hZ⟩ := id hL
  have hn := hO.n
  refine lv_aload_n hx hb dX1_entry_0 rfl (lv_at hl 0 rfl) ?_
  refine lv_iload_n hx hb dX1_entry_1 rfl (lv_at hl 1 rfl) ?_
  refine g_calli (r := (if 0 ≤ r1 ∧ r1 < ρ 60 0 then 1 else 0)) hM0 hA (g_runV (As := [.int (jI r1)]) (rest := []) CF hK hM0 (hL.2.1.1 60 _ rfl) rfl (l_isLane l E _ _ _ ρ r1 hL (by first | omega | assumption | (refine ⟨?_, ?_⟩ <;> omega))) (cwV 1 hts (lw_V q397 q399 qs1 q60 q400) rfl rfl rfl (by decide +kernel) ⟨Nat.le_of_ble_eq_true rfl, Nat.le_of_ble_eq_true rfl⟩) rfl hl.1 rfl (Nat.le_of_ble_eq_true rfl) dX1_entry_2 ⟨Nat.le_of_ble_eq_true rfl, Nat.le_of_ble_eq_true rfl⟩) (fun H locs hM1 => ?_)
  refine x_bif_eq (tgt := 16) hx hb dX1_entry_5 (by decide) (fun b5 => ?_) (fun b5 => ?_)
  · refine lv_iconst (v := jI (-1)) hx hb dX1_entry_16 rfl ?_
    exact g_iret CF hr hlocks hM1 (lPo_i (by unfold oEntry; rw [if_pos (fun q => by first | exact b5 q.1 | exact b13 q.2)]) (by unfold oEntry; rw [if_pos (fun q => by first | exact b5 q.1 | exact b13 q.2)]; exact hL)) (by decide) (by decide) dX1_entry_17
  · refine lv_aload_n hx hb dX1_entry_8 rfl (lv_at hl 0 rfl) ?_
    refine lv_iload_n hx hb dX1_entry_9 rfl (lv_at hl 2 rfl) ?_
    refine g_calli (r := (if 0 ≤ c1 ∧ c1 < ρ 60 0 then 1 else 0)) hM1 hA (g_runV (As := [.int (jI c1)]) (rest := []) CF hK hM1 (hL.2.1.1 60 _ rfl) rfl (l_isLane l E _ _ _ ρ c1 hL (by first | omega | assumption | (refine ⟨?_, ?_⟩ <;> omega))) (cwV 1 hts (lw_V q397 q399 qs1 q60 q400) rfl rfl rfl (by decide +kernel) ⟨Nat.le_of_ble_eq_true rfl, Nat.le_of_ble_eq_true rfl⟩) rfl hl.1 rfl (Nat.le_of_ble_eq_true rfl) dX1_entry_10 ⟨Nat.le_of_ble_eq_true rfl, Nat.le_of_ble_eq_true rfl⟩) (fun H locs hM2 => ?_)
    refine x_bif_ne (tgt := 18) hx hb dX1_entry_13 (by decide) (fun b13 => ?_) (fun b13 => ?_)
    · refine lv_iload_n hx hb dX1_entry_18 rfl (lv_at hl 3 rfl) ?_
      refine lv_iconst (v := jI 0) hx hb dX1_entry_19 rfl ?_
      refine lv_bipush (v := jI 96) hx hb dX1_entry_20 (by decide) ?_
      refine g_calli (r := (if 0 ≤ v ∧ v ≤ 96 then 1 else 0)) hM2 hA (g_runS (As := [.int (jI v), .int (jI 0), .int (jI 96)]) (rest := []) CF hK hM2 (l_in l E _ _ _  v 0 96 (by first | omega | assumption | (refine ⟨?_, ?_⟩ <;> omega)) (by first | omega | assumption | (refine ⟨?_, ?_⟩ <;> omega)) (by first | omega | assumption | (refine ⟨?_, ?_⟩ <;> omega))) (va_cwS 3 hts (lw_S q93 q94 q60 q95) rfl rfl rfl (by decide +kernel) ⟨Nat.le_of_ble_eq_true rfl, Nat.le_of_ble_eq_true rfl⟩) rfl hl.1 rfl (Nat.le_of_ble_eq_true rfl) dX1_entry_22 ⟨Nat.le_of_ble_eq_true rfl, Nat.le_of_ble_eq_true rfl⟩) (fun H locs hM3 => ?_)
      refine x_bif_ne (tgt := 31) hx hb dX1_entry_25 (by decide) (fun b25 => ?_) (fun b25 => ?_)
      · refine lv_aload_n hx hb dX1_entry_31 rfl (lv_at hl 0 rfl) ?_
        refine g_getr CF hK hM3 60 (hL.2.1.1 60 _ rfl) 10 10 rfl rfl (by decide) (Or.inl (hts _ q296)) (fun _ h => h) rfl (G.2.2 10) (hL.2.1.2.1 10 10 rfl) dX1_entry_32 ?_
        refine lv_iload_n hx hb dX1_entry_35 rfl (lv_at hl 2 rfl) ?_
        refine g_aaldr CF hK hM3 10 (hL.2.1.1 10 _ rfl) (by decide) rfl (i := c1) (by omega) (by omega) (by omega) (G.2.2 (200 + c1.toNat)) (by have q := (hL.2.1.2.2.2.2.2.2.2.2.2.1 c1.toNat (by omega)).1; rwa [Int.toNat_of_nonneg (by omega)] at q) dX1_entry_36 ?_
        refine lv_iload_n hx hb dX1_entry_37 rfl (lv_at hl 1 rfl) ?_
        refine g_iald CF hK hM3 (200 + c1.toNat) (hL.2.1.1 _ _ (lKd_to (by omega)).1) (i := r1) (by omega) (by omega) (by omega) dX1_entry_38 ?_
        refine lv_istore (lv' := [(4, .int (jI (σ (200 + c1.toNat) r1))), (0, .ref (G.2.2 60)), (1, .int (jI r1)), (2, .int (jI c1)), (3, .int (jI v))]) hx hb dX1_entry_39 hl (by decide) rfl (fun ls hl => ?_)
        refine lv_aload_n hx hb dX1_entry_41 rfl (lv_at hl 1 rfl) ?_
        refine g_getr CF hK hM3 60 (hL.2.1.1 60 _ rfl) 10 10 rfl rfl (by decide) (Or.inl (hts _ q296)) (fun _ h => h) rfl (G.2.2 10) (hL.2.1.2.1 10 10 rfl) dX1_entry_42 ?_
        refine lv_iload_n hx hb dX1_entry_45 rfl (lv_at hl 3 rfl) ?_
        refine g_aaldr CF hK hM3 10 (hL.2.1.1 10 _ rfl) (by decide) rfl (i := c1) (by omega) (by omega) (by omega) (G.2.2 (200 + c1.toNat)) (by have q := (hL.2.1.2.2.2.2.2.2.2.2.2.1 c1.toNat (by omega)).1; rwa [Int.toNat_of_nonneg (by omega)] at q) dX1_entry_46 ?_
        refine lv_iload_n hx hb dX1_entry_47 rfl (lv_at hl 2 rfl) ?_
        refine lv_iload_n hx hb dX1_entry_48 rfl (lv_at hl 4 rfl) ?_
        refine g_iast CF hK hM3 (200 + c1.toNat) (by omega) (hL.2.1.1 _ _ (lKd_to (by omega)).1) (i := r1) (v := v) (by omega) (by omega) (by omega) (by omega) dX1_entry_49 (fun H locs hM4 => ?_)
        refine lv_iload hx hb dX1_entry_50 (lv_at hl 0 rfl) ?_
        exact g_iret CF hr hlocks hM4 (lPo_i (by unfold oEntry; rw [if_neg (fun q => q ⟨b5, b13⟩), if_neg (fun q => q b25)]; have q := hX.1 c1.toNat r1 (by omega) (by omega) (by omega); rw [Int.toNat_of_nonneg (by omega)] at q; exact q.symm) (by have hk := ok_entry hO r1 c1 v; unfold oEntry at hk ⊢; rw [if_neg (fun q => q ⟨b5, b13⟩), if_neg (fun q => q b25)] at hk ⊢; exact lgR_told hL (by omega) (by omega) (by omega) (by omega) hk)) (by decide) (by decide) dX1_entry_52
      · refine lv_bipush (v := jI (-2)) hx hb dX1_entry_28 (by decide) ?_
        exact g_iret CF hr hlocks hM3 (lPo_i (by unfold oEntry; rw [if_neg (fun q => q ⟨b5, b13⟩), if_pos b25]) (by unfold oEntry; rw [if_neg (fun q => q ⟨b5, b13⟩), if_pos b25]; exact hL)) (by decide) (by decide) dX1_entry_30
    · refine lv_iconst (v := jI (-1)) hx hb dX1_entry_16 rfl ?_
      exact g_iret CF hr hlocks hM2 (lPo_i (by unfold oEntry; rw [if_pos (fun q => by first | exact b5 q.1 | exact b13 q.2)]) (by unfold oEntry; rw [if_pos (fun q => by first | exact b5 q.1 | exact b13 q.2)]; exact hL)) (by decide) (by decide) dX1_entry_17
set_option maxHeartbeats 400000 in
theorem l_turns (l : Launch) (E : y_E) (G : y_G) (σ : y_S) (sz : Nat) (ρ : y_S) (t : Nat) (i : Int) (k : Int) (hL : lgR E ρ G σ) (hTk : G.1 t = some (.inr (0, 6))) (hT0 : t ≠ 0) (hTt : ¬ lgT ρ t) (hT6 : t ≠ 60) (hi0 : 0 ≤ i) (hi1 : i ≤ 4) (hr0 : 0 ≤ σ t i ∧ σ t i ≤ 96) (hr1 : 0 ≤ σ t (i + 1) ∧ σ t (i + 1) ≤ 96) (hk0 : 0 ≤ k) (hk1 : k ≤ 95) : gCt l yX1_turns cX1_turns 6 none ({ frames := 2, cells := 0, slots := 0, locals := 46 }) E [.ref (G.2.2 60), .ref (G.2.2 t), .int (jI i), .int (jI k)] G σ sz (gR none G (upT σ t (tRow (ρ 1) (ρ 2) (σ t) i k))) 0 0 := by
  refine g_met (by decide) (Nat.le_of_ble_eq_true rfl) ?_
  intro p e s m below meth c ls CF hr hlocks hnm hK hM0 hA hl
  have hx := CF.1
  have hb := CF.2.1
  have hts := CF.2.2.2.2
  have hl : lv_has ls 6 [(0, .ref (G.2.2 60)), (1, .ref (G.2.2 t)), (2, .int (jI i)), (3, .int (jI k))] := hl
  obtain ⟨hO, hS, ⟨hm1, hm2, hm3, hm4, hm5⟩, hX, hD, hZ⟩ := id hL
  have hn := hO.n
  have ht61 : (61 : Nat) ≠ t := fun q => hTt (by unfold lgT; omega)
  have ht1 : (1 : Nat) ≠ t := fun q => hTt (by unfold lgT; omega)
  have a1 := hO.t k (by omega) (by omega)
  have hcs := hm4 k (by omega) (by omega)
  have m1 := mul96 a1.1 hr0
  have m2 := mul96 a1.2 hr1
  have m3 := mul96 a1.2 hr0
  have m4 := mul96 a1.1 hr1
  refine lv_aload_n hx hb dX1_turns_0 rfl (lv_at hl 1 rfl) ?_
  refine lv_iload_n hx hb dX1_turns_1 rfl (lv_at hl 2 rfl) ?_
  refine g_iald CF hK hM0 t hTk (i := i) (by omega) (by omega) (by omega) dX1_turns_2 ?_
  refine lv_istore (lv' := [(4, .int (jI (σ t i))), (0, .ref (G.2.2 60)), (1, .ref (G.2.2 t)), (2, .int (jI i)), (3, .int (jI k))]) hx hb dX1_turns_3 hl (by decide) rfl (fun ls hl => ?_)
  refine lv_aload_n hx hb dX1_turns_5 rfl (lv_at hl 2 rfl) ?_
  refine lv_iload_n hx hb dX1_turns_6 rfl (lv_at hl 3 rfl) ?_
  refine lv_iconst (v := jI 1) hx hb dX1_turns_7 rfl ?_
  refine x_iadd hx hb dX1_turns_8 ?_
  refine g_iald CF hK hM0 t hTk (i := i + 1) (by omega) (by omega) (by omega) dX1_turns_9 ?_
  refine lv_istore (lv' := [(5, .int (jI (σ t (i + 1)))), (4, .int (jI (σ t i))), (0, .ref (G.2.2 60)), (1, .ref (G.2.2 t)), (2, .int (jI i)), (3, .int (jI k))]) hx hb dX1_turns_10 hl (by decide) rfl (fun ls hl => ?_)
  refine lv_aload_n hx hb dX1_turns_12 rfl (lv_at hl 3 rfl) ?_
  refine lv_iload_n hx hb dX1_turns_13 rfl (lv_at hl 4 rfl) ?_
  refine lv_aload_n hx hb dX1_turns_14 rfl (lv_at hl 2 rfl) ?_
  refine g_getr CF hK hM0 60 (hL.2.1.1 60 _ rfl) 0 0 rfl rfl (by decide) (Or.inl (hts _ q280)) (fun _ h => h) rfl (G.2.2 61) (hL.2.1.2.1 0 61 rfl) dX1_turns_15 ?_
  refine lv_iload_n hx hb dX1_turns_18 rfl (lv_at hl 5 rfl) ?_
  refine g_iald CF hK hM0 61 (hL.2.1.1 61 _ rfl) (i := k) (by omega) (by omega) (by omega) dX1_turns_19 ?_
  refine x_top (b := ρ 1 k) hcs.1 ?_
  refine x_i2l hx hb dX1_turns_20 (by omega) ?_
  refine lv_iload hx hb dX1_turns_21 (lv_at hl 1 rfl) ?_
  refine x_i2l hx hb dX1_turns_23 (by have f0 := hM0.r t i; omega) ?_
  refine x_lmul hx hb dX1_turns_24 ?_
  refine lv_aload_n hx hb dX1_turns_25 rfl (lv_at hl 2 rfl) ?_
  refine g_getr CF hK hM0 60 (hL.2.1.1 60 _ rfl) 1 1 rfl rfl (by decide) (Or.inl (hts _ q281)) (fun _ h => h) rfl (G.2.2 1) (hL.2.1.2.1 1 1 rfl) dX1_turns_26 ?_
  refine lv_iload_n hx hb dX1_turns_29 rfl (lv_at hl 5 rfl) ?_
  refine g_iald CF hK hM0 1 (hL.2.1.1 1 _ rfl) (i := k) (by omega) (by omega) (by omega) dX1_turns_30 ?_
  refine x_top (b := ρ 2 k) hcs.2 ?_
  refine x_i2l hx hb dX1_turns_31 (by omega) ?_
  refine lv_iload hx hb dX1_turns_32 (lv_at hl 0 rfl) ?_
  refine x_i2l hx hb dX1_turns_34 (by have f0 := hM0.r t (i + 1); omega) ?_
  refine x_lmul hx hb dX1_turns_35 ?_
  refine x_lsub hx hb dX1_turns_36 ?_
  refine g_calli (r := (((ρ 1 k) * (σ t i)) - ((ρ 2 k) * (σ t (i + 1)))) % 97) hM0 hA (g_runS (As := [.long (jL (((ρ 1 k) * (σ t i)) - ((ρ 2 k) * (σ t (i + 1)))))]) (rest := [.int (jI i), .ref (G.2.2 t)]) CF hK hM0 (l_part l E _ _ _  (((ρ 1 k) * (σ t i)) - ((ρ 2 k) * (σ t (i + 1)))) (by have f0 := hM0.r t i; have f1 := hM0.r t (i + 1); first | omega | assumption | (refine ⟨?_, ?_⟩ <;> omega))) (va_cwS 1 hts (lw_S q112 q113 q60 q114) rfl rfl rfl (by decide +kernel) ⟨Nat.le_of_ble_eq_true rfl, Nat.le_of_ble_eq_true rfl⟩) rfl hl.1 rfl (Nat.le_of_ble_eq_true rfl) dX1_turns_37 ⟨Nat.le_of_ble_eq_true rfl, Nat.le_of_ble_eq_true rfl⟩) (fun H locs hM1 => ?_)
  refine g_iast CF hK hM1 t hT0 hTk (i := i) (v := (((ρ 1 k) * (σ t i)) - ((ρ 2 k) * (σ t (i + 1)))) % 97) (by omega) (by omega) (by omega) (by omega) dX1_turns_40 (fun H locs hM2 => ?_)
  refine lv_aload_n hx hb dX1_turns_41 rfl (lv_at hl 3 rfl) ?_
  refine lv_iload_n hx hb dX1_turns_42 rfl (lv_at hl 4 rfl) ?_
  refine lv_iconst (v := jI 1) hx hb dX1_turns_43 rfl ?_
  refine x_iadd hx hb dX1_turns_44 ?_
  refine lv_aload_n hx hb dX1_turns_45 rfl (lv_at hl 2 rfl) ?_
  refine g_getr CF hK hM2 60 (hL.2.1.1 60 _ rfl) 1 1 rfl rfl (by decide) (Or.inl (hts _ q281)) (fun _ h => h) rfl (G.2.2 1) (hL.2.1.2.1 1 1 rfl) dX1_turns_46 ?_
  refine lv_iload_n hx hb dX1_turns_49 rfl (lv_at hl 5 rfl) ?_
  refine g_iald CF hK hM2 1 (hL.2.1.1 1 _ rfl) (i := k) (by omega) (by omega) (by omega) dX1_turns_50 ?_
  refine x_top (b := ρ 2 k) (by rw [up2_n _ _ _ ht1]; exact hcs.2) ?_
  refine x_i2l hx hb dX1_turns_51 (by omega) ?_
  refine lv_iload hx hb dX1_turns_52 (lv_at hl 1 rfl) ?_
  refine x_i2l hx hb dX1_turns_54 (by have f0 := hM0.r t i; omega) ?_
  refine x_lmul hx hb dX1_turns_55 ?_
  refine lv_aload_n hx hb dX1_turns_56 rfl (lv_at hl 2 rfl) ?_
  refine g_getr CF hK hM2 60 (hL.2.1.1 60 _ rfl) 0 0 rfl rfl (by decide) (Or.inl (hts _ q280)) (fun _ h => h) rfl (G.2.2 61) (hL.2.1.2.1 0 61 rfl) dX1_turns_57 ?_
  refine lv_iload_n hx hb dX1_turns_60 rfl (lv_at hl 5 rfl) ?_
  refine g_iald CF hK hM2 61 (hL.2.1.1 61 _ rfl) (i := k) (by omega) (by omega) (by omega) dX1_turns_61 ?_
  refine x_top (b := ρ 1 k) (by rw [up2_n _ _ _ ht61]; exact hcs.1) ?_
  refine x_i2l hx hb dX1_turns_62 (by omega) ?_
  refine lv_iload hx hb dX1_turns_63 (lv_at hl 0 rfl) ?_
  refine x_i2l hx hb dX1_turns_65 (by have f0 := hM0.r t (i + 1); omega) ?_
  refine x_lmul hx hb dX1_turns_66 ?_
  refine x_ladd hx hb dX1_turns_67 ?_
  refine g_calli (r := (((ρ 2 k) * (σ t i)) + ((ρ 1 k) * (σ t (i + 1)))) % 97) hM2 hA (g_runS (As := [.long (jL (((ρ 2 k) * (σ t i)) + ((ρ 1 k) * (σ t (i + 1)))))]) (rest := [.int (jI (i + 1)), .ref (G.2.2 t)]) CF hK hM2 (l_part l E _ _ _  (((ρ 2 k) * (σ t i)) + ((ρ 1 k) * (σ t (i + 1)))) (by have f0 := hM0.r t i; have f1 := hM0.r t (i + 1); first | omega | assumption | (refine ⟨?_, ?_⟩ <;> omega))) (va_cwS 1 hts (lw_S q112 q113 q60 q114) rfl rfl rfl (by decide +kernel) ⟨Nat.le_of_ble_eq_true rfl, Nat.le_of_ble_eq_true rfl⟩) rfl hl.1 rfl (Nat.le_of_ble_eq_true rfl) dX1_turns_68 ⟨Nat.le_of_ble_eq_true rfl, Nat.le_of_ble_eq_true rfl⟩) (fun H locs hM3 => ?_)
  refine g_iast CF hK hM3 t hT0 hTk (i := i + 1) (v := (((ρ 2 k) * (σ t i)) + ((ρ 1 k) * (σ t (i + 1)))) % 97) (by omega) (by omega) (by omega) (by omega) dX1_turns_71 (fun H locs hM4 => ?_)
  exact g_vret CF hr hlocks hM4 (g_pv (up2_2 _ _ _ _ _ _).symm) (by decide) (by decide) dX1_turns_72
