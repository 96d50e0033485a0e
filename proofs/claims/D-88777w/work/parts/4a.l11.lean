/-! RUNS: out, rework, since -/
theorem mRw1_same (ρ : y_S) (q : Int) : mSame [8, 9, 10] ρ (mRw1 ρ q) := ((mSame.rf.uT (t := 8) (by decide)).uT (t := 9) (by decide)).uT (t := 10) (by decide)
theorem mRew_same (ρ : y_S) (q : Int) : mSame [8, 9, 10] ρ (mRew ρ q) := mSame.rew mSame.rf q
theorem lk8_rw {ρ τ : y_S} {G : y_G} {q : Nat} (hq : (q : Int) < ρ 60 41) (he : G.2.1 8 1 = some (G.2.2 (1000 + 4 * q))) : lkK 8 ρ G τ (mRw1 ρ (q : Int)) := ⟨q, hq, he, fun k hk => ⟨fillN_in (f := ρ 8) (g := fun k => ρ 37 (72 * (q : Int) + k)) hk.1 hk.2.1, fillN_in (f := ρ 9) (g := fun k => mKn ρ k (q : Int)) hk.1 hk.2.1⟩⟩
theorem rw_row {ρ τ : y_S} {G : y_G} {q : Nat} (hO : mOk ρ) (hq : (q : Int) < ρ 60 41) (h : lRu ρ G τ q) {f : Int → Int} : mLi (ρ 60 0) (fillN f (τ (1001 + 4 * q)) (ρ 60 0)) := by
  intro i a b
  have hr := hO.rn
  have hn := hO.n.2
  rw [fillN_in a b, (h.2.2.2.1 i a b).1]
  exact hO.rw.2.2.2.2.2.2.2 _ (by omega) (by omega)
theorem rw_lanes {ρ τ : y_S} {G : y_G} {q : Nat} (hO : mOk ρ) (h : lRu ρ G τ q) {f : Int → Int} : ∀ j : Int, 0 ≤ j → j < ρ 60 0 → goR (ρ 60 0) (ρ 1) (ρ 2) (mTf (mRw1 ρ (q : Int)) 1) (fillN f (τ (1001 + 4 * q)) (ρ 60 0)) j = mRew ρ (q : Int) 10 j := by
  have hn := hO.n
  show ∀ j : Int, 0 ≤ j → j < ρ 60 0 → goR (ρ 60 0) (ρ 1) (ρ 2) (mTf (mRw1 ρ (q : Int)) 1) (fillN f (τ (1001 + 4 * q)) (ρ 60 0)) j = goR (ρ 60 0) (ρ 1) (ρ 2) (mTf (mRw1 ρ (q : Int)) 1) (fillN (ρ 10) (fun l => ρ 35 (6 * (q : Int) + l)) (ρ 60 0)) j
  exact goR_cg hn.1 hn.2 (fun _ _ _ => rfl) (fun j a b => by rw [fillN_in a b, fillN_in a b]; exact (h.2.2.2.1 j a b).1)
set_option maxHeartbeats 400000 in
theorem l_runAt (l : Launch) (E : y_E) (G : y_G) (σ : y_S) (sz : Nat) (ρ : y_S) (r : Int) (hL : lgR E ρ G σ) (hrr : R32 r) : gCt l yX1_runAt cX1_runAt 2 (some (.object "LightPlate$Run")) ({ frames := 3, cells := 0, slots := 0, locals := 64 }) E [.ref (G.2.2 60), .int (jI r)] G σ sz (gR (some (va_rf ((if 0 ≤ r ∧ r < ρ 60 41 then some (G.2.2 (1000 + 4 * (r).toNat)) else none)))) G σ) 0 0 := by
  refine g_met (by decide) (Nat.le_of_ble_eq_true rfl) ?_
  intro p e s m below meth c ls CF hr hlocks hnm hK hM0 hA hl
  have hx := CF.1
  have hb := CF.2.1
  have hts := CF.2.2.2.2
  have hl : lv_has ls 2 [(0, .ref (G.2.2 60)), (1, .int (jI r))] := hl
  obtain ⟨hO, hS, ⟨hm1, hm2, hm3, hm4, hm5⟩, hX, hD, hZ⟩ := id hL
  have hn := hO.n
  have hrn := hO.rn
  refine lv_iload_n hx hb dX1_runAt_0 rfl (lv_at hl 1 rfl) ?_
  refine x_if_lt (tgt := 15) hx hb dX1_runAt_1 (by decide) (by omega) (fun b1 => ?_) (fun b1 => ?_)
  · refine lv_null hx hb dX1_runAt_15 ?_
    refine lv_goto (tgt := 30) hx hb dX1_runAt_16 (by decide) ?_
    exact g_aret CF hr (Or.inl ⟨_, rfl⟩) hlocks hM0 (r := none) ⟨by rw [if_neg (by omega)], rfl, rfl⟩ (by decide) (by decide) dX1_runAt_30
  · refine lv_iload_n hx hb dX1_runAt_4 rfl (lv_at hl 1 rfl) ?_
    refine lv_aload_n hx hb dX1_runAt_5 rfl (lv_at hl 0 rfl) ?_
    refine g_getr CF hK hM0 60 (hL.2.1.1 60 _ rfl) 27 27 rfl rfl (by decide) (Or.inl (hts _ q316)) (fun _ h => h) rfl (G.2.2 27) (hL.2.1.2.1 27 27 rfl) dX1_runAt_6 ?_
    refine g_calli (r := σ 27 2) hM0 hA (g_runV (As := []) (rest := [.int (jI r)]) CF hK hM0 (hL.2.1.1 27 _ rfl) rfl (j_size l E _ _ _ 27  (hL.2.1.1 27 _ rfl)) (cwV 0 hts (lw_V q479 q480 q481 q70 q482) rfl rfl rfl (by decide +kernel) ⟨Nat.le_of_ble_eq_true rfl, Nat.le_of_ble_eq_true rfl⟩) rfl hl.1 rfl (Nat.le_of_ble_eq_true rfl) dX1_runAt_9 ⟨Nat.le_of_ble_eq_true rfl, Nat.le_of_ble_eq_true rfl⟩) (fun H locs hM1 => ?_)
    refine x_top (b := ρ 60 41) hD.1.1.1 ?_
    refine x_icmp_lt (tgt := 19) hx hb dX1_runAt_12 (by decide) (by omega) (by omega) (fun b12 => ?_) (fun b12 => ?_)
    · have hRu := hD.1.2 (r).toNat (by omega)
      refine lv_aload_n hx hb dX1_runAt_19 rfl (lv_at hl 0 rfl) ?_
      refine g_getr CF hK hM1 60 (hL.2.1.1 60 _ rfl) 27 27 rfl rfl (by decide) (Or.inl (hts _ q316)) (fun _ h => h) rfl (G.2.2 27) (hL.2.1.2.1 27 27 rfl) dX1_runAt_20 ?_
      refine lv_iload_n hx hb dX1_runAt_23 rfl (lv_at hl 1 rfl) ?_
      refine g_callr (b := G.2.2 (1000 + 4 * (r).toNat)) hM1 hA (g_runV (As := [.int (jI r)]) (rest := []) CF hK hM1 (hL.2.1.1 27 _ rfl) rfl (j_get l E _ _ _ 27 63 (ρ 60 41) (fun i => G.2.2 (1000 + 4 * i.toNat)) r (hL.2.1.1 27 _ rfl) (hL.2.2.2.2.1.1.1) (by first | omega | assumption | (refine ⟨?_, ?_⟩ <;> omega)) (by first | omega | assumption | (refine ⟨?_, ?_⟩ <;> omega))) (cwV 1 hts (lw_V q483 q484 q485 q70 q486) rfl rfl rfl (by decide +kernel) ⟨Nat.le_of_ble_eq_true rfl, Nat.le_of_ble_eq_true rfl⟩) rfl hl.1 rfl (Nat.le_of_ble_eq_true rfl) dX1_runAt_24 ⟨Nat.le_of_ble_eq_true rfl, Nat.le_of_ble_eq_true rfl⟩) (fun H locs hM2 => ?_)
      refine g_cast CF hK hM2 (1000 + 4 * (r).toNat) hRu.1.1 rfl q900 dX1_runAt_27 ?_
      exact g_aret CF hr (Or.inl ⟨_, rfl⟩) hlocks hM2 (r := some (G.2.2 (1000 + 4 * (r).toNat))) ⟨by rw [if_pos (by omega)], rfl, rfl⟩ (by decide) (by decide) dX1_runAt_30
    · refine lv_null hx hb dX1_runAt_15 ?_
      refine lv_goto (tgt := 30) hx hb dX1_runAt_16 (by decide) ?_
      exact g_aret CF hr (Or.inl ⟨_, rfl⟩) hlocks hM1 (r := none) ⟨by rw [if_neg (by omega)], rfl, rfl⟩ (by decide) (by decide) dX1_runAt_30
set_option maxHeartbeats 400000 in
theorem l_out (l : Launch) (E : y_E) (G : y_G) (σ : y_S) (sz : Nat) (ρ : y_S) (r : Int) (i : Int) (hL : lgR E ρ G σ) (hrr : R32 r) (hir : R32 i) : gCt l yX1_out cX1_out 3 (some .int) ({ frames := 4, cells := 0, slots := 0, locals := 85 }) E [.ref (G.2.2 60), .int (jI r), .int (jI i)] G σ sz (lPo E (oOut ρ r i)) 0 0 := by
  refine g_met (by decide) (Nat.le_of_ble_eq_true rfl) ?_
  intro p e s m below meth c ls CF hr hlocks hnm hK hM0 hA hl
  have hx := CF.1
  have hb := CF.2.1
  have hts := CF.2.2.2.2
  have hl : lv_has ls 3 [(0, .ref (G.2.2 60)), (1, .int (jI r)), (2, .int (jI i))] := hl
  obtain ⟨hO, hS, ⟨hm1, hm2, hm3, hm4, hm5⟩, hX, hD, hZ⟩ := id hL
  have hn := hO.n
  refine lv_aload_n hx hb dX1_out_0 rfl (lv_at hl 0 rfl) ?_
  refine lv_iload_n hx hb dX1_out_1 rfl (lv_at hl 1 rfl) ?_
  refine g_callc hM0 hA (g_runV (As := [.int (jI r)]) (rest := []) CF hK hM0 (hL.2.1.1 60 _ rfl) rfl (l_runAt l E _ _ _ ρ r hL (by first | omega | assumption | (refine ⟨?_, ?_⟩ <;> omega))) (cwV 1 hts (lw_V q937 q939 qs25 q60 q940) rfl rfl rfl (by decide +kernel) ⟨Nat.le_of_ble_eq_true rfl, Nat.le_of_ble_eq_true rfl⟩) rfl hl.1 rfl (Nat.le_of_ble_eq_true rfl) dX1_out_2 ⟨Nat.le_of_ble_eq_true rfl, Nat.le_of_ble_eq_true rfl⟩) (fun hRn H locs hM1 => ?_) (fun hRn H locs hM1 => ?_)
  · refine lv_ifnull hx hb dX1_out_5 ?_
    refine lv_aload_n hx hb dX1_out_8 rfl (lv_at hl 0 rfl) ?_
    refine lv_iload_n hx hb dX1_out_9 rfl (lv_at hl 2 rfl) ?_
    refine g_calli (r := (if 0 ≤ i ∧ i < ρ 60 0 then 1 else 0)) hM1 hA (g_runV (As := [.int (jI i)]) (rest := []) CF hK hM1 (hL.2.1.1 60 _ rfl) rfl (l_isLane l E _ _ _ ρ i hL (by first | omega | assumption | (refine ⟨?_, ?_⟩ <;> omega))) (cwV 1 hts (lw_V q397 q399 qs1 q60 q400) rfl rfl rfl (by decide +kernel) ⟨Nat.le_of_ble_eq_true rfl, Nat.le_of_ble_eq_true rfl⟩) rfl hl.1 rfl (Nat.le_of_ble_eq_true rfl) dX1_out_10 ⟨Nat.le_of_ble_eq_true rfl, Nat.le_of_ble_eq_true rfl⟩) (fun H locs hM2 => ?_)
    refine x_bif_ne (tgt := 20) hx hb dX1_out_13 (by decide) (fun b13 => ?_) (fun b13 => ?_)
    · have hRu := hD.1.2 (r).toNat (by omega)
      refine lv_aload_n hx hb dX1_out_20 rfl (lv_at hl 0 rfl) ?_
      refine g_getr CF hK hM2 60 (hL.2.1.1 60 _ rfl) 27 27 rfl rfl (by decide) (Or.inl (hts _ q316)) (fun _ h => h) rfl (G.2.2 27) (hL.2.1.2.1 27 27 rfl) dX1_out_21 ?_
      refine lv_iload_n hx hb dX1_out_24 rfl (lv_at hl 1 rfl) ?_
      refine g_callr (b := G.2.2 (1000 + 4 * (r).toNat)) hM2 hA (g_runV (As := [.int (jI r)]) (rest := []) CF hK hM2 (hL.2.1.1 27 _ rfl) rfl (j_get l E _ _ _ 27 63 (ρ 60 41) (fun i => G.2.2 (1000 + 4 * i.toNat)) r (hL.2.1.1 27 _ rfl) (hL.2.2.2.2.1.1.1) (by first | omega | assumption | (refine ⟨?_, ?_⟩ <;> omega)) (by first | omega | assumption | (refine ⟨?_, ?_⟩ <;> omega))) (cwV 1 hts (lw_V q483 q484 q485 q70 q486) rfl rfl rfl (by decide +kernel) ⟨Nat.le_of_ble_eq_true rfl, Nat.le_of_ble_eq_true rfl⟩) rfl hl.1 rfl (Nat.le_of_ble_eq_true rfl) dX1_out_25 ⟨Nat.le_of_ble_eq_true rfl, Nat.le_of_ble_eq_true rfl⟩) (fun H locs hM3 => ?_)
      refine g_cast CF hK hM3 (1000 + 4 * (r).toNat) hRu.1.1 rfl q900 dX1_out_28 ?_
      refine g_getr CF hK hM3 (1000 + 4 * (r).toNat) hRu.1.1 2 2 rfl rfl (by decide) (gLk.n hK q912) (fun _ h => h) rfl (G.2.2 (1002 + 4 * (r).toNat)) hRu.2.1.2.1 dX1_out_31 ?_
      refine lv_iload_n hx hb dX1_out_34 rfl (lv_at hl 2 rfl) ?_
      refine g_iald CF hK hM3 (1002 + 4 * (r).toNat) hRu.1.2.2.1 (i := i) (by omega) (by omega) (by omega) dX1_out_35 ?_
      exact g_iret CF hr hlocks hM3 (lPo_i (by unfold oOut; show (if _ then _ else _) = _; rw [if_pos ⟨hRn, b13⟩]; have z := (hRu.2.2.2.1 i (by omega) (by omega)).2; rw [Int.toNat_of_nonneg hRn.1] at z; exact z.symm) hL) (by decide) (by decide) dX1_out_36
    · refine lv_iconst (v := jI (-1)) hx hb dX1_out_16 rfl ?_
      refine lv_goto (tgt := 36) hx hb dX1_out_17 (by decide) ?_
      exact g_iret CF hr hlocks hM2 (lPo_i (by unfold oOut; show (if _ then _ else _) = _; rw [if_neg (fun q => by first | exact hRn q.1 | exact b13 q.2)]) hL) (by decide) (by decide) dX1_out_36
  · refine lv_ifnullN (tgt := 16) hx hb dX1_out_5 (by decide) ?_
    refine lv_iconst (v := jI (-1)) hx hb dX1_out_16 rfl ?_
    refine lv_goto (tgt := 36) hx hb dX1_out_17 (by decide) ?_
    exact g_iret CF hr hlocks hM1 (lPo_i (by unfold oOut; show (if _ then _ else _) = _; rw [if_neg (fun q => by first | exact hRn q.1 | exact b13 q.2)]) hL) (by decide) (by decide) dX1_out_36
set_option maxHeartbeats 400000 in
theorem l_rework (l : Launch) (E : y_E) (G : y_G) (σ : y_S) (sz : Nat) (ρ : y_S) (q : Nat) (hL : lgR E ρ G σ) (hq : ((q : Nat) : Int) < ρ 60 41) : gCt l yX1_rework cX1_rework 2 none ({ frames := 7, cells := 0, slots := 0, locals := 157 }) E [.ref (G.2.2 60), .ref (G.2.2 (1000 + 4 * q))] G σ sz (gPV (fun G' τ' => ∃ rf : Nat → Int → Option Nat, (G.1, rf, G.2.2) = G' ∧ lgR E (mRew ρ (q : Int)) G' τ' ∧ ∀ j : Int, 0 ≤ j → j < ρ 60 0 → τ' 9 j = mRew ρ (q : Int) 10 j)) 0 0 := by
  refine g_met (by decide) (Nat.le_of_ble_eq_true rfl) ?_
  intro p e s m below meth c ls CF hr hlocks hnm hK hM0 hA hl
  have hx := CF.1
  have hb := CF.2.1
  have hts := CF.2.2.2.2
  have hl : lv_has ls 2 [(0, .ref (G.2.2 60)), (1, .ref (G.2.2 (1000 + 4 * q)))] := hl
  obtain ⟨hO, hS, ⟨hm1, hm2, hm3, hm4, hm5⟩, hX, hD, hZ⟩ := id hL
  have hn := hO.n
  have hRu := hD.1.2 q hq
  have hrn := hO.rn
  refine lv_aload_n hx hb dX1_rework_0 rfl (lv_at hl 1 rfl) ?_
  refine g_getr CF hK hM0 (1000 + 4 * q) hRu.1.1 1 1 rfl rfl (by decide) (gLk.n hK q910) (fun _ h => h) rfl (G.2.2 (1001 + 4 * q)) hRu.2.1.1 dX1_rework_1 ?_
  refine lv_iconst (v := jI 0) hx hb dX1_rework_4 rfl ?_
  refine lv_aload_n hx hb dX1_rework_5 rfl (lv_at hl 0 rfl) ?_
  refine g_getr CF hK hM0 60 (hL.2.1.1 60 _ rfl) 9 9 rfl rfl (by decide) (Or.inl (hts _ q295)) (fun _ h => h) rfl (G.2.2 9) (hL.2.1.2.1 9 9 rfl) dX1_rework_6 ?_
  refine lv_iconst (v := jI 0) hx hb dX1_rework_9 rfl ?_
  refine lv_aload_n hx hb dX1_rework_10 rfl (lv_at hl 0 rfl) ?_
  refine g_geti CF hK hM0 60 (hL.2.1.1 60 _ rfl) 2 2 rfl rfl (by decide) (Or.inl (hts _ q284)) (fun _ h => h) rfl dX1_rework_11 ?_
  refine x_top (b := ρ 60 0) hm1 ?_
  refine g_copyi CF hK hM0 (1001 + 4 * q) 9 (by decide) hRu.1.2.1 (hL.2.1.1 9 _ rfl) (n := ρ 60 0) (by omega) (by omega) (by omega) (by omega) q547 hl.1 (Nat.le_of_ble_eq_true rfl) (Nat.le_of_ble_eq_true rfl) dX1_rework_14 (fun H locs hM1 => ?_)
  refine lv_aload_n hx hb dX1_rework_17 rfl (lv_at hl 0 rfl) ?_
  refine g_getr CF hK hM1 60 (hL.2.1.1 60 _ rfl) 8 8 rfl rfl (by decide) (Or.inl (hts _ q294)) (fun _ h => h) rfl (G.2.2 8) (hL.2.1.2.1 8 8 rfl) dX1_rework_18 ?_
  refine lv_aload_n hx hb dX1_rework_21 rfl (lv_at hl 1 rfl) ?_
  refine g_putq CF hK hM1 8 (by decide) (hL.2.1.1 8 _ rfl) 1 1 rfl rfl (by decide) (gLk.n hK q176) (fun _ h => h) (Or.inl rfl) rfl (r := some (G.2.2 (1000 + 4 * q))) rfl rfl dX1_rework_22 (fun H locs hM2 => ?_)
  have hL3 : lgR E ρ (G.1, up2 G.2.1 8 1 (some (G.2.2 (1000 + 4 * q))), G.2.2) (upT σ 9 (fillN (σ 9) (σ (1001 + 4 * q)) (ρ 60 0))) := (hL.uT (by unfold lgT; omega) (by decide)).ref (Or.inr ⟨rfl, rfl⟩)
  refine lv_aload_n hx hb dX1_rework_25 rfl (lv_at hl 0 rfl) ?_
  refine g_getr CF hK hM2 60 (hL3.2.1.1 60 _ rfl) 8 8 rfl rfl (by decide) (Or.inl (hts _ q294)) (fun _ h => h) rfl (G.2.2 8) (hL3.2.1.2.1 8 8 rfl) dX1_rework_26 ?_
  refine lv_aload_n hx hb dX1_rework_29 rfl (lv_at hl 0 rfl) ?_
  refine g_getr CF hK hM2 60 (hL3.2.1.1 60 _ rfl) 9 9 rfl rfl (by decide) (Or.inl (hts _ q295)) (fun _ h => h) rfl (G.2.2 9) (hL3.2.1.2.1 9 9 rfl) dX1_rework_30 ?_
  refine g_callv hM2 hA (g_runU (As := [.ref (G.2.2 9)]) (rest := []) CF hK hM2 (hL3.2.1.1 8 _ rfl) rfl (l_go8 l E _ _ _ ρ (mRw1 ρ (q : Int)) 9  hL3 (mRw1_same ρ (q : Int)) (mBy_rw0 hO.rw (by omega) (by omega)) (lk8_rw hq rfl) (hL3.2.1.1 9 _ rfl) (by decide) (by unfold lgT; omega) (by decide) (by decide) (by rw [upT_s]; exact rw_row hO hq hRu)) (g_cu 1 hts q949 q950 (va_Decl.abs (hK.2.2.1 _ q929 rfl)) (hts _ q951) q519 q62 q525 rfl rfl (by decide +kernel) ⟨Nat.le_of_ble_eq_true rfl, Nat.le_of_ble_eq_true rfl⟩) rfl hl.1 rfl (Nat.le_of_ble_eq_true rfl) dX1_rework_33 ⟨Nat.le_of_ble_eq_true rfl, Nat.le_of_ble_eq_true rfl⟩) (fun H locs hM3 => ?_)
  exact g_vret CF hr hlocks hM3 ⟨rfl, _, rfl, (hL3.uT (by unfold lgT; omega) (by decide)).rho (ok_rew hO _) (lgE.s3 (mRew_same ρ _)), fun j a b => (by rw [upT_s, upT_s]; exact rw_lanes hO hRu j a b)⟩ (by decide) (by decide) dX1_rework_36
set_option maxHeartbeats 400000 in
theorem l_reworked (l : Launch) (E : y_E) (G : y_G) (σ : y_S) (sz : Nat) (ρ : y_S) (r : Int) (i : Int) (hL : lgR E ρ G σ) (hrr : R32 r) (hir : R32 i) : gCt l yX1_reworked cX1_reworked 3 (some .int) ({ frames := 8, cells := 0, slots := 0, locals := 178 }) E [.ref (G.2.2 60), .int (jI r), .int (jI i)] G σ sz (lPo E (oReworked ρ r i)) 0 0 := by
  refine g_met (by decide) (Nat.le_of_ble_eq_true rfl) ?_
  intro p e s m below meth c ls CF hr hlocks hnm hK hM0 hA hl
  have hx := CF.1
  have hb := CF.2.1
  have hts := CF.2.2.2.2
  have hl : lv_has ls 3 [(0, .ref (G.2.2 60)), (1, .int (jI r)), (2, .int (jI i))] := hl
  obtain ⟨hO, hS, ⟨hm1, hm2, hm3, hm4, hm5⟩, hX, hD, hZ⟩ := id hL
  have hn := hO.n
  refine lv_aload_n hx hb dX1_reworked_0 rfl (lv_at hl 0 rfl) ?_
  refine lv_iload_n hx hb dX1_reworked_1 rfl (lv_at hl 1 rfl) ?_
  refine g_callc hM0 hA (g_runV (As := [.int (jI r)]) (rest := []) CF hK hM0 (hL.2.1.1 60 _ rfl) rfl (l_runAt l E _ _ _ ρ r hL (by first | omega | assumption | (refine ⟨?_, ?_⟩ <;> omega))) (cwV 1 hts (lw_V q937 q939 qs25 q60 q940) rfl rfl rfl (by decide +kernel) ⟨Nat.le_of_ble_eq_true rfl, Nat.le_of_ble_eq_true rfl⟩) rfl hl.1 rfl (Nat.le_of_ble_eq_true rfl) dX1_reworked_2 ⟨Nat.le_of_ble_eq_true rfl, Nat.le_of_ble_eq_true rfl⟩) (fun hRn H locs hM1 => ?_) (fun hRn H locs hM1 => ?_)
  · refine lv_ifnull hx hb dX1_reworked_5 ?_
    refine lv_aload_n hx hb dX1_reworked_8 rfl (lv_at hl 0 rfl) ?_
    refine lv_iload_n hx hb dX1_reworked_9 rfl (lv_at hl 2 rfl) ?_
    refine g_calli (r := (if 0 ≤ i ∧ i < ρ 60 0 then 1 else 0)) hM1 hA (g_runV (As := [.int (jI i)]) (rest := []) CF hK hM1 (hL.2.1.1 60 _ rfl) rfl (l_isLane l E _ _ _ ρ i hL (by first | omega | assumption | (refine ⟨?_, ?_⟩ <;> omega))) (cwV 1 hts (lw_V q397 q399 qs1 q60 q400) rfl rfl rfl (by decide +kernel) ⟨Nat.le_of_ble_eq_true rfl, Nat.le_of_ble_eq_true rfl⟩) rfl hl.1 rfl (Nat.le_of_ble_eq_true rfl) dX1_reworked_10 ⟨Nat.le_of_ble_eq_true rfl, Nat.le_of_ble_eq_true rfl⟩) (fun H locs hM2 => ?_)
    refine x_bif_ne (tgt := 18) hx hb dX1_reworked_13 (by decide) (fun b13 => ?_) (fun b13 => ?_)
    · have hRu := hD.1.2 (r).toNat (by omega)
      refine lv_aload_n hx hb dX1_reworked_18 rfl (lv_at hl 0 rfl) ?_
      refine lv_aload_n hx hb dX1_reworked_19 rfl (lv_at hl 0 rfl) ?_
      refine g_getr CF hK hM2 60 (hL.2.1.1 60 _ rfl) 27 27 rfl rfl (by decide) (Or.inl (hts _ q316)) (fun _ h => h) rfl (G.2.2 27) (hL.2.1.2.1 27 27 rfl) dX1_reworked_20 ?_
      refine lv_iload_n hx hb dX1_reworked_23 rfl (lv_at hl 1 rfl) ?_
      refine g_callr (b := G.2.2 (1000 + 4 * (r).toNat)) hM2 hA (g_runV (As := [.int (jI r)]) (rest := [.ref (G.2.2 60)]) CF hK hM2 (hL.2.1.1 27 _ rfl) rfl (j_get l E _ _ _ 27 63 (ρ 60 41) (fun i => G.2.2 (1000 + 4 * i.toNat)) r (hL.2.1.1 27 _ rfl) (hL.2.2.2.2.1.1.1) (by first | omega | assumption | (refine ⟨?_, ?_⟩ <;> omega)) (by first | omega | assumption | (refine ⟨?_, ?_⟩ <;> omega))) (cwV 1 hts (lw_V q483 q484 q485 q70 q486) rfl rfl rfl (by decide +kernel) ⟨Nat.le_of_ble_eq_true rfl, Nat.le_of_ble_eq_true rfl⟩) rfl hl.1 rfl (Nat.le_of_ble_eq_true rfl) dX1_reworked_24 ⟨Nat.le_of_ble_eq_true rfl, Nat.le_of_ble_eq_true rfl⟩) (fun H locs hM3 => ?_)
      refine g_cast CF hK hM3 (1000 + 4 * (r).toNat) hRu.1.1 rfl q900 dX1_reworked_27 ?_
      refine g_callPV hM3 hA (g_runV (As := [.ref (G.2.2 (1000 + 4 * (r).toNat))]) (rest := []) CF hK hM3 (hL.2.1.1 60 _ rfl) rfl (l_rework l E _ _ _ ρ ((r).toNat)  hL (by first | omega | assumption | (refine ⟨?_, ?_⟩ <;> omega))) (cwV 1 hts (lw_V q945 q947 qs26 q60 q948) rfl rfl rfl (by decide +kernel) ⟨Nat.le_of_ble_eq_true rfl, Nat.le_of_ble_eq_true rfl⟩) rfl hl.1 rfl (Nat.le_of_ble_eq_true rfl) dX1_reworked_30 ⟨Nat.le_of_ble_eq_true rfl, Nat.le_of_ble_eq_true rfl⟩) (fun G2 τ5 H locs hp hM4 => ?_)
      obtain ⟨rf5, rfl, hL5, hla5⟩ := hp
      rw [Int.toNat_of_nonneg hRn.1] at hL5 hla5
      refine lv_aload_n hx hb dX1_reworked_33 rfl (lv_at hl 0 rfl) ?_
      refine g_getr CF hK hM4 60 (hL5.2.1.1 60 _ rfl) 9 9 rfl rfl (by decide) (Or.inl (hts _ q295)) (fun _ h => h) rfl (G.2.2 9) (hL5.2.1.2.1 9 9 rfl) dX1_reworked_34 ?_
      refine lv_iload_n hx hb dX1_reworked_37 rfl (lv_at hl 2 rfl) ?_
      refine g_iald CF hK hM4 9 (hL5.2.1.1 9 _ rfl) (i := i) (by omega) (by omega) (by omega) dX1_reworked_38 ?_
      exact g_iret CF hr hlocks hM4 (lPo_i (by unfold oReworked; rw [if_neg (fun q => q ⟨hRn, b13⟩)]; exact (hla5 i (by omega) (by omega)).symm) (by unfold oReworked; rw [if_neg (fun q => q ⟨hRn, b13⟩)]; exact hL5)) (by decide) (by decide) dX1_reworked_39
    · refine lv_iconst (v := jI (-1)) hx hb dX1_reworked_16 rfl ?_
      exact g_iret CF hr hlocks hM2 (lPo_i (by unfold oReworked; rw [if_pos (fun q => by first | exact hRn q.1 | exact b13 q.2)]) (by unfold oReworked; rw [if_pos (fun q => by first | exact hRn q.1 | exact b13 q.2)]; exact hL)) (by decide) (by decide) dX1_reworked_17
  · refine lv_ifnullN (tgt := 16) hx hb dX1_reworked_5 (by decide) ?_
    refine lv_iconst (v := jI (-1)) hx hb dX1_reworked_16 rfl ?_
    exact g_iret CF hr hlocks hM1 (lPo_i (by unfold oReworked; rw [if_pos (fun q => by first | exact hRn q.1 | exact b13 q.2)]) (by unfold oReworked; rw [if_pos (fun q => by first | exact hRn q.1 | exact b13 q.2)]; exact hL)) (by decide) (by decide) dX1_reworked_17
set_option maxHeartbeats 400000 in
theorem l_since (l : Launch) (E : y_E) (G : y_G) (σ : y_S) (sz : Nat) (ρ : y_S) (hL : lgR E ρ G σ) : gCt l yX1_since cX1_since 3 (some .int) ({ frames := 8, cells := 0, slots := 0, locals := 178 }) E [.ref (G.2.2 60)] G σ sz (lPo E (oSince ρ)) 0 0 := by
  refine g_met (by decide) (Nat.le_of_ble_eq_true rfl) ?_
  intro p e s m below meth c ls CF hr hlocks hnm hK hM0 hA hl
  have hx := CF.1
  have hb := CF.2.1
  have hts := CF.2.2.2.2
  have hl : lv_has ls 3 [(0, .ref (G.2.2 60))] := hl
  obtain ⟨hO, hS, ⟨hm1, hm2, hm3, hm4, hm5⟩, hX, hD, hZ⟩ := id hL
  have hn := hO.n
  refine lv_iconst (v := jI 0) hx hb dX1_since_0 rfl ?_
  refine lv_istore_n (lv' := [(1, .int (jI 0)), (0, .ref (G.2.2 60))]) hx hb dX1_since_1 rfl hl (by decide) rfl (fun ls hl => ?_)
  have c2 : ∀ (n2 : Nat) (q : Nat) (f : Nat) (κ : y_S) (rf : Nat → Int → Option Nat) (τ : y_S) (H : Heap) (locs : List Loc) (ls : Array Slot), (lgR E κ (G.1, rf, G.2.2) τ) → (40 ≤ f + q) → ((q : Int) ≤ κ 60 41) → (sinF f (q : Int) κ = sinF 40 0 ρ) → (40 - q < n2) → gM E (gA G sz) (G.1, rf, G.2.2) τ s.heap H locs → lv_has ls 3 [(0, .ref (G.2.2 60)), (1, .int (jI ((q : Int))))] → W p l e ({ frames := 8, cells := 0, slots := 0, locals := 178 } : Room) s m ([.ref (G.2.2 60)] : List Value).toArray below meth c H locs 0 0 (MQ below (gQ E G sz (lPo E (oSince ρ))) ([.ref (G.2.2 60)] : List Value).toArray s 0 0 (gA G sz)) (F0 m 2 ls []) := by
    intro n2
    induction n2 with
    | zero => intro q f κ rf τ H locs ls hLk hf hq hg hmu; exact absurd hmu (Nat.not_lt_zero _)
    | succ n2 ih2 =>
      intro q f κ rf τ H locs ls hLk hf hq hg hmu2 hM1 hl
      obtain ⟨hO2, hS2, hMM2, hX2, hD2, hZ2⟩ := id hLk
      have hn2 := hO2.n
      have hrn := hO2.rn
      refine lv_iload_n hx hb dX1_since_2 rfl (lv_at hl 1 rfl) ?_
      refine lv_aload_n hx hb dX1_since_3 rfl (lv_at hl 0 rfl) ?_
      refine g_getr CF hK hM1 60 (hLk.2.1.1 60 _ rfl) 27 27 rfl rfl (by decide) (Or.inl (hts _ q316)) (fun _ h => h) rfl (G.2.2 27) (hLk.2.1.2.1 27 27 rfl) dX1_since_4 ?_
      refine g_calli (r := τ 27 2) hM1 hA (g_runV (As := []) (rest := [.int (jI ((q : Int)))]) CF hK hM1 (hLk.2.1.1 27 _ rfl) rfl (j_size l E _ _ _ 27  (hLk.2.1.1 27 _ rfl)) (cwV 0 hts (lw_V q479 q480 q481 q70 q482) rfl rfl rfl (by decide +kernel) ⟨Nat.le_of_ble_eq_true rfl, Nat.le_of_ble_eq_true rfl⟩) rfl hl.1 rfl (Nat.le_of_ble_eq_true rfl) dX1_since_7 ⟨Nat.le_of_ble_eq_true rfl, Nat.le_of_ble_eq_true rfl⟩) (fun H locs hM2 => ?_)
      refine x_top (b := κ 60 41) hD2.1.1.1 ?_
      refine x_icmp_ge (tgt := 77) hx hb dX1_since_10 (by decide) (by omega) (by omega) (fun b10 => ?_) (fun b10 => ?_)
      · refine lv_bipush (v := jI (-5)) hx hb dX1_since_77 (by decide) ?_
        exact g_iret CF hr hlocks hM2 (lPo_i (by unfold oSince; rw [← hg, sinF_e (by omega)]) (by unfold oSince; rw [← hg, sinF_e (by omega)]; exact hLk)) (by decide) (by decide) dX1_since_79
      · have hRu := hD2.1.2 q (by omega)
        obtain ⟨f', rfl⟩ : ∃ z : Nat, f = z + 1 := ⟨f - 1, by omega⟩
        refine lv_aload_n hx hb dX1_since_13 rfl (lv_at hl 0 rfl) ?_
        refine lv_aload_n hx hb dX1_since_14 rfl (lv_at hl 0 rfl) ?_
        refine g_getr CF hK hM2 60 (hLk.2.1.1 60 _ rfl) 27 27 rfl rfl (by decide) (Or.inl (hts _ q316)) (fun _ h => h) rfl (G.2.2 27) (hLk.2.1.2.1 27 27 rfl) dX1_since_15 ?_
        refine lv_iload_n hx hb dX1_since_18 rfl (lv_at hl 1 rfl) ?_
        refine g_callr (b := G.2.2 (1000 + 4 * q)) hM2 hA (g_runV (As := [.int (jI ((q : Int)))]) (rest := [.ref (G.2.2 60)]) CF hK hM2 (hLk.2.1.1 27 _ rfl) rfl (j_get l E _ _ _ 27 63 (κ 60 41) (fun i => G.2.2 (1000 + 4 * i.toNat)) ((q : Int)) (hLk.2.1.1 27 _ rfl) (hLk.2.2.2.2.1.1.1) (by first | omega | assumption | (refine ⟨?_, ?_⟩ <;> omega)) (by first | omega | assumption | (refine ⟨?_, ?_⟩ <;> omega))) (cwV 1 hts (lw_V q483 q484 q485 q70 q486) rfl rfl rfl (by decide +kernel) ⟨Nat.le_of_ble_eq_true rfl, Nat.le_of_ble_eq_true rfl⟩) rfl hl.1 rfl (Nat.le_of_ble_eq_true rfl) dX1_since_19 ⟨Nat.le_of_ble_eq_true rfl, Nat.le_of_ble_eq_true rfl⟩) (fun H locs hM3 => ?_)
        refine g_cast CF hK hM3 (1000 + 4 * q) hRu.1.1 rfl q900 dX1_since_22 ?_
        refine g_callPV hM3 hA (g_runV (As := [.ref (G.2.2 (1000 + 4 * q))]) (rest := []) CF hK hM3 (hLk.2.1.1 60 _ rfl) rfl (l_rework l E _ _ _ κ q  hLk (by first | omega | assumption | (refine ⟨?_, ?_⟩ <;> omega))) (cwV 1 hts (lw_V q945 q947 qs26 q60 q948) rfl rfl rfl (by decide +kernel) ⟨Nat.le_of_ble_eq_true rfl, Nat.le_of_ble_eq_true rfl⟩) rfl hl.1 rfl (Nat.le_of_ble_eq_true rfl) dX1_since_25 ⟨Nat.le_of_ble_eq_true rfl, Nat.le_of_ble_eq_true rfl⟩) (fun G2 τ5 H locs hp hM4 => ?_)
        obtain ⟨rf5, rfl, hL5, hla5⟩ := hp
        obtain ⟨hO3, hS3, hM3, hX3, hD3, hZ3⟩ := id hL5
        have e60 : mRew κ (q : Int) 60 = κ 60 := mRew_same κ _ 60 (by decide)
        have hRu3 := hD3.1.2 q (by rw [e60]; omega)
        refine lv_iconst (v := jI 0) hx hb dX1_since_28 rfl ?_
        refine lv_istore_n (lv' := [(2, .int (jI 0)), (0, .ref (G.2.2 60)), (1, .int (jI ((q : Int))))]) hx hb dX1_since_29 rfl hl (by decide) rfl (fun ls hl => ?_)
        have c30 : ∀ (n30 : Nat) (i : Int) (H : Heap) (locs : List Loc) (ls : Array Slot), (0 ≤ i) → (i ≤ κ 60 0) → (∀ l2 : Int, 0 ≤ l2 → l2 < i → mRew κ (q : Int) 10 l2 = mRew κ (q : Int) 36 (6 * (q : Int) + l2)) → ((κ 60 0 - i).toNat < n30) → gM E (gA G sz) (G.1, rf5, G.2.2) τ5 s.heap H locs → lv_has ls 3 [(0, .ref (G.2.2 60)), (1, .int (jI ((q : Int)))), (2, .int (jI i))] → W p l e ({ frames := 8, cells := 0, slots := 0, locals := 178 } : Room) s m ([.ref (G.2.2 60)] : List Value).toArray below meth c H locs 0 0 (MQ below (gQ E G sz (lPo E (oSince ρ))) ([.ref (G.2.2 60)] : List Value).toArray s 0 0 (gA G sz)) (F0 m 30 ls []) := by
          intro n30
          induction n30 with
          | zero => intro i H locs ls hi0 hi1 hev hmu; exact absurd hmu (Nat.not_lt_zero _)
          | succ n30 ih30 =>
            intro i H locs ls hi0 hi1 hev hmu30 hM6 hl
            refine lv_iload_n hx hb dX1_since_30 rfl (lv_at hl 2 rfl) ?_
            refine lv_aload_n hx hb dX1_since_31 rfl (lv_at hl 0 rfl) ?_
            refine g_geti CF hK hM6 60 (hL5.2.1.1 60 _ rfl) 2 2 rfl rfl (by decide) (Or.inl (hts _ q284)) (fun _ h => h) rfl dX1_since_32 ?_
            refine x_top (b := κ 60 0) (hM3.1.trans (by rw [e60])) ?_
            refine x_icmp_ge (tgt := 71) hx hb dX1_since_35 (by decide) (by omega) (by omega) (fun b35 => ?_) (fun b35 => ?_)
            · refine x_iinc (lv' := [(1, .int (jI (((q : Int)) + 1))), (0, .ref (G.2.2 60)), (2, .int (jI i))]) hx hb dX1_since_71 hl (k := 1) rfl (by decide) rfl (fun ls hl => ?_)
              refine lv_goto (tgt := 2) hx hb dX1_since_74 (by decide) ?_
              exact ih2  ((q + 1)) f' ((mRew κ (q : Int))) rf5 τ5 _ _ _ hL5 (by first | omega | assumption | rfl) (by rw [e60]; omega) (by rw [← hg, sinF_s (by omega) (fun l2 a b => (by rw [e60] at b; exact hev l2 a (by omega)))]; rfl) (by omega) hM6 (lv_sub hl [1, 0] rfl)
            · have heq : mRew κ (q : Int) 10 i = mRew κ (q : Int) 36 (6 * (q : Int) + i) → mRew κ (q : Int) 10 i = mRew κ (q : Int) 36 (6 * (q : Int) + i) := id
              refine lv_aload_n hx hb dX1_since_38 rfl (lv_at hl 0 rfl) ?_
              refine g_getr CF hK hM6 60 (hL5.2.1.1 60 _ rfl) 9 9 rfl rfl (by decide) (Or.inl (hts _ q295)) (fun _ h => h) rfl (G.2.2 9) (hL5.2.1.2.1 9 9 rfl) dX1_since_39 ?_
              refine lv_iload_n hx hb dX1_since_42 rfl (lv_at hl 2 rfl) ?_
              refine g_iald CF hK hM6 9 (hL5.2.1.1 9 _ rfl) (i := i) (by omega) (by omega) (by omega) dX1_since_43 ?_
              refine x_top (b := mRew κ (q : Int) 10 i) (hla5 i (by omega) (by omega)) ?_
              refine lv_aload_n hx hb dX1_since_44 rfl (lv_at hl 0 rfl) ?_
              refine g_getr CF hK hM6 60 (hL5.2.1.1 60 _ rfl) 27 27 rfl rfl (by decide) (Or.inl (hts _ q316)) (fun _ h => h) rfl (G.2.2 27) (hL5.2.1.2.1 27 27 rfl) dX1_since_45 ?_
              refine lv_iload_n hx hb dX1_since_48 rfl (lv_at hl 1 rfl) ?_
              refine g_callr (b := G.2.2 (1000 + 4 * q)) hM6 hA (g_runV (As := [.int (jI ((q : Int)))]) (rest := [.int (jI (mRew κ (q : Int) 10 i))]) CF hK hM6 (hL5.2.1.1 27 _ rfl) rfl (j_get l E _ _ _ 27 63 (mRew κ (q : Int) 60 41) (fun i => G.2.2 (1000 + 4 * i.toNat)) ((q : Int)) (hL5.2.1.1 27 _ rfl) (hL5.2.2.2.2.1.1.1) (by first | omega | assumption | (refine ⟨?_, ?_⟩ <;> omega)) (by first | omega | assumption | (refine ⟨?_, ?_⟩ <;> omega))) (cwV 1 hts (lw_V q483 q484 q485 q70 q486) rfl rfl rfl (by decide +kernel) ⟨Nat.le_of_ble_eq_true rfl, Nat.le_of_ble_eq_true rfl⟩) rfl hl.1 rfl (Nat.le_of_ble_eq_true rfl) dX1_since_49 ⟨Nat.le_of_ble_eq_true rfl, Nat.le_of_ble_eq_true rfl⟩) (fun H locs hM7 => ?_)
              refine g_cast CF hK hM7 (1000 + 4 * q) hRu3.1.1 rfl q900 dX1_since_52 ?_
              refine g_getr CF hK hM7 (1000 + 4 * q) hRu3.1.1 2 2 rfl rfl (by decide) (gLk.n hK q912) (fun _ h => h) rfl (G.2.2 (1002 + 4 * q)) hRu3.2.1.2.1 dX1_since_55 ?_
              refine lv_iload_n hx hb dX1_since_58 rfl (lv_at hl 2 rfl) ?_
              refine g_iald CF hK hM7 (1002 + 4 * q) hRu3.1.2.2.1 (i := i) (by omega) (by omega) (by omega) dX1_since_59 ?_
              refine x_top (b := mRew κ (q : Int) 36 (6 * (q : Int) + i)) (hRu3.2.2.2.1 i (by omega) (by rw [e60]; omega)).2 ?_
              have fa8 := (show R32 (mRew κ (q : Int) 36 (6 * (q : Int) + i)) from (by rw [← (hRu3.2.2.2.1 i (by omega) (by rw [e60]; omega)).2]; exact hM7.r _ _))
              have fa9 := (mRew_r hO2.rw (run := (q : Int)) (by omega) (by omega) i (by omega) (by omega))
              refine x_icmp_eq (tgt := 65) hx hb dX1_since_60 (by decide) (by have f0 := (mRew_r hO2.rw (run := (q : Int)) (by omega) (by omega) i (by omega) (by omega)); omega) (by have f0 := (show R32 (mRew κ (q : Int) 36 (6 * (q : Int) + i)) from (by rw [← (hRu3.2.2.2.1 i (by omega) (by rw [e60]; omega)).2]; exact hM7.r _ _)); omega) (fun b60 => ?_) (fun b60 => ?_)
              · refine x_iinc (lv' := [(2, .int (jI (i + 1))), (0, .ref (G.2.2 60)), (1, .int (jI ((q : Int))))]) hx hb dX1_since_65 hl (k := 2) rfl (by decide) rfl (fun ls hl => ?_)
                refine lv_goto (tgt := 30) hx hb dX1_since_68 (by decide) ?_
                exact ih30  (i + 1) _ _ _ (by first | omega | assumption | rfl) (by first | omega | assumption | rfl) (fun l2 a b => Or.elim (Int.lt_or_le l2 i) (fun z => hev l2 a z) (fun z => (by have e : l2 = i := (by omega); subst e; exact heq b60))) (by omega) hM7 (lv_sub hl [1, 2, 0] rfl)
              · refine lv_iload_n hx hb dX1_since_63 rfl (lv_at hl 1 rfl) ?_
                exact g_iret CF hr hlocks hM7 (lPo_i (by unfold oSince; rw [← hg, sinF_x (by omega) (fun z => b60 (z i (by omega) (by rw [e60]; omega)))]) (by unfold oSince; rw [← hg, sinF_x (by omega) (fun z => b60 (z i (by omega) (by rw [e60]; omega)))]; exact hL5)) (by decide) (by decide) dX1_since_64
        exact c30 _ 0 _ _ _ (by first | omega | assumption | rfl) (by first | omega | assumption | rfl) (fun l2 a b => absurd a (by omega)) (Nat.lt_succ_self _) hM4 (lv_sub hl [1, 2, 0] rfl)
  exact c2 _ 0 40 ρ G.2.1 σ _ _ _ hL (by first | omega | assumption | rfl) (hO.rn.1) rfl (Nat.lt_succ_self _) hM0 (lv_sub hl [1, 0] rfl)
