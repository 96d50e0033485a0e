set_option maxHeartbeats 400000 in
theorem l_rbr (l : Launch) (E : y_E) (G : y_G) (σ : y_S) (sz : Nat) (ρ : y_S) (f : Nat) (A : Nat → Prop) (N : Nat) (a : Int) (lk : Int) (nm : rM) (R : rR) (hP : lgP E ρ G σ A N a lk nm) (hR : rBr ρ (rSt ρ f) a lk nm = some R) (hI : CtSs l E ρ f) : gCtB l yX7_inside cX7_inside 2 (some (.object "java/util/ArrayList")) ({ frames := 4 * f + 14, cells := 3 * (rEd R - a).toNat, slots := 620 * (rEd R - a).toNat, locals := 350 + 100 * f }) E [.ref (G.2.2 26)] G σ sz (rPl 1 E ρ G σ A N R) (rTh G σ R) (3 * (rEd R - a).toNat) (620 * (rEd R - a).toNat) := by
  refine g_metB (by decide) (Nat.le_of_ble_eq_true rfl) ?_
  intro p e s m below meth c ls CF het hr hlocks hnm hK hM0 hA hl
  have hx := CF.1
  have hb := CF.2.1
  have hts := CF.2.2.2.2
  have hl : lv_has ls 2 [(0, .ref (G.2.2 26))] := hl
  have hL := hP.1
  have ha := hP.2.1.1
  have hab := hP.2.2.2.2.2.1
  have hN0 := hP.2.2.1.1
  have hT := hP.1.1.tp
  have hT2 : ρ 60 30 ≤ 100 := (by omega)
  have hlo := hP.2.2.2.2.2.2
  rcases rBr_c hR with ⟨c1, e1⟩ | ⟨c1, R1, hq, ⟨p1, rfl, e1⟩ | ⟨a1, lk1, nm1, L1, rfl, ⟨c2, e1⟩ | ⟨c2, e1⟩⟩⟩
  · have hE : rEd R = a + 1 := (by rw [e1]; rfl)
    refine lv_aload_n hx hb dX7_inside_0 rfl (lv_at hl 0 rfl) ?_
    refine lv_bipush (v := jI 40) hx hb dX7_inside_1 (by decide) ?_
    refine W.widen (k := 3 * (rEd R - a).toNat - (1)) (n := 620 * (rEd R - a).toNat - (8)) (show 0 ≤ 3 * (rEd R - a).toNat - (1) by omega) (show 0 ≤ 620 * (rEd R - a).toNat - (8) by omega) ?_
    exact g_upT (g_passE (by omega) (by omega) het hlocks hM0 hA (g_runVT (As := [.int (jI 40)]) (rest := []) CF (t_rsign l E G σ _ ρ 40 hP.1 (by have q := hP.2.1.1; have q2 := hP.2.2.2.2.2.1; omega) (by decide) (by rw [hP.2.1.1]; exact c1)) (cwV 1 hts (lw_V q706 q708 qs19 q67 q709) rfl rfl rfl (by decide +kernel) ⟨(show 4 + 1 ≤ 4 * f + 14 by omega), (show 8 + (2 + 11) + (94) ≤ 350 + 100 * f by omega)⟩) ⟨gP_blind, g_recv hK hM0 (hL.2.1.1 26 _ rfl) rfl, (g_pre hK hM0).2⟩ rfl rfl hl.1 rfl (lv_room (Nat.le_of_ble_eq_true rfl)) dX7_inside_3 ⟨(show 3 * (rEd R - a).toNat - (1) + (1) ≤ 3 * (rEd R - a).toNat by omega), (show 620 * (rEd R - a).toNat - (8) + (8) ≤ 620 * (rEd R - a).toNat by omega)⟩) (fun x G' τ' q => (by rw [hP.2.1.1] at q; rw [e1]; exact rTh_w rdK.rf x G' τ' q)))
  · have hE : rEd R = p1 + 1 := (by rw [e1]; rfl)
    have hE1 : rEd (Sum.inl p1 : rR) = p1 + 1 := rfl
    have c1l := nxR_lt (ρ := ρ) (a := a) (by omega)
    have hq1 : a + 1 ≤ p1 ∧ p1 ≤ ρ 60 30 := rSs_pos (rSt_pos hT2 f) 101 (a + 1) lk nm [] _ (by omega) (by omega) hlo hq
    refine lv_aload_n hx hb dX7_inside_0 rfl (lv_at hl 0 rfl) ?_
    refine lv_bipush (v := jI 40) hx hb dX7_inside_1 (by decide) ?_
    refine g_callv hM0 hA (g_runV (As := [.int (jI 40)]) (rest := []) CF hK hM0 (hL.2.1.1 26 _ rfl) rfl (l_rsign l E _ _ _ ρ 40 hL (by have q := hP.2.1.1; have q2 := hP.2.2.2.2.2.1; omega) (by first | omega | assumption | (refine ⟨?_, ?_⟩ <;> omega)) (by rw [ha]; exact c1)) (cwV 1 hts (lw_V q706 q708 qs19 q67 q709) rfl rfl rfl (by decide +kernel) ⟨(show 1 + 1 ≤ 4 * f + 14 by omega), (show 8 + (2 + 11) + (20) ≤ 350 + 100 * f by omega)⟩) rfl hl.1 rfl (Nat.le_of_ble_eq_true rfl) dX7_inside_3 ⟨(show 0 + 0 ≤ 3 * (rEd R - a).toNat by omega), (show 0 + 0 ≤ 620 * (rEd R - a).toNat by omega)⟩) (fun H locs hM1 => ?_)
    obtain ⟨G1, τ1, hM2, hP1, hk1⟩ : ∃ (g : y_G) (τ : y_S), gM E (gA G sz) g τ s.heap H locs ∧ lgP E ρ g τ A N (a + 1) lk nm ∧ rdN N G σ g τ := ⟨_, _, hM1, (hP.adv (by rw [ha]) c1l).1, (hP.adv (by rw [ha]) c1l).2⟩
    have hl := lv_cast hl (b := [(0, .ref (G1.2.2 26))]) (by rw [(hk1 26 (by omega) (by omega)).2.1])
    refine lv_aload_n hx hb dX7_inside_6 rfl (lv_at hl 0 rfl) ?_
    refine W.widen (k := 3 * (rEd R - a).toNat - (3 * (rEd (Sum.inl p1 : rR) - (a + 1)).toNat + 1)) (n := 620 * (rEd R - a).toNat - (620 * (rEd (Sum.inl p1 : rR) - (a + 1)).toNat + 3)) (show 0 ≤ 3 * (rEd R - a).toNat - (3 * (rEd (Sum.inl p1 : rR) - (a + 1)).toNat + 1) by omega) (show 0 ≤ 620 * (rEd R - a).toNat - (620 * (rEd (Sum.inl p1 : rR) - (a + 1)).toNat + 3) by omega) ?_
    exact g_upT (g_passE (by omega) (by omega) het hlocks hM2 hA (g_runVT (As := []) (rest := []) CF ((hI G1 τ1 _ A N (a + 1) lk nm _ hP1 hq).thr rPl_no) (cwV 0 hts (lw_V q617 q619 qs13 q67 q620) rfl rfl rfl (by decide +kernel) ⟨(show 4 * f + 13 + 1 ≤ 4 * f + 14 by omega), (show 8 + (2 + 11) + (325 + 100 * f) ≤ 350 + 100 * f by omega)⟩) ⟨gP_blind, g_recv hK hM2 (hP1.1.2.1.1 26 _ rfl) rfl, (g_pre hK hM2).2⟩ rfl rfl hl.1 rfl (lv_room (Nat.le_of_ble_eq_true rfl)) dX7_inside_7 ⟨(show 3 * (rEd R - a).toNat - (3 * (rEd (Sum.inl p1 : rR) - (a + 1)).toNat + 1) + (3 * (rEd (Sum.inl p1 : rR) - (a + 1)).toNat + 1) ≤ 3 * (rEd R - a).toNat by omega), (show 620 * (rEd R - a).toNat - (620 * (rEd (Sum.inl p1 : rR) - (a + 1)).toNat + 3) + (620 * (rEd (Sum.inl p1 : rR) - (a + 1)).toNat + 3) ≤ 620 * (rEd R - a).toNat by omega)⟩) (by rw [e1]; exact rTh_of (hk1.k hN0)))
  · have hE : rEd R = a1 + 1 := (by rw [e1]; rfl)
    have hE1 : rEd (Sum.inr (a1, lk1, nm1, L1) : rR) = a1 := rfl
    have c1l := nxR_lt (ρ := ρ) (a := a) (by omega)
    have hq1 : a + 1 < a1 ∧ a1 ≤ ρ 60 30 ∧ rLo lk1 := rSs_pos (rSt_pos hT2 f) 101 (a + 1) lk nm [] _ (by omega) (by omega) hlo hq
    refine lv_aload_n hx hb dX7_inside_0 rfl (lv_at hl 0 rfl) ?_
    refine lv_bipush (v := jI 40) hx hb dX7_inside_1 (by decide) ?_
    refine g_callv hM0 hA (g_runV (As := [.int (jI 40)]) (rest := []) CF hK hM0 (hL.2.1.1 26 _ rfl) rfl (l_rsign l E _ _ _ ρ 40 hL (by have q := hP.2.1.1; have q2 := hP.2.2.2.2.2.1; omega) (by first | omega | assumption | (refine ⟨?_, ?_⟩ <;> omega)) (by rw [ha]; exact c1)) (cwV 1 hts (lw_V q706 q708 qs19 q67 q709) rfl rfl rfl (by decide +kernel) ⟨(show 1 + 1 ≤ 4 * f + 14 by omega), (show 8 + (2 + 11) + (20) ≤ 350 + 100 * f by omega)⟩) rfl hl.1 rfl (Nat.le_of_ble_eq_true rfl) dX7_inside_3 ⟨(show 0 + 0 ≤ 3 * (rEd R - a).toNat by omega), (show 0 + 0 ≤ 620 * (rEd R - a).toNat by omega)⟩) (fun H locs hM3 => ?_)
    obtain ⟨G1, τ1, hM4, hP1, hk1⟩ : ∃ (g : y_G) (τ : y_S), gM E (gA G sz) g τ s.heap H locs ∧ lgP E ρ g τ A N (a + 1) lk nm ∧ rdN N G σ g τ := ⟨_, _, hM3, (hP.adv (by rw [ha]) c1l).1, (hP.adv (by rw [ha]) c1l).2⟩
    have hl := lv_cast hl (b := [(0, .ref (G1.2.2 26))]) (by rw [(hk1 26 (by omega) (by omega)).2.1])
    refine lv_aload_n hx hb dX7_inside_6 rfl (lv_at hl 0 rfl) ?_
    refine g_callRl hM4 hA (g_runV (As := []) (rest := []) CF hK hM4 (hP1.1.2.1.1 26 _ rfl) rfl ((hI G1 τ1 _ A N (a + 1) lk nm _ hP1 hq).ret rTh_no) (cwV 0 hts (lw_V q617 q619 qs13 q67 q620) rfl rfl rfl (by decide +kernel) ⟨(show 4 * f + 13 + 1 ≤ 4 * f + 14 by omega), (show 8 + (2 + 11) + (325 + 100 * f) ≤ 350 + 100 * f by omega)⟩) rfl hl.1 rfl (Nat.le_of_ble_eq_true rfl) dX7_inside_7 ⟨(show 0 + (3 * (rEd (Sum.inr (a1, lk1, nm1, L1) : rR) - (a + 1)).toNat + 1) ≤ 3 * (rEd R - a).toNat by omega), (show 0 + (620 * (rEd (Sum.inr (a1, lk1, nm1, L1) : rR) - (a + 1)).toNat + 3) ≤ 620 * (rEd R - a).toNat by omega)⟩) (fun ul N2 G2 τ2 H locs hls hP2 hk2 hN2 hM5 => ?_)
    have hl := lv_cast hl (b := [(0, .ref (G2.2.2 26))]) (by rw [(hk2 26 (by omega) (by omega)).2.1])
    refine lv_astore_n (lv' := [(1, .ref (G2.2.2 ul)), (0, .ref (G2.2.2 26))]) hx hb dX7_inside_10 rfl hl (by decide) rfl (fun ls hl => ?_)
    refine lv_aload_n hx hb dX7_inside_11 rfl (lv_at hl 1 rfl) ?_
    refine lv_bipush (v := jI 41) hx hb dX7_inside_12 (by decide) ?_
    refine W.widen (k := 3 * (rEd R - a).toNat - (1)) (n := 620 * (rEd R - a).toNat - (8)) (show (0 + (3 * (rEd (Sum.inr (a1, lk1, nm1, L1) : rR) - (a + 1)).toNat + 1)) ≤ 3 * (rEd R - a).toNat - (1) by omega) (show (0 + (620 * (rEd (Sum.inr (a1, lk1, nm1, L1) : rR) - (a + 1)).toNat + 3)) ≤ 620 * (rEd R - a).toNat - (8) by omega) ?_
    exact g_upT (g_passE (by omega) (by omega) het hlocks hM5 hA (g_runVT (As := [.int (jI 41)]) (rest := []) CF (t_rsign l E G2 τ2 _ ρ 41 hP2.1 (by have q := hP2.2.1.1; have q2 := hP2.2.2.2.2.2.1; omega) (by decide) (by rw [hP2.2.1.1]; exact c2)) (cwV 1 hts (lw_V q706 q708 qs19 q67 q709) rfl rfl rfl (by decide +kernel) ⟨(show 4 + 1 ≤ 4 * f + 14 by omega), (show 8 + (2 + 11) + (94) ≤ 350 + 100 * f by omega)⟩) ⟨gP_blind, g_recv hK hM5 (hP2.1.2.1.1 26 _ rfl) rfl, (g_pre hK hM5).2⟩ rfl rfl hl.1 rfl (lv_room (Nat.le_of_ble_eq_true rfl)) dX7_inside_14 ⟨(show 3 * (rEd R - a).toNat - (1) + (1) ≤ 3 * (rEd R - a).toNat by omega), (show 620 * (rEd R - a).toNat - (8) + (8) ≤ 620 * (rEd R - a).toNat by omega)⟩) (fun x G' τ' q => (by rw [hP2.2.1.1] at q; rw [e1]; exact rTh_w ((hk1.tr hk2 (Nat.le_refl _)).k hN0) x G' τ' q)))
  · have hE : rEd R = a1 + 1 := (by rw [e1]; rfl)
    have hE1 : rEd (Sum.inr (a1, lk1, nm1, L1) : rR) = a1 := rfl
    have c1l := nxR_lt (ρ := ρ) (a := a) (by omega)
    have c2l := nxR_lt (ρ := ρ) (a := a1) (by omega)
    have hq1 : a + 1 < a1 ∧ a1 ≤ ρ 60 30 ∧ rLo lk1 := rSs_pos (rSt_pos hT2 f) 101 (a + 1) lk nm [] _ (by omega) (by omega) hlo hq
    refine lv_aload_n hx hb dX7_inside_0 rfl (lv_at hl 0 rfl) ?_
    refine lv_bipush (v := jI 40) hx hb dX7_inside_1 (by decide) ?_
    refine g_callv hM0 hA (g_runV (As := [.int (jI 40)]) (rest := []) CF hK hM0 (hL.2.1.1 26 _ rfl) rfl (l_rsign l E _ _ _ ρ 40 hL (by have q := hP.2.1.1; have q2 := hP.2.2.2.2.2.1; omega) (by first | omega | assumption | (refine ⟨?_, ?_⟩ <;> omega)) (by rw [ha]; exact c1)) (cwV 1 hts (lw_V q706 q708 qs19 q67 q709) rfl rfl rfl (by decide +kernel) ⟨(show 1 + 1 ≤ 4 * f + 14 by omega), (show 8 + (2 + 11) + (20) ≤ 350 + 100 * f by omega)⟩) rfl hl.1 rfl (Nat.le_of_ble_eq_true rfl) dX7_inside_3 ⟨(show 0 + 0 ≤ 3 * (rEd R - a).toNat by omega), (show 0 + 0 ≤ 620 * (rEd R - a).toNat by omega)⟩) (fun H locs hM6 => ?_)
    obtain ⟨G1, τ1, hM7, hP1, hk1⟩ : ∃ (g : y_G) (τ : y_S), gM E (gA G sz) g τ s.heap H locs ∧ lgP E ρ g τ A N (a + 1) lk nm ∧ rdN N G σ g τ := ⟨_, _, hM6, (hP.adv (by rw [ha]) c1l).1, (hP.adv (by rw [ha]) c1l).2⟩
    have hl := lv_cast hl (b := [(0, .ref (G1.2.2 26))]) (by rw [(hk1 26 (by omega) (by omega)).2.1])
    refine lv_aload_n hx hb dX7_inside_6 rfl (lv_at hl 0 rfl) ?_
    refine g_callRl hM7 hA (g_runV (As := []) (rest := []) CF hK hM7 (hP1.1.2.1.1 26 _ rfl) rfl ((hI G1 τ1 _ A N (a + 1) lk nm _ hP1 hq).ret rTh_no) (cwV 0 hts (lw_V q617 q619 qs13 q67 q620) rfl rfl rfl (by decide +kernel) ⟨(show 4 * f + 13 + 1 ≤ 4 * f + 14 by omega), (show 8 + (2 + 11) + (325 + 100 * f) ≤ 350 + 100 * f by omega)⟩) rfl hl.1 rfl (Nat.le_of_ble_eq_true rfl) dX7_inside_7 ⟨(show 0 + (3 * (rEd (Sum.inr (a1, lk1, nm1, L1) : rR) - (a + 1)).toNat + 1) ≤ 3 * (rEd R - a).toNat by omega), (show 0 + (620 * (rEd (Sum.inr (a1, lk1, nm1, L1) : rR) - (a + 1)).toNat + 3) ≤ 620 * (rEd R - a).toNat by omega)⟩) (fun ul N2 G2 τ2 H locs hls hP2 hk2 hN2 hM8 => ?_)
    have hl := lv_cast hl (b := [(0, .ref (G2.2.2 26))]) (by rw [(hk2 26 (by omega) (by omega)).2.1])
    refine lv_astore_n (lv' := [(1, .ref (G2.2.2 ul)), (0, .ref (G2.2.2 26))]) hx hb dX7_inside_10 rfl hl (by decide) rfl (fun ls hl => ?_)
    refine lv_aload_n hx hb dX7_inside_11 rfl (lv_at hl 1 rfl) ?_
    refine lv_bipush (v := jI 41) hx hb dX7_inside_12 (by decide) ?_
    refine g_callv hM8 hA (g_runV (As := [.int (jI 41)]) (rest := []) CF hK hM8 (hP2.1.2.1.1 26 _ rfl) rfl (l_rsign l E _ _ _ ρ 41 hP2.1 (by have q := hP2.2.1.1; have q2 := hP2.2.2.2.2.2.1; omega) (by first | omega | assumption | (refine ⟨?_, ?_⟩ <;> omega)) (by rw [hP2.2.1.1]; exact c2)) (cwV 1 hts (lw_V q706 q708 qs19 q67 q709) rfl rfl rfl (by decide +kernel) ⟨(show 1 + 1 ≤ 4 * f + 14 by omega), (show 8 + (2 + 11) + (20) ≤ 350 + 100 * f by omega)⟩) rfl hl.1 rfl (Nat.le_of_ble_eq_true rfl) dX7_inside_14 ⟨(show (0 + (3 * (rEd (Sum.inr (a1, lk1, nm1, L1) : rR) - (a + 1)).toNat + 1)) + 0 ≤ 3 * (rEd R - a).toNat by omega), (show (0 + (620 * (rEd (Sum.inr (a1, lk1, nm1, L1) : rR) - (a + 1)).toNat + 3)) + 0 ≤ 620 * (rEd R - a).toNat by omega)⟩) (fun H locs hM9 => ?_)
    obtain ⟨G3, τ3, hM10, hP3, hk3⟩ : ∃ (g : y_G) (τ : y_S), gM E (gA G sz) g τ s.heap H locs ∧ lgP E ρ g τ (aX A N N2) N2 (a1 + 1) lk1 nm1 ∧ rdN N2 G2 τ2 g τ := ⟨_, _, hM9, (hP2.adv (by rw [hP2.2.1.1]) c2l).1, (hP2.adv (by rw [hP2.2.1.1]) c2l).2⟩
    have hl := lv_cast hl (b := [(1, .ref (G3.2.2 ul)), (0, .ref (G3.2.2 26))]) (by rw [(hk3 ul (hP2.2.2.1.2.2.2 _ hls.1).2 (Or.inr (Nat.le_trans (by decide) (hP2.2.2.1.2.2.2 _ hls.1).1))).2.1, (hk3 26 (by omega) (by omega)).2.1])
    refine lv_aload_n hx hb dX7_inside_17 rfl (lv_at hl 0 rfl) ?_
    exact g_upR (g_aret CF hr (Or.inl ⟨_, rfl⟩) hlocks hM10 (r := some (G3.2.2 ul)) (by rw [e1]; exact ⟨ul, N2, a1 + 1, lk1, nm1, L1, rfl, rfl, hls.at (hk3.ag hP2.2.2.1.2.2.2) (hk3.k hP2.2.2.1.1) (by omega), hP3, (hk1.tr hk2 (Nat.le_refl _)).tr hk3 hN2, hN2⟩) (show (0 + (3 * (rEd (Sum.inr (a1, lk1, nm1, L1) : rR) - (a + 1)).toNat + 1)) ≤ 3 * (rEd R - a).toNat by omega) (show (0 + (620 * (rEd (Sum.inr (a1, lk1, nm1, L1) : rR) - (a + 1)).toNat + 3)) ≤ 620 * (rEd R - a).toNat by omega) dX7_inside_18)
