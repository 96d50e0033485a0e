/-! THE READER: names -/
set_option maxHeartbeats 1000000 in
theorem l_rna (l : Launch) (E : y_E) (G : y_G) (σ : y_S) (sz : Nat) (ρ : y_S) (f : Nat) (A : Nat → Prop) (N : Nat) (a : Int) (lk : Int) (nm : rM) (R : rR) (k : Int) (hP : lgP E ρ G σ A N a lk nm) (hx0 : 0 ≤ k) (hx1 : k < 6) (hka : 1 ≤ a) (hR : rNa ρ (rSt ρ f) k a lk nm = some R) (hI : CtBr l E ρ f) : gCtB l yX7_name cX7_name 3 (some (.object "LightPlate$Node")) ({ frames := 4 * f + 15, cells := 3 * (rEd R - a).toNat + 2, slots := 620 * (rEd R - a).toNat + 7, locals := 375 + 100 * f }) E [.ref (G.2.2 26), .int (jI k)] G σ sz (rPn E ρ G σ A N R) (rTh G σ R) (3 * (rEd R - a).toNat + 2) (620 * (rEd R - a).toNat + 7) := by
  refine g_metB (by decide) (Nat.le_of_ble_eq_true rfl) ?_
  intro p e s m below meth c ls CF het hr hlocks hnm hK hM0 hA hl
  have hx := CF.1
  have hb := CF.2.1
  have hts := CF.2.2.2.2
  have hl : lv_has ls 3 [(0, .ref (G.2.2 26)), (1, .int (jI k))] := hl
  have hL := hP.1
  have ha := hP.2.1.1
  have hab := hP.2.2.2.2.2.1
  have hN0 := hP.2.2.1.1
  have hT := hP.1.1.tp
  have hT2 : ρ 60 30 ≤ 100 := (by omega)
  have hlo := hP.2.2.2.2.2.2
  rcases rNa_c hR with ⟨c1, R1, hq, ⟨p1, rfl, e1⟩ | ⟨a1, lk1, nm1, L1, rfl, e1⟩⟩ | ⟨c1, ⟨L1, hq, e1⟩ | ⟨hq, ⟨c2, e1⟩ | ⟨c2, e1⟩⟩⟩
  · have hlk := hP.2.1.2
    have hlo2 : -1 ≤ lk ∧ lk ≤ 100 := (by unfold rLo at hlo; omega)
    have hE : rEd R = p1 + 1 := (by rw [e1]; rfl)
    have hE1 : rEd (Sum.inl p1 : rR) = p1 + 1 := rfl
    have c1l := nxR_lt (ρ := ρ) (a := a) (by omega)
    have hq1 : a + 1 ≤ p1 ∧ p1 ≤ ρ 60 30 := rBr_pos (rSt_pos hT2 f) (by omega) (by omega) hlo hq
    refine lv_aload_n hx hb dX7_name_0 rfl (lv_at hl 0 rfl) ?_
    refine g_geti CF hK hM0 26 (hL.2.1.1 26 _ rfl) 1 1 rfl rfl (by decide) (Or.inl (hts _ q197)) (fun _ h => h) rfl dX7_name_1 ?_
    refine x_top (b := a) ha ?_
    refine lv_iconst (v := jI 1) hx hb dX7_name_4 rfl ?_
    refine x_isub hx hb dX7_name_5 ?_
    refine lv_istore_n (lv' := [(2, .int (jI (a - 1))), (0, .ref (G.2.2 26)), (1, .int (jI k))]) hx hb dX7_name_6 rfl hl (by decide) rfl (fun ls hl => ?_)
    refine lv_aload_n hx hb dX7_name_7 rfl (lv_at hl 1 rfl) ?_
    refine g_calli (r := nxR ρ (σ 26 1)) hM0 hA (g_runV (As := []) (rest := []) CF hK hM0 (hL.2.1.1 26 _ rfl) rfl (l_rnext l E _ _ _ ρ  hL (by have q := hP.2.1.1; have q2 := hP.2.2.2.2.2.1; omega)) (cwV 0 hts (lw_V q627 q629 qs15 q67 q630) rfl rfl rfl (by decide +kernel) ⟨(show 0 + 1 ≤ 4 * f + 15 by omega), (show 8 + (1 + 11) + (0) ≤ 375 + 100 * f by omega)⟩) rfl hl.1 rfl (Nat.le_of_ble_eq_true rfl) dX7_name_8 ⟨(show 0 + 0 ≤ 3 * (rEd R - a).toNat + 2 by omega), (show 0 + 0 ≤ 620 * (rEd R - a).toNat + 7 by omega)⟩) (fun H locs hM1 => ?_)
    refine x_top (b := nxR ρ a) (by rw [ha]) ?_
    refine lv_bipush (v := jI 61) hx hb dX7_name_11 (by decide) ?_
    have fa2 := nxR_r ρ a
    refine x_icmp_ne (tgt := 68) hx hb dX7_name_13 (by decide) (by have f0 := nxR_r ρ a; omega) (by omega) (fun b13 => ?_) (fun b13 => ?_)
    · exact absurd c1 b13
    · refine lv_aload_n hx hb dX7_name_16 rfl (lv_at hl 1 rfl) ?_
      refine lv_dup hx hb dX7_name_17 rfl ?_
      refine g_geti CF hK hM1 26 (hL.2.1.1 26 _ rfl) 1 1 rfl rfl (by decide) (Or.inl (hts _ q197)) (fun _ h => h) rfl dX7_name_18 ?_
      refine x_top (b := a) ha ?_
      refine lv_iconst (v := jI 1) hx hb dX7_name_21 rfl ?_
      refine x_iadd hx hb dX7_name_22 ?_
      refine g_puti CF hK hM1 26 (by decide) (hL.2.1.1 26 _ rfl) 1 1 rfl rfl (by decide) (Or.inl (hts _ q197)) (fun _ h => h) (Or.inl rfl) rfl (v := a + 1) rfl rfl (by omega) dX7_name_23 (fun H locs hM3 => ?_)
      obtain ⟨G1, τ1, hM4, hP1, hk1⟩ : ∃ (g : y_G) (τ : y_S), gM E (gA G sz) g τ s.heap H locs ∧ lgP E ρ g τ A N (a + 1) lk nm ∧ rdN N G σ g τ := ⟨_, _, hM3, (hP.adv rfl c1l).1, (hP.adv rfl c1l).2⟩
      have hl := lv_cast hl (b := [(2, .int (jI (a - 1))), (0, .ref (G1.2.2 26)), (1, .int (jI k))]) (by rw [(hk1 26 (by omega) (by omega)).2.1])
      refine lv_aload_n hx hb dX7_name_26 rfl (lv_at hl 1 rfl) ?_
      refine g_getr CF hK hM4 26 (hP1.1.2.1.1 26 _ rfl) 0 0 rfl rfl (by decide) (Or.inl (hts _ q196)) (fun _ h => h) rfl (G1.2.2 62) (hP1.1.2.1.2.2.2.2.2.2.2.2.1.1) dX7_name_27 ?_
      refine lv_iload_n hx hb dX7_name_30 rfl (lv_at hl 2 rfl) ?_
      refine g_new CF hK hM4 hA N (hP1.2.2.1.2.1 N (Nat.le_refl _)) (ci := 8) rfl rfl q615 q616 q77 (show 0 + 1 ≤ 3 * (rEd R - a).toNat + 2 by omega) (show 0 + 4 ≤ 620 * (rEd R - a).toNat + 7 by omega) dX7_name_31 (fun H a6 hM5 => ?_)
      obtain ⟨G2, τ2, hM7, hP2, hk2, hT2, hz2⟩ : ∃ (g : y_G) (τ : y_S), gM E (gA G sz) g τ s.heap H locs ∧ lgP E ρ g τ A (N + 1) (a + 1) lk nm ∧ rdN N G1 τ1 g τ ∧ g.1 N = some (.inl 8) ∧ g.2.2 N = a6 := ⟨_, _, hM5, (hP1.new (Nat.lt_succ_self _)).1, (hP1.new (Nat.lt_succ_self _)).2, (upT_s _ _ _), (upT_s _ _ _)⟩
      have hl := lv_cast hl (b := [(2, .int (jI (a - 1))), (0, .ref (G2.2.2 26)), (1, .int (jI k))]) (by rw [(hk2 26 (by omega) (by omega)).2.1])
      refine x_stk (st' := [.ref (G2.2.2 N), .int (jI k), .ref (G2.2.2 62)]) (by rw [hz2, (hk2 62 (by omega) (by omega)).2.1]) ?_
      refine lv_dup hx hb dX7_name_34 rfl ?_
      refine lv_aload_n hx hb dX7_name_35 rfl (lv_at hl 1 rfl) ?_
      refine g_getr CF hK hM7 26 (hP2.1.2.1.1 26 _ rfl) 3 3 rfl rfl (by decide) (Or.inl (hts _ q199)) (fun _ h => h) rfl (G2.2.2 60) (hP2.1.2.1.2.2.2.2.2.2.2.2.1.2) dX7_name_36 ?_
      refine lv_iconst (v := jI 1) hx hb dX7_name_39 rfl ?_
      refine lv_aload_n hx hb dX7_name_40 rfl (lv_at hl 1 rfl) ?_
      refine W.widen (k := 3 * (rEd R - a).toNat + 2 - (3 * (rEd (Sum.inl p1 : rR) - (a + 1)).toNat)) (n := 620 * (rEd R - a).toNat + 7 - (620 * (rEd (Sum.inl p1 : rR) - (a + 1)).toNat)) (show 1 ≤ 3 * (rEd R - a).toNat + 2 - (3 * (rEd (Sum.inl p1 : rR) - (a + 1)).toNat) by omega) (show 4 ≤ 620 * (rEd R - a).toNat + 7 - (620 * (rEd (Sum.inl p1 : rR) - (a + 1)).toNat) by omega) ?_
      exact g_upT (g_passE (by omega) (by omega) het hlocks hM7 hA (g_runVT (As := []) (rest := [.int (jI 1), .ref (G2.2.2 60), .ref (G2.2.2 N), .ref (G2.2.2 N), .int (jI k), .ref (G2.2.2 62)]) CF ((hI G2 τ2 _ A (N + 1) (a + 1) lk nm _ hP2 hq).thr rPl_no) (cwV 0 hts (lw_V q702 q704 qs18 q67 q705) rfl rfl rfl (by decide +kernel) ⟨(show 4 * f + 14 + 1 ≤ 4 * f + 15 by omega), (show 8 + (2 + 11) + (350 + 100 * f) ≤ 375 + 100 * f by omega)⟩) ⟨gP_blind, g_recv hK hM7 (hP2.1.2.1.1 26 _ rfl) rfl, (g_pre hK hM7).2⟩ rfl rfl hl.1 rfl (lv_room (Nat.le_of_ble_eq_true rfl)) dX7_name_41 ⟨(show 3 * (rEd R - a).toNat + 2 - (3 * (rEd (Sum.inl p1 : rR) - (a + 1)).toNat) + (3 * (rEd (Sum.inl p1 : rR) - (a + 1)).toNat) ≤ 3 * (rEd R - a).toNat + 2 by omega), (show 620 * (rEd R - a).toNat + 7 - (620 * (rEd (Sum.inl p1 : rR) - (a + 1)).toNat) + (620 * (rEd (Sum.inl p1 : rR) - (a + 1)).toNat) ≤ 620 * (rEd R - a).toNat + 7 by omega)⟩) (by rw [e1]; exact rTh_of ((hk1.tr hk2 (Nat.le_refl _)).k hN0)))
  · have hlk := hP.2.1.2
    have hlo2 : -1 ≤ lk ∧ lk ≤ 100 := (by unfold rLo at hlo; omega)
    have hE : rEd R = a1 := (by rw [e1]; rfl)
    have hE1 : rEd (Sum.inr (a1, lk1, nm1, L1) : rR) = a1 := rfl
    have c1l := nxR_lt (ρ := ρ) (a := a) (by omega)
    have hq1 : a + 1 < a1 ∧ a1 ≤ ρ 60 30 ∧ rLo lk1 := rBr_pos (rSt_pos hT2 f) (by omega) (by omega) hlo hq
    refine lv_aload_n hx hb dX7_name_0 rfl (lv_at hl 0 rfl) ?_
    refine g_geti CF hK hM0 26 (hL.2.1.1 26 _ rfl) 1 1 rfl rfl (by decide) (Or.inl (hts _ q197)) (fun _ h => h) rfl dX7_name_1 ?_
    refine x_top (b := a) ha ?_
    refine lv_iconst (v := jI 1) hx hb dX7_name_4 rfl ?_
    refine x_isub hx hb dX7_name_5 ?_
    refine lv_istore_n (lv' := [(2, .int (jI (a - 1))), (0, .ref (G.2.2 26)), (1, .int (jI k))]) hx hb dX7_name_6 rfl hl (by decide) rfl (fun ls hl => ?_)
    refine lv_aload_n hx hb dX7_name_7 rfl (lv_at hl 1 rfl) ?_
    refine g_calli (r := nxR ρ (σ 26 1)) hM0 hA (g_runV (As := []) (rest := []) CF hK hM0 (hL.2.1.1 26 _ rfl) rfl (l_rnext l E _ _ _ ρ  hL (by have q := hP.2.1.1; have q2 := hP.2.2.2.2.2.1; omega)) (cwV 0 hts (lw_V q627 q629 qs15 q67 q630) rfl rfl rfl (by decide +kernel) ⟨(show 0 + 1 ≤ 4 * f + 15 by omega), (show 8 + (1 + 11) + (0) ≤ 375 + 100 * f by omega)⟩) rfl hl.1 rfl (Nat.le_of_ble_eq_true rfl) dX7_name_8 ⟨(show 0 + 0 ≤ 3 * (rEd R - a).toNat + 2 by omega), (show 0 + 0 ≤ 620 * (rEd R - a).toNat + 7 by omega)⟩) (fun H locs hM8 => ?_)
    refine x_top (b := nxR ρ a) (by rw [ha]) ?_
    refine lv_bipush (v := jI 61) hx hb dX7_name_11 (by decide) ?_
    have fa9 := nxR_r ρ a
    refine x_icmp_ne (tgt := 68) hx hb dX7_name_13 (by decide) (by have f0 := nxR_r ρ a; omega) (by omega) (fun b13 => ?_) (fun b13 => ?_)
    · exact absurd c1 b13
    · refine lv_aload_n hx hb dX7_name_16 rfl (lv_at hl 1 rfl) ?_
      refine lv_dup hx hb dX7_name_17 rfl ?_
      refine g_geti CF hK hM8 26 (hL.2.1.1 26 _ rfl) 1 1 rfl rfl (by decide) (Or.inl (hts _ q197)) (fun _ h => h) rfl dX7_name_18 ?_
      refine x_top (b := a) ha ?_
      refine lv_iconst (v := jI 1) hx hb dX7_name_21 rfl ?_
      refine x_iadd hx hb dX7_name_22 ?_
      refine g_puti CF hK hM8 26 (by decide) (hL.2.1.1 26 _ rfl) 1 1 rfl rfl (by decide) (Or.inl (hts _ q197)) (fun _ h => h) (Or.inl rfl) rfl (v := a + 1) rfl rfl (by omega) dX7_name_23 (fun H locs hM10 => ?_)
      obtain ⟨G1, τ1, hM11, hP1, hk1⟩ : ∃ (g : y_G) (τ : y_S), gM E (gA G sz) g τ s.heap H locs ∧ lgP E ρ g τ A N (a + 1) lk nm ∧ rdN N G σ g τ := ⟨_, _, hM10, (hP.adv rfl c1l).1, (hP.adv rfl c1l).2⟩
      have hl := lv_cast hl (b := [(2, .int (jI (a - 1))), (0, .ref (G1.2.2 26)), (1, .int (jI k))]) (by rw [(hk1 26 (by omega) (by omega)).2.1])
      refine lv_aload_n hx hb dX7_name_26 rfl (lv_at hl 1 rfl) ?_
      refine g_getr CF hK hM11 26 (hP1.1.2.1.1 26 _ rfl) 0 0 rfl rfl (by decide) (Or.inl (hts _ q196)) (fun _ h => h) rfl (G1.2.2 62) (hP1.1.2.1.2.2.2.2.2.2.2.2.1.1) dX7_name_27 ?_
      refine lv_iload_n hx hb dX7_name_30 rfl (lv_at hl 2 rfl) ?_
      refine g_new CF hK hM11 hA N (hP1.2.2.1.2.1 N (Nat.le_refl _)) (ci := 8) rfl rfl q615 q616 q77 (show 0 + 1 ≤ 3 * (rEd R - a).toNat + 2 by omega) (show 0 + 4 ≤ 620 * (rEd R - a).toNat + 7 by omega) dX7_name_31 (fun H a13 hM12 => ?_)
      obtain ⟨G2, τ2, hM14, hP2, hk2, hT2, hz2⟩ : ∃ (g : y_G) (τ : y_S), gM E (gA G sz) g τ s.heap H locs ∧ lgP E ρ g τ A (N + 1) (a + 1) lk nm ∧ rdN N G1 τ1 g τ ∧ g.1 N = some (.inl 8) ∧ g.2.2 N = a13 := ⟨_, _, hM12, (hP1.new (Nat.lt_succ_self _)).1, (hP1.new (Nat.lt_succ_self _)).2, (upT_s _ _ _), (upT_s _ _ _)⟩
      have hl := lv_cast hl (b := [(2, .int (jI (a - 1))), (0, .ref (G2.2.2 26)), (1, .int (jI k))]) (by rw [(hk2 26 (by omega) (by omega)).2.1])
      refine x_stk (st' := [.ref (G2.2.2 N), .int (jI k), .ref (G2.2.2 62)]) (by rw [hz2, (hk2 62 (by omega) (by omega)).2.1]) ?_
      refine lv_dup hx hb dX7_name_34 rfl ?_
      refine lv_aload_n hx hb dX7_name_35 rfl (lv_at hl 1 rfl) ?_
      refine g_getr CF hK hM14 26 (hP2.1.2.1.1 26 _ rfl) 3 3 rfl rfl (by decide) (Or.inl (hts _ q199)) (fun _ h => h) rfl (G2.2.2 60) (hP2.1.2.1.2.2.2.2.2.2.2.2.1.2) dX7_name_36 ?_
      refine lv_iconst (v := jI 1) hx hb dX7_name_39 rfl ?_
      refine lv_aload_n hx hb dX7_name_40 rfl (lv_at hl 1 rfl) ?_
      refine g_callRl hM14 hA (g_runV (As := []) (rest := [.int (jI 1), .ref (G2.2.2 60), .ref (G2.2.2 N), .ref (G2.2.2 N), .int (jI k), .ref (G2.2.2 62)]) CF hK hM14 (hP2.1.2.1.1 26 _ rfl) rfl ((hI G2 τ2 _ A (N + 1) (a + 1) lk nm _ hP2 hq).ret rTh_no) (cwV 0 hts (lw_V q702 q704 qs18 q67 q705) rfl rfl rfl (by decide +kernel) ⟨(show 4 * f + 14 + 1 ≤ 4 * f + 15 by omega), (show 8 + (2 + 11) + (350 + 100 * f) ≤ 375 + 100 * f by omega)⟩) rfl hl.1 rfl (Nat.le_of_ble_eq_true rfl) dX7_name_41 ⟨(show 1 + (3 * (rEd (Sum.inr (a1, lk1, nm1, L1) : rR) - (a + 1)).toNat) ≤ 3 * (rEd R - a).toNat + 2 by omega), (show 4 + (620 * (rEd (Sum.inr (a1, lk1, nm1, L1) : rR) - (a + 1)).toNat) ≤ 620 * (rEd R - a).toNat + 7 by omega)⟩) (fun ul N3 G3 τ3 H locs hls hP3 hk3 hN3 hM15 => ?_)
      have hl := lv_cast hl (b := [(2, .int (jI (a - 1))), (0, .ref (G3.2.2 26)), (1, .int (jI k))]) (by rw [(hk3 26 (by omega) (by omega)).2.1])
      refine x_stk (st' := [.ref (G3.2.2 ul), .int (jI 1), .ref (G3.2.2 60), .ref (G3.2.2 N), .ref (G3.2.2 N), .int (jI k), .ref (G3.2.2 62)]) (by rw [(hk3 60 (by omega) (by omega)).2.1, (hk3 N (by omega) (by omega)).2.1, (hk3 62 (by omega) (by omega)).2.1]) ?_
      have hT3 : G3.1 N = some (.inl 8) := (hk3 N (by omega) (by omega)).1.trans hT2
      refine g_callv hM15 hA (g_runI (As := [.ref (G3.2.2 60), .int (jI 1), .ref (G3.2.2 ul)]) (rest := [.ref (G3.2.2 N), .int (jI k), .ref (G3.2.2 62)]) CF hK hM15 (l_x11i8 l E _ _ _ N (G3.2.2 60) (G3.2.2 ul) 1 hT3 (by omega) (by first | omega | assumption | (refine ⟨?_, ?_⟩ <;> omega))) (cwI 3 hts (lw_meth q712) rfl rfl rfl (hts _ q77) (hts _ q710) (hts _ q711) rfl (by decide +kernel) ⟨(show 2 + 1 ≤ 4 * f + 15 by omega), (show 8 + (4 + 11) + (45) ≤ 375 + 100 * f by omega)⟩) rfl hl.1 rfl (Nat.le_of_ble_eq_true rfl) dX7_name_44 ⟨(show (1 + (3 * (rEd (Sum.inr (a1, lk1, nm1, L1) : rR) - (a + 1)).toNat)) + 0 ≤ 3 * (rEd R - a).toNat + 2 by omega), (show (4 + (620 * (rEd (Sum.inr (a1, lk1, nm1, L1) : rR) - (a + 1)).toNat)) + 0 ≤ 620 * (rEd R - a).toNat + 7 by omega)⟩) (fun H locs hM16 => ?_)
      obtain ⟨G4, τ4, hM17, hP4, hd4, hk4, hz4, hT4⟩ : ∃ (g : y_G) (τ : y_S), gM E (gA G sz) g τ s.heap H locs ∧ lgP E ρ g τ (aX A (N + 1) N3) N3 a1 lk1 nm1 ∧ ndV ρ g τ (aX A N N3) ((a1 - 1).toNat + 1) N (rdRep (1 : Int).toNat L1) ∧ rdN N G3 τ3 g τ ∧ g.2.2 = G3.2.2 ∧ g.1 N = some (.inl 8) := ⟨_, _, hM16, hP3.ini (x := N) hN0 (fun z => z.elim (fun q => (by have := hP.2.2.1.2.2.2 N q; omega)) (fun q => (by omega))) (fun t h => (by rw [up2_n _ _ _ h, up2_n _ _ _ h, up2_n _ _ _ h])) (fun t h => up2_n _ _ _ h), ndV.ti (A' := aX A N N3) hls (fun z => z.elim (fun q => (by have := hP.2.2.1.2.2.2 N q; omega)) (fun q => (by omega))) (Or.inr (by omega)) (fun t z => z.imp id (fun q => (by omega))) hT3 (by decide) (by decide) (fun t h => (by rw [up2_n _ _ _ h, up2_n _ _ _ h, up2_n _ _ _ h])) (fun t h => up2_n _ _ _ h) (by first | rw [up2_s, up1_s] | (dsimp only; rw [up2_s, up1_s])) (by first | rw [up2_s, up1_s] | (dsimp only; rw [up2_s, up1_s])), (fun t h1 h2 => ⟨rfl, rfl, fun _ => (by have e : t ≠ N := (by omega); dsimp only; rw [up2_n _ _ _ e, up2_n _ _ _ e, up2_n _ _ _ e]), fun _ => up2_n _ _ _ (by omega)⟩), rfl, hT3⟩
      have hl := lv_cast hl (b := [(2, .int (jI (a - 1))), (0, .ref (G4.2.2 26)), (1, .int (jI k))]) (by rw [(hk4 26 (by omega) (by omega)).2.1])
      refine x_stk (st' := [.ref (G4.2.2 N), .int (jI k), .ref (G4.2.2 62)]) (by rw [(congrFun hz4 N), (hk4 62 (by omega) (by omega)).2.1]) ?_
      have hd5 : ndV ρ G4 τ4 (aX A N N3) a1.toNat N L1 := hd4.le (by omega)
      have hP5 : lgP E ρ G4 τ4 (aX A N N3) N3 a1 lk1 nm1 := hP4.more (fun t z => z.imp id (fun q => (by omega))) (aX_bd hP.2.2.1.2.2.2 hN0 (by omega))
      refine g_aast CF hK hM17 62 (by decide) (hP5.1.2.1.1 62 _ rfl) (by decide) rfl (i := k) hx0 hx1 (by omega) hT4 rfl (vb_asgC (hK.2.2.1 _ q1484 rfl)) rfl dX7_name_47 (fun H locs hM18 => ?_)
      obtain ⟨G6, τ6, hM19, hP6, hk6⟩ : ∃ (g : y_G) (τ : y_S), gM E (gA G sz) g τ s.heap H locs ∧ lgP E ρ g τ (aX A N N3) N3 a1 lk1 (up1 nm1 k (some L1)) ∧ rdN N3 G4 τ4 g τ := ⟨_, _, hM18, hP5.nm hd5, (fun t h1 h2 => ⟨rfl, rfl, fun z => up2_n _ _ _ z, fun _ => rfl⟩)⟩
      have hl := lv_cast hl (b := [(2, .int (jI (a - 1))), (0, .ref (G6.2.2 26)), (1, .int (jI k))]) (by rw [(hk6 26 (by omega) (by omega)).2.1])
      have hk06 : rdN N G σ G6 τ6 := ((hk1.tr (hk2.tr hk3 (by omega)) (Nat.le_refl _)).tr hk4 (Nat.le_refl _)).tr hk6 (by omega)
      refine g_new CF hK hM19 hA N3 (hP6.2.2.1.2.1 N3 (Nat.le_refl _)) (ci := 8) rfl rfl q615 q616 q77 (show (1 + (3 * (rEd (Sum.inr (a1, lk1, nm1, L1) : rR) - (a + 1)).toNat)) + 1 ≤ 3 * (rEd R - a).toNat + 2 by omega) (show (4 + (620 * (rEd (Sum.inr (a1, lk1, nm1, L1) : rR) - (a + 1)).toNat)) + 4 ≤ 620 * (rEd R - a).toNat + 7 by omega) dX7_name_48 (fun H a21 hM20 => ?_)
      obtain ⟨G7, τ7, hM22, hP7, hk7, hT7, hz7⟩ : ∃ (g : y_G) (τ : y_S), gM E (gA G sz) g τ s.heap H locs ∧ lgP E ρ g τ (aX A N N3) (N3 + 1) a1 lk1 (up1 nm1 k (some L1)) ∧ rdN N3 G6 τ6 g τ ∧ g.1 N3 = some (.inl 8) ∧ g.2.2 N3 = a21 := ⟨_, _, hM20, (hP6.new (Nat.lt_succ_self _)).1, (hP6.new (Nat.lt_succ_self _)).2, (upT_s _ _ _), (upT_s _ _ _)⟩
      have hl := lv_cast hl (b := [(2, .int (jI (a - 1))), (0, .ref (G7.2.2 26)), (1, .int (jI k))]) (by rw [(hk7 26 (by omega) (by omega)).2.1])
      refine x_stk (st' := [.ref (G7.2.2 N3)]) (by rw [hz7]) ?_
      refine lv_dup hx hb dX7_name_51 rfl ?_
      refine lv_aload_n hx hb dX7_name_52 rfl (lv_at hl 1 rfl) ?_
      refine g_getr CF hK hM22 26 (hP7.1.2.1.1 26 _ rfl) 3 3 rfl rfl (by decide) (Or.inl (hts _ q199)) (fun _ h => h) rfl (G7.2.2 60) (hP7.1.2.1.2.2.2.2.2.2.2.2.1.2) dX7_name_53 ?_
      refine lv_iconst (v := jI 0) hx hb dX7_name_56 rfl ?_
      refine g_new CF hK hM22 hA (N3 + 1) (hP7.2.2.1.2.1 _ (Nat.le_refl _)) (ci := 16) rfl rfl q621 q212 q70 (show ((1 + (3 * (rEd (Sum.inr (a1, lk1, nm1, L1) : rR) - (a + 1)).toNat)) + 1) + 1 ≤ 3 * (rEd R - a).toNat + 2 by omega) (show ((4 + (620 * (rEd (Sum.inr (a1, lk1, nm1, L1) : rR) - (a + 1)).toNat)) + 4) + 3 ≤ 620 * (rEd R - a).toNat + 7 by omega) dX7_name_57 (fun H a24 hM23 => ?_)
      obtain ⟨G8, τ8, hM25, hP8, hk8, hT8, hz8, hi8, hf8⟩ : ∃ (g : y_G) (τ : y_S), gM E (gA G sz) g τ s.heap H locs ∧ lgP E ρ g τ (aX A N N3) (N3 + 3) a1 lk1 (up1 nm1 k (some L1)) ∧ rdN (N3 + 1) G7 τ7 g τ ∧ g.1 (N3 + 1) = some (.inl 16) ∧ g.2.2 (N3 + 1) = a24 ∧ τ (N3 + 1) 2 = 0 ∧ g.1 (N3 + 1 + 1) = none := ⟨_, _, hM23, (hP7.new (by omega)).1, (hP7.new (N' := N3 + 3) (by omega)).2, (upT_s _ _ _), (upT_s _ _ _), (by rw [upT_s]), (by dsimp only; rw [upT_n _ _ (by omega)]; exact hP7.2.2.1.2.1 _ (by omega))⟩
      have hl := lv_cast hl (b := [(2, .int (jI (a - 1))), (0, .ref (G8.2.2 26)), (1, .int (jI k))]) (by rw [(hk8 26 (by omega) (by omega)).2.1])
      refine x_stk (st' := [.ref (G8.2.2 (N3 + 1)), .int (jI 0), .ref (G8.2.2 60), .ref (G8.2.2 N3), .ref (G8.2.2 N3)]) (by rw [hz8, (hk8 60 (by omega) (by omega)).2.1, (hk8 N3 (by omega) (by omega)).2.1]) ?_
      have hT8b : G8.1 N3 = some (.inl 8) := (hk8 N3 (by omega) (by omega)).1.trans hT7
      refine lv_dup hx hb dX7_name_60 rfl ?_
      refine g_callv hM25 hA (g_runI (As := []) (rest := [.ref (G8.2.2 (N3 + 1)), .int (jI 0), .ref (G8.2.2 60), .ref (G8.2.2 N3), .ref (G8.2.2 N3)]) CF hK hM25 (j_i3 l E _ _ _ (N3 + 1) (some (G8.2.2 0))  hT8 (by omega) hP8.2.2.2.1) (cwI 0 hts (lw_meth q215) rfl rfl rfl (hts _ q70) (hts _ q622) (hts _ q214) rfl (by decide +kernel) ⟨(show 3 + 1 ≤ 4 * f + 15 by omega), (show 8 + (1 + 11) + (64) ≤ 375 + 100 * f by omega)⟩) rfl hl.1 rfl (Nat.le_of_ble_eq_true rfl) dX7_name_61 ⟨(show (((1 + (3 * (rEd (Sum.inr (a1, lk1, nm1, L1) : rR) - (a + 1)).toNat)) + 1) + 1) + 0 ≤ 3 * (rEd R - a).toNat + 2 by omega), (show (((4 + (620 * (rEd (Sum.inr (a1, lk1, nm1, L1) : rR) - (a + 1)).toNat)) + 4) + 3) + 0 ≤ 620 * (rEd R - a).toNat + 7 by omega)⟩) (fun H locs hM26 => ?_)
      have hAA : ∀ t, aX (aX A N N3) (N3 + 1) (N3 + 3) t → aX A N (N3 + 3) t := fun t z => z.elim (fun q => q.imp id (fun q => (by omega))) (fun q => Or.inr (by omega))
      obtain ⟨G9, τ9, hM27, hP9, hk9, hl9, hz9, hT9⟩ : ∃ (g : y_G) (τ : y_S), gM E (gA G sz) g τ s.heap H locs ∧ lgP E ρ g τ (aX A N N3) (N3 + 3) a1 lk1 (up1 nm1 k (some L1)) ∧ rdN (N3 + 1) G8 τ8 g τ ∧ lsI ρ (aX A N N3) (N3 + 1) g τ (N3 + 3) 0 [] ∧ g.2.2 = G8.2.2 ∧ g.1 N3 = some (.inl 8) := ⟨_, _, hM26, hP8.ini (x := N3 + 1) (by omega) (fun z => (by have := hP6.2.2.1.2.2.2 _ z; omega)) (fun t h => up2_n _ _ _ h) (fun t h => up2_n _ _ _ h), (fun t h1 h2 => ⟨rfl, rfl, fun _ => up2_n _ _ _ (by omega), fun _ => up2_n _ _ _ (by omega)⟩), lsI.zero hT8 (by rw [up2_s, up1_n _ _ (by decide)]; exact hi8) hf8 (by dsimp only; rw [up2_s, up1_s]), rfl, hT8b⟩
      have hl := lv_cast hl (b := [(2, .int (jI (a - 1))), (0, .ref (G9.2.2 26)), (1, .int (jI k))]) (by rw [(hk9 26 (by omega) (by omega)).2.1])
      refine x_stk (st' := [.ref (G9.2.2 (N3 + 1)), .int (jI 0), .ref (G9.2.2 60), .ref (G9.2.2 N3), .ref (G9.2.2 N3)]) (by rw [(congrFun hz9 (N3 + 1)), (hk9 60 (by omega) (by omega)).2.1, (hk9 N3 (by omega) (by omega)).2.1]) ?_
      have hv9 := hl9.v (Nat.le_refl _) (by decide)
      refine g_callv hM27 hA (g_runI (As := [.ref (G9.2.2 60), .int (jI 0), .ref (G9.2.2 (N3 + 1))]) (rest := [.ref (G9.2.2 N3)]) CF hK hM27 (l_x11i8 l E _ _ _ N3 (G9.2.2 60) (G9.2.2 (N3 + 1)) 0 hT9 (by omega) (by first | omega | assumption | (refine ⟨?_, ?_⟩ <;> omega))) (cwI 3 hts (lw_meth q712) rfl rfl rfl (hts _ q77) (hts _ q710) (hts _ q711) rfl (by decide +kernel) ⟨(show 2 + 1 ≤ 4 * f + 15 by omega), (show 8 + (4 + 11) + (45) ≤ 375 + 100 * f by omega)⟩) rfl hl.1 rfl (Nat.le_of_ble_eq_true rfl) dX7_name_64 ⟨(show (((1 + (3 * (rEd (Sum.inr (a1, lk1, nm1, L1) : rR) - (a + 1)).toNat)) + 1) + 1) + 0 ≤ 3 * (rEd R - a).toNat + 2 by omega), (show (((4 + (620 * (rEd (Sum.inr (a1, lk1, nm1, L1) : rR) - (a + 1)).toNat)) + 4) + 3) + 0 ≤ 620 * (rEd R - a).toNat + 7 by omega)⟩) (fun H locs hM28 => ?_)
      obtain ⟨G10, τ10, hM29, hP10, hd10, hk10, hz10⟩ : ∃ (g : y_G) (τ : y_S), gM E (gA G sz) g τ s.heap H locs ∧ lgP E ρ g τ (aX A N N3) (N3 + 3) a1 lk1 (up1 nm1 k (some L1)) ∧ ndV ρ g τ (aX A N (N3 + 3)) 1 N3 (rdRep (0 : Int).toNat []) ∧ rdN N3 G9 τ9 g τ ∧ g.2.2 = G9.2.2 := ⟨_, _, hM28, hP9.ini (x := N3) (by omega) (fun z => (by have := hP6.2.2.1.2.2.2 _ z; omega)) (fun t h => (by rw [up2_n _ _ _ h, up2_n _ _ _ h, up2_n _ _ _ h])) (fun t h => up2_n _ _ _ h), ndV.ti (A' := aX A N (N3 + 3)) hv9 (fun z => z.elim (fun q => (by have := hP6.2.2.1.2.2.2 _ q; omega)) (fun q => (by omega))) (Or.inr (by omega)) hAA hT9 (by decide) (by decide) (fun t h => (by rw [up2_n _ _ _ h, up2_n _ _ _ h, up2_n _ _ _ h])) (fun t h => up2_n _ _ _ h) (by first | rw [up2_s, up1_s] | (dsimp only; rw [up2_s, up1_s])) (by first | rw [up2_s, up1_s] | (dsimp only; rw [up2_s, up1_s])), (fun t h1 h2 => ⟨rfl, rfl, fun _ => (by have e : t ≠ N3 := (by omega); dsimp only; rw [up2_n _ _ _ e, up2_n _ _ _ e, up2_n _ _ _ e]), fun _ => up2_n _ _ _ (by omega)⟩), rfl⟩
      have hl := lv_cast hl (b := [(2, .int (jI (a - 1))), (0, .ref (G10.2.2 26)), (1, .int (jI k))]) (by rw [(hk10 26 (by omega) (by omega)).2.1])
      refine x_stk (st' := [.ref (G10.2.2 N3)]) (by rw [(congrFun hz10 N3)]) ?_
      exact g_upR (g_aret CF hr (Or.inl ⟨_, rfl⟩) hlocks hM29 (r := some (G10.2.2 N3)) (by rw [e1]; exact ⟨N3, N3 + 3, _, _, _, _, rfl, rfl, hd10.le (by omega), hP10.more (fun t z => hAA t (Or.inl z)) (aX_bd hP.2.2.1.2.2.2 hN0 (by omega)), (hk06.tr (hk7.tr (hk8.tr hk9 (Nat.le_refl _)) (by omega)) (by omega)).tr hk10 (by omega), (by omega)⟩) (show (((1 + (3 * (rEd (Sum.inr (a1, lk1, nm1, L1) : rR) - (a + 1)).toNat)) + 1) + 1) ≤ 3 * (rEd R - a).toNat + 2 by omega) (show (((4 + (620 * (rEd (Sum.inr (a1, lk1, nm1, L1) : rR) - (a + 1)).toNat)) + 4) + 3) ≤ 620 * (rEd R - a).toNat + 7 by omega) dX7_name_67)
  · have hlk := hP.2.1.2
    have hlo2 : -1 ≤ lk ∧ lk ≤ 100 := (by unfold rLo at hlo; omega)
    have hE : rEd R = a := (by rw [e1]; rfl)
    obtain ⟨u, hu1, hu2⟩ : ∃ u : Nat, G.2.1 62 k = some (G.2.2 u) ∧ ndV ρ G σ A a.toNat u L1 := (by have q := (hP.2.2.2.2.1 k hx0 hx1); rw [hq] at q; exact q)
    refine lv_aload_n hx hb dX7_name_0 rfl (lv_at hl 0 rfl) ?_
    refine g_geti CF hK hM0 26 (hL.2.1.1 26 _ rfl) 1 1 rfl rfl (by decide) (Or.inl (hts _ q197)) (fun _ h => h) rfl dX7_name_1 ?_
    refine x_top (b := a) ha ?_
    refine lv_iconst (v := jI 1) hx hb dX7_name_4 rfl ?_
    refine x_isub hx hb dX7_name_5 ?_
    refine lv_istore_n (lv' := [(2, .int (jI (a - 1))), (0, .ref (G.2.2 26)), (1, .int (jI k))]) hx hb dX7_name_6 rfl hl (by decide) rfl (fun ls hl => ?_)
    refine lv_aload_n hx hb dX7_name_7 rfl (lv_at hl 1 rfl) ?_
    refine g_calli (r := nxR ρ (σ 26 1)) hM0 hA (g_runV (As := []) (rest := []) CF hK hM0 (hL.2.1.1 26 _ rfl) rfl (l_rnext l E _ _ _ ρ  hL (by have q := hP.2.1.1; have q2 := hP.2.2.2.2.2.1; omega)) (cwV 0 hts (lw_V q627 q629 qs15 q67 q630) rfl rfl rfl (by decide +kernel) ⟨(show 0 + 1 ≤ 4 * f + 15 by omega), (show 8 + (1 + 11) + (0) ≤ 375 + 100 * f by omega)⟩) rfl hl.1 rfl (Nat.le_of_ble_eq_true rfl) dX7_name_8 ⟨(show 0 + 0 ≤ 3 * (rEd R - a).toNat + 2 by omega), (show 0 + 0 ≤ 620 * (rEd R - a).toNat + 7 by omega)⟩) (fun H locs hM30 => ?_)
    refine x_top (b := nxR ρ a) (by rw [ha]) ?_
    refine lv_bipush (v := jI 61) hx hb dX7_name_11 (by decide) ?_
    have fa31 := nxR_r ρ a
    refine x_icmp_ne (tgt := 68) hx hb dX7_name_13 (by decide) (by have f0 := nxR_r ρ a; omega) (by omega) (fun b13 => ?_) (fun b13 => ?_)
    · refine lv_aload_n hx hb dX7_name_68 rfl (lv_at hl 1 rfl) ?_
      refine g_getr CF hK hM30 26 (hL.2.1.1 26 _ rfl) 0 0 rfl rfl (by decide) (Or.inl (hts _ q196)) (fun _ h => h) rfl (G.2.2 62) (hL.2.1.2.2.2.2.2.2.2.2.1.1) dX7_name_69 ?_
      refine lv_iload_n hx hb dX7_name_72 rfl (lv_at hl 2 rfl) ?_
      refine g_aaldr CF hK hM30 62 (hL.2.1.1 62 _ rfl) (by decide) rfl (i := k) hx0 hx1 (by omega) (G.2.2 u) hu1 dX7_name_73 ?_
      refine lv_ifnull hx hb dX7_name_74 ?_
      refine lv_aload_n hx hb dX7_name_77 rfl (lv_at hl 1 rfl) ?_
      refine g_getr CF hK hM30 26 (hL.2.1.1 26 _ rfl) 0 0 rfl rfl (by decide) (Or.inl (hts _ q196)) (fun _ h => h) rfl (G.2.2 62) (hL.2.1.2.2.2.2.2.2.2.2.1.1) dX7_name_78 ?_
      refine lv_iload_n hx hb dX7_name_81 rfl (lv_at hl 2 rfl) ?_
      refine g_aaldr CF hK hM30 62 (hL.2.1.1 62 _ rfl) (by decide) rfl (i := k) hx0 hx1 (by omega) (G.2.2 u) hu1 dX7_name_82 ?_
      exact g_upR (g_aret CF hr (Or.inl ⟨_, rfl⟩) hlocks hM30 (r := some (G.2.2 u)) (by rw [e1]; exact ⟨u, N, _, _, _, _, rfl, rfl, ndV.fr agA.rf rfl rfl (fun t z => Or.inl z) _ _ _ hu2, hP.more (fun t z => Or.inl z) (aX_bd hP.2.2.1.2.2.2 hN0 (Nat.le_refl _)), rdN.rf, Nat.le_refl _⟩) (show 0 ≤ 3 * (rEd R - a).toNat + 2 by omega) (show 0 ≤ 620 * (rEd R - a).toNat + 7 by omega) dX7_name_83)
    · (exfalso; omega)
  · have hlk := hP.2.1.2
    have hlo2 : -1 ≤ lk ∧ lk ≤ 100 := (by unfold rLo at hlo; omega)
    have hE : rEd R = a := (by rw [e1]; rfl)
    have hq0 : G.2.1 62 k = none := (by have q := (hP.2.2.2.2.1 k hx0 hx1); rw [hq] at q; exact q)
    refine lv_aload_n hx hb dX7_name_0 rfl (lv_at hl 0 rfl) ?_
    refine g_geti CF hK hM0 26 (hL.2.1.1 26 _ rfl) 1 1 rfl rfl (by decide) (Or.inl (hts _ q197)) (fun _ h => h) rfl dX7_name_1 ?_
    refine x_top (b := a) ha ?_
    refine lv_iconst (v := jI 1) hx hb dX7_name_4 rfl ?_
    refine x_isub hx hb dX7_name_5 ?_
    refine lv_istore_n (lv' := [(2, .int (jI (a - 1))), (0, .ref (G.2.2 26)), (1, .int (jI k))]) hx hb dX7_name_6 rfl hl (by decide) rfl (fun ls hl => ?_)
    refine lv_aload_n hx hb dX7_name_7 rfl (lv_at hl 1 rfl) ?_
    refine g_calli (r := nxR ρ (σ 26 1)) hM0 hA (g_runV (As := []) (rest := []) CF hK hM0 (hL.2.1.1 26 _ rfl) rfl (l_rnext l E _ _ _ ρ  hL (by have q := hP.2.1.1; have q2 := hP.2.2.2.2.2.1; omega)) (cwV 0 hts (lw_V q627 q629 qs15 q67 q630) rfl rfl rfl (by decide +kernel) ⟨(show 0 + 1 ≤ 4 * f + 15 by omega), (show 8 + (1 + 11) + (0) ≤ 375 + 100 * f by omega)⟩) rfl hl.1 rfl (Nat.le_of_ble_eq_true rfl) dX7_name_8 ⟨(show 0 + 0 ≤ 3 * (rEd R - a).toNat + 2 by omega), (show 0 + 0 ≤ 620 * (rEd R - a).toNat + 7 by omega)⟩) (fun H locs hM32 => ?_)
    refine x_top (b := nxR ρ a) (by rw [ha]) ?_
    refine lv_bipush (v := jI 61) hx hb dX7_name_11 (by decide) ?_
    have fa33 := nxR_r ρ a
    refine x_icmp_ne (tgt := 68) hx hb dX7_name_13 (by decide) (by have f0 := nxR_r ρ a; omega) (by omega) (fun b13 => ?_) (fun b13 => ?_)
    · refine lv_aload_n hx hb dX7_name_68 rfl (lv_at hl 1 rfl) ?_
      refine g_getr CF hK hM32 26 (hL.2.1.1 26 _ rfl) 0 0 rfl rfl (by decide) (Or.inl (hts _ q196)) (fun _ h => h) rfl (G.2.2 62) (hL.2.1.2.2.2.2.2.2.2.2.1.1) dX7_name_69 ?_
      refine lv_iload_n hx hb dX7_name_72 rfl (lv_at hl 2 rfl) ?_
      refine g_aald CF hK hM32 62 (hL.2.1.1 62 _ rfl) (by decide) rfl (i := k) hx0 hx1 (by omega) (r := none) hq0 dX7_name_73 ?_
      refine lv_ifnullN (tgt := 84) hx hb dX7_name_74 (by decide) ?_
      refine lv_aload_n hx hb dX7_name_84 rfl (lv_at hl 1 rfl) ?_
      refine g_geti CF hK hM32 26 (hL.2.1.1 26 _ rfl) 2 2 rfl rfl (by decide) (Or.inl (hts _ q198)) (fun _ h => h) rfl dX7_name_85 ?_
      refine x_top (b := lk) hlk ?_
      refine lv_iconst (v := jI (-1)) hx hb dX7_name_88 rfl ?_
      refine x_icmp_ne (tgt := 97) hx hb dX7_name_89 (by decide) (by omega) (by omega) (fun b89 => ?_) (fun b89 => ?_)
      · exact absurd c2 b89
      · refine lv_aload_n hx hb dX7_name_92 rfl (lv_at hl 1 rfl) ?_
        refine lv_iload_n hx hb dX7_name_93 rfl (lv_at hl 0 rfl) ?_
        refine g_puti CF hK hM32 26 (by decide) (hL.2.1.1 26 _ rfl) 2 2 rfl rfl (by decide) (Or.inl (hts _ q198)) (fun _ h => h) (Or.inl rfl) rfl (v := a - 1) rfl rfl (by omega) dX7_name_94 (fun H locs hM34 => ?_)
        obtain ⟨lkx, hlkx⟩ : ∃ z : Int, z = a - 1 := ⟨_, rfl⟩
        obtain ⟨G1, τ1, hM35, hP1, hk01⟩ : ∃ (g : y_G) (τ : y_S), gM E (gA G sz) g τ s.heap H locs ∧ lgP E ρ g τ A N a lkx nm ∧ rdN N G σ g τ := ⟨_, _, hM34, (by rw [hlkx]; exact (hP.lack (Or.inr (by omega))).1), (hP.lack (Or.inr (by omega))).2⟩
        have hl := lv_cast hl (b := [(2, .int (jI (a - 1))), (0, .ref (G1.2.2 26)), (1, .int (jI k))]) (by rw [(hk01 26 (by omega) (by omega)).2.1])
        rw [← hlkx] at e1
        refine g_new CF hK hM35 hA N (hP1.2.2.1.2.1 N (Nat.le_refl _)) (ci := 8) rfl rfl q615 q616 q77 (show 0 + 1 ≤ 3 * (rEd R - a).toNat + 2 by omega) (show 0 + 4 ≤ 620 * (rEd R - a).toNat + 7 by omega) dX7_name_97 (fun H a37 hM36 => ?_)
        obtain ⟨G7, τ7, hM38, hP7, hk7, hT7, hz7⟩ : ∃ (g : y_G) (τ : y_S), gM E (gA G sz) g τ s.heap H locs ∧ lgP E ρ g τ A (N + 1) a lkx nm ∧ rdN N G1 τ1 g τ ∧ g.1 N = some (.inl 8) ∧ g.2.2 N = a37 := ⟨_, _, hM36, (hP1.new (Nat.lt_succ_self _)).1, (hP1.new (Nat.lt_succ_self _)).2, (upT_s _ _ _), (upT_s _ _ _)⟩
        have hl := lv_cast hl (b := [(2, .int (jI (a - 1))), (0, .ref (G7.2.2 26)), (1, .int (jI k))]) (by rw [(hk7 26 (by omega) (by omega)).2.1])
        refine x_stk (st' := [.ref (G7.2.2 N)]) (by rw [hz7]) ?_
        refine lv_dup hx hb dX7_name_100 rfl ?_
        refine lv_aload_n hx hb dX7_name_101 rfl (lv_at hl 1 rfl) ?_
        refine g_getr CF hK hM38 26 (hP7.1.2.1.1 26 _ rfl) 3 3 rfl rfl (by decide) (Or.inl (hts _ q199)) (fun _ h => h) rfl (G7.2.2 60) (hP7.1.2.1.2.2.2.2.2.2.2.2.1.2) dX7_name_102 ?_
        refine lv_iconst (v := jI 0) hx hb dX7_name_105 rfl ?_
        refine g_new CF hK hM38 hA (N + 1) (hP7.2.2.1.2.1 _ (Nat.le_refl _)) (ci := 16) rfl rfl q621 q212 q70 (show 1 + 1 ≤ 3 * (rEd R - a).toNat + 2 by omega) (show 4 + 3 ≤ 620 * (rEd R - a).toNat + 7 by omega) dX7_name_106 (fun H a40 hM39 => ?_)
        obtain ⟨G8, τ8, hM41, hP8, hk8, hT8, hz8, hi8, hf8⟩ : ∃ (g : y_G) (τ : y_S), gM E (gA G sz) g τ s.heap H locs ∧ lgP E ρ g τ A (N + 3) a lkx nm ∧ rdN (N + 1) G7 τ7 g τ ∧ g.1 (N + 1) = some (.inl 16) ∧ g.2.2 (N + 1) = a40 ∧ τ (N + 1) 2 = 0 ∧ g.1 (N + 1 + 1) = none := ⟨_, _, hM39, (hP7.new (by omega)).1, (hP7.new (N' := N + 3) (by omega)).2, (upT_s _ _ _), (upT_s _ _ _), (by rw [upT_s]), (by dsimp only; rw [upT_n _ _ (by omega)]; exact hP7.2.2.1.2.1 _ (by omega))⟩
        have hl := lv_cast hl (b := [(2, .int (jI (a - 1))), (0, .ref (G8.2.2 26)), (1, .int (jI k))]) (by rw [(hk8 26 (by omega) (by omega)).2.1])
        refine x_stk (st' := [.ref (G8.2.2 (N + 1)), .int (jI 0), .ref (G8.2.2 60), .ref (G8.2.2 N), .ref (G8.2.2 N)]) (by rw [hz8, (hk8 60 (by omega) (by omega)).2.1, (hk8 N (by omega) (by omega)).2.1]) ?_
        have hT8b : G8.1 N = some (.inl 8) := (hk8 N (by omega) (by omega)).1.trans hT7
        refine lv_dup hx hb dX7_name_109 rfl ?_
        refine g_callv hM41 hA (g_runI (As := []) (rest := [.ref (G8.2.2 (N + 1)), .int (jI 0), .ref (G8.2.2 60), .ref (G8.2.2 N), .ref (G8.2.2 N)]) CF hK hM41 (j_i3 l E _ _ _ (N + 1) (some (G8.2.2 0))  hT8 (by omega) hP8.2.2.2.1) (cwI 0 hts (lw_meth q215) rfl rfl rfl (hts _ q70) (hts _ q622) (hts _ q214) rfl (by decide +kernel) ⟨(show 3 + 1 ≤ 4 * f + 15 by omega), (show 8 + (1 + 11) + (64) ≤ 375 + 100 * f by omega)⟩) rfl hl.1 rfl (Nat.le_of_ble_eq_true rfl) dX7_name_110 ⟨(show 2 + 0 ≤ 3 * (rEd R - a).toNat + 2 by omega), (show 7 + 0 ≤ 620 * (rEd R - a).toNat + 7 by omega)⟩) (fun H locs hM42 => ?_)
        have hAA : ∀ t, aX A (N + 1) (N + 3) t → aX A N (N + 3) t := fun t z => z.elim (fun q => Or.inl q) (fun q => Or.inr (by omega))
        obtain ⟨G9, τ9, hM43, hP9, hk9, hl9, hz9, hT9⟩ : ∃ (g : y_G) (τ : y_S), gM E (gA G sz) g τ s.heap H locs ∧ lgP E ρ g τ A (N + 3) a lkx nm ∧ rdN (N + 1) G8 τ8 g τ ∧ lsI ρ A (N + 1) g τ (N + 3) 0 [] ∧ g.2.2 = G8.2.2 ∧ g.1 N = some (.inl 8) := ⟨_, _, hM42, hP8.ini (x := N + 1) (by omega) (fun z => (by have := hP1.2.2.1.2.2.2 _ z; omega)) (fun t h => up2_n _ _ _ h) (fun t h => up2_n _ _ _ h), (fun t h1 h2 => ⟨rfl, rfl, fun _ => up2_n _ _ _ (by omega), fun _ => up2_n _ _ _ (by omega)⟩), lsI.zero hT8 (by rw [up2_s, up1_n _ _ (by decide)]; exact hi8) hf8 (by dsimp only; rw [up2_s, up1_s]), rfl, hT8b⟩
        have hl := lv_cast hl (b := [(2, .int (jI (a - 1))), (0, .ref (G9.2.2 26)), (1, .int (jI k))]) (by rw [(hk9 26 (by omega) (by omega)).2.1])
        refine x_stk (st' := [.ref (G9.2.2 (N + 1)), .int (jI 0), .ref (G9.2.2 60), .ref (G9.2.2 N), .ref (G9.2.2 N)]) (by rw [(congrFun hz9 (N + 1)), (hk9 60 (by omega) (by omega)).2.1, (hk9 N (by omega) (by omega)).2.1]) ?_
        have hv9 := hl9.v (Nat.le_refl _) (by decide)
        refine g_callv hM43 hA (g_runI (As := [.ref (G9.2.2 60), .int (jI 0), .ref (G9.2.2 (N + 1))]) (rest := [.ref (G9.2.2 N)]) CF hK hM43 (l_x11i8 l E _ _ _ N (G9.2.2 60) (G9.2.2 (N + 1)) 0 hT9 (by omega) (by first | omega | assumption | (refine ⟨?_, ?_⟩ <;> omega))) (cwI 3 hts (lw_meth q712) rfl rfl rfl (hts _ q77) (hts _ q710) (hts _ q711) rfl (by decide +kernel) ⟨(show 2 + 1 ≤ 4 * f + 15 by omega), (show 8 + (4 + 11) + (45) ≤ 375 + 100 * f by omega)⟩) rfl hl.1 rfl (Nat.le_of_ble_eq_true rfl) dX7_name_113 ⟨(show 2 + 0 ≤ 3 * (rEd R - a).toNat + 2 by omega), (show 7 + 0 ≤ 620 * (rEd R - a).toNat + 7 by omega)⟩) (fun H locs hM44 => ?_)
        obtain ⟨G10, τ10, hM45, hP10, hd10, hk10, hz10⟩ : ∃ (g : y_G) (τ : y_S), gM E (gA G sz) g τ s.heap H locs ∧ lgP E ρ g τ A (N + 3) a lkx nm ∧ ndV ρ g τ (aX A N (N + 3)) 1 N (rdRep (0 : Int).toNat []) ∧ rdN N G9 τ9 g τ ∧ g.2.2 = G9.2.2 := ⟨_, _, hM44, hP9.ini (x := N) (by omega) (fun z => (by have := hP1.2.2.1.2.2.2 _ z; omega)) (fun t h => (by rw [up2_n _ _ _ h, up2_n _ _ _ h, up2_n _ _ _ h])) (fun t h => up2_n _ _ _ h), ndV.ti (A' := aX A N (N + 3)) hv9 (fun z => z.elim (fun q => (by have := hP1.2.2.1.2.2.2 _ q; omega)) (fun q => (by omega))) (Or.inr (by omega)) hAA hT9 (by decide) (by decide) (fun t h => (by rw [up2_n _ _ _ h, up2_n _ _ _ h, up2_n _ _ _ h])) (fun t h => up2_n _ _ _ h) (by first | rw [up2_s, up1_s] | (dsimp only; rw [up2_s, up1_s])) (by first | rw [up2_s, up1_s] | (dsimp only; rw [up2_s, up1_s])), (fun t h1 h2 => ⟨rfl, rfl, fun _ => (by have e : t ≠ N := (by omega); dsimp only; rw [up2_n _ _ _ e, up2_n _ _ _ e, up2_n _ _ _ e]), fun _ => up2_n _ _ _ (by omega)⟩), rfl⟩
        have hl := lv_cast hl (b := [(2, .int (jI (a - 1))), (0, .ref (G10.2.2 26)), (1, .int (jI k))]) (by rw [(hk10 26 (by omega) (by omega)).2.1])
        refine x_stk (st' := [.ref (G10.2.2 N)]) (by rw [(congrFun hz10 N)]) ?_
        exact g_upR (g_aret CF hr (Or.inl ⟨_, rfl⟩) hlocks hM45 (r := some (G10.2.2 N)) (by rw [e1]; exact ⟨N, N + 3, _, _, _, _, rfl, rfl, hd10.le (by omega), hP10.more (fun t z => hAA t (Or.inl z)) (aX_bd hP.2.2.1.2.2.2 hN0 (by omega)), (hk01.tr (hk7.tr (hk8.tr hk9 (Nat.le_refl _)) (by omega)) (by omega)).tr hk10 (by omega), (by omega)⟩) (show 2 ≤ 3 * (rEd R - a).toNat + 2 by omega) (show 7 ≤ 620 * (rEd R - a).toNat + 7 by omega) dX7_name_116)
    · (exfalso; omega)
  · have hlk := hP.2.1.2
    have hlo2 : -1 ≤ lk ∧ lk ≤ 100 := (by unfold rLo at hlo; omega)
    have hE : rEd R = a := (by rw [e1]; rfl)
    have hq0 : G.2.1 62 k = none := (by have q := (hP.2.2.2.2.1 k hx0 hx1); rw [hq] at q; exact q)
    refine lv_aload_n hx hb dX7_name_0 rfl (lv_at hl 0 rfl) ?_
    refine g_geti CF hK hM0 26 (hL.2.1.1 26 _ rfl) 1 1 rfl rfl (by decide) (Or.inl (hts _ q197)) (fun _ h => h) rfl dX7_name_1 ?_
    refine x_top (b := a) ha ?_
    refine lv_iconst (v := jI 1) hx hb dX7_name_4 rfl ?_
    refine x_isub hx hb dX7_name_5 ?_
    refine lv_istore_n (lv' := [(2, .int (jI (a - 1))), (0, .ref (G.2.2 26)), (1, .int (jI k))]) hx hb dX7_name_6 rfl hl (by decide) rfl (fun ls hl => ?_)
    refine lv_aload_n hx hb dX7_name_7 rfl (lv_at hl 1 rfl) ?_
    refine g_calli (r := nxR ρ (σ 26 1)) hM0 hA (g_runV (As := []) (rest := []) CF hK hM0 (hL.2.1.1 26 _ rfl) rfl (l_rnext l E _ _ _ ρ  hL (by have q := hP.2.1.1; have q2 := hP.2.2.2.2.2.1; omega)) (cwV 0 hts (lw_V q627 q629 qs15 q67 q630) rfl rfl rfl (by decide +kernel) ⟨(show 0 + 1 ≤ 4 * f + 15 by omega), (show 8 + (1 + 11) + (0) ≤ 375 + 100 * f by omega)⟩) rfl hl.1 rfl (Nat.le_of_ble_eq_true rfl) dX7_name_8 ⟨(show 0 + 0 ≤ 3 * (rEd R - a).toNat + 2 by omega), (show 0 + 0 ≤ 620 * (rEd R - a).toNat + 7 by omega)⟩) (fun H locs hM46 => ?_)
    refine x_top (b := nxR ρ a) (by rw [ha]) ?_
    refine lv_bipush (v := jI 61) hx hb dX7_name_11 (by decide) ?_
    have fa47 := nxR_r ρ a
    refine x_icmp_ne (tgt := 68) hx hb dX7_name_13 (by decide) (by have f0 := nxR_r ρ a; omega) (by omega) (fun b13 => ?_) (fun b13 => ?_)
    · refine lv_aload_n hx hb dX7_name_68 rfl (lv_at hl 1 rfl) ?_
      refine g_getr CF hK hM46 26 (hL.2.1.1 26 _ rfl) 0 0 rfl rfl (by decide) (Or.inl (hts _ q196)) (fun _ h => h) rfl (G.2.2 62) (hL.2.1.2.2.2.2.2.2.2.2.1.1) dX7_name_69 ?_
      refine lv_iload_n hx hb dX7_name_72 rfl (lv_at hl 2 rfl) ?_
      refine g_aald CF hK hM46 62 (hL.2.1.1 62 _ rfl) (by decide) rfl (i := k) hx0 hx1 (by omega) (r := none) hq0 dX7_name_73 ?_
      refine lv_ifnullN (tgt := 84) hx hb dX7_name_74 (by decide) ?_
      refine lv_aload_n hx hb dX7_name_84 rfl (lv_at hl 1 rfl) ?_
      refine g_geti CF hK hM46 26 (hL.2.1.1 26 _ rfl) 2 2 rfl rfl (by decide) (Or.inl (hts _ q198)) (fun _ h => h) rfl dX7_name_85 ?_
      refine x_top (b := lk) hlk ?_
      refine lv_iconst (v := jI (-1)) hx hb dX7_name_88 rfl ?_
      refine x_icmp_ne (tgt := 97) hx hb dX7_name_89 (by decide) (by omega) (by omega) (fun b89 => ?_) (fun b89 => ?_)
      · obtain ⟨lkx, hlkx⟩ : ∃ z : Int, z = lk := ⟨_, rfl⟩
        obtain ⟨G1, τ1, hM48, hP1, hk01⟩ : ∃ (g : y_G) (τ : y_S), gM E (gA G sz) g τ s.heap H locs ∧ lgP E ρ g τ A N a lkx nm ∧ rdN N G σ g τ := ⟨_, _, hM46, (by rw [hlkx]; exact hP), rdN.rf⟩
        have hl := lv_cast hl (b := [(2, .int (jI (a - 1))), (0, .ref (G1.2.2 26)), (1, .int (jI k))]) (by rw [(hk01 26 (by omega) (by omega)).2.1])
        rw [← hlkx] at e1
        refine g_new CF hK hM48 hA N (hP1.2.2.1.2.1 N (Nat.le_refl _)) (ci := 8) rfl rfl q615 q616 q77 (show 0 + 1 ≤ 3 * (rEd R - a).toNat + 2 by omega) (show 0 + 4 ≤ 620 * (rEd R - a).toNat + 7 by omega) dX7_name_97 (fun H a50 hM49 => ?_)
        obtain ⟨G7, τ7, hM51, hP7, hk7, hT7, hz7⟩ : ∃ (g : y_G) (τ : y_S), gM E (gA G sz) g τ s.heap H locs ∧ lgP E ρ g τ A (N + 1) a lkx nm ∧ rdN N G1 τ1 g τ ∧ g.1 N = some (.inl 8) ∧ g.2.2 N = a50 := ⟨_, _, hM49, (hP1.new (Nat.lt_succ_self _)).1, (hP1.new (Nat.lt_succ_self _)).2, (upT_s _ _ _), (upT_s _ _ _)⟩
        have hl := lv_cast hl (b := [(2, .int (jI (a - 1))), (0, .ref (G7.2.2 26)), (1, .int (jI k))]) (by rw [(hk7 26 (by omega) (by omega)).2.1])
        refine x_stk (st' := [.ref (G7.2.2 N)]) (by rw [hz7]) ?_
        refine lv_dup hx hb dX7_name_100 rfl ?_
        refine lv_aload_n hx hb dX7_name_101 rfl (lv_at hl 1 rfl) ?_
        refine g_getr CF hK hM51 26 (hP7.1.2.1.1 26 _ rfl) 3 3 rfl rfl (by decide) (Or.inl (hts _ q199)) (fun _ h => h) rfl (G7.2.2 60) (hP7.1.2.1.2.2.2.2.2.2.2.2.1.2) dX7_name_102 ?_
        refine lv_iconst (v := jI 0) hx hb dX7_name_105 rfl ?_
        refine g_new CF hK hM51 hA (N + 1) (hP7.2.2.1.2.1 _ (Nat.le_refl _)) (ci := 16) rfl rfl q621 q212 q70 (show 1 + 1 ≤ 3 * (rEd R - a).toNat + 2 by omega) (show 4 + 3 ≤ 620 * (rEd R - a).toNat + 7 by omega) dX7_name_106 (fun H a53 hM52 => ?_)
        obtain ⟨G8, τ8, hM54, hP8, hk8, hT8, hz8, hi8, hf8⟩ : ∃ (g : y_G) (τ : y_S), gM E (gA G sz) g τ s.heap H locs ∧ lgP E ρ g τ A (N + 3) a lkx nm ∧ rdN (N + 1) G7 τ7 g τ ∧ g.1 (N + 1) = some (.inl 16) ∧ g.2.2 (N + 1) = a53 ∧ τ (N + 1) 2 = 0 ∧ g.1 (N + 1 + 1) = none := ⟨_, _, hM52, (hP7.new (by omega)).1, (hP7.new (N' := N + 3) (by omega)).2, (upT_s _ _ _), (upT_s _ _ _), (by rw [upT_s]), (by dsimp only; rw [upT_n _ _ (by omega)]; exact hP7.2.2.1.2.1 _ (by omega))⟩
        have hl := lv_cast hl (b := [(2, .int (jI (a - 1))), (0, .ref (G8.2.2 26)), (1, .int (jI k))]) (by rw [(hk8 26 (by omega) (by omega)).2.1])
        refine x_stk (st' := [.ref (G8.2.2 (N + 1)), .int (jI 0), .ref (G8.2.2 60), .ref (G8.2.2 N), .ref (G8.2.2 N)]) (by rw [hz8, (hk8 60 (by omega) (by omega)).2.1, (hk8 N (by omega) (by omega)).2.1]) ?_
        have hT8b : G8.1 N = some (.inl 8) := (hk8 N (by omega) (by omega)).1.trans hT7
        refine lv_dup hx hb dX7_name_109 rfl ?_
        refine g_callv hM54 hA (g_runI (As := []) (rest := [.ref (G8.2.2 (N + 1)), .int (jI 0), .ref (G8.2.2 60), .ref (G8.2.2 N), .ref (G8.2.2 N)]) CF hK hM54 (j_i3 l E _ _ _ (N + 1) (some (G8.2.2 0))  hT8 (by omega) hP8.2.2.2.1) (cwI 0 hts (lw_meth q215) rfl rfl rfl (hts _ q70) (hts _ q622) (hts _ q214) rfl (by decide +kernel) ⟨(show 3 + 1 ≤ 4 * f + 15 by omega), (show 8 + (1 + 11) + (64) ≤ 375 + 100 * f by omega)⟩) rfl hl.1 rfl (Nat.le_of_ble_eq_true rfl) dX7_name_110 ⟨(show 2 + 0 ≤ 3 * (rEd R - a).toNat + 2 by omega), (show 7 + 0 ≤ 620 * (rEd R - a).toNat + 7 by omega)⟩) (fun H locs hM55 => ?_)
        have hAA : ∀ t, aX A (N + 1) (N + 3) t → aX A N (N + 3) t := fun t z => z.elim (fun q => Or.inl q) (fun q => Or.inr (by omega))
        obtain ⟨G9, τ9, hM56, hP9, hk9, hl9, hz9, hT9⟩ : ∃ (g : y_G) (τ : y_S), gM E (gA G sz) g τ s.heap H locs ∧ lgP E ρ g τ A (N + 3) a lkx nm ∧ rdN (N + 1) G8 τ8 g τ ∧ lsI ρ A (N + 1) g τ (N + 3) 0 [] ∧ g.2.2 = G8.2.2 ∧ g.1 N = some (.inl 8) := ⟨_, _, hM55, hP8.ini (x := N + 1) (by omega) (fun z => (by have := hP1.2.2.1.2.2.2 _ z; omega)) (fun t h => up2_n _ _ _ h) (fun t h => up2_n _ _ _ h), (fun t h1 h2 => ⟨rfl, rfl, fun _ => up2_n _ _ _ (by omega), fun _ => up2_n _ _ _ (by omega)⟩), lsI.zero hT8 (by rw [up2_s, up1_n _ _ (by decide)]; exact hi8) hf8 (by dsimp only; rw [up2_s, up1_s]), rfl, hT8b⟩
        have hl := lv_cast hl (b := [(2, .int (jI (a - 1))), (0, .ref (G9.2.2 26)), (1, .int (jI k))]) (by rw [(hk9 26 (by omega) (by omega)).2.1])
        refine x_stk (st' := [.ref (G9.2.2 (N + 1)), .int (jI 0), .ref (G9.2.2 60), .ref (G9.2.2 N), .ref (G9.2.2 N)]) (by rw [(congrFun hz9 (N + 1)), (hk9 60 (by omega) (by omega)).2.1, (hk9 N (by omega) (by omega)).2.1]) ?_
        have hv9 := hl9.v (Nat.le_refl _) (by decide)
        refine g_callv hM56 hA (g_runI (As := [.ref (G9.2.2 60), .int (jI 0), .ref (G9.2.2 (N + 1))]) (rest := [.ref (G9.2.2 N)]) CF hK hM56 (l_x11i8 l E _ _ _ N (G9.2.2 60) (G9.2.2 (N + 1)) 0 hT9 (by omega) (by first | omega | assumption | (refine ⟨?_, ?_⟩ <;> omega))) (cwI 3 hts (lw_meth q712) rfl rfl rfl (hts _ q77) (hts _ q710) (hts _ q711) rfl (by decide +kernel) ⟨(show 2 + 1 ≤ 4 * f + 15 by omega), (show 8 + (4 + 11) + (45) ≤ 375 + 100 * f by omega)⟩) rfl hl.1 rfl (Nat.le_of_ble_eq_true rfl) dX7_name_113 ⟨(show 2 + 0 ≤ 3 * (rEd R - a).toNat + 2 by omega), (show 7 + 0 ≤ 620 * (rEd R - a).toNat + 7 by omega)⟩) (fun H locs hM57 => ?_)
        obtain ⟨G10, τ10, hM58, hP10, hd10, hk10, hz10⟩ : ∃ (g : y_G) (τ : y_S), gM E (gA G sz) g τ s.heap H locs ∧ lgP E ρ g τ A (N + 3) a lkx nm ∧ ndV ρ g τ (aX A N (N + 3)) 1 N (rdRep (0 : Int).toNat []) ∧ rdN N G9 τ9 g τ ∧ g.2.2 = G9.2.2 := ⟨_, _, hM57, hP9.ini (x := N) (by omega) (fun z => (by have := hP1.2.2.1.2.2.2 _ z; omega)) (fun t h => (by rw [up2_n _ _ _ h, up2_n _ _ _ h, up2_n _ _ _ h])) (fun t h => up2_n _ _ _ h), ndV.ti (A' := aX A N (N + 3)) hv9 (fun z => z.elim (fun q => (by have := hP1.2.2.1.2.2.2 _ q; omega)) (fun q => (by omega))) (Or.inr (by omega)) hAA hT9 (by decide) (by decide) (fun t h => (by rw [up2_n _ _ _ h, up2_n _ _ _ h, up2_n _ _ _ h])) (fun t h => up2_n _ _ _ h) (by first | rw [up2_s, up1_s] | (dsimp only; rw [up2_s, up1_s])) (by first | rw [up2_s, up1_s] | (dsimp only; rw [up2_s, up1_s])), (fun t h1 h2 => ⟨rfl, rfl, fun _ => (by have e : t ≠ N := (by omega); dsimp only; rw [up2_n _ _ _ e, up2_n _ _ _ e, up2_n _ _ _ e]), fun _ => up2_n _ _ _ (by omega)⟩), rfl⟩
        have hl := lv_cast hl (b := [(2, .int (jI (a - 1))), (0, .ref (G10.2.2 26)), (1, .int (jI k))]) (by rw [(hk10 26 (by omega) (by omega)).2.1])
        refine x_stk (st' := [.ref (G10.2.2 N)]) (by rw [(congrFun hz10 N)]) ?_
        exact g_upR (g_aret CF hr (Or.inl ⟨_, rfl⟩) hlocks hM58 (r := some (G10.2.2 N)) (by rw [e1]; exact ⟨N, N + 3, _, _, _, _, rfl, rfl, hd10.le (by omega), hP10.more (fun t z => hAA t (Or.inl z)) (aX_bd hP.2.2.1.2.2.2 hN0 (by omega)), (hk01.tr (hk7.tr (hk8.tr hk9 (Nat.le_refl _)) (by omega)) (by omega)).tr hk10 (by omega), (by omega)⟩) (show 2 ≤ 3 * (rEd R - a).toNat + 2 by omega) (show 7 ≤ 620 * (rEd R - a).toNat + 7 by omega) dX7_name_116)
      · (exfalso; omega)
    · (exfalso; omega)
