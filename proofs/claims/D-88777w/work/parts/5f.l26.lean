/-! THE READER: a statement -/
set_option maxHeartbeats 2000000 in
theorem l_rst (l : Launch) (E : y_E) (G : y_G) (σ : y_S) (sz : Nat) (ρ : y_S) (f : Nat) (A : Nat → Prop) (N : Nat) (a : Int) (lk : Int) (nm : rM) (R : rR) (hP : lgP E ρ G σ A N a lk nm) (hR : rSt ρ (f + 1) a lk nm = some R) (hI : CtBr l E ρ f) (hNa : CtNa l E ρ f) : gCtB l yX7_statement cX7_statement 4 (some (.object "LightPlate$Node")) ({ frames := 4 * (f + 1) + 12, cells := 3 * (rEd R - a).toNat - 1, slots := 620 * (rEd R - a).toNat - 600, locals := 300 + 100 * (f + 1) }) E [.ref (G.2.2 26)] G σ sz (rPn E ρ G σ A N R) (rTh G σ R) (3 * (rEd R - a).toNat - 1) (620 * (rEd R - a).toNat - 600) := by
  refine g_metB (by decide) (Nat.le_of_ble_eq_true rfl) ?_
  intro p e s m below meth c ls CF het hr hlocks hnm hK hM0 hA hl
  have hx := CF.1
  have hb := CF.2.1
  have hts := CF.2.2.2.2
  have hl : lv_has ls 4 [(0, .ref (G.2.2 26))] := hl
  have hL := hP.1
  have ha := hP.2.1.1
  have hab := hP.2.2.2.2.2.1
  have hN0 := hP.2.2.1.1
  have hT := hP.1.1.tp
  have hT2 : ρ 60 30 ≤ 100 := (by omega)
  have hlo := hP.2.2.2.2.2.2
  rcases rSt_d hR with ⟨c1, e1⟩ | ⟨c1, p1, hq, e1⟩ | ⟨c1, a1, lk1, nm1, L1, hq, e1⟩ | ⟨c1, p1, hq, e1⟩ | ⟨c1, a1, lk1, nm1, L1, hq, e1⟩ | ⟨c1, e1⟩ | ⟨c1, hq, e1⟩ | ⟨c1, vi, b1, hq, e1⟩ | ⟨c1, vi, b1, hq, hq2, e1⟩ | ⟨c1, vi, b1, vk, b2, hq, hq2, e1⟩ | ⟨c1, vi, b1, vk, b2, hq, hq2, e1⟩
  · have hnr := nxR_r ρ a
    have hn := hP.1.1.n
    have hn1 := hn.1
    have hn2 := hn.2
    have hE : rEd R = a + 1 := (by rw [e1]; rfl)
    refine lv_aload_n hx hb dX7_statement_0 rfl (lv_at hl 0 rfl) ?_
    refine g_calli (r := nxR ρ (σ 26 1)) hM0 hA (g_runV (As := []) (rest := []) CF hK hM0 (hL.2.1.1 26 _ rfl) rfl (l_rnext l E _ _ _ ρ  hL (by have q := hP.2.1.1; have q2 := hP.2.2.2.2.2.1; omega)) (cwV 0 hts (lw_V q627 q629 qs15 q67 q630) rfl rfl rfl (by decide +kernel) ⟨(show 0 + 1 ≤ 4 * (f + 1) + 12 by omega), (show 8 + (1 + 11) + (0) ≤ 300 + 100 * (f + 1) by omega)⟩) rfl hl.1 rfl (Nat.le_of_ble_eq_true rfl) dX7_statement_1 ⟨(show 0 + 0 ≤ 3 * (rEd R - a).toNat - 1 by omega), (show 0 + 0 ≤ 620 * (rEd R - a).toNat - 600 by omega)⟩) (fun H locs hM1 => ?_)
    refine x_top (b := nxR ρ a) (by rw [ha]) ?_
    refine lv_istore_n (lv' := [(1, .int (jI (nxR ρ a))), (0, .ref (G.2.2 26))]) hx hb dX7_statement_4 rfl hl (by decide) rfl (fun ls hl => ?_)
    refine lv_iload_n hx hb dX7_statement_5 rfl (lv_at hl 0 rfl) ?_
    refine lv_iconst (v := jI (-1)) hx hb dX7_statement_6 rfl ?_
    have fa2 := nxR_r ρ a
    refine x_icmp_ne (tgt := 23) hx hb dX7_statement_7 (by decide) (by have f0 := nxR_r ρ a; omega) (by omega) (fun b7 => ?_) (fun b7 => ?_)
    · (exfalso; omega)
    · refine g_new CF hK hM1 hA 98 (hP.2.2.1.2.2.1 98 (by decide) (by decide)) (ci := 9) rfl rfl q631 q632 q80 (show 0 + 1 ≤ 3 * (rEd R - a).toNat - 1 by omega) (show 0 + 8 ≤ 620 * (rEd R - a).toNat - 600 by omega) dX7_statement_10 (fun H a98 hM3 => ?_)
      refine lv_dup hx hb dX7_statement_13 rfl ?_
      refine lv_iconst (v := jI 1) hx hb dX7_statement_14 rfl ?_
      refine lv_aload_n hx hb dX7_statement_15 rfl (lv_at hl 1 rfl) ?_
      refine g_geti CF hK hM3 26 (hL.2.1.1 26 _ rfl) 1 1 rfl rfl (by decide) (Or.inl (hts _ q197)) (fun _ h => h) rfl dX7_statement_16 ?_
      refine x_top (b := σ 26 1) rfl ?_
      refine x_top (b := a) ha ?_
      refine g_callv hM3 hA (g_runI (As := [.int (jI 1), .int (jI a)]) (rest := [.ref a98]) CF hK hM3 (l_wrong l E _ _ _ 98 1 a rfl (by decide) (by first | omega | assumption | (refine ⟨?_, ?_⟩ <;> omega)) (by first | omega | assumption | (refine ⟨?_, ?_⟩ <;> omega))) (cwI 2 hts (lw_meth q670) rfl rfl rfl (hts _ q80) (hts _ q668) (hts _ q669) rfl (by decide +kernel) ⟨(show 3 + 1 ≤ 4 * (f + 1) + 12 by omega), (show 8 + (3 + 11) + (72) ≤ 300 + 100 * (f + 1) by omega)⟩) rfl hl.1 rfl (Nat.le_of_ble_eq_true rfl) dX7_statement_19 ⟨(show 1 + 0 ≤ 3 * (rEd R - a).toNat - 1 by omega), (show 8 + 0 ≤ 620 * (rEd R - a).toNat - 600 by omega)⟩) (fun H locs hM4 => ?_)
      exact g_upT (W.widen (show 1 ≤ 3 * (rEd R - a).toNat - 1 by omega) (show 8 ≤ 620 * (rEd R - a).toNat - 600 by omega) (g_athr CF het hlocks hM4 (by rw [e1]; exact ⟨_, rfl, thW_mk rdK.rf rfl⟩) dX7_statement_22))
  · have hnr := nxR_r ρ a
    have hn := hP.1.1.n
    have hn1 := hn.1
    have hn2 := hn.2
    have hE : rEd R = p1 + 1 := (by rw [e1]; rfl)
    have hE1 : rEd (Sum.inl p1 : rR) = p1 + 1 := rfl
    have c1l := nxR_lt (ρ := ρ) (a := a) (by omega)
    have hq1 : a ≤ p1 ∧ p1 ≤ ρ 60 30 := rNa_pos (rSt_pos hT2 f) hT2 (by omega) (by omega) hlo hq
    refine lv_aload_n hx hb dX7_statement_0 rfl (lv_at hl 0 rfl) ?_
    refine g_calli (r := nxR ρ (σ 26 1)) hM0 hA (g_runV (As := []) (rest := []) CF hK hM0 (hL.2.1.1 26 _ rfl) rfl (l_rnext l E _ _ _ ρ  hL (by have q := hP.2.1.1; have q2 := hP.2.2.2.2.2.1; omega)) (cwV 0 hts (lw_V q627 q629 qs15 q67 q630) rfl rfl rfl (by decide +kernel) ⟨(show 0 + 1 ≤ 4 * (f + 1) + 12 by omega), (show 8 + (1 + 11) + (0) ≤ 300 + 100 * (f + 1) by omega)⟩) rfl hl.1 rfl (Nat.le_of_ble_eq_true rfl) dX7_statement_1 ⟨(show 0 + 0 ≤ 3 * (rEd R - a).toNat - 1 by omega), (show 0 + 0 ≤ 620 * (rEd R - a).toNat - 600 by omega)⟩) (fun H locs hM5 => ?_)
    refine x_top (b := nxR ρ a) (by rw [ha]) ?_
    refine lv_istore_n (lv' := [(1, .int (jI (nxR ρ a))), (0, .ref (G.2.2 26))]) hx hb dX7_statement_4 rfl hl (by decide) rfl (fun ls hl => ?_)
    refine lv_iload_n hx hb dX7_statement_5 rfl (lv_at hl 0 rfl) ?_
    refine lv_iconst (v := jI (-1)) hx hb dX7_statement_6 rfl ?_
    have fa6 := nxR_r ρ a
    refine x_icmp_ne (tgt := 23) hx hb dX7_statement_7 (by decide) (by have f0 := nxR_r ρ a; omega) (by omega) (fun b7 => ?_) (fun b7 => ?_)
    · refine lv_aload_n hx hb dX7_statement_23 rfl (lv_at hl 1 rfl) ?_
      refine lv_dup hx hb dX7_statement_24 rfl ?_
      refine g_geti CF hK hM5 26 (hL.2.1.1 26 _ rfl) 1 1 rfl rfl (by decide) (Or.inl (hts _ q197)) (fun _ h => h) rfl dX7_statement_25 ?_
      refine x_top (b := a) ha ?_
      refine lv_iconst (v := jI 1) hx hb dX7_statement_28 rfl ?_
      refine x_iadd hx hb dX7_statement_29 ?_
      refine g_puti CF hK hM5 26 (by decide) (hL.2.1.1 26 _ rfl) 1 1 rfl rfl (by decide) (Or.inl (hts _ q197)) (fun _ h => h) (Or.inl rfl) rfl (v := a + 1) rfl rfl (by omega) dX7_statement_30 (fun H locs hM7 => ?_)
      obtain ⟨G1, τ1, hM8, hP1, hk1⟩ : ∃ (g : y_G) (τ : y_S), gM E (gA G sz) g τ s.heap H locs ∧ lgP E ρ g τ A N (a + 1) lk nm ∧ rdN N G σ g τ := ⟨_, _, hM7, (hP.adv rfl c1l).1, (hP.adv rfl c1l).2⟩
      have hl := lv_cast hl (b := [(1, .int (jI (nxR ρ a))), (0, .ref (G1.2.2 26))]) (by rw [(hk1 26 (by omega) (by omega)).2.1])
      refine lv_iload_n hx hb dX7_statement_33 rfl (lv_at hl 0 rfl) ?_
      refine lv_bipush (v := jI 97) hx hb dX7_statement_34 (by decide) ?_
      refine x_icmp_lt (tgt := 54) hx hb dX7_statement_36 (by decide) (by have f0 := nxR_r ρ a; omega) (by omega) (fun b36 => ?_) (fun b36 => ?_)
      · (exfalso; omega)
      · refine lv_iload_n hx hb dX7_statement_39 rfl (lv_at hl 0 rfl) ?_
        refine lv_bipush (v := jI 103) hx hb dX7_statement_40 (by decide) ?_
        refine x_icmp_ge (tgt := 54) hx hb dX7_statement_42 (by decide) (by have f0 := nxR_r ρ a; omega) (by omega) (fun b42 => ?_) (fun b42 => ?_)
        · (exfalso; omega)
        · refine lv_aload_n hx hb dX7_statement_45 rfl (lv_at hl 1 rfl) ?_
          refine lv_iload_n hx hb dX7_statement_46 rfl (lv_at hl 0 rfl) ?_
          refine lv_bipush (v := jI 97) hx hb dX7_statement_47 (by decide) ?_
          refine x_isub hx hb dX7_statement_49 ?_
          refine W.widen (k := 3 * (rEd R - a).toNat - 1 - (3 * (rEd (Sum.inl p1 : rR) - (a + 1)).toNat + 2)) (n := 620 * (rEd R - a).toNat - 600 - (620 * (rEd (Sum.inl p1 : rR) - (a + 1)).toNat + 7)) (show 0 ≤ 3 * (rEd R - a).toNat - 1 - (3 * (rEd (Sum.inl p1 : rR) - (a + 1)).toNat + 2) by omega) (show 0 ≤ 620 * (rEd R - a).toNat - 600 - (620 * (rEd (Sum.inl p1 : rR) - (a + 1)).toNat + 7) by omega) ?_
          exact g_upT (g_passE (by omega) (by omega) het hlocks hM8 hA (g_runVT (As := [.int (jI ((nxR ρ a) - 97))]) (rest := []) CF ((hNa G1 τ1 _ A N (nxR ρ a - 97) (a + 1) lk nm _ hP1 (by omega) (by omega) (by omega) hq).thr rPn_no) (cwV 1 hts (lw_V q698 q700 qs17 q67 q701) rfl rfl rfl (by decide +kernel) ⟨(show 4 * f + 15 + 1 ≤ 4 * (f + 1) + 12 by omega), (show 8 + (3 + 11) + (375 + 100 * f) ≤ 300 + 100 * (f + 1) by omega)⟩) ⟨gP_blind, g_recv hK hM8 (hP1.1.2.1.1 26 _ rfl) rfl, (g_pre hK hM8).2⟩ rfl rfl hl.1 rfl (lv_room (Nat.le_of_ble_eq_true rfl)) dX7_statement_50 ⟨(show 3 * (rEd R - a).toNat - 1 - (3 * (rEd (Sum.inl p1 : rR) - (a + 1)).toNat + 2) + (3 * (rEd (Sum.inl p1 : rR) - (a + 1)).toNat + 2) ≤ 3 * (rEd R - a).toNat - 1 by omega), (show 620 * (rEd R - a).toNat - 600 - (620 * (rEd (Sum.inl p1 : rR) - (a + 1)).toNat + 7) + (620 * (rEd (Sum.inl p1 : rR) - (a + 1)).toNat + 7) ≤ 620 * (rEd R - a).toNat - 600 by omega)⟩) (by rw [e1]; exact rTh_of (hk1.k hN0)))
    · (exfalso; omega)
  · have hnr := nxR_r ρ a
    have hn := hP.1.1.n
    have hn1 := hn.1
    have hn2 := hn.2
    have hE : rEd R = a1 := (by rw [e1]; rfl)
    have hE1 : rEd (Sum.inr (a1, lk1, nm1, L1) : rR) = a1 := rfl
    have c1l := nxR_lt (ρ := ρ) (a := a) (by omega)
    have hq1 : a < a1 ∧ a1 ≤ ρ 60 30 ∧ rLo lk1 := rNa_pos (rSt_pos hT2 f) hT2 (by omega) (by omega) hlo hq
    refine lv_aload_n hx hb dX7_statement_0 rfl (lv_at hl 0 rfl) ?_
    refine g_calli (r := nxR ρ (σ 26 1)) hM0 hA (g_runV (As := []) (rest := []) CF hK hM0 (hL.2.1.1 26 _ rfl) rfl (l_rnext l E _ _ _ ρ  hL (by have q := hP.2.1.1; have q2 := hP.2.2.2.2.2.1; omega)) (cwV 0 hts (lw_V q627 q629 qs15 q67 q630) rfl rfl rfl (by decide +kernel) ⟨(show 0 + 1 ≤ 4 * (f + 1) + 12 by omega), (show 8 + (1 + 11) + (0) ≤ 300 + 100 * (f + 1) by omega)⟩) rfl hl.1 rfl (Nat.le_of_ble_eq_true rfl) dX7_statement_1 ⟨(show 0 + 0 ≤ 3 * (rEd R - a).toNat - 1 by omega), (show 0 + 0 ≤ 620 * (rEd R - a).toNat - 600 by omega)⟩) (fun H locs hM9 => ?_)
    refine x_top (b := nxR ρ a) (by rw [ha]) ?_
    refine lv_istore_n (lv' := [(1, .int (jI (nxR ρ a))), (0, .ref (G.2.2 26))]) hx hb dX7_statement_4 rfl hl (by decide) rfl (fun ls hl => ?_)
    refine lv_iload_n hx hb dX7_statement_5 rfl (lv_at hl 0 rfl) ?_
    refine lv_iconst (v := jI (-1)) hx hb dX7_statement_6 rfl ?_
    have fa10 := nxR_r ρ a
    refine x_icmp_ne (tgt := 23) hx hb dX7_statement_7 (by decide) (by have f0 := nxR_r ρ a; omega) (by omega) (fun b7 => ?_) (fun b7 => ?_)
    · refine lv_aload_n hx hb dX7_statement_23 rfl (lv_at hl 1 rfl) ?_
      refine lv_dup hx hb dX7_statement_24 rfl ?_
      refine g_geti CF hK hM9 26 (hL.2.1.1 26 _ rfl) 1 1 rfl rfl (by decide) (Or.inl (hts _ q197)) (fun _ h => h) rfl dX7_statement_25 ?_
      refine x_top (b := a) ha ?_
      refine lv_iconst (v := jI 1) hx hb dX7_statement_28 rfl ?_
      refine x_iadd hx hb dX7_statement_29 ?_
      refine g_puti CF hK hM9 26 (by decide) (hL.2.1.1 26 _ rfl) 1 1 rfl rfl (by decide) (Or.inl (hts _ q197)) (fun _ h => h) (Or.inl rfl) rfl (v := a + 1) rfl rfl (by omega) dX7_statement_30 (fun H locs hM11 => ?_)
      obtain ⟨G1, τ1, hM12, hP1, hk1⟩ : ∃ (g : y_G) (τ : y_S), gM E (gA G sz) g τ s.heap H locs ∧ lgP E ρ g τ A N (a + 1) lk nm ∧ rdN N G σ g τ := ⟨_, _, hM11, (hP.adv rfl c1l).1, (hP.adv rfl c1l).2⟩
      have hl := lv_cast hl (b := [(1, .int (jI (nxR ρ a))), (0, .ref (G1.2.2 26))]) (by rw [(hk1 26 (by omega) (by omega)).2.1])
      refine lv_iload_n hx hb dX7_statement_33 rfl (lv_at hl 0 rfl) ?_
      refine lv_bipush (v := jI 97) hx hb dX7_statement_34 (by decide) ?_
      refine x_icmp_lt (tgt := 54) hx hb dX7_statement_36 (by decide) (by have f0 := nxR_r ρ a; omega) (by omega) (fun b36 => ?_) (fun b36 => ?_)
      · (exfalso; omega)
      · refine lv_iload_n hx hb dX7_statement_39 rfl (lv_at hl 0 rfl) ?_
        refine lv_bipush (v := jI 103) hx hb dX7_statement_40 (by decide) ?_
        refine x_icmp_ge (tgt := 54) hx hb dX7_statement_42 (by decide) (by have f0 := nxR_r ρ a; omega) (by omega) (fun b42 => ?_) (fun b42 => ?_)
        · (exfalso; omega)
        · refine lv_aload_n hx hb dX7_statement_45 rfl (lv_at hl 1 rfl) ?_
          refine lv_iload_n hx hb dX7_statement_46 rfl (lv_at hl 0 rfl) ?_
          refine lv_bipush (v := jI 97) hx hb dX7_statement_47 (by decide) ?_
          refine x_isub hx hb dX7_statement_49 ?_
          refine g_callRn hM12 hA (g_runV (As := [.int (jI ((nxR ρ a) - 97))]) (rest := []) CF hK hM12 (hP1.1.2.1.1 26 _ rfl) rfl ((hNa G1 τ1 _ A N (nxR ρ a - 97) (a + 1) lk nm _ hP1 (by omega) (by omega) (by omega) hq).ret rTh_no) (cwV 1 hts (lw_V q698 q700 qs17 q67 q701) rfl rfl rfl (by decide +kernel) ⟨(show 4 * f + 15 + 1 ≤ 4 * (f + 1) + 12 by omega), (show 8 + (3 + 11) + (375 + 100 * f) ≤ 300 + 100 * (f + 1) by omega)⟩) rfl hl.1 rfl (Nat.le_of_ble_eq_true rfl) dX7_statement_50 ⟨(show 0 + (3 * (rEd (Sum.inr (a1, lk1, nm1, L1) : rR) - (a + 1)).toNat + 2) ≤ 3 * (rEd R - a).toNat - 1 by omega), (show 0 + (620 * (rEd (Sum.inr (a1, lk1, nm1, L1) : rR) - (a + 1)).toNat + 7) ≤ 620 * (rEd R - a).toNat - 600 by omega)⟩) (fun u N2 G2 τ2 H locs hd2 hP2 hk2 hN2 hM13 => ?_)
          have hl := lv_cast hl (b := [(1, .int (jI (nxR ρ a))), (0, .ref (G2.2.2 26))]) (by rw [(hk2 26 (by omega) (by omega)).2.1])
          exact g_upR (g_aret CF hr (Or.inl ⟨_, rfl⟩) hlocks hM13 (r := some (G2.2.2 u)) (by rw [e1]; exact ⟨u, N2, _, _, _, _, rfl, rfl, hd2, hP2, hk1.tr hk2 (Nat.le_refl _), hN2⟩) (show (0 + (3 * (rEd (Sum.inr (a1, lk1, nm1, L1) : rR) - (a + 1)).toNat + 2)) ≤ 3 * (rEd R - a).toNat - 1 by omega) (show (0 + (620 * (rEd (Sum.inr (a1, lk1, nm1, L1) : rR) - (a + 1)).toNat + 7)) ≤ 620 * (rEd R - a).toNat - 600 by omega) dX7_statement_53)
    · (exfalso; omega)
  · have hnr := nxR_r ρ a
    have hn := hP.1.1.n
    have hn1 := hn.1
    have hn2 := hn.2
    have hE : rEd R = p1 + 1 := (by rw [e1]; rfl)
    have hE1 : rEd (Sum.inl p1 : rR) = p1 + 1 := rfl
    have c1l := nxR_lt (ρ := ρ) (a := a) (by omega)
    have hq1 : a + 1 ≤ p1 ∧ p1 ≤ ρ 60 30 := rBr_pos (rSt_pos hT2 f) (by omega) (by omega) hlo hq
    refine lv_aload_n hx hb dX7_statement_0 rfl (lv_at hl 0 rfl) ?_
    refine g_calli (r := nxR ρ (σ 26 1)) hM0 hA (g_runV (As := []) (rest := []) CF hK hM0 (hL.2.1.1 26 _ rfl) rfl (l_rnext l E _ _ _ ρ  hL (by have q := hP.2.1.1; have q2 := hP.2.2.2.2.2.1; omega)) (cwV 0 hts (lw_V q627 q629 qs15 q67 q630) rfl rfl rfl (by decide +kernel) ⟨(show 0 + 1 ≤ 4 * (f + 1) + 12 by omega), (show 8 + (1 + 11) + (0) ≤ 300 + 100 * (f + 1) by omega)⟩) rfl hl.1 rfl (Nat.le_of_ble_eq_true rfl) dX7_statement_1 ⟨(show 0 + 0 ≤ 3 * (rEd R - a).toNat - 1 by omega), (show 0 + 0 ≤ 620 * (rEd R - a).toNat - 600 by omega)⟩) (fun H locs hM14 => ?_)
    refine x_top (b := nxR ρ a) (by rw [ha]) ?_
    refine lv_istore_n (lv' := [(1, .int (jI (nxR ρ a))), (0, .ref (G.2.2 26))]) hx hb dX7_statement_4 rfl hl (by decide) rfl (fun ls hl => ?_)
    refine lv_iload_n hx hb dX7_statement_5 rfl (lv_at hl 0 rfl) ?_
    refine lv_iconst (v := jI (-1)) hx hb dX7_statement_6 rfl ?_
    have fa15 := nxR_r ρ a
    refine x_icmp_ne (tgt := 23) hx hb dX7_statement_7 (by decide) (by have f0 := nxR_r ρ a; omega) (by omega) (fun b7 => ?_) (fun b7 => ?_)
    · refine lv_aload_n hx hb dX7_statement_23 rfl (lv_at hl 1 rfl) ?_
      refine lv_dup hx hb dX7_statement_24 rfl ?_
      refine g_geti CF hK hM14 26 (hL.2.1.1 26 _ rfl) 1 1 rfl rfl (by decide) (Or.inl (hts _ q197)) (fun _ h => h) rfl dX7_statement_25 ?_
      refine x_top (b := a) ha ?_
      refine lv_iconst (v := jI 1) hx hb dX7_statement_28 rfl ?_
      refine x_iadd hx hb dX7_statement_29 ?_
      refine g_puti CF hK hM14 26 (by decide) (hL.2.1.1 26 _ rfl) 1 1 rfl rfl (by decide) (Or.inl (hts _ q197)) (fun _ h => h) (Or.inl rfl) rfl (v := a + 1) rfl rfl (by omega) dX7_statement_30 (fun H locs hM16 => ?_)
      obtain ⟨G1, τ1, hM17, hP1, hk1⟩ : ∃ (g : y_G) (τ : y_S), gM E (gA G sz) g τ s.heap H locs ∧ lgP E ρ g τ A N (a + 1) lk nm ∧ rdN N G σ g τ := ⟨_, _, hM16, (hP.adv rfl c1l).1, (hP.adv rfl c1l).2⟩
      have hl := lv_cast hl (b := [(1, .int (jI (nxR ρ a))), (0, .ref (G1.2.2 26))]) (by rw [(hk1 26 (by omega) (by omega)).2.1])
      refine lv_iload_n hx hb dX7_statement_33 rfl (lv_at hl 0 rfl) ?_
      refine lv_bipush (v := jI 97) hx hb dX7_statement_34 (by decide) ?_
      refine x_icmp_lt (tgt := 54) hx hb dX7_statement_36 (by decide) (by have f0 := nxR_r ρ a; omega) (by omega) (fun b36 => ?_) (fun b36 => ?_)
      · refine lv_iload_n hx hb dX7_statement_54 rfl (lv_at hl 0 rfl) ?_
        refine lv_bipush (v := jI 48) hx hb dX7_statement_55 (by decide) ?_
        refine x_icmp_lt (tgt := 86) hx hb dX7_statement_57 (by decide) (by have f0 := nxR_r ρ a; omega) (by omega) (fun b57 => ?_) (fun b57 => ?_)
        · (exfalso; omega)
        · refine lv_iload_n hx hb dX7_statement_60 rfl (lv_at hl 0 rfl) ?_
          refine lv_bipush (v := jI 57) hx hb dX7_statement_61 (by decide) ?_
          refine x_icmp_gt (tgt := 86) hx hb dX7_statement_63 (by decide) (by have f0 := nxR_r ρ a; omega) (by omega) (fun b63 => ?_) (fun b63 => ?_)
          · (exfalso; omega)
          · refine g_new CF hK hM17 hA N (hP1.2.2.1.2.1 N (Nat.le_refl _)) (ci := 8) rfl rfl q615 q616 q77 (show 0 + 1 ≤ 3 * (rEd R - a).toNat - 1 by omega) (show 0 + 4 ≤ 620 * (rEd R - a).toNat - 600 by omega) dX7_statement_66 (fun H a19 hM18 => ?_)
            obtain ⟨G2, τ2, hM20, hP2, hk2, hT2, hz2⟩ : ∃ (g : y_G) (τ : y_S), gM E (gA G sz) g τ s.heap H locs ∧ lgP E ρ g τ A (N + 1) (a + 1) lk nm ∧ rdN N G1 τ1 g τ ∧ g.1 N = some (.inl 8) ∧ g.2.2 N = a19 := ⟨_, _, hM18, (hP1.new (Nat.lt_succ_self _)).1, (hP1.new (Nat.lt_succ_self _)).2, (upT_s _ _ _), (upT_s _ _ _)⟩
            have hl := lv_cast hl (b := [(1, .int (jI (nxR ρ a))), (0, .ref (G2.2.2 26))]) (by rw [(hk2 26 (by omega) (by omega)).2.1])
            refine x_stk (st' := [.ref (G2.2.2 N)]) (by rw [hz2]) ?_
            refine lv_dup hx hb dX7_statement_69 rfl ?_
            refine lv_aload_n hx hb dX7_statement_70 rfl (lv_at hl 1 rfl) ?_
            refine g_getr CF hK hM20 26 (hP2.1.2.1.1 26 _ rfl) 3 3 rfl rfl (by decide) (Or.inl (hts _ q199)) (fun _ h => h) rfl (G2.2.2 60) (hP2.1.2.1.2.2.2.2.2.2.2.2.1.2) dX7_statement_71 ?_
            refine lv_iload_n hx hb dX7_statement_74 rfl (lv_at hl 0 rfl) ?_
            refine lv_bipush (v := jI 48) hx hb dX7_statement_75 (by decide) ?_
            refine x_isub hx hb dX7_statement_77 ?_
            refine lv_aload_n hx hb dX7_statement_78 rfl (lv_at hl 1 rfl) ?_
            refine W.widen (k := 3 * (rEd R - a).toNat - 1 - (3 * (rEd (Sum.inl p1 : rR) - (a + 1)).toNat)) (n := 620 * (rEd R - a).toNat - 600 - (620 * (rEd (Sum.inl p1 : rR) - (a + 1)).toNat)) (show 1 ≤ 3 * (rEd R - a).toNat - 1 - (3 * (rEd (Sum.inl p1 : rR) - (a + 1)).toNat) by omega) (show 4 ≤ 620 * (rEd R - a).toNat - 600 - (620 * (rEd (Sum.inl p1 : rR) - (a + 1)).toNat) by omega) ?_
            exact g_upT (g_passE (by omega) (by omega) het hlocks hM20 hA (g_runVT (As := []) (rest := [.int (jI ((nxR ρ a) - 48)), .ref (G2.2.2 60), .ref (G2.2.2 N), .ref (G2.2.2 N)]) CF ((hI G2 τ2 _ A (N + 1) (a + 1) lk nm _ hP2 hq).thr rPl_no) (cwV 0 hts (lw_V q702 q704 qs18 q67 q705) rfl rfl rfl (by decide +kernel) ⟨(show 4 * f + 14 + 1 ≤ 4 * (f + 1) + 12 by omega), (show 8 + (2 + 11) + (350 + 100 * f) ≤ 300 + 100 * (f + 1) by omega)⟩) ⟨gP_blind, g_recv hK hM20 (hP2.1.2.1.1 26 _ rfl) rfl, (g_pre hK hM20).2⟩ rfl rfl hl.1 rfl (lv_room (Nat.le_of_ble_eq_true rfl)) dX7_statement_79 ⟨(show 3 * (rEd R - a).toNat - 1 - (3 * (rEd (Sum.inl p1 : rR) - (a + 1)).toNat) + (3 * (rEd (Sum.inl p1 : rR) - (a + 1)).toNat) ≤ 3 * (rEd R - a).toNat - 1 by omega), (show 620 * (rEd R - a).toNat - 600 - (620 * (rEd (Sum.inl p1 : rR) - (a + 1)).toNat) + (620 * (rEd (Sum.inl p1 : rR) - (a + 1)).toNat) ≤ 620 * (rEd R - a).toNat - 600 by omega)⟩) (by rw [e1]; exact rTh_of ((hk1.tr hk2 (Nat.le_refl _)).k hN0)))
      · (exfalso; omega)
    · (exfalso; omega)
  · have hnr := nxR_r ρ a
    have hn := hP.1.1.n
    have hn1 := hn.1
    have hn2 := hn.2
    have hE : rEd R = a1 := (by rw [e1]; rfl)
    have hE1 : rEd (Sum.inr (a1, lk1, nm1, L1) : rR) = a1 := rfl
    have c1l := nxR_lt (ρ := ρ) (a := a) (by omega)
    have hq1 : a + 1 < a1 ∧ a1 ≤ ρ 60 30 ∧ rLo lk1 := rBr_pos (rSt_pos hT2 f) (by omega) (by omega) hlo hq
    refine lv_aload_n hx hb dX7_statement_0 rfl (lv_at hl 0 rfl) ?_
    refine g_calli (r := nxR ρ (σ 26 1)) hM0 hA (g_runV (As := []) (rest := []) CF hK hM0 (hL.2.1.1 26 _ rfl) rfl (l_rnext l E _ _ _ ρ  hL (by have q := hP.2.1.1; have q2 := hP.2.2.2.2.2.1; omega)) (cwV 0 hts (lw_V q627 q629 qs15 q67 q630) rfl rfl rfl (by decide +kernel) ⟨(show 0 + 1 ≤ 4 * (f + 1) + 12 by omega), (show 8 + (1 + 11) + (0) ≤ 300 + 100 * (f + 1) by omega)⟩) rfl hl.1 rfl (Nat.le_of_ble_eq_true rfl) dX7_statement_1 ⟨(show 0 + 0 ≤ 3 * (rEd R - a).toNat - 1 by omega), (show 0 + 0 ≤ 620 * (rEd R - a).toNat - 600 by omega)⟩) (fun H locs hM21 => ?_)
    refine x_top (b := nxR ρ a) (by rw [ha]) ?_
    refine lv_istore_n (lv' := [(1, .int (jI (nxR ρ a))), (0, .ref (G.2.2 26))]) hx hb dX7_statement_4 rfl hl (by decide) rfl (fun ls hl => ?_)
    refine lv_iload_n hx hb dX7_statement_5 rfl (lv_at hl 0 rfl) ?_
    refine lv_iconst (v := jI (-1)) hx hb dX7_statement_6 rfl ?_
    have fa22 := nxR_r ρ a
    refine x_icmp_ne (tgt := 23) hx hb dX7_statement_7 (by decide) (by have f0 := nxR_r ρ a; omega) (by omega) (fun b7 => ?_) (fun b7 => ?_)
    · refine lv_aload_n hx hb dX7_statement_23 rfl (lv_at hl 1 rfl) ?_
      refine lv_dup hx hb dX7_statement_24 rfl ?_
      refine g_geti CF hK hM21 26 (hL.2.1.1 26 _ rfl) 1 1 rfl rfl (by decide) (Or.inl (hts _ q197)) (fun _ h => h) rfl dX7_statement_25 ?_
      refine x_top (b := a) ha ?_
      refine lv_iconst (v := jI 1) hx hb dX7_statement_28 rfl ?_
      refine x_iadd hx hb dX7_statement_29 ?_
      refine g_puti CF hK hM21 26 (by decide) (hL.2.1.1 26 _ rfl) 1 1 rfl rfl (by decide) (Or.inl (hts _ q197)) (fun _ h => h) (Or.inl rfl) rfl (v := a + 1) rfl rfl (by omega) dX7_statement_30 (fun H locs hM23 => ?_)
      obtain ⟨G1, τ1, hM24, hP1, hk1⟩ : ∃ (g : y_G) (τ : y_S), gM E (gA G sz) g τ s.heap H locs ∧ lgP E ρ g τ A N (a + 1) lk nm ∧ rdN N G σ g τ := ⟨_, _, hM23, (hP.adv rfl c1l).1, (hP.adv rfl c1l).2⟩
      have hl := lv_cast hl (b := [(1, .int (jI (nxR ρ a))), (0, .ref (G1.2.2 26))]) (by rw [(hk1 26 (by omega) (by omega)).2.1])
      refine lv_iload_n hx hb dX7_statement_33 rfl (lv_at hl 0 rfl) ?_
      refine lv_bipush (v := jI 97) hx hb dX7_statement_34 (by decide) ?_
      refine x_icmp_lt (tgt := 54) hx hb dX7_statement_36 (by decide) (by have f0 := nxR_r ρ a; omega) (by omega) (fun b36 => ?_) (fun b36 => ?_)
      · refine lv_iload_n hx hb dX7_statement_54 rfl (lv_at hl 0 rfl) ?_
        refine lv_bipush (v := jI 48) hx hb dX7_statement_55 (by decide) ?_
        refine x_icmp_lt (tgt := 86) hx hb dX7_statement_57 (by decide) (by have f0 := nxR_r ρ a; omega) (by omega) (fun b57 => ?_) (fun b57 => ?_)
        · (exfalso; omega)
        · refine lv_iload_n hx hb dX7_statement_60 rfl (lv_at hl 0 rfl) ?_
          refine lv_bipush (v := jI 57) hx hb dX7_statement_61 (by decide) ?_
          refine x_icmp_gt (tgt := 86) hx hb dX7_statement_63 (by decide) (by have f0 := nxR_r ρ a; omega) (by omega) (fun b63 => ?_) (fun b63 => ?_)
          · (exfalso; omega)
          · refine g_new CF hK hM24 hA N (hP1.2.2.1.2.1 N (Nat.le_refl _)) (ci := 8) rfl rfl q615 q616 q77 (show 0 + 1 ≤ 3 * (rEd R - a).toNat - 1 by omega) (show 0 + 4 ≤ 620 * (rEd R - a).toNat - 600 by omega) dX7_statement_66 (fun H a26 hM25 => ?_)
            obtain ⟨G2, τ2, hM27, hP2, hk2, hT2, hz2⟩ : ∃ (g : y_G) (τ : y_S), gM E (gA G sz) g τ s.heap H locs ∧ lgP E ρ g τ A (N + 1) (a + 1) lk nm ∧ rdN N G1 τ1 g τ ∧ g.1 N = some (.inl 8) ∧ g.2.2 N = a26 := ⟨_, _, hM25, (hP1.new (Nat.lt_succ_self _)).1, (hP1.new (Nat.lt_succ_self _)).2, (upT_s _ _ _), (upT_s _ _ _)⟩
            have hl := lv_cast hl (b := [(1, .int (jI (nxR ρ a))), (0, .ref (G2.2.2 26))]) (by rw [(hk2 26 (by omega) (by omega)).2.1])
            refine x_stk (st' := [.ref (G2.2.2 N)]) (by rw [hz2]) ?_
            refine lv_dup hx hb dX7_statement_69 rfl ?_
            refine lv_aload_n hx hb dX7_statement_70 rfl (lv_at hl 1 rfl) ?_
            refine g_getr CF hK hM27 26 (hP2.1.2.1.1 26 _ rfl) 3 3 rfl rfl (by decide) (Or.inl (hts _ q199)) (fun _ h => h) rfl (G2.2.2 60) (hP2.1.2.1.2.2.2.2.2.2.2.2.1.2) dX7_statement_71 ?_
            refine lv_iload_n hx hb dX7_statement_74 rfl (lv_at hl 0 rfl) ?_
            refine lv_bipush (v := jI 48) hx hb dX7_statement_75 (by decide) ?_
            refine x_isub hx hb dX7_statement_77 ?_
            refine lv_aload_n hx hb dX7_statement_78 rfl (lv_at hl 1 rfl) ?_
            refine g_callRl hM27 hA (g_runV (As := []) (rest := [.int (jI ((nxR ρ a) - 48)), .ref (G2.2.2 60), .ref (G2.2.2 N), .ref (G2.2.2 N)]) CF hK hM27 (hP2.1.2.1.1 26 _ rfl) rfl ((hI G2 τ2 _ A (N + 1) (a + 1) lk nm _ hP2 hq).ret rTh_no) (cwV 0 hts (lw_V q702 q704 qs18 q67 q705) rfl rfl rfl (by decide +kernel) ⟨(show 4 * f + 14 + 1 ≤ 4 * (f + 1) + 12 by omega), (show 8 + (2 + 11) + (350 + 100 * f) ≤ 300 + 100 * (f + 1) by omega)⟩) rfl hl.1 rfl (Nat.le_of_ble_eq_true rfl) dX7_statement_79 ⟨(show 1 + (3 * (rEd (Sum.inr (a1, lk1, nm1, L1) : rR) - (a + 1)).toNat) ≤ 3 * (rEd R - a).toNat - 1 by omega), (show 4 + (620 * (rEd (Sum.inr (a1, lk1, nm1, L1) : rR) - (a + 1)).toNat) ≤ 620 * (rEd R - a).toNat - 600 by omega)⟩) (fun ul N3 G3 τ3 H locs hls hP3 hk3 hN3 hM28 => ?_)
            have hl := lv_cast hl (b := [(1, .int (jI (nxR ρ a))), (0, .ref (G3.2.2 26))]) (by rw [(hk3 26 (by omega) (by omega)).2.1])
            refine x_stk (st' := [.ref (G3.2.2 ul), .int (jI ((nxR ρ a) - 48)), .ref (G3.2.2 60), .ref (G3.2.2 N), .ref (G3.2.2 N)]) (by rw [(hk3 60 (by omega) (by omega)).2.1, (hk3 N (by omega) (by omega)).2.1]) ?_
            have hT3 : G3.1 N = some (.inl 8) := (hk3 N (by omega) (by omega)).1.trans hT2
            refine g_callv hM28 hA (g_runI (As := [.ref (G3.2.2 60), .int (jI ((nxR ρ a) - 48)), .ref (G3.2.2 ul)]) (rest := [.ref (G3.2.2 N)]) CF hK hM28 (l_x11i8 l E _ _ _ N (G3.2.2 60) (G3.2.2 ul) ((nxR ρ a) - 48) hT3 (by omega) (by have f0 := nxR_r ρ a; first | omega | assumption | (refine ⟨?_, ?_⟩ <;> omega))) (cwI 3 hts (lw_meth q712) rfl rfl rfl (hts _ q77) (hts _ q710) (hts _ q711) rfl (by decide +kernel) ⟨(show 2 + 1 ≤ 4 * (f + 1) + 12 by omega), (show 8 + (4 + 11) + (45) ≤ 300 + 100 * (f + 1) by omega)⟩) rfl hl.1 rfl (Nat.le_of_ble_eq_true rfl) dX7_statement_82 ⟨(show (1 + (3 * (rEd (Sum.inr (a1, lk1, nm1, L1) : rR) - (a + 1)).toNat)) + 0 ≤ 3 * (rEd R - a).toNat - 1 by omega), (show (4 + (620 * (rEd (Sum.inr (a1, lk1, nm1, L1) : rR) - (a + 1)).toNat)) + 0 ≤ 620 * (rEd R - a).toNat - 600 by omega)⟩) (fun H locs hM29 => ?_)
            obtain ⟨G4, τ4, hM30, hP4, hd4, hk4, hz4⟩ : ∃ (g : y_G) (τ : y_S), gM E (gA G sz) g τ s.heap H locs ∧ lgP E ρ g τ (aX A (N + 1) N3) N3 a1 lk1 nm1 ∧ ndV ρ g τ (aX A N N3) ((a1 - 1).toNat + 1) N (rdRep (nxR ρ a - 48).toNat L1) ∧ rdN N G3 τ3 g τ ∧ g.2.2 = G3.2.2 := ⟨_, _, hM29, hP3.ini (x := N) hN0 (fun z => z.elim (fun q => (by have := hP.2.2.1.2.2.2 N q; omega)) (fun q => (by omega))) (fun t h => (by rw [up2_n _ _ _ h, up2_n _ _ _ h, up2_n _ _ _ h])) (fun t h => up2_n _ _ _ h), ndV.ti (A' := aX A N N3) hls (fun z => z.elim (fun q => (by have := hP.2.2.1.2.2.2 N q; omega)) (fun q => (by omega))) (Or.inr (by omega)) (fun t z => z.imp id (fun q => (by omega))) hT3 (by omega) (by omega) (fun t h => (by rw [up2_n _ _ _ h, up2_n _ _ _ h, up2_n _ _ _ h])) (fun t h => up2_n _ _ _ h) (by first | rw [up2_s, up1_s] | (dsimp only; rw [up2_s, up1_s])) (by first | rw [up2_s, up1_s] | (dsimp only; rw [up2_s, up1_s])), (fun t h1 h2 => ⟨rfl, rfl, fun _ => (by have e : t ≠ N := (by omega); dsimp only; rw [up2_n _ _ _ e, up2_n _ _ _ e, up2_n _ _ _ e]), fun _ => up2_n _ _ _ (by omega)⟩), rfl⟩
            have hl := lv_cast hl (b := [(1, .int (jI (nxR ρ a))), (0, .ref (G4.2.2 26))]) (by rw [(hk4 26 (by omega) (by omega)).2.1])
            refine x_stk (st' := [.ref (G4.2.2 N)]) (by rw [(congrFun hz4 N)]) ?_
            exact g_upR (g_aret CF hr (Or.inl ⟨_, rfl⟩) hlocks hM30 (r := some (G4.2.2 N)) (by rw [e1]; exact ⟨N, N3, _, _, _, _, rfl, rfl, hd4.le (by omega), hP4.more (fun t z => z.imp id (fun q => (by omega))) (aX_bd hP.2.2.1.2.2.2 hN0 (by omega)), (hk1.tr (hk2.tr hk3 (by omega)) (Nat.le_refl _)).tr hk4 (Nat.le_refl _), (by omega)⟩) (show (1 + (3 * (rEd (Sum.inr (a1, lk1, nm1, L1) : rR) - (a + 1)).toNat)) ≤ 3 * (rEd R - a).toNat - 1 by omega) (show (4 + (620 * (rEd (Sum.inr (a1, lk1, nm1, L1) : rR) - (a + 1)).toNat)) ≤ 620 * (rEd R - a).toNat - 600 by omega) dX7_statement_85)
      · (exfalso; omega)
    · (exfalso; omega)
  · have hnr := nxR_r ρ a
    have hn := hP.1.1.n
    have hn1 := hn.1
    have hn2 := hn.2
    have hE : rEd R = a + 1 := (by rw [e1]; rfl)
    have c1l := nxR_lt (ρ := ρ) (a := a) (by omega)
    refine lv_aload_n hx hb dX7_statement_0 rfl (lv_at hl 0 rfl) ?_
    refine g_calli (r := nxR ρ (σ 26 1)) hM0 hA (g_runV (As := []) (rest := []) CF hK hM0 (hL.2.1.1 26 _ rfl) rfl (l_rnext l E _ _ _ ρ  hL (by have q := hP.2.1.1; have q2 := hP.2.2.2.2.2.1; omega)) (cwV 0 hts (lw_V q627 q629 qs15 q67 q630) rfl rfl rfl (by decide +kernel) ⟨(show 0 + 1 ≤ 4 * (f + 1) + 12 by omega), (show 8 + (1 + 11) + (0) ≤ 300 + 100 * (f + 1) by omega)⟩) rfl hl.1 rfl (Nat.le_of_ble_eq_true rfl) dX7_statement_1 ⟨(show 0 + 0 ≤ 3 * (rEd R - a).toNat - 1 by omega), (show 0 + 0 ≤ 620 * (rEd R - a).toNat - 600 by omega)⟩) (fun H locs hM31 => ?_)
    refine x_top (b := nxR ρ a) (by rw [ha]) ?_
    refine lv_istore_n (lv' := [(1, .int (jI (nxR ρ a))), (0, .ref (G.2.2 26))]) hx hb dX7_statement_4 rfl hl (by decide) rfl (fun ls hl => ?_)
    refine lv_iload_n hx hb dX7_statement_5 rfl (lv_at hl 0 rfl) ?_
    refine lv_iconst (v := jI (-1)) hx hb dX7_statement_6 rfl ?_
    have fa32 := nxR_r ρ a
    refine x_icmp_ne (tgt := 23) hx hb dX7_statement_7 (by decide) (by have f0 := nxR_r ρ a; omega) (by omega) (fun b7 => ?_) (fun b7 => ?_)
    · refine lv_aload_n hx hb dX7_statement_23 rfl (lv_at hl 1 rfl) ?_
      refine lv_dup hx hb dX7_statement_24 rfl ?_
      refine g_geti CF hK hM31 26 (hL.2.1.1 26 _ rfl) 1 1 rfl rfl (by decide) (Or.inl (hts _ q197)) (fun _ h => h) rfl dX7_statement_25 ?_
      refine x_top (b := a) ha ?_
      refine lv_iconst (v := jI 1) hx hb dX7_statement_28 rfl ?_
      refine x_iadd hx hb dX7_statement_29 ?_
      refine g_puti CF hK hM31 26 (by decide) (hL.2.1.1 26 _ rfl) 1 1 rfl rfl (by decide) (Or.inl (hts _ q197)) (fun _ h => h) (Or.inl rfl) rfl (v := a + 1) rfl rfl (by omega) dX7_statement_30 (fun H locs hM33 => ?_)
      obtain ⟨G1, τ1, hM34, hP1, hk1⟩ : ∃ (g : y_G) (τ : y_S), gM E (gA G sz) g τ s.heap H locs ∧ lgP E ρ g τ A N (a + 1) lk nm ∧ rdN N G σ g τ := ⟨_, _, hM33, (hP.adv rfl c1l).1, (hP.adv rfl c1l).2⟩
      have hl := lv_cast hl (b := [(1, .int (jI (nxR ρ a))), (0, .ref (G1.2.2 26))]) (by rw [(hk1 26 (by omega) (by omega)).2.1])
      refine lv_iload_n hx hb dX7_statement_33 rfl (lv_at hl 0 rfl) ?_
      refine lv_bipush (v := jI 97) hx hb dX7_statement_34 (by decide) ?_
      refine x_icmp_lt (tgt := 54) hx hb dX7_statement_36 (by decide) (by have f0 := nxR_r ρ a; omega) (by omega) (fun b36 => ?_) (fun b36 => ?_)
      · refine lv_iload_n hx hb dX7_statement_54 rfl (lv_at hl 0 rfl) ?_
        refine lv_bipush (v := jI 48) hx hb dX7_statement_55 (by decide) ?_
        refine x_icmp_lt (tgt := 86) hx hb dX7_statement_57 (by decide) (by have f0 := nxR_r ρ a; omega) (by omega) (fun b57 => ?_) (fun b57 => ?_)
        · refine lv_iload_n hx hb dX7_statement_86 rfl (lv_at hl 0 rfl) ?_
          refine lv_bipush (v := jI 116) hx hb dX7_statement_87 (by decide) ?_
          refine x_icmp_eq (tgt := 119) hx hb dX7_statement_89 (by decide) (by have f0 := nxR_r ρ a; omega) (by omega) (fun b89 => ?_) (fun b89 => ?_)
          · (exfalso; omega)
          · refine lv_iload_n hx hb dX7_statement_92 rfl (lv_at hl 0 rfl) ?_
            refine lv_bipush (v := jI 115) hx hb dX7_statement_93 (by decide) ?_
            refine x_icmp_eq (tgt := 119) hx hb dX7_statement_95 (by decide) (by have f0 := nxR_r ρ a; omega) (by omega) (fun b95 => ?_) (fun b95 => ?_)
            · (exfalso; omega)
            · refine lv_iload_n hx hb dX7_statement_98 rfl (lv_at hl 0 rfl) ?_
              refine lv_bipush (v := jI 117) hx hb dX7_statement_99 (by decide) ?_
              refine x_icmp_eq (tgt := 119) hx hb dX7_statement_101 (by decide) (by have f0 := nxR_r ρ a; omega) (by omega) (fun b101 => ?_) (fun b101 => ?_)
              · (exfalso; omega)
              · refine g_new CF hK hM34 hA 98 (hP1.2.2.1.2.2.1 98 (by decide) (by decide)) (ci := 9) rfl rfl q631 q632 q80 (show 0 + 1 ≤ 3 * (rEd R - a).toNat - 1 by omega) (show 0 + 8 ≤ 620 * (rEd R - a).toNat - 600 by omega) dX7_statement_104 (fun H a98 hM35 => ?_)
                refine lv_dup hx hb dX7_statement_107 rfl ?_
                refine lv_iconst (v := jI 1) hx hb dX7_statement_108 rfl ?_
                refine lv_aload_n hx hb dX7_statement_109 rfl (lv_at hl 1 rfl) ?_
                refine g_geti CF hK hM35 26 (hP1.1.2.1.1 26 _ rfl) 1 1 rfl rfl (by decide) (Or.inl (hts _ q197)) (fun _ h => h) rfl dX7_statement_110 ?_
                refine x_top (b := τ1 26 1) rfl ?_
                refine x_top (b := a + 1) hP1.2.1.1 ?_
                refine lv_iconst (v := jI 1) hx hb dX7_statement_113 rfl ?_
                refine x_isub hx hb dX7_statement_114 ?_
                refine g_callv hM35 hA (g_runI (As := [.int (jI 1), .int (jI ((a + 1) - 1))]) (rest := [.ref a98]) CF hK hM35 (l_wrong l E _ _ _ 98 1 ((a + 1) - 1) rfl (by decide) (by first | omega | assumption | (refine ⟨?_, ?_⟩ <;> omega)) (by first | omega | assumption | (refine ⟨?_, ?_⟩ <;> omega))) (cwI 2 hts (lw_meth q670) rfl rfl rfl (hts _ q80) (hts _ q668) (hts _ q669) rfl (by decide +kernel) ⟨(show 3 + 1 ≤ 4 * (f + 1) + 12 by omega), (show 8 + (3 + 11) + (72) ≤ 300 + 100 * (f + 1) by omega)⟩) rfl hl.1 rfl (Nat.le_of_ble_eq_true rfl) dX7_statement_115 ⟨(show 1 + 0 ≤ 3 * (rEd R - a).toNat - 1 by omega), (show 8 + 0 ≤ 620 * (rEd R - a).toNat - 600 by omega)⟩) (fun H locs hM36 => ?_)
                exact g_upT (W.widen (show 1 ≤ 3 * (rEd R - a).toNat - 1 by omega) (show 8 ≤ 620 * (rEd R - a).toNat - 600 by omega) (g_athr CF het hlocks hM36 (by rw [e1]; exact ⟨_, rfl, thW_mk (hk1.k hN0) (by omega)⟩) dX7_statement_118))
        · refine lv_iload_n hx hb dX7_statement_60 rfl (lv_at hl 0 rfl) ?_
          refine lv_bipush (v := jI 57) hx hb dX7_statement_61 (by decide) ?_
          refine x_icmp_gt (tgt := 86) hx hb dX7_statement_63 (by decide) (by have f0 := nxR_r ρ a; omega) (by omega) (fun b63 => ?_) (fun b63 => ?_)
          · refine lv_iload_n hx hb dX7_statement_86 rfl (lv_at hl 0 rfl) ?_
            refine lv_bipush (v := jI 116) hx hb dX7_statement_87 (by decide) ?_
            refine x_icmp_eq (tgt := 119) hx hb dX7_statement_89 (by decide) (by have f0 := nxR_r ρ a; omega) (by omega) (fun b89 => ?_) (fun b89 => ?_)
            · (exfalso; omega)
            · refine lv_iload_n hx hb dX7_statement_92 rfl (lv_at hl 0 rfl) ?_
              refine lv_bipush (v := jI 115) hx hb dX7_statement_93 (by decide) ?_
              refine x_icmp_eq (tgt := 119) hx hb dX7_statement_95 (by decide) (by have f0 := nxR_r ρ a; omega) (by omega) (fun b95 => ?_) (fun b95 => ?_)
              · (exfalso; omega)
              · refine lv_iload_n hx hb dX7_statement_98 rfl (lv_at hl 0 rfl) ?_
                refine lv_bipush (v := jI 117) hx hb dX7_statement_99 (by decide) ?_
                refine x_icmp_eq (tgt := 119) hx hb dX7_statement_101 (by decide) (by have f0 := nxR_r ρ a; omega) (by omega) (fun b101 => ?_) (fun b101 => ?_)
                · (exfalso; omega)
                · refine g_new CF hK hM34 hA 98 (hP1.2.2.1.2.2.1 98 (by decide) (by decide)) (ci := 9) rfl rfl q631 q632 q80 (show 0 + 1 ≤ 3 * (rEd R - a).toNat - 1 by omega) (show 0 + 8 ≤ 620 * (rEd R - a).toNat - 600 by omega) dX7_statement_104 (fun H a98 hM37 => ?_)
                  refine lv_dup hx hb dX7_statement_107 rfl ?_
                  refine lv_iconst (v := jI 1) hx hb dX7_statement_108 rfl ?_
                  refine lv_aload_n hx hb dX7_statement_109 rfl (lv_at hl 1 rfl) ?_
                  refine g_geti CF hK hM37 26 (hP1.1.2.1.1 26 _ rfl) 1 1 rfl rfl (by decide) (Or.inl (hts _ q197)) (fun _ h => h) rfl dX7_statement_110 ?_
                  refine x_top (b := τ1 26 1) rfl ?_
                  refine x_top (b := a + 1) hP1.2.1.1 ?_
                  refine lv_iconst (v := jI 1) hx hb dX7_statement_113 rfl ?_
                  refine x_isub hx hb dX7_statement_114 ?_
                  refine g_callv hM37 hA (g_runI (As := [.int (jI 1), .int (jI ((a + 1) - 1))]) (rest := [.ref a98]) CF hK hM37 (l_wrong l E _ _ _ 98 1 ((a + 1) - 1) rfl (by decide) (by first | omega | assumption | (refine ⟨?_, ?_⟩ <;> omega)) (by first | omega | assumption | (refine ⟨?_, ?_⟩ <;> omega))) (cwI 2 hts (lw_meth q670) rfl rfl rfl (hts _ q80) (hts _ q668) (hts _ q669) rfl (by decide +kernel) ⟨(show 3 + 1 ≤ 4 * (f + 1) + 12 by omega), (show 8 + (3 + 11) + (72) ≤ 300 + 100 * (f + 1) by omega)⟩) rfl hl.1 rfl (Nat.le_of_ble_eq_true rfl) dX7_statement_115 ⟨(show 1 + 0 ≤ 3 * (rEd R - a).toNat - 1 by omega), (show 8 + 0 ≤ 620 * (rEd R - a).toNat - 600 by omega)⟩) (fun H locs hM38 => ?_)
                  exact g_upT (W.widen (show 1 ≤ 3 * (rEd R - a).toNat - 1 by omega) (show 8 ≤ 620 * (rEd R - a).toNat - 600 by omega) (g_athr CF het hlocks hM38 (by rw [e1]; exact ⟨_, rfl, thW_mk (hk1.k hN0) (by omega)⟩) dX7_statement_118))
          · (exfalso; omega)
      · refine lv_iload_n hx hb dX7_statement_39 rfl (lv_at hl 0 rfl) ?_
        refine lv_bipush (v := jI 103) hx hb dX7_statement_40 (by decide) ?_
        refine x_icmp_ge (tgt := 54) hx hb dX7_statement_42 (by decide) (by have f0 := nxR_r ρ a; omega) (by omega) (fun b42 => ?_) (fun b42 => ?_)
        · refine lv_iload_n hx hb dX7_statement_54 rfl (lv_at hl 0 rfl) ?_
          refine lv_bipush (v := jI 48) hx hb dX7_statement_55 (by decide) ?_
          refine x_icmp_lt (tgt := 86) hx hb dX7_statement_57 (by decide) (by have f0 := nxR_r ρ a; omega) (by omega) (fun b57 => ?_) (fun b57 => ?_)
          · refine lv_iload_n hx hb dX7_statement_86 rfl (lv_at hl 0 rfl) ?_
            refine lv_bipush (v := jI 116) hx hb dX7_statement_87 (by decide) ?_
            refine x_icmp_eq (tgt := 119) hx hb dX7_statement_89 (by decide) (by have f0 := nxR_r ρ a; omega) (by omega) (fun b89 => ?_) (fun b89 => ?_)
            · (exfalso; omega)
            · refine lv_iload_n hx hb dX7_statement_92 rfl (lv_at hl 0 rfl) ?_
              refine lv_bipush (v := jI 115) hx hb dX7_statement_93 (by decide) ?_
              refine x_icmp_eq (tgt := 119) hx hb dX7_statement_95 (by decide) (by have f0 := nxR_r ρ a; omega) (by omega) (fun b95 => ?_) (fun b95 => ?_)
              · (exfalso; omega)
              · refine lv_iload_n hx hb dX7_statement_98 rfl (lv_at hl 0 rfl) ?_
                refine lv_bipush (v := jI 117) hx hb dX7_statement_99 (by decide) ?_
                refine x_icmp_eq (tgt := 119) hx hb dX7_statement_101 (by decide) (by have f0 := nxR_r ρ a; omega) (by omega) (fun b101 => ?_) (fun b101 => ?_)
                · (exfalso; omega)
                · refine g_new CF hK hM34 hA 98 (hP1.2.2.1.2.2.1 98 (by decide) (by decide)) (ci := 9) rfl rfl q631 q632 q80 (show 0 + 1 ≤ 3 * (rEd R - a).toNat - 1 by omega) (show 0 + 8 ≤ 620 * (rEd R - a).toNat - 600 by omega) dX7_statement_104 (fun H a98 hM39 => ?_)
                  refine lv_dup hx hb dX7_statement_107 rfl ?_
                  refine lv_iconst (v := jI 1) hx hb dX7_statement_108 rfl ?_
                  refine lv_aload_n hx hb dX7_statement_109 rfl (lv_at hl 1 rfl) ?_
                  refine g_geti CF hK hM39 26 (hP1.1.2.1.1 26 _ rfl) 1 1 rfl rfl (by decide) (Or.inl (hts _ q197)) (fun _ h => h) rfl dX7_statement_110 ?_
                  refine x_top (b := τ1 26 1) rfl ?_
                  refine x_top (b := a + 1) hP1.2.1.1 ?_
                  refine lv_iconst (v := jI 1) hx hb dX7_statement_113 rfl ?_
                  refine x_isub hx hb dX7_statement_114 ?_
                  refine g_callv hM39 hA (g_runI (As := [.int (jI 1), .int (jI ((a + 1) - 1))]) (rest := [.ref a98]) CF hK hM39 (l_wrong l E _ _ _ 98 1 ((a + 1) - 1) rfl (by decide) (by first | omega | assumption | (refine ⟨?_, ?_⟩ <;> omega)) (by first | omega | assumption | (refine ⟨?_, ?_⟩ <;> omega))) (cwI 2 hts (lw_meth q670) rfl rfl rfl (hts _ q80) (hts _ q668) (hts _ q669) rfl (by decide +kernel) ⟨(show 3 + 1 ≤ 4 * (f + 1) + 12 by omega), (show 8 + (3 + 11) + (72) ≤ 300 + 100 * (f + 1) by omega)⟩) rfl hl.1 rfl (Nat.le_of_ble_eq_true rfl) dX7_statement_115 ⟨(show 1 + 0 ≤ 3 * (rEd R - a).toNat - 1 by omega), (show 8 + 0 ≤ 620 * (rEd R - a).toNat - 600 by omega)⟩) (fun H locs hM40 => ?_)
                  exact g_upT (W.widen (show 1 ≤ 3 * (rEd R - a).toNat - 1 by omega) (show 8 ≤ 620 * (rEd R - a).toNat - 600 by omega) (g_athr CF het hlocks hM40 (by rw [e1]; exact ⟨_, rfl, thW_mk (hk1.k hN0) (by omega)⟩) dX7_statement_118))
          · refine lv_iload_n hx hb dX7_statement_60 rfl (lv_at hl 0 rfl) ?_
            refine lv_bipush (v := jI 57) hx hb dX7_statement_61 (by decide) ?_
            refine x_icmp_gt (tgt := 86) hx hb dX7_statement_63 (by decide) (by have f0 := nxR_r ρ a; omega) (by omega) (fun b63 => ?_) (fun b63 => ?_)
            · refine lv_iload_n hx hb dX7_statement_86 rfl (lv_at hl 0 rfl) ?_
              refine lv_bipush (v := jI 116) hx hb dX7_statement_87 (by decide) ?_
              refine x_icmp_eq (tgt := 119) hx hb dX7_statement_89 (by decide) (by have f0 := nxR_r ρ a; omega) (by omega) (fun b89 => ?_) (fun b89 => ?_)
              · (exfalso; omega)
              · refine lv_iload_n hx hb dX7_statement_92 rfl (lv_at hl 0 rfl) ?_
                refine lv_bipush (v := jI 115) hx hb dX7_statement_93 (by decide) ?_
                refine x_icmp_eq (tgt := 119) hx hb dX7_statement_95 (by decide) (by have f0 := nxR_r ρ a; omega) (by omega) (fun b95 => ?_) (fun b95 => ?_)
                · (exfalso; omega)
                · refine lv_iload_n hx hb dX7_statement_98 rfl (lv_at hl 0 rfl) ?_
                  refine lv_bipush (v := jI 117) hx hb dX7_statement_99 (by decide) ?_
                  refine x_icmp_eq (tgt := 119) hx hb dX7_statement_101 (by decide) (by have f0 := nxR_r ρ a; omega) (by omega) (fun b101 => ?_) (fun b101 => ?_)
                  · (exfalso; omega)
                  · refine g_new CF hK hM34 hA 98 (hP1.2.2.1.2.2.1 98 (by decide) (by decide)) (ci := 9) rfl rfl q631 q632 q80 (show 0 + 1 ≤ 3 * (rEd R - a).toNat - 1 by omega) (show 0 + 8 ≤ 620 * (rEd R - a).toNat - 600 by omega) dX7_statement_104 (fun H a98 hM41 => ?_)
                    refine lv_dup hx hb dX7_statement_107 rfl ?_
                    refine lv_iconst (v := jI 1) hx hb dX7_statement_108 rfl ?_
                    refine lv_aload_n hx hb dX7_statement_109 rfl (lv_at hl 1 rfl) ?_
                    refine g_geti CF hK hM41 26 (hP1.1.2.1.1 26 _ rfl) 1 1 rfl rfl (by decide) (Or.inl (hts _ q197)) (fun _ h => h) rfl dX7_statement_110 ?_
                    refine x_top (b := τ1 26 1) rfl ?_
                    refine x_top (b := a + 1) hP1.2.1.1 ?_
                    refine lv_iconst (v := jI 1) hx hb dX7_statement_113 rfl ?_
                    refine x_isub hx hb dX7_statement_114 ?_
                    refine g_callv hM41 hA (g_runI (As := [.int (jI 1), .int (jI ((a + 1) - 1))]) (rest := [.ref a98]) CF hK hM41 (l_wrong l E _ _ _ 98 1 ((a + 1) - 1) rfl (by decide) (by first | omega | assumption | (refine ⟨?_, ?_⟩ <;> omega)) (by first | omega | assumption | (refine ⟨?_, ?_⟩ <;> omega))) (cwI 2 hts (lw_meth q670) rfl rfl rfl (hts _ q80) (hts _ q668) (hts _ q669) rfl (by decide +kernel) ⟨(show 3 + 1 ≤ 4 * (f + 1) + 12 by omega), (show 8 + (3 + 11) + (72) ≤ 300 + 100 * (f + 1) by omega)⟩) rfl hl.1 rfl (Nat.le_of_ble_eq_true rfl) dX7_statement_115 ⟨(show 1 + 0 ≤ 3 * (rEd R - a).toNat - 1 by omega), (show 8 + 0 ≤ 620 * (rEd R - a).toNat - 600 by omega)⟩) (fun H locs hM42 => ?_)
                    exact g_upT (W.widen (show 1 ≤ 3 * (rEd R - a).toNat - 1 by omega) (show 8 ≤ 620 * (rEd R - a).toNat - 600 by omega) (g_athr CF het hlocks hM42 (by rw [e1]; exact ⟨_, rfl, thW_mk (hk1.k hN0) (by omega)⟩) dX7_statement_118))
            · (exfalso; omega)
        · (exfalso; omega)
    · (exfalso; omega)
  · have hnr := nxR_r ρ a
    have hn := hP.1.1.n
    have hn1 := hn.1
    have hn2 := hn.2
    have hE : rEd R = rNp ρ (a + 1) (ρ 60 0 - 2) + 1 := (by rw [e1]; rfl)
    have c1l := nxR_lt (ρ := ρ) (a := a) (by omega)
    have hq1 := rNp_pos hq (by omega)
    refine lv_aload_n hx hb dX7_statement_0 rfl (lv_at hl 0 rfl) ?_
    refine g_calli (r := nxR ρ (σ 26 1)) hM0 hA (g_runV (As := []) (rest := []) CF hK hM0 (hL.2.1.1 26 _ rfl) rfl (l_rnext l E _ _ _ ρ  hL (by have q := hP.2.1.1; have q2 := hP.2.2.2.2.2.1; omega)) (cwV 0 hts (lw_V q627 q629 qs15 q67 q630) rfl rfl rfl (by decide +kernel) ⟨(show 0 + 1 ≤ 4 * (f + 1) + 12 by omega), (show 8 + (1 + 11) + (0) ≤ 300 + 100 * (f + 1) by omega)⟩) rfl hl.1 rfl (Nat.le_of_ble_eq_true rfl) dX7_statement_1 ⟨(show 0 + 0 ≤ 3 * (rEd R - a).toNat - 1 by omega), (show 0 + 0 ≤ 620 * (rEd R - a).toNat - 600 by omega)⟩) (fun H locs hM43 => ?_)
    refine x_top (b := nxR ρ a) (by rw [ha]) ?_
    refine lv_istore_n (lv' := [(1, .int (jI (nxR ρ a))), (0, .ref (G.2.2 26))]) hx hb dX7_statement_4 rfl hl (by decide) rfl (fun ls hl => ?_)
    refine lv_iload_n hx hb dX7_statement_5 rfl (lv_at hl 0 rfl) ?_
    refine lv_iconst (v := jI (-1)) hx hb dX7_statement_6 rfl ?_
    have fa44 := nxR_r ρ a
    refine x_icmp_ne (tgt := 23) hx hb dX7_statement_7 (by decide) (by have f0 := nxR_r ρ a; omega) (by omega) (fun b7 => ?_) (fun b7 => ?_)
    · refine lv_aload_n hx hb dX7_statement_23 rfl (lv_at hl 1 rfl) ?_
      refine lv_dup hx hb dX7_statement_24 rfl ?_
      refine g_geti CF hK hM43 26 (hL.2.1.1 26 _ rfl) 1 1 rfl rfl (by decide) (Or.inl (hts _ q197)) (fun _ h => h) rfl dX7_statement_25 ?_
      refine x_top (b := a) ha ?_
      refine lv_iconst (v := jI 1) hx hb dX7_statement_28 rfl ?_
      refine x_iadd hx hb dX7_statement_29 ?_
      refine g_puti CF hK hM43 26 (by decide) (hL.2.1.1 26 _ rfl) 1 1 rfl rfl (by decide) (Or.inl (hts _ q197)) (fun _ h => h) (Or.inl rfl) rfl (v := a + 1) rfl rfl (by omega) dX7_statement_30 (fun H locs hM45 => ?_)
      obtain ⟨G1, τ1, hM46, hP1, hk1⟩ : ∃ (g : y_G) (τ : y_S), gM E (gA G sz) g τ s.heap H locs ∧ lgP E ρ g τ A N (a + 1) lk nm ∧ rdN N G σ g τ := ⟨_, _, hM45, (hP.adv rfl c1l).1, (hP.adv rfl c1l).2⟩
      have hl := lv_cast hl (b := [(1, .int (jI (nxR ρ a))), (0, .ref (G1.2.2 26))]) (by rw [(hk1 26 (by omega) (by omega)).2.1])
      refine lv_iload_n hx hb dX7_statement_33 rfl (lv_at hl 0 rfl) ?_
      refine lv_bipush (v := jI 97) hx hb dX7_statement_34 (by decide) ?_
      refine x_icmp_lt (tgt := 54) hx hb dX7_statement_36 (by decide) (by have f0 := nxR_r ρ a; omega) (by omega) (fun b36 => ?_) (fun b36 => ?_)
      · (exfalso; omega)
      · refine lv_iload_n hx hb dX7_statement_39 rfl (lv_at hl 0 rfl) ?_
        refine lv_bipush (v := jI 103) hx hb dX7_statement_40 (by decide) ?_
        refine x_icmp_ge (tgt := 54) hx hb dX7_statement_42 (by decide) (by have f0 := nxR_r ρ a; omega) (by omega) (fun b42 => ?_) (fun b42 => ?_)
        · refine lv_iload_n hx hb dX7_statement_54 rfl (lv_at hl 0 rfl) ?_
          refine lv_bipush (v := jI 48) hx hb dX7_statement_55 (by decide) ?_
          refine x_icmp_lt (tgt := 86) hx hb dX7_statement_57 (by decide) (by have f0 := nxR_r ρ a; omega) (by omega) (fun b57 => ?_) (fun b57 => ?_)
          · (exfalso; omega)
          · refine lv_iload_n hx hb dX7_statement_60 rfl (lv_at hl 0 rfl) ?_
            refine lv_bipush (v := jI 57) hx hb dX7_statement_61 (by decide) ?_
            refine x_icmp_gt (tgt := 86) hx hb dX7_statement_63 (by decide) (by have f0 := nxR_r ρ a; omega) (by omega) (fun b63 => ?_) (fun b63 => ?_)
            · refine lv_iload_n hx hb dX7_statement_86 rfl (lv_at hl 0 rfl) ?_
              refine lv_bipush (v := jI 116) hx hb dX7_statement_87 (by decide) ?_
              refine x_icmp_eq (tgt := 119) hx hb dX7_statement_89 (by decide) (by have f0 := nxR_r ρ a; omega) (by omega) (fun b89 => ?_) (fun b89 => ?_)
              · refine lv_aload_n hx hb dX7_statement_119 rfl (lv_at hl 1 rfl) ?_
                refine lv_aload_n hx hb dX7_statement_120 rfl (lv_at hl 1 rfl) ?_
                refine g_getr CF hK hM46 26 (hP1.1.2.1.1 26 _ rfl) 3 3 rfl rfl (by decide) (Or.inl (hts _ q199)) (fun _ h => h) rfl (G1.2.2 60) (hP1.1.2.1.2.2.2.2.2.2.2.2.1.2) dX7_statement_121 ?_
                refine g_geti CF hK hM46 60 (hP1.1.2.1.1 60 _ rfl) 2 2 rfl rfl (by decide) (gLk.n hK q285) (fun _ h => h) rfl dX7_statement_124 ?_
                refine x_top (b := ρ 60 0) hP1.1.2.2.1 ?_
                refine lv_iconst (v := jI 2) hx hb dX7_statement_127 rfl ?_
                refine x_isub hx hb dX7_statement_128 ?_
                refine W.widen (k := 3 * (rEd R - a).toNat - 1 - (1)) (n := 620 * (rEd R - a).toNat - 600 - (8)) (show 0 ≤ 3 * (rEd R - a).toNat - 1 - (1) by omega) (show 0 ≤ 620 * (rEd R - a).toNat - 600 - (8) by omega) ?_
                exact g_upT (g_passE (by omega) (by omega) het hlocks hM46 hA (g_runVT (As := [.int (jI ((ρ 60 0) - 2))]) (rest := []) CF ((t_rnum l E G1 τ1 _ ρ (ρ 60 0 - 2) hP1.1 (by have q := hP1.2.1.1; have q2 := hP1.2.2.2.2.2.1; omega) (by omega) hP1.2.2.1.2.2.1 (by rw [hP1.2.1.1]; exact hq)).thr (fun _ _ _ z => z)) (cwV 1 hts (lw_V q730 q732 qs20 q67 q733) rfl rfl rfl (by decide +kernel) ⟨(show 6 + 1 ≤ 4 * (f + 1) + 12 by omega), (show 8 + (4 + 11) + (150) ≤ 300 + 100 * (f + 1) by omega)⟩) ⟨gP_blind, g_recv hK hM46 (hP1.1.2.1.1 26 _ rfl) rfl, (g_pre hK hM46).2⟩ rfl rfl hl.1 rfl (lv_room (Nat.le_of_ble_eq_true rfl)) dX7_statement_129 ⟨(show 3 * (rEd R - a).toNat - 1 - (1) + (1) ≤ 3 * (rEd R - a).toNat - 1 by omega), (show 620 * (rEd R - a).toNat - 600 - (8) + (8) ≤ 620 * (rEd R - a).toNat - 600 by omega)⟩) (fun x G' τ' q => (by rw [hP1.2.1.1] at q; rw [e1]; exact rTh_w (hk1.k hN0) x G' τ' q)))
              · refine lv_iload_n hx hb dX7_statement_92 rfl (lv_at hl 0 rfl) ?_
                refine lv_bipush (v := jI 115) hx hb dX7_statement_93 (by decide) ?_
                refine x_icmp_eq (tgt := 119) hx hb dX7_statement_95 (by decide) (by have f0 := nxR_r ρ a; omega) (by omega) (fun b95 => ?_) (fun b95 => ?_)
                · refine lv_aload_n hx hb dX7_statement_119 rfl (lv_at hl 1 rfl) ?_
                  refine lv_aload_n hx hb dX7_statement_120 rfl (lv_at hl 1 rfl) ?_
                  refine g_getr CF hK hM46 26 (hP1.1.2.1.1 26 _ rfl) 3 3 rfl rfl (by decide) (Or.inl (hts _ q199)) (fun _ h => h) rfl (G1.2.2 60) (hP1.1.2.1.2.2.2.2.2.2.2.2.1.2) dX7_statement_121 ?_
                  refine g_geti CF hK hM46 60 (hP1.1.2.1.1 60 _ rfl) 2 2 rfl rfl (by decide) (gLk.n hK q285) (fun _ h => h) rfl dX7_statement_124 ?_
                  refine x_top (b := ρ 60 0) hP1.1.2.2.1 ?_
                  refine lv_iconst (v := jI 2) hx hb dX7_statement_127 rfl ?_
                  refine x_isub hx hb dX7_statement_128 ?_
                  refine W.widen (k := 3 * (rEd R - a).toNat - 1 - (1)) (n := 620 * (rEd R - a).toNat - 600 - (8)) (show 0 ≤ 3 * (rEd R - a).toNat - 1 - (1) by omega) (show 0 ≤ 620 * (rEd R - a).toNat - 600 - (8) by omega) ?_
                  exact g_upT (g_passE (by omega) (by omega) het hlocks hM46 hA (g_runVT (As := [.int (jI ((ρ 60 0) - 2))]) (rest := []) CF ((t_rnum l E G1 τ1 _ ρ (ρ 60 0 - 2) hP1.1 (by have q := hP1.2.1.1; have q2 := hP1.2.2.2.2.2.1; omega) (by omega) hP1.2.2.1.2.2.1 (by rw [hP1.2.1.1]; exact hq)).thr (fun _ _ _ z => z)) (cwV 1 hts (lw_V q730 q732 qs20 q67 q733) rfl rfl rfl (by decide +kernel) ⟨(show 6 + 1 ≤ 4 * (f + 1) + 12 by omega), (show 8 + (4 + 11) + (150) ≤ 300 + 100 * (f + 1) by omega)⟩) ⟨gP_blind, g_recv hK hM46 (hP1.1.2.1.1 26 _ rfl) rfl, (g_pre hK hM46).2⟩ rfl rfl hl.1 rfl (lv_room (Nat.le_of_ble_eq_true rfl)) dX7_statement_129 ⟨(show 3 * (rEd R - a).toNat - 1 - (1) + (1) ≤ 3 * (rEd R - a).toNat - 1 by omega), (show 620 * (rEd R - a).toNat - 600 - (8) + (8) ≤ 620 * (rEd R - a).toNat - 600 by omega)⟩) (fun x G' τ' q => (by rw [hP1.2.1.1] at q; rw [e1]; exact rTh_w (hk1.k hN0) x G' τ' q)))
                · refine lv_iload_n hx hb dX7_statement_98 rfl (lv_at hl 0 rfl) ?_
                  refine lv_bipush (v := jI 117) hx hb dX7_statement_99 (by decide) ?_
                  refine x_icmp_eq (tgt := 119) hx hb dX7_statement_101 (by decide) (by have f0 := nxR_r ρ a; omega) (by omega) (fun b101 => ?_) (fun b101 => ?_)
                  · refine lv_aload_n hx hb dX7_statement_119 rfl (lv_at hl 1 rfl) ?_
                    refine lv_aload_n hx hb dX7_statement_120 rfl (lv_at hl 1 rfl) ?_
                    refine g_getr CF hK hM46 26 (hP1.1.2.1.1 26 _ rfl) 3 3 rfl rfl (by decide) (Or.inl (hts _ q199)) (fun _ h => h) rfl (G1.2.2 60) (hP1.1.2.1.2.2.2.2.2.2.2.2.1.2) dX7_statement_121 ?_
                    refine g_geti CF hK hM46 60 (hP1.1.2.1.1 60 _ rfl) 2 2 rfl rfl (by decide) (gLk.n hK q285) (fun _ h => h) rfl dX7_statement_124 ?_
                    refine x_top (b := ρ 60 0) hP1.1.2.2.1 ?_
                    refine lv_iconst (v := jI 2) hx hb dX7_statement_127 rfl ?_
                    refine x_isub hx hb dX7_statement_128 ?_
                    refine W.widen (k := 3 * (rEd R - a).toNat - 1 - (1)) (n := 620 * (rEd R - a).toNat - 600 - (8)) (show 0 ≤ 3 * (rEd R - a).toNat - 1 - (1) by omega) (show 0 ≤ 620 * (rEd R - a).toNat - 600 - (8) by omega) ?_
                    exact g_upT (g_passE (by omega) (by omega) het hlocks hM46 hA (g_runVT (As := [.int (jI ((ρ 60 0) - 2))]) (rest := []) CF ((t_rnum l E G1 τ1 _ ρ (ρ 60 0 - 2) hP1.1 (by have q := hP1.2.1.1; have q2 := hP1.2.2.2.2.2.1; omega) (by omega) hP1.2.2.1.2.2.1 (by rw [hP1.2.1.1]; exact hq)).thr (fun _ _ _ z => z)) (cwV 1 hts (lw_V q730 q732 qs20 q67 q733) rfl rfl rfl (by decide +kernel) ⟨(show 6 + 1 ≤ 4 * (f + 1) + 12 by omega), (show 8 + (4 + 11) + (150) ≤ 300 + 100 * (f + 1) by omega)⟩) ⟨gP_blind, g_recv hK hM46 (hP1.1.2.1.1 26 _ rfl) rfl, (g_pre hK hM46).2⟩ rfl rfl hl.1 rfl (lv_room (Nat.le_of_ble_eq_true rfl)) dX7_statement_129 ⟨(show 3 * (rEd R - a).toNat - 1 - (1) + (1) ≤ 3 * (rEd R - a).toNat - 1 by omega), (show 620 * (rEd R - a).toNat - 600 - (8) + (8) ≤ 620 * (rEd R - a).toNat - 600 by omega)⟩) (fun x G' τ' q => (by rw [hP1.2.1.1] at q; rw [e1]; exact rTh_w (hk1.k hN0) x G' τ' q)))
                  · (exfalso; omega)
            · (exfalso; omega)
        · (exfalso; omega)
    · (exfalso; omega)
  · have hnr := nxR_r ρ a
    have hn := hP.1.1.n
    have hn1 := hn.1
    have hn2 := hn.2
    have hE : rEd R = b1 := (by rw [e1]; rfl)
    have c1l := nxR_lt (ρ := ρ) (a := a) (by omega)
    have hq1 := rNu_pos hq
    refine lv_aload_n hx hb dX7_statement_0 rfl (lv_at hl 0 rfl) ?_
    refine g_calli (r := nxR ρ (σ 26 1)) hM0 hA (g_runV (As := []) (rest := []) CF hK hM0 (hL.2.1.1 26 _ rfl) rfl (l_rnext l E _ _ _ ρ  hL (by have q := hP.2.1.1; have q2 := hP.2.2.2.2.2.1; omega)) (cwV 0 hts (lw_V q627 q629 qs15 q67 q630) rfl rfl rfl (by decide +kernel) ⟨(show 0 + 1 ≤ 4 * (f + 1) + 12 by omega), (show 8 + (1 + 11) + (0) ≤ 300 + 100 * (f + 1) by omega)⟩) rfl hl.1 rfl (Nat.le_of_ble_eq_true rfl) dX7_statement_1 ⟨(show 0 + 0 ≤ 3 * (rEd R - a).toNat - 1 by omega), (show 0 + 0 ≤ 620 * (rEd R - a).toNat - 600 by omega)⟩) (fun H locs hM47 => ?_)
    refine x_top (b := nxR ρ a) (by rw [ha]) ?_
    refine lv_istore_n (lv' := [(1, .int (jI (nxR ρ a))), (0, .ref (G.2.2 26))]) hx hb dX7_statement_4 rfl hl (by decide) rfl (fun ls hl => ?_)
    refine lv_iload_n hx hb dX7_statement_5 rfl (lv_at hl 0 rfl) ?_
    refine lv_iconst (v := jI (-1)) hx hb dX7_statement_6 rfl ?_
    have fa48 := nxR_r ρ a
    refine x_icmp_ne (tgt := 23) hx hb dX7_statement_7 (by decide) (by have f0 := nxR_r ρ a; omega) (by omega) (fun b7 => ?_) (fun b7 => ?_)
    · refine lv_aload_n hx hb dX7_statement_23 rfl (lv_at hl 1 rfl) ?_
      refine lv_dup hx hb dX7_statement_24 rfl ?_
      refine g_geti CF hK hM47 26 (hL.2.1.1 26 _ rfl) 1 1 rfl rfl (by decide) (Or.inl (hts _ q197)) (fun _ h => h) rfl dX7_statement_25 ?_
      refine x_top (b := a) ha ?_
      refine lv_iconst (v := jI 1) hx hb dX7_statement_28 rfl ?_
      refine x_iadd hx hb dX7_statement_29 ?_
      refine g_puti CF hK hM47 26 (by decide) (hL.2.1.1 26 _ rfl) 1 1 rfl rfl (by decide) (Or.inl (hts _ q197)) (fun _ h => h) (Or.inl rfl) rfl (v := a + 1) rfl rfl (by omega) dX7_statement_30 (fun H locs hM49 => ?_)
      obtain ⟨G1, τ1, hM50, hP1, hk1⟩ : ∃ (g : y_G) (τ : y_S), gM E (gA G sz) g τ s.heap H locs ∧ lgP E ρ g τ A N (a + 1) lk nm ∧ rdN N G σ g τ := ⟨_, _, hM49, (hP.adv rfl c1l).1, (hP.adv rfl c1l).2⟩
      have hl := lv_cast hl (b := [(1, .int (jI (nxR ρ a))), (0, .ref (G1.2.2 26))]) (by rw [(hk1 26 (by omega) (by omega)).2.1])
      refine lv_iload_n hx hb dX7_statement_33 rfl (lv_at hl 0 rfl) ?_
      refine lv_bipush (v := jI 97) hx hb dX7_statement_34 (by decide) ?_
      refine x_icmp_lt (tgt := 54) hx hb dX7_statement_36 (by decide) (by have f0 := nxR_r ρ a; omega) (by omega) (fun b36 => ?_) (fun b36 => ?_)
      · (exfalso; omega)
      · refine lv_iload_n hx hb dX7_statement_39 rfl (lv_at hl 0 rfl) ?_
        refine lv_bipush (v := jI 103) hx hb dX7_statement_40 (by decide) ?_
        refine x_icmp_ge (tgt := 54) hx hb dX7_statement_42 (by decide) (by have f0 := nxR_r ρ a; omega) (by omega) (fun b42 => ?_) (fun b42 => ?_)
        · refine lv_iload_n hx hb dX7_statement_54 rfl (lv_at hl 0 rfl) ?_
          refine lv_bipush (v := jI 48) hx hb dX7_statement_55 (by decide) ?_
          refine x_icmp_lt (tgt := 86) hx hb dX7_statement_57 (by decide) (by have f0 := nxR_r ρ a; omega) (by omega) (fun b57 => ?_) (fun b57 => ?_)
          · (exfalso; omega)
          · refine lv_iload_n hx hb dX7_statement_60 rfl (lv_at hl 0 rfl) ?_
            refine lv_bipush (v := jI 57) hx hb dX7_statement_61 (by decide) ?_
            refine x_icmp_gt (tgt := 86) hx hb dX7_statement_63 (by decide) (by have f0 := nxR_r ρ a; omega) (by omega) (fun b63 => ?_) (fun b63 => ?_)
            · refine lv_iload_n hx hb dX7_statement_86 rfl (lv_at hl 0 rfl) ?_
              refine lv_bipush (v := jI 116) hx hb dX7_statement_87 (by decide) ?_
              refine x_icmp_eq (tgt := 119) hx hb dX7_statement_89 (by decide) (by have f0 := nxR_r ρ a; omega) (by omega) (fun b89 => ?_) (fun b89 => ?_)
              · (exfalso; omega)
              · refine lv_iload_n hx hb dX7_statement_92 rfl (lv_at hl 0 rfl) ?_
                refine lv_bipush (v := jI 115) hx hb dX7_statement_93 (by decide) ?_
                refine x_icmp_eq (tgt := 119) hx hb dX7_statement_95 (by decide) (by have f0 := nxR_r ρ a; omega) (by omega) (fun b95 => ?_) (fun b95 => ?_)
                · refine lv_aload_n hx hb dX7_statement_119 rfl (lv_at hl 1 rfl) ?_
                  refine lv_aload_n hx hb dX7_statement_120 rfl (lv_at hl 1 rfl) ?_
                  refine g_getr CF hK hM50 26 (hP1.1.2.1.1 26 _ rfl) 3 3 rfl rfl (by decide) (Or.inl (hts _ q199)) (fun _ h => h) rfl (G1.2.2 60) (hP1.1.2.1.2.2.2.2.2.2.2.2.1.2) dX7_statement_121 ?_
                  refine g_geti CF hK hM50 60 (hP1.1.2.1.1 60 _ rfl) 2 2 rfl rfl (by decide) (gLk.n hK q285) (fun _ h => h) rfl dX7_statement_124 ?_
                  refine x_top (b := ρ 60 0) hP1.1.2.2.1 ?_
                  refine lv_iconst (v := jI 2) hx hb dX7_statement_127 rfl ?_
                  refine x_isub hx hb dX7_statement_128 ?_
                  refine g_calli (r := vi) hM50 hA (g_runV (As := [.int (jI ((ρ 60 0) - 2))]) (rest := []) CF hK hM50 (hP1.1.2.1.1 26 _ rfl) rfl (l_rnum l E _ _ _ ρ vi b1 ((ρ 60 0) - 2) hP1.1 (by have q := hP1.2.1.1; omega) (by omega) (by rw [hP1.2.1.1]; exact hq)) (cwV 1 hts (lw_V q730 q732 qs20 q67 q733) rfl rfl rfl (by decide +kernel) ⟨(show 2 + 1 ≤ 4 * (f + 1) + 12 by omega), (show 8 + (4 + 11) + (41) ≤ 300 + 100 * (f + 1) by omega)⟩) rfl hl.1 rfl (Nat.le_of_ble_eq_true rfl) dX7_statement_129 ⟨(show 0 + 0 ≤ 3 * (rEd R - a).toNat - 1 by omega), (show 0 + 0 ≤ 620 * (rEd R - a).toNat - 600 by omega)⟩) (fun H locs hM51 => ?_)
                  obtain ⟨G2, τ2, hM52, hP2, hk2⟩ : ∃ (g : y_G) (τ : y_S), gM E (gA G sz) g τ s.heap H locs ∧ lgP E ρ g τ A N b1 lk nm ∧ rdN N G1 τ1 g τ := ⟨_, _, hM51, (hP1.to rfl (by omega) (by omega)).1, (hP1.to rfl (by omega) (by omega)).2⟩
                  have hl := lv_cast hl (b := [(1, .int (jI (nxR ρ a))), (0, .ref (G2.2.2 26))]) (by rw [(hk2 26 (by omega) (by omega)).2.1])
                  refine lv_istore_n (lv' := [(2, .int (jI vi)), (1, .int (jI (nxR ρ a))), (0, .ref (G2.2.2 26))]) hx hb dX7_statement_132 rfl hl (by decide) rfl (fun ls hl => ?_)
                  refine lv_iload_n hx hb dX7_statement_133 rfl (lv_at hl 1 rfl) ?_
                  refine lv_bipush (v := jI 115) hx hb dX7_statement_134 (by decide) ?_
                  refine x_icmp_ne (tgt := 152) hx hb dX7_statement_136 (by decide) (by have f0 := nxR_r ρ a; omega) (by omega) (fun b136 => ?_) (fun b136 => ?_)
                  · (exfalso; omega)
                  · refine g_new CF hK hM52 hA N (hP2.2.2.1.2.1 N (Nat.le_refl _)) (ci := 12) rfl rfl q738 q739 q83 (show 0 + 1 ≤ 3 * (rEd R - a).toNat - 1 by omega) (show 0 + 6 ≤ 620 * (rEd R - a).toNat - 600 by omega) dX7_statement_139 (fun H a54 hM53 => ?_)
                    obtain ⟨G3, τ3, hM55, hP3, hk3, hT3, hz3⟩ : ∃ (g : y_G) (τ : y_S), gM E (gA G sz) g τ s.heap H locs ∧ lgP E ρ g τ A (N + 1) b1 lk nm ∧ rdN N G2 τ2 g τ ∧ g.1 N = some (.inl 12) ∧ g.2.2 N = a54 := ⟨_, _, hM53, (hP2.new (Nat.lt_succ_self _)).1, (hP2.new (Nat.lt_succ_self _)).2, (upT_s _ _ _), (upT_s _ _ _)⟩
                    have hl := lv_cast hl (b := [(2, .int (jI vi)), (1, .int (jI (nxR ρ a))), (0, .ref (G3.2.2 26))]) (by rw [(hk3 26 (by omega) (by omega)).2.1])
                    refine x_stk (st' := [.ref (G3.2.2 N)]) (by rw [hz3]) ?_
                    refine lv_dup hx hb dX7_statement_142 rfl ?_
                    refine lv_aload_n hx hb dX7_statement_143 rfl (lv_at hl 2 rfl) ?_
                    refine g_getr CF hK hM55 26 (hP3.1.2.1.1 26 _ rfl) 3 3 rfl rfl (by decide) (Or.inl (hts _ q199)) (fun _ h => h) rfl (G3.2.2 60) (hP3.1.2.1.2.2.2.2.2.2.2.2.1.2) dX7_statement_144 ?_
                    refine lv_iload_n hx hb dX7_statement_147 rfl (lv_at hl 0 rfl) ?_
                    refine g_callv hM55 hA (g_runI (As := [.ref (G3.2.2 60), .int (jI vi)]) (rest := [.ref (G3.2.2 N)]) CF hK hM55 (l_x15i12 l E _ _ _ N (G3.2.2 60) vi hT3 (by omega) (by first | omega | assumption | (refine ⟨?_, ?_⟩ <;> omega))) (cwI 2 hts (lw_meth q742) rfl rfl rfl (hts _ q83) (hts _ q740) (hts _ q741) rfl (by decide +kernel) ⟨(show 4 + 1 ≤ 4 * (f + 1) + 12 by omega), (show 8 + (3 + 11) + (91) ≤ 300 + 100 * (f + 1) by omega)⟩) rfl hl.1 rfl (Nat.le_of_ble_eq_true rfl) dX7_statement_148 ⟨(show 1 + 0 ≤ 3 * (rEd R - a).toNat - 1 by omega), (show 6 + 0 ≤ 620 * (rEd R - a).toNat - 600 by omega)⟩) (fun H locs hM56 => ?_)
                    obtain ⟨G4, τ4, hM57, hP4, hd4, hk4, hz4⟩ : ∃ (g : y_G) (τ : y_S), gM E (gA G sz) g τ s.heap H locs ∧ lgP E ρ g τ A (N + 1) b1 lk nm ∧ ndV ρ g τ (aX A N (N + 1)) (b1).toNat N [100 * vi + 24] ∧ rdN N G3 τ3 g τ ∧ g.2.2 = G3.2.2 := ⟨_, _, hM56, hP3.ini (x := N) hN0 (fun z => (by have := hP.2.2.1.2.2.2 N z; omega)) (fun t h => (by rw [up2_n _ _ _ h, up2_n _ _ _ h, up2_n _ _ _ h, up2_n _ _ _ h])) (fun t h => (by rw [up2_n _ _ _ h, up2_n _ _ _ h])), ndV.lf (ci := 12) (i := vi) (k := 24) (Or.inr (by omega)) (by decide) hT3 (by simp [up2, up1]) (by simp [up2, up1]) (by simp [up2, up1]) (by omega) (by omega) (by omega) (by omega) rfl, (fun t h1 h2 => ⟨rfl, rfl, fun _ => (by have h : t ≠ N := (by omega); dsimp only; rw [up2_n _ _ _ h, up2_n _ _ _ h, up2_n _ _ _ h, up2_n _ _ _ h]), fun _ => (by have h : t ≠ N := (by omega); rw [up2_n _ _ _ h, up2_n _ _ _ h])⟩), rfl⟩
                    have hl := lv_cast hl (b := [(2, .int (jI vi)), (1, .int (jI (nxR ρ a))), (0, .ref (G4.2.2 26))]) (by rw [(hk4 26 (by omega) (by omega)).2.1])
                    refine x_stk (st' := [.ref (G4.2.2 N)]) (by rw [(congrFun hz4 N)]) ?_
                    exact g_upR (g_aret CF hr (Or.inl ⟨_, rfl⟩) hlocks hM57 (r := some (G4.2.2 N)) (by rw [e1]; exact ⟨N, N + 1, _, _, _, _, rfl, rfl, hd4, hP4.more (fun t z => Or.inl z) (aX_bd hP.2.2.1.2.2.2 hN0 (by omega)), (hk1.tr hk2 (Nat.le_refl _)).tr (hk3.tr hk4 (Nat.le_refl _)) (Nat.le_refl _), (by omega)⟩) (show 1 ≤ 3 * (rEd R - a).toNat - 1 by omega) (show 6 ≤ 620 * (rEd R - a).toNat - 600 by omega) dX7_statement_151)
                · (exfalso; omega)
            · (exfalso; omega)
        · (exfalso; omega)
    · (exfalso; omega)
  · have hnr := nxR_r ρ a
    have hn := hP.1.1.n
    have hn1 := hn.1
    have hn2 := hn.2
    have hE : rEd R = rNp ρ b1 95 + 1 := (by rw [e1]; rfl)
    have c1l := nxR_lt (ρ := ρ) (a := a) (by omega)
    have hq1 := rNu_pos hq
    have hq3 := rNp_pos hq2 (by omega)
    refine lv_aload_n hx hb dX7_statement_0 rfl (lv_at hl 0 rfl) ?_
    refine g_calli (r := nxR ρ (σ 26 1)) hM0 hA (g_runV (As := []) (rest := []) CF hK hM0 (hL.2.1.1 26 _ rfl) rfl (l_rnext l E _ _ _ ρ  hL (by have q := hP.2.1.1; have q2 := hP.2.2.2.2.2.1; omega)) (cwV 0 hts (lw_V q627 q629 qs15 q67 q630) rfl rfl rfl (by decide +kernel) ⟨(show 0 + 1 ≤ 4 * (f + 1) + 12 by omega), (show 8 + (1 + 11) + (0) ≤ 300 + 100 * (f + 1) by omega)⟩) rfl hl.1 rfl (Nat.le_of_ble_eq_true rfl) dX7_statement_1 ⟨(show 0 + 0 ≤ 3 * (rEd R - a).toNat - 1 by omega), (show 0 + 0 ≤ 620 * (rEd R - a).toNat - 600 by omega)⟩) (fun H locs hM58 => ?_)
    refine x_top (b := nxR ρ a) (by rw [ha]) ?_
    refine lv_istore_n (lv' := [(1, .int (jI (nxR ρ a))), (0, .ref (G.2.2 26))]) hx hb dX7_statement_4 rfl hl (by decide) rfl (fun ls hl => ?_)
    refine lv_iload_n hx hb dX7_statement_5 rfl (lv_at hl 0 rfl) ?_
    refine lv_iconst (v := jI (-1)) hx hb dX7_statement_6 rfl ?_
    have fa59 := nxR_r ρ a
    refine x_icmp_ne (tgt := 23) hx hb dX7_statement_7 (by decide) (by have f0 := nxR_r ρ a; omega) (by omega) (fun b7 => ?_) (fun b7 => ?_)
    · refine lv_aload_n hx hb dX7_statement_23 rfl (lv_at hl 1 rfl) ?_
      refine lv_dup hx hb dX7_statement_24 rfl ?_
      refine g_geti CF hK hM58 26 (hL.2.1.1 26 _ rfl) 1 1 rfl rfl (by decide) (Or.inl (hts _ q197)) (fun _ h => h) rfl dX7_statement_25 ?_
      refine x_top (b := a) ha ?_
      refine lv_iconst (v := jI 1) hx hb dX7_statement_28 rfl ?_
      refine x_iadd hx hb dX7_statement_29 ?_
      refine g_puti CF hK hM58 26 (by decide) (hL.2.1.1 26 _ rfl) 1 1 rfl rfl (by decide) (Or.inl (hts _ q197)) (fun _ h => h) (Or.inl rfl) rfl (v := a + 1) rfl rfl (by omega) dX7_statement_30 (fun H locs hM60 => ?_)
      obtain ⟨G1, τ1, hM61, hP1, hk1⟩ : ∃ (g : y_G) (τ : y_S), gM E (gA G sz) g τ s.heap H locs ∧ lgP E ρ g τ A N (a + 1) lk nm ∧ rdN N G σ g τ := ⟨_, _, hM60, (hP.adv rfl c1l).1, (hP.adv rfl c1l).2⟩
      have hl := lv_cast hl (b := [(1, .int (jI (nxR ρ a))), (0, .ref (G1.2.2 26))]) (by rw [(hk1 26 (by omega) (by omega)).2.1])
      refine lv_iload_n hx hb dX7_statement_33 rfl (lv_at hl 0 rfl) ?_
      refine lv_bipush (v := jI 97) hx hb dX7_statement_34 (by decide) ?_
      refine x_icmp_lt (tgt := 54) hx hb dX7_statement_36 (by decide) (by have f0 := nxR_r ρ a; omega) (by omega) (fun b36 => ?_) (fun b36 => ?_)
      · (exfalso; omega)
      · refine lv_iload_n hx hb dX7_statement_39 rfl (lv_at hl 0 rfl) ?_
        refine lv_bipush (v := jI 103) hx hb dX7_statement_40 (by decide) ?_
        refine x_icmp_ge (tgt := 54) hx hb dX7_statement_42 (by decide) (by have f0 := nxR_r ρ a; omega) (by omega) (fun b42 => ?_) (fun b42 => ?_)
        · refine lv_iload_n hx hb dX7_statement_54 rfl (lv_at hl 0 rfl) ?_
          refine lv_bipush (v := jI 48) hx hb dX7_statement_55 (by decide) ?_
          refine x_icmp_lt (tgt := 86) hx hb dX7_statement_57 (by decide) (by have f0 := nxR_r ρ a; omega) (by omega) (fun b57 => ?_) (fun b57 => ?_)
          · (exfalso; omega)
          · refine lv_iload_n hx hb dX7_statement_60 rfl (lv_at hl 0 rfl) ?_
            refine lv_bipush (v := jI 57) hx hb dX7_statement_61 (by decide) ?_
            refine x_icmp_gt (tgt := 86) hx hb dX7_statement_63 (by decide) (by have f0 := nxR_r ρ a; omega) (by omega) (fun b63 => ?_) (fun b63 => ?_)
            · refine lv_iload_n hx hb dX7_statement_86 rfl (lv_at hl 0 rfl) ?_
              refine lv_bipush (v := jI 116) hx hb dX7_statement_87 (by decide) ?_
              refine x_icmp_eq (tgt := 119) hx hb dX7_statement_89 (by decide) (by have f0 := nxR_r ρ a; omega) (by omega) (fun b89 => ?_) (fun b89 => ?_)
              · refine lv_aload_n hx hb dX7_statement_119 rfl (lv_at hl 1 rfl) ?_
                refine lv_aload_n hx hb dX7_statement_120 rfl (lv_at hl 1 rfl) ?_
                refine g_getr CF hK hM61 26 (hP1.1.2.1.1 26 _ rfl) 3 3 rfl rfl (by decide) (Or.inl (hts _ q199)) (fun _ h => h) rfl (G1.2.2 60) (hP1.1.2.1.2.2.2.2.2.2.2.2.1.2) dX7_statement_121 ?_
                refine g_geti CF hK hM61 60 (hP1.1.2.1.1 60 _ rfl) 2 2 rfl rfl (by decide) (gLk.n hK q285) (fun _ h => h) rfl dX7_statement_124 ?_
                refine x_top (b := ρ 60 0) hP1.1.2.2.1 ?_
                refine lv_iconst (v := jI 2) hx hb dX7_statement_127 rfl ?_
                refine x_isub hx hb dX7_statement_128 ?_
                refine g_calli (r := vi) hM61 hA (g_runV (As := [.int (jI ((ρ 60 0) - 2))]) (rest := []) CF hK hM61 (hP1.1.2.1.1 26 _ rfl) rfl (l_rnum l E _ _ _ ρ vi b1 ((ρ 60 0) - 2) hP1.1 (by have q := hP1.2.1.1; omega) (by omega) (by rw [hP1.2.1.1]; exact hq)) (cwV 1 hts (lw_V q730 q732 qs20 q67 q733) rfl rfl rfl (by decide +kernel) ⟨(show 2 + 1 ≤ 4 * (f + 1) + 12 by omega), (show 8 + (4 + 11) + (41) ≤ 300 + 100 * (f + 1) by omega)⟩) rfl hl.1 rfl (Nat.le_of_ble_eq_true rfl) dX7_statement_129 ⟨(show 0 + 0 ≤ 3 * (rEd R - a).toNat - 1 by omega), (show 0 + 0 ≤ 620 * (rEd R - a).toNat - 600 by omega)⟩) (fun H locs hM62 => ?_)
                obtain ⟨G2, τ2, hM63, hP2, hk2⟩ : ∃ (g : y_G) (τ : y_S), gM E (gA G sz) g τ s.heap H locs ∧ lgP E ρ g τ A N b1 lk nm ∧ rdN N G1 τ1 g τ := ⟨_, _, hM62, (hP1.to rfl (by omega) (by omega)).1, (hP1.to rfl (by omega) (by omega)).2⟩
                have hl := lv_cast hl (b := [(1, .int (jI (nxR ρ a))), (0, .ref (G2.2.2 26))]) (by rw [(hk2 26 (by omega) (by omega)).2.1])
                refine lv_istore_n (lv' := [(2, .int (jI vi)), (1, .int (jI (nxR ρ a))), (0, .ref (G2.2.2 26))]) hx hb dX7_statement_132 rfl hl (by decide) rfl (fun ls hl => ?_)
                refine lv_iload_n hx hb dX7_statement_133 rfl (lv_at hl 1 rfl) ?_
                refine lv_bipush (v := jI 115) hx hb dX7_statement_134 (by decide) ?_
                refine x_icmp_ne (tgt := 152) hx hb dX7_statement_136 (by decide) (by have f0 := nxR_r ρ a; omega) (by omega) (fun b136 => ?_) (fun b136 => ?_)
                · refine lv_aload_n hx hb dX7_statement_152 rfl (lv_at hl 2 rfl) ?_
                  refine lv_bipush (v := jI 95) hx hb dX7_statement_153 (by decide) ?_
                  refine W.widen (k := 3 * (rEd R - a).toNat - 1 - (1)) (n := 620 * (rEd R - a).toNat - 600 - (8)) (show 0 ≤ 3 * (rEd R - a).toNat - 1 - (1) by omega) (show 0 ≤ 620 * (rEd R - a).toNat - 600 - (8) by omega) ?_
                  exact g_upT (g_passE (by omega) (by omega) het hlocks hM63 hA (g_runVT (As := [.int (jI 95)]) (rest := []) CF ((t_rnum l E G2 τ2 _ ρ (95) hP2.1 (by have q := hP2.2.1.1; have q2 := hP2.2.2.2.2.2.1; omega) (by omega) hP2.2.2.1.2.2.1 (by rw [hP2.2.1.1]; exact hq2)).thr (fun _ _ _ z => z)) (cwV 1 hts (lw_V q730 q732 qs20 q67 q733) rfl rfl rfl (by decide +kernel) ⟨(show 6 + 1 ≤ 4 * (f + 1) + 12 by omega), (show 8 + (4 + 11) + (150) ≤ 300 + 100 * (f + 1) by omega)⟩) ⟨gP_blind, g_recv hK hM63 (hP2.1.2.1.1 26 _ rfl) rfl, (g_pre hK hM63).2⟩ rfl rfl hl.1 rfl (lv_room (Nat.le_of_ble_eq_true rfl)) dX7_statement_155 ⟨(show 3 * (rEd R - a).toNat - 1 - (1) + (1) ≤ 3 * (rEd R - a).toNat - 1 by omega), (show 620 * (rEd R - a).toNat - 600 - (8) + (8) ≤ 620 * (rEd R - a).toNat - 600 by omega)⟩) (fun x G' τ' q => (by rw [hP2.2.1.1] at q; rw [e1]; exact rTh_w ((hk1.tr hk2 (Nat.le_refl _)).k hN0) x G' τ' q)))
                · (exfalso; omega)
              · refine lv_iload_n hx hb dX7_statement_92 rfl (lv_at hl 0 rfl) ?_
                refine lv_bipush (v := jI 115) hx hb dX7_statement_93 (by decide) ?_
                refine x_icmp_eq (tgt := 119) hx hb dX7_statement_95 (by decide) (by have f0 := nxR_r ρ a; omega) (by omega) (fun b95 => ?_) (fun b95 => ?_)
                · (exfalso; omega)
                · refine lv_iload_n hx hb dX7_statement_98 rfl (lv_at hl 0 rfl) ?_
                  refine lv_bipush (v := jI 117) hx hb dX7_statement_99 (by decide) ?_
                  refine x_icmp_eq (tgt := 119) hx hb dX7_statement_101 (by decide) (by have f0 := nxR_r ρ a; omega) (by omega) (fun b101 => ?_) (fun b101 => ?_)
                  · refine lv_aload_n hx hb dX7_statement_119 rfl (lv_at hl 1 rfl) ?_
                    refine lv_aload_n hx hb dX7_statement_120 rfl (lv_at hl 1 rfl) ?_
                    refine g_getr CF hK hM61 26 (hP1.1.2.1.1 26 _ rfl) 3 3 rfl rfl (by decide) (Or.inl (hts _ q199)) (fun _ h => h) rfl (G1.2.2 60) (hP1.1.2.1.2.2.2.2.2.2.2.2.1.2) dX7_statement_121 ?_
                    refine g_geti CF hK hM61 60 (hP1.1.2.1.1 60 _ rfl) 2 2 rfl rfl (by decide) (gLk.n hK q285) (fun _ h => h) rfl dX7_statement_124 ?_
                    refine x_top (b := ρ 60 0) hP1.1.2.2.1 ?_
                    refine lv_iconst (v := jI 2) hx hb dX7_statement_127 rfl ?_
                    refine x_isub hx hb dX7_statement_128 ?_
                    refine g_calli (r := vi) hM61 hA (g_runV (As := [.int (jI ((ρ 60 0) - 2))]) (rest := []) CF hK hM61 (hP1.1.2.1.1 26 _ rfl) rfl (l_rnum l E _ _ _ ρ vi b1 ((ρ 60 0) - 2) hP1.1 (by have q := hP1.2.1.1; omega) (by omega) (by rw [hP1.2.1.1]; exact hq)) (cwV 1 hts (lw_V q730 q732 qs20 q67 q733) rfl rfl rfl (by decide +kernel) ⟨(show 2 + 1 ≤ 4 * (f + 1) + 12 by omega), (show 8 + (4 + 11) + (41) ≤ 300 + 100 * (f + 1) by omega)⟩) rfl hl.1 rfl (Nat.le_of_ble_eq_true rfl) dX7_statement_129 ⟨(show 0 + 0 ≤ 3 * (rEd R - a).toNat - 1 by omega), (show 0 + 0 ≤ 620 * (rEd R - a).toNat - 600 by omega)⟩) (fun H locs hM64 => ?_)
                    obtain ⟨G2, τ2, hM65, hP2, hk2⟩ : ∃ (g : y_G) (τ : y_S), gM E (gA G sz) g τ s.heap H locs ∧ lgP E ρ g τ A N b1 lk nm ∧ rdN N G1 τ1 g τ := ⟨_, _, hM64, (hP1.to rfl (by omega) (by omega)).1, (hP1.to rfl (by omega) (by omega)).2⟩
                    have hl := lv_cast hl (b := [(1, .int (jI (nxR ρ a))), (0, .ref (G2.2.2 26))]) (by rw [(hk2 26 (by omega) (by omega)).2.1])
                    refine lv_istore_n (lv' := [(2, .int (jI vi)), (1, .int (jI (nxR ρ a))), (0, .ref (G2.2.2 26))]) hx hb dX7_statement_132 rfl hl (by decide) rfl (fun ls hl => ?_)
                    refine lv_iload_n hx hb dX7_statement_133 rfl (lv_at hl 1 rfl) ?_
                    refine lv_bipush (v := jI 115) hx hb dX7_statement_134 (by decide) ?_
                    refine x_icmp_ne (tgt := 152) hx hb dX7_statement_136 (by decide) (by have f0 := nxR_r ρ a; omega) (by omega) (fun b136 => ?_) (fun b136 => ?_)
                    · refine lv_aload_n hx hb dX7_statement_152 rfl (lv_at hl 2 rfl) ?_
                      refine lv_bipush (v := jI 95) hx hb dX7_statement_153 (by decide) ?_
                      refine W.widen (k := 3 * (rEd R - a).toNat - 1 - (1)) (n := 620 * (rEd R - a).toNat - 600 - (8)) (show 0 ≤ 3 * (rEd R - a).toNat - 1 - (1) by omega) (show 0 ≤ 620 * (rEd R - a).toNat - 600 - (8) by omega) ?_
                      exact g_upT (g_passE (by omega) (by omega) het hlocks hM65 hA (g_runVT (As := [.int (jI 95)]) (rest := []) CF ((t_rnum l E G2 τ2 _ ρ (95) hP2.1 (by have q := hP2.2.1.1; have q2 := hP2.2.2.2.2.2.1; omega) (by omega) hP2.2.2.1.2.2.1 (by rw [hP2.2.1.1]; exact hq2)).thr (fun _ _ _ z => z)) (cwV 1 hts (lw_V q730 q732 qs20 q67 q733) rfl rfl rfl (by decide +kernel) ⟨(show 6 + 1 ≤ 4 * (f + 1) + 12 by omega), (show 8 + (4 + 11) + (150) ≤ 300 + 100 * (f + 1) by omega)⟩) ⟨gP_blind, g_recv hK hM65 (hP2.1.2.1.1 26 _ rfl) rfl, (g_pre hK hM65).2⟩ rfl rfl hl.1 rfl (lv_room (Nat.le_of_ble_eq_true rfl)) dX7_statement_155 ⟨(show 3 * (rEd R - a).toNat - 1 - (1) + (1) ≤ 3 * (rEd R - a).toNat - 1 by omega), (show 620 * (rEd R - a).toNat - 600 - (8) + (8) ≤ 620 * (rEd R - a).toNat - 600 by omega)⟩) (fun x G' τ' q => (by rw [hP2.2.1.1] at q; rw [e1]; exact rTh_w ((hk1.tr hk2 (Nat.le_refl _)).k hN0) x G' τ' q)))
                    · (exfalso; omega)
                  · (exfalso; omega)
            · (exfalso; omega)
        · (exfalso; omega)
    · (exfalso; omega)
  · have hnr := nxR_r ρ a
    have hn := hP.1.1.n
    have hn1 := hn.1
    have hn2 := hn.2
    have hE : rEd R = b2 := (by rw [e1]; rfl)
    have c1l := nxR_lt (ρ := ρ) (a := a) (by omega)
    have hq1 := rNu_pos hq
    have hq3 := rNu_pos hq2
    refine lv_aload_n hx hb dX7_statement_0 rfl (lv_at hl 0 rfl) ?_
    refine g_calli (r := nxR ρ (σ 26 1)) hM0 hA (g_runV (As := []) (rest := []) CF hK hM0 (hL.2.1.1 26 _ rfl) rfl (l_rnext l E _ _ _ ρ  hL (by have q := hP.2.1.1; have q2 := hP.2.2.2.2.2.1; omega)) (cwV 0 hts (lw_V q627 q629 qs15 q67 q630) rfl rfl rfl (by decide +kernel) ⟨(show 0 + 1 ≤ 4 * (f + 1) + 12 by omega), (show 8 + (1 + 11) + (0) ≤ 300 + 100 * (f + 1) by omega)⟩) rfl hl.1 rfl (Nat.le_of_ble_eq_true rfl) dX7_statement_1 ⟨(show 0 + 0 ≤ 3 * (rEd R - a).toNat - 1 by omega), (show 0 + 0 ≤ 620 * (rEd R - a).toNat - 600 by omega)⟩) (fun H locs hM66 => ?_)
    refine x_top (b := nxR ρ a) (by rw [ha]) ?_
    refine lv_istore_n (lv' := [(1, .int (jI (nxR ρ a))), (0, .ref (G.2.2 26))]) hx hb dX7_statement_4 rfl hl (by decide) rfl (fun ls hl => ?_)
    refine lv_iload_n hx hb dX7_statement_5 rfl (lv_at hl 0 rfl) ?_
    refine lv_iconst (v := jI (-1)) hx hb dX7_statement_6 rfl ?_
    have fa67 := nxR_r ρ a
    refine x_icmp_ne (tgt := 23) hx hb dX7_statement_7 (by decide) (by have f0 := nxR_r ρ a; omega) (by omega) (fun b7 => ?_) (fun b7 => ?_)
    · refine lv_aload_n hx hb dX7_statement_23 rfl (lv_at hl 1 rfl) ?_
      refine lv_dup hx hb dX7_statement_24 rfl ?_
      refine g_geti CF hK hM66 26 (hL.2.1.1 26 _ rfl) 1 1 rfl rfl (by decide) (Or.inl (hts _ q197)) (fun _ h => h) rfl dX7_statement_25 ?_
      refine x_top (b := a) ha ?_
      refine lv_iconst (v := jI 1) hx hb dX7_statement_28 rfl ?_
      refine x_iadd hx hb dX7_statement_29 ?_
      refine g_puti CF hK hM66 26 (by decide) (hL.2.1.1 26 _ rfl) 1 1 rfl rfl (by decide) (Or.inl (hts _ q197)) (fun _ h => h) (Or.inl rfl) rfl (v := a + 1) rfl rfl (by omega) dX7_statement_30 (fun H locs hM68 => ?_)
      obtain ⟨G1, τ1, hM69, hP1, hk1⟩ : ∃ (g : y_G) (τ : y_S), gM E (gA G sz) g τ s.heap H locs ∧ lgP E ρ g τ A N (a + 1) lk nm ∧ rdN N G σ g τ := ⟨_, _, hM68, (hP.adv rfl c1l).1, (hP.adv rfl c1l).2⟩
      have hl := lv_cast hl (b := [(1, .int (jI (nxR ρ a))), (0, .ref (G1.2.2 26))]) (by rw [(hk1 26 (by omega) (by omega)).2.1])
      refine lv_iload_n hx hb dX7_statement_33 rfl (lv_at hl 0 rfl) ?_
      refine lv_bipush (v := jI 97) hx hb dX7_statement_34 (by decide) ?_
      refine x_icmp_lt (tgt := 54) hx hb dX7_statement_36 (by decide) (by have f0 := nxR_r ρ a; omega) (by omega) (fun b36 => ?_) (fun b36 => ?_)
      · (exfalso; omega)
      · refine lv_iload_n hx hb dX7_statement_39 rfl (lv_at hl 0 rfl) ?_
        refine lv_bipush (v := jI 103) hx hb dX7_statement_40 (by decide) ?_
        refine x_icmp_ge (tgt := 54) hx hb dX7_statement_42 (by decide) (by have f0 := nxR_r ρ a; omega) (by omega) (fun b42 => ?_) (fun b42 => ?_)
        · refine lv_iload_n hx hb dX7_statement_54 rfl (lv_at hl 0 rfl) ?_
          refine lv_bipush (v := jI 48) hx hb dX7_statement_55 (by decide) ?_
          refine x_icmp_lt (tgt := 86) hx hb dX7_statement_57 (by decide) (by have f0 := nxR_r ρ a; omega) (by omega) (fun b57 => ?_) (fun b57 => ?_)
          · (exfalso; omega)
          · refine lv_iload_n hx hb dX7_statement_60 rfl (lv_at hl 0 rfl) ?_
            refine lv_bipush (v := jI 57) hx hb dX7_statement_61 (by decide) ?_
            refine x_icmp_gt (tgt := 86) hx hb dX7_statement_63 (by decide) (by have f0 := nxR_r ρ a; omega) (by omega) (fun b63 => ?_) (fun b63 => ?_)
            · refine lv_iload_n hx hb dX7_statement_86 rfl (lv_at hl 0 rfl) ?_
              refine lv_bipush (v := jI 116) hx hb dX7_statement_87 (by decide) ?_
              refine x_icmp_eq (tgt := 119) hx hb dX7_statement_89 (by decide) (by have f0 := nxR_r ρ a; omega) (by omega) (fun b89 => ?_) (fun b89 => ?_)
              · refine lv_aload_n hx hb dX7_statement_119 rfl (lv_at hl 1 rfl) ?_
                refine lv_aload_n hx hb dX7_statement_120 rfl (lv_at hl 1 rfl) ?_
                refine g_getr CF hK hM69 26 (hP1.1.2.1.1 26 _ rfl) 3 3 rfl rfl (by decide) (Or.inl (hts _ q199)) (fun _ h => h) rfl (G1.2.2 60) (hP1.1.2.1.2.2.2.2.2.2.2.2.1.2) dX7_statement_121 ?_
                refine g_geti CF hK hM69 60 (hP1.1.2.1.1 60 _ rfl) 2 2 rfl rfl (by decide) (gLk.n hK q285) (fun _ h => h) rfl dX7_statement_124 ?_
                refine x_top (b := ρ 60 0) hP1.1.2.2.1 ?_
                refine lv_iconst (v := jI 2) hx hb dX7_statement_127 rfl ?_
                refine x_isub hx hb dX7_statement_128 ?_
                refine g_calli (r := vi) hM69 hA (g_runV (As := [.int (jI ((ρ 60 0) - 2))]) (rest := []) CF hK hM69 (hP1.1.2.1.1 26 _ rfl) rfl (l_rnum l E _ _ _ ρ vi b1 ((ρ 60 0) - 2) hP1.1 (by have q := hP1.2.1.1; omega) (by omega) (by rw [hP1.2.1.1]; exact hq)) (cwV 1 hts (lw_V q730 q732 qs20 q67 q733) rfl rfl rfl (by decide +kernel) ⟨(show 2 + 1 ≤ 4 * (f + 1) + 12 by omega), (show 8 + (4 + 11) + (41) ≤ 300 + 100 * (f + 1) by omega)⟩) rfl hl.1 rfl (Nat.le_of_ble_eq_true rfl) dX7_statement_129 ⟨(show 0 + 0 ≤ 3 * (rEd R - a).toNat - 1 by omega), (show 0 + 0 ≤ 620 * (rEd R - a).toNat - 600 by omega)⟩) (fun H locs hM70 => ?_)
                obtain ⟨G2, τ2, hM71, hP2, hk2⟩ : ∃ (g : y_G) (τ : y_S), gM E (gA G sz) g τ s.heap H locs ∧ lgP E ρ g τ A N b1 lk nm ∧ rdN N G1 τ1 g τ := ⟨_, _, hM70, (hP1.to rfl (by omega) (by omega)).1, (hP1.to rfl (by omega) (by omega)).2⟩
                have hl := lv_cast hl (b := [(1, .int (jI (nxR ρ a))), (0, .ref (G2.2.2 26))]) (by rw [(hk2 26 (by omega) (by omega)).2.1])
                refine lv_istore_n (lv' := [(2, .int (jI vi)), (1, .int (jI (nxR ρ a))), (0, .ref (G2.2.2 26))]) hx hb dX7_statement_132 rfl hl (by decide) rfl (fun ls hl => ?_)
                refine lv_iload_n hx hb dX7_statement_133 rfl (lv_at hl 1 rfl) ?_
                refine lv_bipush (v := jI 115) hx hb dX7_statement_134 (by decide) ?_
                refine x_icmp_ne (tgt := 152) hx hb dX7_statement_136 (by decide) (by have f0 := nxR_r ρ a; omega) (by omega) (fun b136 => ?_) (fun b136 => ?_)
                · refine lv_aload_n hx hb dX7_statement_152 rfl (lv_at hl 2 rfl) ?_
                  refine lv_bipush (v := jI 95) hx hb dX7_statement_153 (by decide) ?_
                  refine g_calli (r := vk) hM71 hA (g_runV (As := [.int (jI 95)]) (rest := []) CF hK hM71 (hP2.1.2.1.1 26 _ rfl) rfl (l_rnum l E _ _ _ ρ vk b2 95 hP2.1 (by have q := hP2.2.1.1; omega) (by omega) (by rw [hP2.2.1.1]; exact hq2)) (cwV 1 hts (lw_V q730 q732 qs20 q67 q733) rfl rfl rfl (by decide +kernel) ⟨(show 2 + 1 ≤ 4 * (f + 1) + 12 by omega), (show 8 + (4 + 11) + (41) ≤ 300 + 100 * (f + 1) by omega)⟩) rfl hl.1 rfl (Nat.le_of_ble_eq_true rfl) dX7_statement_155 ⟨(show 0 + 0 ≤ 3 * (rEd R - a).toNat - 1 by omega), (show 0 + 0 ≤ 620 * (rEd R - a).toNat - 600 by omega)⟩) (fun H locs hM72 => ?_)
                  obtain ⟨G3, τ3, hM73, hP3, hk3⟩ : ∃ (g : y_G) (τ : y_S), gM E (gA G sz) g τ s.heap H locs ∧ lgP E ρ g τ A N b2 lk nm ∧ rdN N G2 τ2 g τ := ⟨_, _, hM72, (hP2.to rfl (by omega) (by omega)).1, (hP2.to rfl (by omega) (by omega)).2⟩
                  have hl := lv_cast hl (b := [(2, .int (jI vi)), (1, .int (jI (nxR ρ a))), (0, .ref (G3.2.2 26))]) (by rw [(hk3 26 (by omega) (by omega)).2.1])
                  refine lv_istore_n (lv' := [(3, .int (jI vk)), (2, .int (jI vi)), (1, .int (jI (nxR ρ a))), (0, .ref (G3.2.2 26))]) hx hb dX7_statement_158 rfl hl (by decide) rfl (fun ls hl => ?_)
                  refine lv_iload_n hx hb dX7_statement_159 rfl (lv_at hl 2 rfl) ?_
                  refine lv_bipush (v := jI 116) hx hb dX7_statement_160 (by decide) ?_
                  refine x_icmp_ne (tgt := 181) hx hb dX7_statement_162 (by decide) (by have f0 := nxR_r ρ a; omega) (by omega) (fun b162 => ?_) (fun b162 => ?_)
                  · (exfalso; omega)
                  · refine g_new CF hK hM73 hA N (hP3.2.2.1.2.1 N (Nat.le_refl _)) (ci := 10) rfl rfl q767 q768 q81 (show 0 + 1 ≤ 3 * (rEd R - a).toNat - 1 by omega) (show 0 + 4 ≤ 620 * (rEd R - a).toNat - 600 by omega) dX7_statement_165 (fun H a75 hM74 => ?_)
                    obtain ⟨G4, τ4, hM76, hP4, hk4, hT4, hz4⟩ : ∃ (g : y_G) (τ : y_S), gM E (gA G sz) g τ s.heap H locs ∧ lgP E ρ g τ A (N + 1) b2 lk nm ∧ rdN N G3 τ3 g τ ∧ g.1 N = some (.inl 10) ∧ g.2.2 N = a75 := ⟨_, _, hM74, (hP3.new (Nat.lt_succ_self _)).1, (hP3.new (Nat.lt_succ_self _)).2, (upT_s _ _ _), (upT_s _ _ _)⟩
                    have hl := lv_cast hl (b := [(3, .int (jI vk)), (2, .int (jI vi)), (1, .int (jI (nxR ρ a))), (0, .ref (G4.2.2 26))]) (by rw [(hk4 26 (by omega) (by omega)).2.1])
                    refine x_stk (st' := [.ref (G4.2.2 N)]) (by rw [hz4]) ?_
                    refine lv_dup hx hb dX7_statement_168 rfl ?_
                    refine lv_aload_n hx hb dX7_statement_169 rfl (lv_at hl 3 rfl) ?_
                    refine g_getr CF hK hM76 26 (hP4.1.2.1.1 26 _ rfl) 3 3 rfl rfl (by decide) (Or.inl (hts _ q199)) (fun _ h => h) rfl (G4.2.2 60) (hP4.1.2.1.2.2.2.2.2.2.2.2.1.2) dX7_statement_170 ?_
                    refine lv_iload_n hx hb dX7_statement_173 rfl (lv_at hl 1 rfl) ?_
                    refine lv_iload_n hx hb dX7_statement_174 rfl (lv_at hl 0 rfl) ?_
                    refine g_callv hM76 hA (g_runI (As := [.ref (G4.2.2 60), .int (jI vi), .int (jI vk)]) (rest := [.ref (G4.2.2 N)]) CF hK hM76 (l_x13i10 l E _ _ _ N (G4.2.2 60) vi vk hT4 (by omega) (by first | omega | assumption | (refine ⟨?_, ?_⟩ <;> omega)) (by first | omega | assumption | (refine ⟨?_, ?_⟩ <;> omega))) (cwI 3 hts (lw_meth q748) rfl rfl rfl (hts _ q81) (hts _ q769) (hts _ q747) rfl (by decide +kernel) ⟨(show 2 + 1 ≤ 4 * (f + 1) + 12 by omega), (show 8 + (4 + 11) + (45) ≤ 300 + 100 * (f + 1) by omega)⟩) rfl hl.1 rfl (Nat.le_of_ble_eq_true rfl) dX7_statement_175 ⟨(show 1 + 0 ≤ 3 * (rEd R - a).toNat - 1 by omega), (show 4 + 0 ≤ 620 * (rEd R - a).toNat - 600 by omega)⟩) (fun H locs hM77 => ?_)
                    obtain ⟨G5, τ5, hM78, hP5, hd5, hk5, hz5⟩ : ∃ (g : y_G) (τ : y_S), gM E (gA G sz) g τ s.heap H locs ∧ lgP E ρ g τ A (N + 1) b2 lk nm ∧ ndV ρ g τ (aX A N (N + 1)) (b2).toNat N [100 * vi + vk] ∧ rdN N G4 τ4 g τ ∧ g.2.2 = G4.2.2 := ⟨_, _, hM77, hP4.ini (x := N) hN0 (fun z => (by have := hP.2.2.1.2.2.2 N z; omega)) (fun t h => (by rw [up2_n _ _ _ h, up2_n _ _ _ h])) (fun t h => (by rw [up2_n _ _ _ h, up2_n _ _ _ h])), ndV.lf (ci := 10) (i := vi) (k := vk) (Or.inr (by omega)) (by decide) hT4 (by simp [up2, up1]) (by simp [up2, up1]) (by simp [up2, up1]) (by omega) (by omega) (by omega) (by omega) rfl, (fun t h1 h2 => ⟨rfl, rfl, fun _ => (by have h : t ≠ N := (by omega); dsimp only; rw [up2_n _ _ _ h, up2_n _ _ _ h]), fun _ => (by have h : t ≠ N := (by omega); rw [up2_n _ _ _ h, up2_n _ _ _ h])⟩), rfl⟩
                    have hl := lv_cast hl (b := [(3, .int (jI vk)), (2, .int (jI vi)), (1, .int (jI (nxR ρ a))), (0, .ref (G5.2.2 26))]) (by rw [(hk5 26 (by omega) (by omega)).2.1])
                    refine x_stk (st' := [.ref (G5.2.2 N)]) (by rw [(congrFun hz5 N)]) ?_
                    refine lv_goto (tgt := 194) hx hb dX7_statement_178 (by decide) ?_
                    exact g_upR (g_aret CF hr (Or.inl ⟨_, rfl⟩) hlocks hM78 (r := some (G5.2.2 N)) (by rw [e1]; exact ⟨N, N + 1, _, _, _, _, rfl, rfl, hd5, hP5.more (fun t z => Or.inl z) (aX_bd hP.2.2.1.2.2.2 hN0 (by omega)), ((hk1.tr hk2 (Nat.le_refl _)).tr hk3 (Nat.le_refl _)).tr (hk4.tr hk5 (Nat.le_refl _)) (Nat.le_refl _), (by omega)⟩) (show 1 ≤ 3 * (rEd R - a).toNat - 1 by omega) (show 4 ≤ 620 * (rEd R - a).toNat - 600 by omega) dX7_statement_194)
                · (exfalso; omega)
              · (exfalso; omega)
            · (exfalso; omega)
        · (exfalso; omega)
    · (exfalso; omega)
  · have hnr := nxR_r ρ a
    have hn := hP.1.1.n
    have hn1 := hn.1
    have hn2 := hn.2
    have hE : rEd R = b2 := (by rw [e1]; rfl)
    have c1l := nxR_lt (ρ := ρ) (a := a) (by omega)
    have hq1 := rNu_pos hq
    have hq3 := rNu_pos hq2
    refine lv_aload_n hx hb dX7_statement_0 rfl (lv_at hl 0 rfl) ?_
    refine g_calli (r := nxR ρ (σ 26 1)) hM0 hA (g_runV (As := []) (rest := []) CF hK hM0 (hL.2.1.1 26 _ rfl) rfl (l_rnext l E _ _ _ ρ  hL (by have q := hP.2.1.1; have q2 := hP.2.2.2.2.2.1; omega)) (cwV 0 hts (lw_V q627 q629 qs15 q67 q630) rfl rfl rfl (by decide +kernel) ⟨(show 0 + 1 ≤ 4 * (f + 1) + 12 by omega), (show 8 + (1 + 11) + (0) ≤ 300 + 100 * (f + 1) by omega)⟩) rfl hl.1 rfl (Nat.le_of_ble_eq_true rfl) dX7_statement_1 ⟨(show 0 + 0 ≤ 3 * (rEd R - a).toNat - 1 by omega), (show 0 + 0 ≤ 620 * (rEd R - a).toNat - 600 by omega)⟩) (fun H locs hM79 => ?_)
    refine x_top (b := nxR ρ a) (by rw [ha]) ?_
    refine lv_istore_n (lv' := [(1, .int (jI (nxR ρ a))), (0, .ref (G.2.2 26))]) hx hb dX7_statement_4 rfl hl (by decide) rfl (fun ls hl => ?_)
    refine lv_iload_n hx hb dX7_statement_5 rfl (lv_at hl 0 rfl) ?_
    refine lv_iconst (v := jI (-1)) hx hb dX7_statement_6 rfl ?_
    have fa80 := nxR_r ρ a
    refine x_icmp_ne (tgt := 23) hx hb dX7_statement_7 (by decide) (by have f0 := nxR_r ρ a; omega) (by omega) (fun b7 => ?_) (fun b7 => ?_)
    · refine lv_aload_n hx hb dX7_statement_23 rfl (lv_at hl 1 rfl) ?_
      refine lv_dup hx hb dX7_statement_24 rfl ?_
      refine g_geti CF hK hM79 26 (hL.2.1.1 26 _ rfl) 1 1 rfl rfl (by decide) (Or.inl (hts _ q197)) (fun _ h => h) rfl dX7_statement_25 ?_
      refine x_top (b := a) ha ?_
      refine lv_iconst (v := jI 1) hx hb dX7_statement_28 rfl ?_
      refine x_iadd hx hb dX7_statement_29 ?_
      refine g_puti CF hK hM79 26 (by decide) (hL.2.1.1 26 _ rfl) 1 1 rfl rfl (by decide) (Or.inl (hts _ q197)) (fun _ h => h) (Or.inl rfl) rfl (v := a + 1) rfl rfl (by omega) dX7_statement_30 (fun H locs hM81 => ?_)
      obtain ⟨G1, τ1, hM82, hP1, hk1⟩ : ∃ (g : y_G) (τ : y_S), gM E (gA G sz) g τ s.heap H locs ∧ lgP E ρ g τ A N (a + 1) lk nm ∧ rdN N G σ g τ := ⟨_, _, hM81, (hP.adv rfl c1l).1, (hP.adv rfl c1l).2⟩
      have hl := lv_cast hl (b := [(1, .int (jI (nxR ρ a))), (0, .ref (G1.2.2 26))]) (by rw [(hk1 26 (by omega) (by omega)).2.1])
      refine lv_iload_n hx hb dX7_statement_33 rfl (lv_at hl 0 rfl) ?_
      refine lv_bipush (v := jI 97) hx hb dX7_statement_34 (by decide) ?_
      refine x_icmp_lt (tgt := 54) hx hb dX7_statement_36 (by decide) (by have f0 := nxR_r ρ a; omega) (by omega) (fun b36 => ?_) (fun b36 => ?_)
      · (exfalso; omega)
      · refine lv_iload_n hx hb dX7_statement_39 rfl (lv_at hl 0 rfl) ?_
        refine lv_bipush (v := jI 103) hx hb dX7_statement_40 (by decide) ?_
        refine x_icmp_ge (tgt := 54) hx hb dX7_statement_42 (by decide) (by have f0 := nxR_r ρ a; omega) (by omega) (fun b42 => ?_) (fun b42 => ?_)
        · refine lv_iload_n hx hb dX7_statement_54 rfl (lv_at hl 0 rfl) ?_
          refine lv_bipush (v := jI 48) hx hb dX7_statement_55 (by decide) ?_
          refine x_icmp_lt (tgt := 86) hx hb dX7_statement_57 (by decide) (by have f0 := nxR_r ρ a; omega) (by omega) (fun b57 => ?_) (fun b57 => ?_)
          · (exfalso; omega)
          · refine lv_iload_n hx hb dX7_statement_60 rfl (lv_at hl 0 rfl) ?_
            refine lv_bipush (v := jI 57) hx hb dX7_statement_61 (by decide) ?_
            refine x_icmp_gt (tgt := 86) hx hb dX7_statement_63 (by decide) (by have f0 := nxR_r ρ a; omega) (by omega) (fun b63 => ?_) (fun b63 => ?_)
            · refine lv_iload_n hx hb dX7_statement_86 rfl (lv_at hl 0 rfl) ?_
              refine lv_bipush (v := jI 116) hx hb dX7_statement_87 (by decide) ?_
              refine x_icmp_eq (tgt := 119) hx hb dX7_statement_89 (by decide) (by have f0 := nxR_r ρ a; omega) (by omega) (fun b89 => ?_) (fun b89 => ?_)
              · (exfalso; omega)
              · refine lv_iload_n hx hb dX7_statement_92 rfl (lv_at hl 0 rfl) ?_
                refine lv_bipush (v := jI 115) hx hb dX7_statement_93 (by decide) ?_
                refine x_icmp_eq (tgt := 119) hx hb dX7_statement_95 (by decide) (by have f0 := nxR_r ρ a; omega) (by omega) (fun b95 => ?_) (fun b95 => ?_)
                · (exfalso; omega)
                · refine lv_iload_n hx hb dX7_statement_98 rfl (lv_at hl 0 rfl) ?_
                  refine lv_bipush (v := jI 117) hx hb dX7_statement_99 (by decide) ?_
                  refine x_icmp_eq (tgt := 119) hx hb dX7_statement_101 (by decide) (by have f0 := nxR_r ρ a; omega) (by omega) (fun b101 => ?_) (fun b101 => ?_)
                  · refine lv_aload_n hx hb dX7_statement_119 rfl (lv_at hl 1 rfl) ?_
                    refine lv_aload_n hx hb dX7_statement_120 rfl (lv_at hl 1 rfl) ?_
                    refine g_getr CF hK hM82 26 (hP1.1.2.1.1 26 _ rfl) 3 3 rfl rfl (by decide) (Or.inl (hts _ q199)) (fun _ h => h) rfl (G1.2.2 60) (hP1.1.2.1.2.2.2.2.2.2.2.2.1.2) dX7_statement_121 ?_
                    refine g_geti CF hK hM82 60 (hP1.1.2.1.1 60 _ rfl) 2 2 rfl rfl (by decide) (gLk.n hK q285) (fun _ h => h) rfl dX7_statement_124 ?_
                    refine x_top (b := ρ 60 0) hP1.1.2.2.1 ?_
                    refine lv_iconst (v := jI 2) hx hb dX7_statement_127 rfl ?_
                    refine x_isub hx hb dX7_statement_128 ?_
                    refine g_calli (r := vi) hM82 hA (g_runV (As := [.int (jI ((ρ 60 0) - 2))]) (rest := []) CF hK hM82 (hP1.1.2.1.1 26 _ rfl) rfl (l_rnum l E _ _ _ ρ vi b1 ((ρ 60 0) - 2) hP1.1 (by have q := hP1.2.1.1; omega) (by omega) (by rw [hP1.2.1.1]; exact hq)) (cwV 1 hts (lw_V q730 q732 qs20 q67 q733) rfl rfl rfl (by decide +kernel) ⟨(show 2 + 1 ≤ 4 * (f + 1) + 12 by omega), (show 8 + (4 + 11) + (41) ≤ 300 + 100 * (f + 1) by omega)⟩) rfl hl.1 rfl (Nat.le_of_ble_eq_true rfl) dX7_statement_129 ⟨(show 0 + 0 ≤ 3 * (rEd R - a).toNat - 1 by omega), (show 0 + 0 ≤ 620 * (rEd R - a).toNat - 600 by omega)⟩) (fun H locs hM83 => ?_)
                    obtain ⟨G2, τ2, hM84, hP2, hk2⟩ : ∃ (g : y_G) (τ : y_S), gM E (gA G sz) g τ s.heap H locs ∧ lgP E ρ g τ A N b1 lk nm ∧ rdN N G1 τ1 g τ := ⟨_, _, hM83, (hP1.to rfl (by omega) (by omega)).1, (hP1.to rfl (by omega) (by omega)).2⟩
                    have hl := lv_cast hl (b := [(1, .int (jI (nxR ρ a))), (0, .ref (G2.2.2 26))]) (by rw [(hk2 26 (by omega) (by omega)).2.1])
                    refine lv_istore_n (lv' := [(2, .int (jI vi)), (1, .int (jI (nxR ρ a))), (0, .ref (G2.2.2 26))]) hx hb dX7_statement_132 rfl hl (by decide) rfl (fun ls hl => ?_)
                    refine lv_iload_n hx hb dX7_statement_133 rfl (lv_at hl 1 rfl) ?_
                    refine lv_bipush (v := jI 115) hx hb dX7_statement_134 (by decide) ?_
                    refine x_icmp_ne (tgt := 152) hx hb dX7_statement_136 (by decide) (by have f0 := nxR_r ρ a; omega) (by omega) (fun b136 => ?_) (fun b136 => ?_)
                    · refine lv_aload_n hx hb dX7_statement_152 rfl (lv_at hl 2 rfl) ?_
                      refine lv_bipush (v := jI 95) hx hb dX7_statement_153 (by decide) ?_
                      refine g_calli (r := vk) hM84 hA (g_runV (As := [.int (jI 95)]) (rest := []) CF hK hM84 (hP2.1.2.1.1 26 _ rfl) rfl (l_rnum l E _ _ _ ρ vk b2 95 hP2.1 (by have q := hP2.2.1.1; omega) (by omega) (by rw [hP2.2.1.1]; exact hq2)) (cwV 1 hts (lw_V q730 q732 qs20 q67 q733) rfl rfl rfl (by decide +kernel) ⟨(show 2 + 1 ≤ 4 * (f + 1) + 12 by omega), (show 8 + (4 + 11) + (41) ≤ 300 + 100 * (f + 1) by omega)⟩) rfl hl.1 rfl (Nat.le_of_ble_eq_true rfl) dX7_statement_155 ⟨(show 0 + 0 ≤ 3 * (rEd R - a).toNat - 1 by omega), (show 0 + 0 ≤ 620 * (rEd R - a).toNat - 600 by omega)⟩) (fun H locs hM85 => ?_)
                      obtain ⟨G3, τ3, hM86, hP3, hk3⟩ : ∃ (g : y_G) (τ : y_S), gM E (gA G sz) g τ s.heap H locs ∧ lgP E ρ g τ A N b2 lk nm ∧ rdN N G2 τ2 g τ := ⟨_, _, hM85, (hP2.to rfl (by omega) (by omega)).1, (hP2.to rfl (by omega) (by omega)).2⟩
                      have hl := lv_cast hl (b := [(2, .int (jI vi)), (1, .int (jI (nxR ρ a))), (0, .ref (G3.2.2 26))]) (by rw [(hk3 26 (by omega) (by omega)).2.1])
                      refine lv_istore_n (lv' := [(3, .int (jI vk)), (2, .int (jI vi)), (1, .int (jI (nxR ρ a))), (0, .ref (G3.2.2 26))]) hx hb dX7_statement_158 rfl hl (by decide) rfl (fun ls hl => ?_)
                      refine lv_iload_n hx hb dX7_statement_159 rfl (lv_at hl 2 rfl) ?_
                      refine lv_bipush (v := jI 116) hx hb dX7_statement_160 (by decide) ?_
                      refine x_icmp_ne (tgt := 181) hx hb dX7_statement_162 (by decide) (by have f0 := nxR_r ρ a; omega) (by omega) (fun b162 => ?_) (fun b162 => ?_)
                      · refine g_new CF hK hM86 hA N (hP3.2.2.1.2.1 N (Nat.le_refl _)) (ci := 11) rfl rfl q775 q776 q82 (show 0 + 1 ≤ 3 * (rEd R - a).toNat - 1 by omega) (show 0 + 5 ≤ 620 * (rEd R - a).toNat - 600 by omega) dX7_statement_181 (fun H a88 hM87 => ?_)
                        obtain ⟨G4, τ4, hM89, hP4, hk4, hT4, hz4⟩ : ∃ (g : y_G) (τ : y_S), gM E (gA G sz) g τ s.heap H locs ∧ lgP E ρ g τ A (N + 1) b2 lk nm ∧ rdN N G3 τ3 g τ ∧ g.1 N = some (.inl 11) ∧ g.2.2 N = a88 := ⟨_, _, hM87, (hP3.new (Nat.lt_succ_self _)).1, (hP3.new (Nat.lt_succ_self _)).2, (upT_s _ _ _), (upT_s _ _ _)⟩
                        have hl := lv_cast hl (b := [(3, .int (jI vk)), (2, .int (jI vi)), (1, .int (jI (nxR ρ a))), (0, .ref (G4.2.2 26))]) (by rw [(hk4 26 (by omega) (by omega)).2.1])
                        refine x_stk (st' := [.ref (G4.2.2 N)]) (by rw [hz4]) ?_
                        refine lv_dup hx hb dX7_statement_184 rfl ?_
                        refine lv_aload_n hx hb dX7_statement_185 rfl (lv_at hl 3 rfl) ?_
                        refine g_getr CF hK hM89 26 (hP4.1.2.1.1 26 _ rfl) 3 3 rfl rfl (by decide) (Or.inl (hts _ q199)) (fun _ h => h) rfl (G4.2.2 60) (hP4.1.2.1.2.2.2.2.2.2.2.2.1.2) dX7_statement_186 ?_
                        refine lv_iload_n hx hb dX7_statement_189 rfl (lv_at hl 1 rfl) ?_
                        refine lv_iload_n hx hb dX7_statement_190 rfl (lv_at hl 0 rfl) ?_
                        refine g_callv hM89 hA (g_runI (As := [.ref (G4.2.2 60), .int (jI vi), .int (jI vk)]) (rest := [.ref (G4.2.2 N)]) CF hK hM89 (l_x14i11 l E _ _ _ N (G4.2.2 60) vi vk hT4 (by omega) (by first | omega | assumption | (refine ⟨?_, ?_⟩ <;> omega)) (by first | omega | assumption | (refine ⟨?_, ?_⟩ <;> omega))) (cwI 3 hts (lw_meth q745) rfl rfl rfl (hts _ q82) (hts _ q777) (hts _ q744) rfl (by decide +kernel) ⟨(show 3 + 1 ≤ 4 * (f + 1) + 12 by omega), (show 8 + (4 + 11) + (68) ≤ 300 + 100 * (f + 1) by omega)⟩) rfl hl.1 rfl (Nat.le_of_ble_eq_true rfl) dX7_statement_191 ⟨(show 1 + 0 ≤ 3 * (rEd R - a).toNat - 1 by omega), (show 5 + 0 ≤ 620 * (rEd R - a).toNat - 600 by omega)⟩) (fun H locs hM90 => ?_)
                        obtain ⟨G5, τ5, hM91, hP5, hd5, hk5, hz5⟩ : ∃ (g : y_G) (τ : y_S), gM E (gA G sz) g τ s.heap H locs ∧ lgP E ρ g τ A (N + 1) b2 lk nm ∧ ndV ρ g τ (aX A N (N + 1)) (b2).toNat N [100 * vi + (96 - vk) % 96] ∧ rdN N G4 τ4 g τ ∧ g.2.2 = G4.2.2 := ⟨_, _, hM90, hP4.ini (x := N) hN0 (fun z => (by have := hP.2.2.1.2.2.2 N z; omega)) (fun t h => (by rw [up2_n _ _ _ h, up2_n _ _ _ h, up2_n _ _ _ h])) (fun t h => (by rw [up2_n _ _ _ h, up2_n _ _ _ h])), ndV.lf (ci := 11) (i := vi) (k := vk) (Or.inr (by omega)) (by decide) hT4 (by simp [up2, up1]) (by simp [up2, up1]) (by simp [up2, up1]) (by omega) (by omega) (by omega) (by omega) rfl, (fun t h1 h2 => ⟨rfl, rfl, fun _ => (by have h : t ≠ N := (by omega); dsimp only; rw [up2_n _ _ _ h, up2_n _ _ _ h, up2_n _ _ _ h]), fun _ => (by have h : t ≠ N := (by omega); rw [up2_n _ _ _ h, up2_n _ _ _ h])⟩), rfl⟩
                        have hl := lv_cast hl (b := [(3, .int (jI vk)), (2, .int (jI vi)), (1, .int (jI (nxR ρ a))), (0, .ref (G5.2.2 26))]) (by rw [(hk5 26 (by omega) (by omega)).2.1])
                        refine x_stk (st' := [.ref (G5.2.2 N)]) (by rw [(congrFun hz5 N)]) ?_
                        exact g_upR (g_aret CF hr (Or.inl ⟨_, rfl⟩) hlocks hM91 (r := some (G5.2.2 N)) (by rw [e1]; exact ⟨N, N + 1, _, _, _, _, rfl, rfl, hd5, hP5.more (fun t z => Or.inl z) (aX_bd hP.2.2.1.2.2.2 hN0 (by omega)), ((hk1.tr hk2 (Nat.le_refl _)).tr hk3 (Nat.le_refl _)).tr (hk4.tr hk5 (Nat.le_refl _)) (Nat.le_refl _), (by omega)⟩) (show 1 ≤ 3 * (rEd R - a).toNat - 1 by omega) (show 5 ≤ 620 * (rEd R - a).toNat - 600 by omega) dX7_statement_194)
                      · (exfalso; omega)
                    · (exfalso; omega)
                  · (exfalso; omega)
            · (exfalso; omega)
        · (exfalso; omega)
    · (exfalso; omega)
